/-! bits: sets put together, taken away -/
theorem tb_d (x i : Nat) : x / 2 ^ i % 2 = if x.testBit i = true then 1 else 0 := by
  rw [Nat.testBit_eq_decide_div_mod_eq]
  by_cases h : x / 2 ^ i % 2 = 1
  · simp [h]
  · have := Nat.mod_lt (x / 2 ^ i) (show 0 < 2 by decide)
    simp [h]
    omega
theorem or_d (x y i : Nat) : (x ||| y) / 2 ^ i % 2 = if x / 2 ^ i % 2 = 1 ∨ y / 2 ^ i % 2 = 1 then 1 else 0 := by
  rw [tb_d, tb_d, tb_d, Nat.testBit_or]
  cases x.testBit i <;> cases y.testBit i <;> rfl
theorem nI_orN {x y : Nat} (hx : x < 2 ^ 31) (hy : y < 2 ^ 31) : nI x ||| nI y = nI (x ||| y) := by
  apply Int32.toBitVec_inj.mp
  apply BitVec.eq_of_toNat_eq
  have h := Nat.or_lt_two_pow hx hy
  have e : ∀ n, n < 2 ^ 31 → (nI n).toBitVec.toNat = n := fun n hn => Nat.mod_eq_of_lt (by omega)
  rw [Int32.toBitVec_or, BitVec.toNat_or, e x hx, e y hy, e _ h]
theorem sp_orlt {x y : Nat} (hx : x < 128) (hy : y < 128) : x ||| y < 128 := Nat.or_lt_two_pow (n := 7) hx hy
theorem lN_bit (n i : Nat) : (lN n).toBitVec.getLsbD i = (decide (i < 64) && n.testBit i) := by
  show (BitVec.ofNat 64 n).getLsbD i = _
  rw [BitVec.getLsbD_ofNat]
theorem pk_tb {f : Nat → Nat} (h : ∀ c, c < 36 → f c ≤ 1) (i : Nat) : (sp_pk f 36).testBit i = decide (i < 36 ∧ f i = 1) := by
  by_cases hi : i < 36
  · rw [Nat.testBit_eq_decide_div_mod_eq, sp_pk_bit 36 h i hi]
    simp [hi]
  · rw [Nat.testBit_lt_two_pow (Nat.lt_of_lt_of_le (sp_pk_lt 36 h) (Nat.pow_le_pow_right (by decide) (by omega)))]
    simp [hi]
theorem lN_pk_or {f : Nat → Nat} (h : ∀ c, c < 36 → f c ≤ 1) {c : Nat} (hc : c < 36) : lN (sp_pk f 36) ||| lN (2 ^ c) = lN (sp_pk (fun i => if i = c then 1 else f i) 36) := by
  apply Int64.toBitVec_inj.mp
  apply BitVec.eq_of_getLsbD_eq
  intro i hi
  have h' : ∀ j, j < 36 → (fun i => if i = c then 1 else f i) j ≤ 1 := fun j hj => by
    show (if j = c then 1 else f j) ≤ 1
    split
    · exact Nat.le_refl 1
    · exact h j hj
  rw [Int64.toBitVec_or, BitVec.getLsbD_or, lN_bit, lN_bit, lN_bit, pk_tb h, pk_tb h', Nat.testBit_two_pow]
  by_cases e : c = i
  · subst e; simp [hc, hi]
  · simp [e, Ne.symm e, hi]
theorem lN_pk_clr {f : Nat → Nat} (h : ∀ c, c < 36 → f c ≤ 1) {c : Nat} : lN (sp_pk f 36) &&& (lN (2 ^ c) ^^^ (-1)) = lN (sp_pk (fun i => if i = c then 0 else f i) 36) := by
  apply Int64.toBitVec_inj.mp
  apply BitVec.eq_of_getLsbD_eq
  intro i hi
  have h' : ∀ j, j < 36 → (fun i => if i = c then 0 else f i) j ≤ 1 := fun j hj => by
    show (if j = c then 0 else f j) ≤ 1
    split
    · exact Nat.zero_le 1
    · exact h j hj
  have e1 : (-1 : Int64).toBitVec = BitVec.allOnes 64 := by decide
  rw [Int64.toBitVec_and, Int64.toBitVec_xor, e1, BitVec.getLsbD_and, BitVec.getLsbD_xor, BitVec.getLsbD_allOnes, lN_bit, lN_bit, lN_bit, pk_tb h, pk_tb h', Nat.testBit_two_pow]
  by_cases e : c = i
  · subst e; simp [hi]
  · simp [e, Ne.symm e, hi]
/-! Long.bitCount: bytes at a time -/
theorem an_dig {a m x M : Nat} (ha : a < 256) (hm : m < 256) : (a + 256 * x) &&& (m + 256 * M) = (a &&& m) + 256 * (x &&& M) := by
  apply Nat.eq_of_testBit_eq
  intro i
  have g := Nat.and_lt_two_pow (n := 8) a hm
  have t : ∀ b y, b < 256 → (b + 256 * y).testBit i = if i < 8 then b.testBit i else y.testBit (i - 8) := fun b y hb => by
    rw [Nat.add_comm]
    exact Nat.testBit_two_pow_mul_add (i := 8) y hb i
  rw [Nat.testBit_and, t _ _ ha, t _ _ hm, t _ _ g]
  split <;> rw [Nat.testBit_and]
def bc_1 (a : Nat) : Nat := a - (a / 2 &&& 85)
def bc_2 (a : Nat) : Nat := (a &&& 51) + (a / 4 &&& 51)
def bc_3 (a : Nat) : Nat := a % 16 + a / 16
def bc_n (a : Nat) : Nat := a % 2 + a / 2 % 2 + a / 4 % 2 + a / 8 % 2 + a / 16 % 2 + a / 32 % 2 + a / 64 % 2 + a / 128 % 2
theorem bc_le : ∀ a, a < 256 → (a / 2 &&& 85) ≤ a ∧ bc_1 a < 256 ∧ bc_2 (bc_1 a) / 16 ≤ 4 ∧ bc_2 (bc_1 a) % 16 ≤ 4 ∧ bc_3 (bc_2 (bc_1 a)) = bc_n a ∧ bc_n a ≤ 8 := by decide +kernel
theorem bc_85 : ∀ a, a < 256 → ∀ e, e < 2 → ((a / 2 + 128 * e) &&& 85) = (a / 2 &&& 85) := by decide +kernel
theorem bc_51 : ∀ a, a < 256 → ∀ e, e < 4 → ((a / 4 + 64 * e) &&& 51) = (a / 4 &&& 51) := by decide +kernel
theorem bc_15 : ∀ a, a < 73 → a % 16 ≤ 4 → ∀ e, e < 5 → ((a + a / 16 + 16 * e) &&& 15) = bc_3 a := by decide +kernel
theorem bc_s1 {a x M : Nat} (ha : a < 256) (hx : (x / 2 &&& M) ≤ x) : (((a + 256 * x) / 2) &&& (85 + 256 * M)) ≤ a + 256 * x ∧ (a + 256 * x) - (((a + 256 * x) / 2) &&& (85 + 256 * M)) = bc_1 a + 256 * (x - (x / 2 &&& M)) := by
  have h1 := bc_le a ha
  have e : (a + 256 * x) / 2 = (a / 2 + 128 * (x % 2)) + 256 * (x / 2) := by omega
  rw [e, an_dig (by omega) (by decide), bc_85 a ha _ (by omega)]
  unfold bc_1
  omega
theorem bc_s2 {a x M : Nat} (ha : a < 256) : ((a + 256 * x) &&& (51 + 256 * M)) + (((a + 256 * x) / 4) &&& (51 + 256 * M)) = bc_2 a + 256 * ((x &&& M) + (x / 4 &&& M)) := by
  have e : (a + 256 * x) / 4 = (a / 4 + 64 * (x % 4)) + 256 * (x / 4) := by omega
  rw [an_dig ha (by decide), e, an_dig (by omega) (by decide), bc_51 a ha _ (by omega)]
  unfold bc_2
  omega
theorem bc_s3 {a x M : Nat} (ha : a / 16 ≤ 4) (ha2 : a % 16 ≤ 4) (hx : x % 16 ≤ 4) : (((a + 256 * x) + (a + 256 * x) / 16) &&& (15 + 256 * M)) = bc_3 a + 256 * ((x + x / 16) &&& M) := by
  have e : (a + 256 * x) + (a + 256 * x) / 16 = (a + a / 16 + 16 * (x % 16)) + 256 * (x + x / 16) := by omega
  rw [e, an_dig (by omega) (by decide), bc_15 a (by omega) ha2 _ (by omega)]
def bc_A (x : Nat) : Nat := x - (x / 2 &&& 6148914691236517205)
def bc_B (x : Nat) : Nat := (x &&& 3689348814741910323) + (x / 4 &&& 3689348814741910323)
def bc_C (x : Nat) : Nat := (x + x / 16) &&& 1085102592571150095
def bc_x (a b c d e : Nat) : Nat := a + 256 * (b + 256 * (c + 256 * (d + 256 * (e + 256 * 0))))
theorem bc_A5 {a b c d e : Nat} (ha : a < 256) (hb : b < 256) (hc : c < 256) (hd : d < 256) (he : e < 256) : (bc_x a b c d e / 2 &&& 6148914691236517205) ≤ bc_x a b c d e ∧ bc_A (bc_x a b c d e) = bc_x (bc_1 a) (bc_1 b) (bc_1 c) (bc_1 d) (bc_1 e) := by
  have h0 : (0 / 2 &&& 5592405) ≤ 0 := by decide
  have h1 := bc_s1 (M := 5592405) he h0
  have h2 := bc_s1 (M := 1431655765) hd h1.1
  have h3 := bc_s1 (M := 366503875925) hc h2.1
  have h4 := bc_s1 (M := 93824992236885) hb h3.1
  have h5 := bc_s1 (M := 24019198012642645) ha h4.1
  refine ⟨h5.1, ?_⟩
  unfold bc_A
  refine h5.2.trans ?_
  unfold bc_x
  refine congrArg _ (congrArg _ (h4.2.trans ?_))
  refine congrArg _ (congrArg _ (h3.2.trans ?_))
  refine congrArg _ (congrArg _ (h2.2.trans ?_))
  exact congrArg _ (congrArg _ h1.2)
theorem bc_B5 {a b c d e : Nat} (ha : a < 256) (hb : b < 256) (hc : c < 256) (hd : d < 256) (he : e < 256) : bc_B (bc_x a b c d e) = bc_x (bc_2 a) (bc_2 b) (bc_2 c) (bc_2 d) (bc_2 e) := by
  refine (bc_s2 (M := 14411518807585587) ha).trans ?_
  unfold bc_x
  refine congrArg _ (congrArg _ ((bc_s2 (M := 56294995342131) hb).trans ?_))
  refine congrArg _ (congrArg _ ((bc_s2 (M := 219902325555) hc).trans ?_))
  refine congrArg _ (congrArg _ ((bc_s2 (M := 858993459) hd).trans ?_))
  exact congrArg _ (congrArg _ (bc_s2 (M := 3355443) he))
theorem bc_C5 {a b c d e : Nat} (ha : a / 16 ≤ 4 ∧ a % 16 ≤ 4) (hb : b / 16 ≤ 4 ∧ b % 16 ≤ 4) (hc : c / 16 ≤ 4 ∧ c % 16 ≤ 4) (hd : d / 16 ≤ 4 ∧ d % 16 ≤ 4) (he : e / 16 ≤ 4 ∧ e % 16 ≤ 4) : bc_C (bc_x a b c d e) = bc_x (bc_3 a) (bc_3 b) (bc_3 c) (bc_3 d) (bc_3 e) := by
  refine (bc_s3 (M := 4238682002231055) ha.1 ha.2 (by omega)).trans ?_
  unfold bc_x
  refine congrArg _ (congrArg _ ((bc_s3 (M := 16557351571215) hb.1 hb.2 (by omega)).trans ?_))
  refine congrArg _ (congrArg _ ((bc_s3 (M := 64677154575) hc.1 hc.2 (by omega)).trans ?_))
  refine congrArg _ (congrArg _ ((bc_s3 (M := 252645135) hd.1 hd.2 (by omega)).trans ?_))
  exact congrArg _ (congrArg _ (bc_s3 (M := 986895) he.1 he.2 (by decide)))
def bc_D (x : Nat) : Nat := x + x / 256
def bc_E (x : Nat) : Nat := x + x / 65536
def bc_F (x : Nat) : Nat := x + x / 4294967296
theorem bc_F5 {a b c d e : Nat} (ha : a ≤ 8) (hb : b ≤ 8) (hc : c ≤ 8) (hd : d ≤ 8) (he : e ≤ 8) : bc_F (bc_E (bc_D (bc_x a b c d e))) % 128 = a + b + c + d + e := by
  have e1 : bc_D (bc_x a b c d e) = bc_x (a + b) (b + c) (c + d) (d + e) e := by unfold bc_D bc_x; omega
  have e2 : bc_E (bc_x (a + b) (b + c) (c + d) (d + e) e) = bc_x (a + b + (c + d)) (b + c + (d + e)) (c + d + e) (d + e) e := by unfold bc_E bc_x; omega
  have e3 : ∀ p0 p1 p2 p3 p4 : Nat, p0 < 256 → p1 < 256 → p2 < 256 → p3 < 256 → bc_F (bc_x p0 p1 p2 p3 p4) = bc_x (p0 + p4) p1 p2 p3 p4 := fun p0 p1 p2 p3 p4 h0 h1 h2 h3 => by
    have : bc_x p0 p1 p2 p3 p4 / 4294967296 = p4 := by unfold bc_x; omega
    unfold bc_F
    rw [this]
    unfold bc_x
    omega
  rw [e1, e2, e3 _ _ _ _ _ (by omega) (by omega) (by omega) (by omega)]
  clear e1 e2 e3
  unfold bc_x
  omega
def bc_b (x : Nat) : Nat := bc_n (x % 256) + bc_n (x / 256 % 256) + bc_n (x / 65536 % 256) + bc_n (x / 16777216 % 256) + bc_n (x / 4294967296 % 256)
theorem bc_all {x : Nat} (hx : x < 2 ^ 36) : (x / 2 &&& 6148914691236517205) ≤ x ∧ bc_A x < 2 ^ 40 ∧ bc_B (bc_A x) < 2 ^ 41 ∧ bc_C (bc_B (bc_A x)) < 2 ^ 36 ∧ bc_F (bc_E (bc_D (bc_C (bc_B (bc_A x))))) % 128 = bc_b x := by
  have e : x = bc_x (x % 256) (x / 256 % 256) (x / 65536 % 256) (x / 16777216 % 256) (x / 4294967296 % 256) := by unfold bc_x; omega
  unfold bc_b
  have g0 : x % 256 < 256 := by omega
  have g1 : x / 256 % 256 < 256 := by omega
  have g2 : x / 65536 % 256 < 256 := by omega
  have g3 : x / 16777216 % 256 < 256 := by omega
  have g4 : x / 4294967296 % 256 < 256 := by omega
  generalize x % 256 = a at e g0 ⊢
  generalize x / 256 % 256 = b at e g1 ⊢
  generalize x / 65536 % 256 = c at e g2 ⊢
  generalize x / 16777216 % 256 = d at e g3 ⊢
  generalize x / 4294967296 % 256 = f at e g4 ⊢
  subst e
  obtain ⟨-, a1, a2, a3, a4, a5⟩ := bc_le a g0
  obtain ⟨-, b1, b2, b3, b4, b5⟩ := bc_le b g1
  obtain ⟨-, c1, c2, c3, c4, c5⟩ := bc_le c g2
  obtain ⟨-, d1, d2, d3, d4, d5⟩ := bc_le d g3
  obtain ⟨-, f1, f2, f3, f4, f5⟩ := bc_le f g4
  have h1 := bc_A5 g0 g1 g2 g3 g4
  have h2 := bc_B5 a1 b1 c1 d1 f1
  have h3 := bc_C5 ⟨a2, a3⟩ ⟨b2, b3⟩ ⟨c2, c3⟩ ⟨d2, d3⟩ ⟨f2, f3⟩
  rw [h1.2, h2, h3, a4, b4, c4, d4, f4]
  refine ⟨h1.1, by unfold bc_x; omega, by unfold bc_x; omega, by unfold bc_x; omega, ?_⟩
  exact bc_F5 a5 b5 c5 d5 f5
theorem bc_y (y : Nat) : bc_n (y % 256) = y % 2 + y / 2 % 2 + y / 4 % 2 + y / 8 % 2 + y / 16 % 2 + y / 32 % 2 + y / 64 % 2 + y / 128 % 2 := by unfold bc_n; omega
theorem bc_g {f : Nat → Nat} {x k : Nat} (g : ∀ c, c < 36 → x / 2 ^ c % 2 = f c) (gz : ∀ c, 36 ≤ c → x / 2 ^ c % 2 = 0) : bc_n (x / 2 ^ k % 256) = (if k < 36 then f k else 0) + (if k + 1 < 36 then f (k + 1) else 0) + (if k + 2 < 36 then f (k + 2) else 0) + (if k + 3 < 36 then f (k + 3) else 0) + (if k + 4 < 36 then f (k + 4) else 0) + (if k + 5 < 36 then f (k + 5) else 0) + (if k + 6 < 36 then f (k + 6) else 0) + (if k + 7 < 36 then f (k + 7) else 0) := by
  have e : ∀ j, x / 2 ^ k / 2 ^ j % 2 = if k + j < 36 then f (k + j) else 0 := fun j => by
    rw [Nat.div_div_eq_div_mul, ← Nat.pow_add]
    by_cases h : k + j < 36
    · rw [if_pos h, g _ h]
    · rw [if_neg h, gz _ (by omega)]
  rw [bc_y]
  have e0 := e 0
  rw [Nat.pow_zero, Nat.div_one] at e0
  exact congr (congrArg _ (congr (congrArg _ (congr (congrArg _ (congr (congrArg _ (congr (congrArg _ (congr (congrArg _ (congr (congrArg _ e0) (e 1))) (e 2))) (e 3))) (e 4))) (e 5))) (e 6))) (e 7)
theorem bc_pk {f : Nat → Nat} (h : ∀ c, c < 36 → f c ≤ 1) : bc_b (sp_pk f 36) = sp_sum f 36 := by
  have g := sp_pk_bit 36 h
  have hl := sp_pk_lt 36 h
  generalize sp_pk f 36 = x at g hl
  have gz : ∀ c, 36 ≤ c → x / 2 ^ c % 2 = 0 := fun c hc => by rw [Nat.div_eq_of_lt (Nat.lt_of_lt_of_le hl (Nat.pow_le_pow_right (by decide) hc))]
  have b0 := bc_g (k := 0) g gz
  have b1 := bc_g (k := 8) g gz
  have b2 := bc_g (k := 16) g gz
  have b3 := bc_g (k := 24) g gz
  have b4 := bc_g (k := 32) g gz
  rw [Nat.pow_zero, Nat.div_one] at b0
  unfold bc_b
  rw [b0, show 256 = 2 ^ 8 from rfl, b1, show 65536 = 2 ^ 16 from rfl, b2, show 16777216 = 2 ^ 24 from rfl, b3, show 4294967296 = 2 ^ 32 from rfl, b4]
  simp only [sp_sum, Nat.reduceAdd, Nat.reduceLT, if_true, if_false, Nat.add_zero, Nat.zero_add]
  simp only [← Nat.add_assoc]
theorem lN_ushr {x k : Nat} (h : x < 2 ^ 63) (s : UInt64) (hs : s.toNat % 64 = k) : ((lN x).toUInt64 >>> s).toInt64 = lN (x / 2 ^ k) := by
  apply Int64.toBitVec_inj.mp
  apply BitVec.eq_of_toNat_eq
  have e : ∀ n, n < 2 ^ 63 → (lN n).toBitVec.toNat = n := fun n hn => Nat.mod_eq_of_lt (by omega)
  have h2 : x / 2 ^ k ≤ x := Nat.div_le_self _ _
  have e2 : ((lN x).toUInt64 >>> s).toInt64.toBitVec.toNat = ((lN x).toUInt64 >>> s).toNat := rfl
  rw [e2, UInt64.toNat_shiftRight, hs, Nat.shiftRight_eq_div_pow, e _ (by omega)]
  exact congrArg (· / 2 ^ k) (e x h)
theorem lN_and {x y : Nat} (hx : x < 2 ^ 63) (hy : y < 2 ^ 63) : lN x &&& lN y = lN (x &&& y) := by
  apply Int64.toBitVec_inj.mp
  apply BitVec.eq_of_toNat_eq
  have e : ∀ n, n < 2 ^ 63 → (lN n).toBitVec.toNat = n := fun n hn => Nat.mod_eq_of_lt (by omega)
  rw [Int64.toBitVec_and, BitVec.toNat_and, e _ hx, e _ hy, e _ (Nat.and_lt_two_pow _ hy)]
theorem lN_addN (x y : Nat) : lN x + lN y = lN (x + y) := by
  apply Int64.toBitVec_inj.mp
  apply BitVec.eq_of_toNat_eq
  rw [Int64.toBitVec_add, BitVec.toNat_add]
  show ((x % 2 ^ 64) + (y % 2 ^ 64)) % 2 ^ 64 = (x + y) % 2 ^ 64
  omega
theorem lN_subN {x y : Nat} (h : y ≤ x) : lN x - lN y = lN (x - y) := by
  have e := lN_addN (x - y) y
  rw [Nat.sub_add_cancel h] at e
  rw [← e]
  exact Int64.add_sub_cancel _ _
theorem lN_l127 (x : Nat) : (lN x).toInt32 &&& nI 127 = nI (x % 128) := by
  apply Int32.toBitVec_inj.mp
  apply BitVec.eq_of_toNat_eq
  rw [Int32.toBitVec_and, BitVec.toNat_and]
  have e1 : (lN x).toInt32.toBitVec.toNat = (x % 2 ^ 64) % 2 ^ 32 := by
    show ((lN x).toBitVec.signExtend 32).toNat = _
    rw [BitVec.signExtend_eq_setWidth_of_le _ (by decide), BitVec.toNat_setWidth]
    rfl
  have e2 : (nI (x % 128)).toBitVec.toNat = (x % 128) % 2 ^ 32 := rfl
  have e3 : (nI 127).toBitVec.toNat = 127 := rfl
  rw [e1, e2, e3]
  rw [show (127 : Nat) = 2 ^ 7 - 1 from rfl, Nat.and_two_pow_sub_one_eq_mod]
  omega
/-! the town's sets written -/
theorem tn_R.setw {G : hg_G} {ta : Nat → Nat} {t : sp_S} (h : tn_R G ta t) {k c n : Nat} (hk : k = 7 ∨ k = 8) : tn_R (hs_J G (ta 0) k (lN (sp_pk (fun i => if i = c then n else t.1 (k + 9) i) 36))) ta (sp_set t (k + 9) c n) := by
  have e : ∀ a, a ≠ k + 9 → (sp_set t (k + 9) c n).1 a = t.1 a := fun a ha => funext fun i => if_neg ha
  have e2 : (sp_set t (k + 9) c n).1 (k + 9) = fun i => if i = c then n else t.1 (k + 9) i := funext fun i => if_pos rfl
  obtain ⟨h1, h2, h3, ⟨h4, h5⟩, h6, h7, h8⟩ := h
  refine ⟨h1, h2, ?_, ?_, ?_, ?_, ?_⟩
  · rw [e 0 (by omega), e 1 (by omega), e 2 (by omega), e 3 (by omega), e 36 (by omega)]
    exact h3
  · rcases hk with rfl | rfl
    · exact ⟨hs_Jeq.trans (by rw [← e2]), (hs_Jnj (by decide)).trans (by rw [e 17 (by decide)]; exact h5)⟩
    · exact ⟨(hs_Jnj (by decide)).trans (by rw [e 16 (by decide)]; exact h4), hs_Jeq.trans (by rw [← e2])⟩
  · rw [e 0 (by omega), e 15 (by omega)]
    exact h6
  · rw [e 0 (by omega), e 9 (by omega), e 10 (by omega), e 12 (by omega)]
    exact h7
  · rw [e 0 (by omega), e 11 (by omega), e 13 (by omega), e 14 (by omega)]
    exact h8
theorem sp_pk_id (f : Nat → Nat) (c : Nat) : sp_pk f 36 = sp_pk (fun i => if i = c then f c else f i) 36 := sp_pk_ext 36 (fun i _ => by
  by_cases e : i = c
  · rw [if_pos e, e]
  · rw [if_neg e])
theorem cp_sk_or {t : sp_S} {K z p : Nat} (hK : K / 2 ^ p % 2 = t.1 15 p) (h15 : t.1 15 p ≤ 1) (hp : p < t.1 0 0) : (K ||| z) / 2 ^ p % 2 = sp_sk t z p := by
  rw [or_d, hK]
  unfold sp_sk sp_bit
  by_cases h : z / 2 ^ p % 2 = 1
  · rw [if_pos (Or.inr h), if_pos ⟨hp, beq_iff_eq.mpr h⟩]
  · rw [if_neg (c := p < t.1 0 0 ∧ (z / 2 ^ p % 2 == 1) = true) (fun g => h (beq_iff_eq.mp g.2))]
    by_cases g : t.1 15 p = 1
    · rw [if_pos (Or.inl g), g]
    · rw [if_neg (fun q => q.elim g h)]
      omega
theorem cp_a1 {x : Int32} (h0 : ¬ x < 0) (h1 : x ≤ nI 1) (e0 : ¬ x = 0) : x = nI 1 := by
  have h := sp_geN h0
  have h4 : iN x ≤ 1 := by
    rw [h.1] at h1
    exact (nI_leI h.2 (by decide)).mp h1
  have : iN x = 0 ∨ iN x = 1 := by omega
  rcases this with g | g
  · exact absurd (h.1.trans (by rw [g]; rfl)) e0
  · exact h.1.trans (by rw [g])
theorem sp_fr_n {x : Int32} {b z : Nat} (hb : b < 2 ^ 31) (hz : z < 2 ^ 31) (h0 : ¬ x < nI b) (h1 : x ≤ nI z) : x = nI (iN x) ∧ b ≤ iN x ∧ iN x ≤ z := sp_frN hb hz (decide_eq_true ⟨Int32.not_lt.mp h0, h1⟩)
theorem lg_in_I {x y : Int32} : 0 < lg_cmp x.toInt64 y.toInt64 ↔ y < x := by
  rw [lg_cmp_gt, Int64.lt_iff_toInt_lt, Int32.lt_iff_toInt_lt, Int32.toInt_toInt64, Int32.toInt_toInt64]
theorem tn_R.sets {G : hg_G} {ta : Nat → Nat} {t : sp_S} (h : tn_R G ta t) {k : Nat} (hk : k = 7 ∨ k = 8) : tn_R (hs_J G (ta 0) k (lN (sp_pk (t.1 (k + 9)) 36))) ta t := by
  have := h.setw hk (c := 0) (n := t.1 (k + 9) 0)
  rw [sp_set_id, ← sp_pk_id] at this
  exact this
theorem lN_l2i {n : Nat} (h : n < 2 ^ 31) : (lN n).toInt32 = nI n := by
  apply Int32.toBitVec_inj.mp
  apply BitVec.eq_of_toNat_eq
  have e1 : (lN n).toInt32.toBitVec.toNat = (n % 2 ^ 64) % 2 ^ 32 := by
    show ((lN n).toBitVec.signExtend 32).toNat = _
    rw [BitVec.signExtend_eq_setWidth_of_le _ (by decide), BitVec.toNat_setWidth]
    rfl
  have e2 : (nI n).toBitVec.toNat = n % 2 ^ 32 := rfl
  rw [e1, e2]
  omega
/-- the town is another, with all its cells; who was there stays where he is found -/
theorem cp_R.town2 {G G' : hg_G} {ca : Nat → Nat} {A : ab_S} (h : cp_R G ca A) (hW : ab_wf A) (hf : hg_fr (cp_W ca A (fun r => 21 ≤ r ∧ r < 26)) G G') (hp : ∀ p, p < A.1.1 0 0 → G'.2.2.2 (ca 22) p = G.2.2.2 (ca 22) p) {t : sp_S} (ht : tn_R G' (cp_w ca) t) (h18 : ∀ a, 18 ≤ a → a ≠ 36 → t.1 a = A.1.1 a) (h7 : t.2 7 = A.1.2 7) (h42 : t.2 42 = A.1.2 42) : cp_R G' ca (t, A.2) := by
  have st : ∀ r, cp_pr A r → ¬ (21 ≤ r ∧ r < 26) → hg_st G G' (ca r) := fun r hr hs => h.fw hf hr hs
  have e43 : t.1 43 0 = A.1.1 43 0 := by rw [h18 43 (by decide) (by decide)]
  have e18 : t.1 18 = A.1.1 18 := h18 18 (by decide) (by decide)
  have o := h.o.st (st 0 (.w (by decide)) (by omega))
  have r := h.r.st (fun i hi h1 => ⟨st _ (.r hi h1) (by omega), st _ (.e hi h1) (by omega)⟩)
  have pr : ∀ i, cp_pr (t, A.2) i → cp_pr A i := fun i hi => by
    unfold cp_pr at hi ⊢
    rw [e43, e18] at hi
    exact hi
  refine ⟨⟨o.1, o.2.1, o.2.2.1, o.2.2.2.1, o.2.2.2.2.1, o.2.2.2.2.2.1, o.2.2.2.2.2.2.1, by rw [e43]; exact o.2.2.2.2.2.2.2.1, by rw [h7]; exact o.2.2.2.2.2.2.2.2⟩, ⟨(st 1 (.w (by decide)) (by omega)).1.trans h.s.1, fun i hi => ?_⟩, fun i hi h1 => ?_, h.f.st (st 2 (.w (by decide)) (by omega)), ?_,
    h.a.stt (st 5 (.w (by decide)) (by omega)) (st 6 (.w (by decide)) (by omega)) (st 7 (.w (by decide)) (by omega)), h.d.st (fun i hi => st _ (.w (by omega)) (by omega)), ht,
    fun h1 => ?_, fun i j hi hj => h.j i j (pr i hi) (pr j hj)⟩
  · obtain ⟨g1, g2, g3⟩ := h.s.2 i hi
    obtain ⟨s1, -, -, s4⟩ := st 1 (.w (by decide)) (by omega)
    obtain ⟨q1, -, -, q4⟩ := st (8 + i) (.w (by omega)) (by omega)
    refine ⟨(s4 i).trans g1, q1.trans g2, (q4 0).trans (g3.trans ?_)⟩
    unfold cp_held
    show _ = if t.1 18 i = 0 then none else if t.1 18 i = 1 then some (ca (31 + i)) else G'.2.2.2 (ca 22) (t.1 21 i)
    rw [e18, h18 21 (by decide) (by decide)]
    by_cases h0 : A.1.1 18 i = 0
    · rw [if_pos h0, if_pos h0]
    · rw [if_neg h0, if_neg h0]
      by_cases h1 : A.1.1 18 i = 1
      · rw [if_pos h1, if_pos h1]
      · rw [if_neg h1, if_neg h1]
        have w := hW.2.2.1 i hi
        exact (hp _ (w.2.2.2 (by omega))).symm
  · have h1 : A.1.1 18 i = 1 := by rw [← e18]; exact h1
    have := r i hi h1
    rw [h18 19 (by decide) (by decide), h18 20 (by decide) (by decide)]
    exact this
  · have g := h.t.st (st 3 (.w (by decide)) (by omega)) (st 4 (.w (by decide)) (by omega))
    exact ⟨g.1, g.2.1, g.2.2.1, by rw [h42]; exact g.2.2.2.1, g.2.2.2.2⟩
  · have h1 : A.1.1 43 0 = 1 := by rw [← e43]; exact h1
    exact ⟨h.tw hf (h.i h1).1 (n := 26) (fun i hi => ⟨rfl, .im h1 (by omega) (by omega), fun z => by omega⟩), (h.i h1).2⟩
theorem tj_lbits {l : Launch} {D : hg_D} {lo : Nat} (htr : l.stackTraces = false) {G : hg_G} {x : Nat} (hx : x < 2 ^ 36) :
    hg_M l D lo yJ13_bitCount (ws_ yJ13_bitCount cJ13_bitCount 2 ((some FieldType.int))) rm_J13_bitCount [.long (lN x)] G (hg_Pv G (.int (nI (bc_b x)))) := by
  refine hg_M.of htr (by decide) [some (.long (lN x)), none] rfl (Nat.le_of_ble_eq_true rfl) ?_
  intro p e s m args below meth c X hr hnm htab
  have X : hg_X p l s m args meth c D lo "java/lang/Long" cJ13_bitCount 2 := X
  obtain ⟨hA1, hA2, hA3, hA4, hA5⟩ := bc_all hx
  have hD : bc_D (bc_C (bc_B (bc_A x))) < 2 ^ 38 := by unfold bc_D; omega
  have hE : bc_E (bc_D (bc_C (bc_B (bc_A x)))) < 2 ^ 39 := by unfold bc_E; omega
  refine hr_lload0 (q := 1) X dJ13_bitCount_0 rfl ?_
  refine hr_lload0 (q := 2) X dJ13_bitCount_1 rfl ?_
  refine hr_iconst (v := (nI 1)) (q := 3) X dJ13_bitCount_2 rfl rfl ?_
  refine hr_lushr (v := (lN (x / 2 ^ 1))) (q := 4) X dJ13_bitCount_3 rfl (lN_ushr (k := 1) (by omega) _ (by decide)) ?_
  refine hr_ldc2 (q := 7) X dJ13_bitCount_4 rfl q1367 ?_
  refine hr_land (v := (lN ((x / 2 ^ 1) &&& 6148914691236517205))) (q := 8) X dJ13_bitCount_7 rfl (lN_and (y := 6148914691236517205) (Nat.lt_of_le_of_lt (Nat.div_le_self _ _) (by omega)) (by decide)) ?_
  refine hr_lsub (v := (lN (bc_A x))) (q := 9) X dJ13_bitCount_8 rfl (lN_subN hA1) ?_
  refine hr_lstore0 (q := 10) X dJ13_bitCount_9 rfl (Nat.le_of_ble_eq_true rfl) ?_
  refine hr_lload0 (q := 11) X dJ13_bitCount_10 rfl ?_
  refine hr_ldc2 (q := 14) X dJ13_bitCount_11 rfl q1368 ?_
  refine hr_land (v := (lN ((bc_A x) &&& 3689348814741910323))) (q := 15) X dJ13_bitCount_14 rfl (lN_and (y := 3689348814741910323) (by omega) (by decide)) ?_
  refine hr_lload0 (q := 16) X dJ13_bitCount_15 rfl ?_
  refine hr_iconst (v := (nI 2)) (q := 17) X dJ13_bitCount_16 rfl rfl ?_
  refine hr_lushr (v := (lN ((bc_A x) / 2 ^ 2))) (q := 18) X dJ13_bitCount_17 rfl (lN_ushr (k := 2) (by omega) _ (by decide)) ?_
  refine hr_ldc2 (q := 21) X dJ13_bitCount_18 rfl q1368 ?_
  refine hr_land (v := (lN (((bc_A x) / 2 ^ 2) &&& 3689348814741910323))) (q := 22) X dJ13_bitCount_21 rfl (lN_and (y := 3689348814741910323) (Nat.lt_of_le_of_lt (Nat.div_le_self _ _) (by omega)) (by decide)) ?_
  refine hr_ladd (v := (lN (bc_B (bc_A x)))) (q := 23) X dJ13_bitCount_22 rfl (lN_addN _ _) ?_
  refine hr_lstore0 (q := 24) X dJ13_bitCount_23 rfl (Nat.le_of_ble_eq_true rfl) ?_
  refine hr_lload0 (q := 25) X dJ13_bitCount_24 rfl ?_
  refine hr_lload0 (q := 26) X dJ13_bitCount_25 rfl ?_
  refine hr_iconst (v := (nI 4)) (q := 27) X dJ13_bitCount_26 rfl rfl ?_
  refine hr_lushr (v := (lN ((bc_B (bc_A x)) / 2 ^ 4))) (q := 28) X dJ13_bitCount_27 rfl (lN_ushr (k := 4) (by omega) _ (by decide)) ?_
  refine hr_ladd (v := (lN ((bc_B (bc_A x)) + (bc_B (bc_A x)) / 2 ^ 4))) (q := 29) X dJ13_bitCount_28 rfl (lN_addN _ _) ?_
  refine hr_ldc2 (q := 32) X dJ13_bitCount_29 rfl q1369 ?_
  refine hr_land (v := (lN (bc_C (bc_B (bc_A x))))) (q := 33) X dJ13_bitCount_32 rfl (lN_and (y := 1085102592571150095) (by omega) (by decide)) ?_
  refine hr_lstore0 (q := 34) X dJ13_bitCount_33 rfl (Nat.le_of_ble_eq_true rfl) ?_
  refine hr_lload0 (q := 35) X dJ13_bitCount_34 rfl ?_
  refine hr_lload0 (q := 36) X dJ13_bitCount_35 rfl ?_
  refine hr_bipush (v := (nI 8)) (q := 38) X dJ13_bitCount_36 rfl rfl ?_
  refine hr_lushr (v := (lN ((bc_C (bc_B (bc_A x))) / 2 ^ 8))) (q := 39) X dJ13_bitCount_38 rfl (lN_ushr (k := 8) (by omega) _ (by decide)) ?_
  refine hr_ladd (v := (lN (bc_D (bc_C (bc_B (bc_A x)))))) (q := 40) X dJ13_bitCount_39 rfl (lN_addN _ _) ?_
  refine hr_lstore0 (q := 41) X dJ13_bitCount_40 rfl (Nat.le_of_ble_eq_true rfl) ?_
  refine hr_lload0 (q := 42) X dJ13_bitCount_41 rfl ?_
  refine hr_lload0 (q := 43) X dJ13_bitCount_42 rfl ?_
  refine hr_bipush (v := (nI 16)) (q := 45) X dJ13_bitCount_43 rfl rfl ?_
  refine hr_lushr (v := (lN ((bc_D (bc_C (bc_B (bc_A x)))) / 2 ^ 16))) (q := 46) X dJ13_bitCount_45 rfl (lN_ushr (k := 16) (by omega) _ (by decide)) ?_
  refine hr_ladd (v := (lN (bc_E (bc_D (bc_C (bc_B (bc_A x))))))) (q := 47) X dJ13_bitCount_46 rfl (lN_addN _ _) ?_
  refine hr_lstore0 (q := 48) X dJ13_bitCount_47 rfl (Nat.le_of_ble_eq_true rfl) ?_
  refine hr_lload0 (q := 49) X dJ13_bitCount_48 rfl ?_
  refine hr_lload0 (q := 50) X dJ13_bitCount_49 rfl ?_
  refine hr_bipush (v := (nI 32)) (q := 52) X dJ13_bitCount_50 rfl rfl ?_
  refine hr_lushr (v := (lN ((bc_E (bc_D (bc_C (bc_B (bc_A x))))) / 2 ^ 32))) (q := 53) X dJ13_bitCount_52 rfl (lN_ushr (k := 32) (by omega) _ (by decide)) ?_
  refine hr_ladd (v := (lN (bc_F (bc_E (bc_D (bc_C (bc_B (bc_A x)))))))) (q := 54) X dJ13_bitCount_53 rfl (lN_addN _ _) ?_
  refine hr_lstore0 (q := 55) X dJ13_bitCount_54 rfl (Nat.le_of_ble_eq_true rfl) ?_
  refine hr_lload0 (q := 56) X dJ13_bitCount_55 rfl ?_
  refine hr_l2i (v := ((lN (bc_F (bc_E (bc_D (bc_C (bc_B (bc_A x))))))).toInt32)) (q := 57) X dJ13_bitCount_56 rfl rfl ?_
  refine hr_bipush (v := (nI 127)) (q := 59) X dJ13_bitCount_57 rfl rfl ?_
  refine hr_iand (v := (nI (bc_b x))) (q := 60) X dJ13_bitCount_59 rfl ((lN_l127 _).trans (congrArg nI hA5)) ?_
  exact hr_iret X hr dJ13_bitCount_60 ⟨rfl, rfl⟩

theorem tj_maxI {l : Launch} {D : hg_D} {lo : Nat} (htr : l.stackTraces = false) {G : hg_G} {a b : Int32} :
    hg_M l D lo yJ8_max (ws_ yJ8_max cJ8_max 2 ((some FieldType.int))) rm_J8_max [.int a, .int b] G (hg_Pv G (.int (if b ≤ a then a else b))) := by
  refine hg_M.ofF htr (by decide +kernel) [some (.int a), some (.int b)] rfl (Nat.le_of_ble_eq_true rfl) ?_
  intro p e s m args below meth c X hr hnm htab
  have X : hg_X p l s m args meth c D lo "java/lang/Math" cJ8_max 2 := X
  refine hr_iload0 (q := 1) X dJ8_max_0 rfl ?_
  refine hr_iload1 (q := 2) X dJ8_max_1 rfl ?_
  refine hr_icmp_lt (q := 5) (tgt := 9) X dJ8_max_2 rfl (by decide) (fun c2 => ?_) (fun c2 => ?_)
  · refine hr_iload1 (q := 10) X dJ8_max_9 rfl ?_
    exact hr_iret X hr dJ8_max_10 ⟨hz_i (if_neg (by first | exact Int32.not_le.mpr c2 | exact c2)).symm, rfl⟩
  · refine hr_iload0 (q := 6) X dJ8_max_5 rfl ?_
    refine hr_goto (tgt := 10) X dJ8_max_6 (by decide) ?_
    exact hr_iret X hr dJ8_max_10 ⟨hz_i (if_pos (by first | exact Int32.not_lt.mp c2 | exact c2)).symm, rfl⟩

theorem tc_dutiesWith {l : Launch} {D : hg_D} {lo : Nat} (htr : l.stackTraces = false) {G : hg_G} {ca : Nat → Nat} {A : ab_S} (h : cp_R G ca A) (hW : ab_wf A) {z : Nat} (hz : z < 128) :
    hg_M l D lo yX0_dutiesWith (ws_ yX0_dutiesWith cX0_dutiesWith 2 ((some FieldType.int))) rm_X0_dutiesWith [.ref (ca 0), .int (nI z)] G (fun r G' => r = .inl (some (.int (nI (sp_skd A z)))) ∧ cp_R G' ca A) := by
  refine hg_M.of htr (by decide) [some (.ref (ca 0)), some (.int (nI z))] rfl (Nat.le_of_ble_eq_true rfl) ?_
  intro p e s m args below meth c X hr hnm htab
  have X : hg_X p l s m args meth c D lo "TaxOnLooks" cX0_dutiesWith 2 := X
  have hw := hW.w; have w0 := hw.b0; have w1 := hw.b1; have w2 := hw.b2; have w3 := hw.b3; have w36 := hW.b36; have w43 := hW.b43
  have hpw := sp_wpk hw; have hpb := sp_bpk hw
  refine hr_aload0 (q := 1) X dX0_dutiesWith_0 rfl ?_
  refine hr_getR (v := (cp_d ca 0)) (q := 4) X dX0_dutiesWith_1 rfl fr_q248_0 rfl h.o.1 h.o.2.2.2.2.1 ?_
  refine hr_aload0 (q := 5) X dX0_dutiesWith_4 rfl ?_
  refine hr_getR (v := (cp_w ca 0)) (q := 8) X dX0_dutiesWith_5 rfl fr_q250_0 rfl h.o.1 h.o.2.2.2.2.2.2.1 ?_
  refine hr_call0 (q := 11) (hc_V (n := 1) (ci := 2) (As := [.ref (cp_w ca 0)]) X dX0_dutiesWith_8 rfl (tn_take_c X.tr (ta := cp_d ca) h.w w0 w3 (fun p hp => hw.b9 hp) h.d h.dD h.dw) q816 cv_X2_take ⟨Nat.le_of_ble_eq_true rfl, Nat.le_of_ble_eq_true rfl⟩ rfl (Nat.le_of_ble_eq_true rfl) h.d.1.1 rfl rfl) rfl (fun qx E G' hp => by cases hp.1) (fun r Gt1 hp _ => ?_)
  obtain ⟨hvt1, hTt1, hkt1, hft1, -⟩ := hp
  cases hvt1
  rw [sp_set_99 w36] at hTt1
  have ht1 := h.takes hft1 hTt1
  obtain ⟨K2, hK2, hK2s, hK2b⟩ := hTt1.sk
  refine hr_pop (q := 12) X dX0_dutiesWith_11 rfl rfl ?_
  refine hr_aload0 (q := 13) X dX0_dutiesWith_12 rfl ?_
  refine hr_getR (v := (cp_d ca 0)) (q := 16) X dX0_dutiesWith_13 rfl fr_q248_0 rfl ht1.o.1 ht1.o.2.2.2.2.1 ?_
  refine hr_dup (q := 17) X dX0_dutiesWith_16 rfl rfl ?_
  refine hr_getI (v := (nI K2)) (q := 20) X dX0_dutiesWith_17 rfl fr_q177_2 rfl hTt1.ob hK2s ?_
  refine hr_iload1 (q := 21) X dX0_dutiesWith_20 rfl ?_
  refine hr_ior (v := (nI (K2 ||| z))) (q := 22) X dX0_dutiesWith_21 rfl (nI_orN (by omega) (by omega)) ?_
  refine hr_putI (q := 25) X dX0_dutiesWith_22 rfl fw_q177_2 (fun h => nomatch h) rfl rfl rfl hTt1.ob ?_
  have Tu2 : tn_R (hs_I Gt1 (cp_d ca 0) 9 (nI (K2 ||| z))) (cp_d ca) (ab_f A (sp_sk A.1 z)).1 := hTt1.setsk ht1.dD (sp_orlt hK2 hz) (fun p hp => cp_sk_or (hK2b p hp) (hw.b15 (by omega)) hp)
  have Wu2 : sp_wf (ab_f A (sp_sk A.1 z)).1 := sp_wf_f hw (sp_sk_le hw z)
  have hu2 := ht1.takes (hg_fr.rf.I ⟨0, by decide, rfl⟩) Tu2
  refine hr_aload0 (q := 26) X dX0_dutiesWith_25 rfl ?_
  refine hr_getR (v := (cp_d ca 0)) (q := 29) X dX0_dutiesWith_26 rfl fr_q248_0 rfl hu2.o.1 hu2.o.2.2.2.2.1 ?_
  refine hr_callP (q := 32) (hc_V (n := 0) (ci := 2) (As := []) X dX0_dutiesWith_29 rfl (tn_duties X.tr Tu2 Wu2 ) q1109 cv_X2_duties ⟨Nat.le_of_ble_eq_true rfl, Nat.le_of_ble_eq_true rfl⟩ rfl (Nat.le_of_ble_eq_true rfl) Tu2.ob rfl rfl) rfl ?_
  have := sp_duties_le (t := (ab_f A (sp_sk A.1 z)).1) Wu2
  exact hr_iret X hr dX0_dutiesWith_32 ⟨rfl, hu2⟩

theorem tc_enteredWith {l : Launch} {D : hg_D} {lo : Nat} (htr : l.stackTraces = false) {G : hg_G} {ca : Nat → Nat} {A : ab_S} (h : cp_R G ca A) (hW : ab_wf A) {z : Nat} (hz : z < 36) :
    hg_M l D lo yX0_enteredWith (ws_ yX0_enteredWith cX0_enteredWith 2 ((some FieldType.int))) rm_X0_enteredWith [.ref (ca 0), .int (nI z)] G (fun r G' => r = .inl (some (.int (nI (sp_entAll (sp_set A.1 17 z 1))))) ∧ cp_R G' ca A) := by
  refine hg_M.of htr (by decide) [some (.ref (ca 0)), some (.int (nI z))] rfl (Nat.le_of_ble_eq_true rfl) ?_
  intro p e s m args below meth c X hr hnm htab
  have X : hg_X p l s m args meth c D lo "TaxOnLooks" cX0_enteredWith 2 := X
  have hw := hW.w; have w0 := hw.b0; have w1 := hw.b1; have w2 := hw.b2; have w3 := hw.b3; have w36 := hW.b36; have w43 := hW.b43
  have hpw := sp_wpk hw; have hpb := sp_bpk hw
  refine hr_aload0 (q := 1) X dX0_enteredWith_0 rfl ?_
  refine hr_getR (v := (cp_d ca 0)) (q := 4) X dX0_enteredWith_1 rfl fr_q248_0 rfl h.o.1 h.o.2.2.2.2.1 ?_
  refine hr_aload0 (q := 5) X dX0_enteredWith_4 rfl ?_
  refine hr_getR (v := (cp_w ca 0)) (q := 8) X dX0_enteredWith_5 rfl fr_q250_0 rfl h.o.1 h.o.2.2.2.2.2.2.1 ?_
  refine hr_call0 (q := 11) (hc_V (n := 1) (ci := 2) (As := [.ref (cp_w ca 0)]) X dX0_enteredWith_8 rfl (tn_take_c X.tr (ta := cp_d ca) h.w w0 w3 (fun p hp => hw.b9 hp) h.d h.dD h.dw) q816 cv_X2_take ⟨Nat.le_of_ble_eq_true rfl, Nat.le_of_ble_eq_true rfl⟩ rfl (Nat.le_of_ble_eq_true rfl) h.d.1.1 rfl rfl) rfl (fun qx E G' hp => by cases hp.1) (fun r Gt1 hp _ => ?_)
  obtain ⟨hvt1, hTt1, hkt1, hft1, -⟩ := hp
  cases hvt1
  rw [sp_set_99 w36] at hTt1
  have ht1 := h.takes hft1 hTt1
  obtain ⟨K2, hK2, hK2s, hK2b⟩ := hTt1.sk
  refine hr_pop (q := 12) X dX0_enteredWith_11 rfl rfl ?_
  refine hr_aload0 (q := 13) X dX0_enteredWith_12 rfl ?_
  refine hr_getR (v := (cp_d ca 0)) (q := 16) X dX0_enteredWith_13 rfl fr_q248_0 rfl ht1.o.1 ht1.o.2.2.2.2.1 ?_
  refine hr_dup (q := 17) X dX0_enteredWith_16 rfl rfl ?_
  refine hr_getJ (v := (lN (sp_pk (A.1.1 17) 36))) (q := 20) X dX0_enteredWith_17 rfl fr_q174_2 rfl hTt1.ob hTt1.f8 ?_
  refine hr_lconst (v := (lN 1)) (q := 21) X dX0_enteredWith_20 rfl rfl ?_
  refine hr_iload1 (q := 22) X dX0_enteredWith_21 rfl ?_
  refine hr_lshl (v := (lN (2 ^ z))) (q := 23) X dX0_enteredWith_22 rfl (lN_shl hz) ?_
  refine hr_lor (v := (lN (sp_pk (fun i => if i = z then 1 else A.1.1 17 i) 36))) (q := 24) X dX0_enteredWith_23 rfl (lN_pk_or (fun c hc => hw.b17 hc) hz) ?_
  refine hr_putJ (q := 27) X dX0_enteredWith_24 rfl fw_q174_2 (fun h => nomatch h) rfl hTt1.ob ?_
  have Tu2 : tn_R (hs_J Gt1 (cp_d ca 0) 8 (lN (sp_pk (fun i => if i = z then 1 else A.1.1 17 i) 36))) (cp_d ca) (sp_set A.1 17 z 1) := hTt1.setw (k := 8) (c := z) (n := 1) (Or.inr rfl)
  have Wu2 : sp_wf (sp_set A.1 17 z 1) := sp_wf_balcony hw (by decide)
  have hu2 := ht1.takes (hg_fr.rf.J ⟨0, by decide, rfl⟩) Tu2
  refine hr_aload0 (q := 28) X dX0_enteredWith_27 rfl ?_
  refine hr_getR (v := (cp_d ca 0)) (q := 31) X dX0_enteredWith_28 rfl fr_q248_0 rfl hu2.o.1 hu2.o.2.2.2.2.1 ?_
  refine hr_callP (q := 34) (hc_V (n := 0) (ci := 2) (As := []) X dX0_enteredWith_31 rfl (tn_enteredTogether X.tr Tu2 Wu2 ) q1186 cv_X2_enteredTogether ⟨Nat.le_of_ble_eq_true rfl, Nat.le_of_ble_eq_true rfl⟩ rfl (Nat.le_of_ble_eq_true rfl) Tu2.ob rfl rfl) rfl ?_
  have := sp_entAll_le (t := (sp_set A.1 17 z 1)) Wu2
  exact hr_iret X hr dX0_enteredWith_34 ⟨rfl, hu2⟩

theorem tc_dutiesWithout {l : Launch} {D : hg_D} {lo : Nat} (htr : l.stackTraces = false) {G : hg_G} {ca : Nat → Nat} {A : ab_S} (h : cp_R G ca A) (hW : ab_wf A) {z : Nat} (hz : z < A.1.1 0 0) :
    hg_M l D lo yX0_dutiesWithout (ws_ yX0_dutiesWithout cX0_dutiesWithout 2 ((some FieldType.int))) rm_X0_dutiesWithout [.ref (ca 0), .int (nI z)] G (fun r G' => r = .inl (some (.int (nI (sp_duties (sp_set A.1 36 0 z))))) ∧ cp_R G' ca A) := by
  refine hg_M.of htr (by decide) [some (.ref (ca 0)), some (.int (nI z))] rfl (Nat.le_of_ble_eq_true rfl) ?_
  intro p e s m args below meth c X hr hnm htab
  have X : hg_X p l s m args meth c D lo "TaxOnLooks" cX0_dutiesWithout 2 := X
  have hw := hW.w; have w0 := hw.b0; have w1 := hw.b1; have w2 := hw.b2; have w3 := hw.b3; have w36 := hW.b36; have w43 := hW.b43
  have hpw := sp_wpk hw; have hpb := sp_bpk hw
  refine hr_aload0 (q := 1) X dX0_dutiesWithout_0 rfl ?_
  refine hr_getR (v := (cp_d ca 0)) (q := 4) X dX0_dutiesWithout_1 rfl fr_q248_0 rfl h.o.1 h.o.2.2.2.2.1 ?_
  refine hr_aload0 (q := 5) X dX0_dutiesWithout_4 rfl ?_
  refine hr_getR (v := (cp_w ca 0)) (q := 8) X dX0_dutiesWithout_5 rfl fr_q250_0 rfl h.o.1 h.o.2.2.2.2.2.2.1 ?_
  refine hr_call0 (q := 11) (hc_V (n := 1) (ci := 2) (As := [.ref (cp_w ca 0)]) X dX0_dutiesWithout_8 rfl (tn_take_c X.tr (ta := cp_d ca) h.w w0 w3 (fun p hp => hw.b9 hp) h.d h.dD h.dw) q816 cv_X2_take ⟨Nat.le_of_ble_eq_true rfl, Nat.le_of_ble_eq_true rfl⟩ rfl (Nat.le_of_ble_eq_true rfl) h.d.1.1 rfl rfl) rfl (fun qx E G' hp => by cases hp.1) (fun r Gt1 hp _ => ?_)
  obtain ⟨hvt1, hTt1, hkt1, hft1, -⟩ := hp
  cases hvt1
  rw [sp_set_99 w36] at hTt1
  have ht1 := h.takes hft1 hTt1
  obtain ⟨K2, hK2, hK2s, hK2b⟩ := hTt1.sk
  refine hr_pop (q := 12) X dX0_dutiesWithout_11 rfl rfl ?_
  refine hr_aload0 (q := 13) X dX0_dutiesWithout_12 rfl ?_
  refine hr_getR (v := (cp_d ca 0)) (q := 16) X dX0_dutiesWithout_13 rfl fr_q248_0 rfl ht1.o.1 ht1.o.2.2.2.2.1 ?_
  refine hr_iload1 (q := 17) X dX0_dutiesWithout_16 rfl ?_
  refine hr_st1 (v' := .int (oI z)) (congrArg Value.int (oI_of (by omega)).symm) ?_
  refine hr_putI (q := 20) X dX0_dutiesWithout_17 rfl fw_q179_2 (fun h => nomatch h) rfl rfl rfl hTt1.ob ?_
  have Tu2 : tn_R (hs_I Gt1 (cp_d ca 0) 10 (oI z)) (cp_d ca) (sp_set A.1 36 0 z) := hTt1.setabs ht1.dD z
  have Wu2 : sp_wf (sp_set A.1 36 0 z) := sp_wf_missing hw (Or.inr hz)
  have hu2 := ht1.takes (hg_fr.rf.I ⟨0, by decide, rfl⟩) Tu2
  refine hr_aload0 (q := 21) X dX0_dutiesWithout_20 rfl ?_
  refine hr_getR (v := (cp_d ca 0)) (q := 24) X dX0_dutiesWithout_21 rfl fr_q248_0 rfl hu2.o.1 hu2.o.2.2.2.2.1 ?_
  refine hr_callP (q := 27) (hc_V (n := 0) (ci := 2) (As := []) X dX0_dutiesWithout_24 rfl (tn_duties X.tr Tu2 Wu2 ) q1109 cv_X2_duties ⟨Nat.le_of_ble_eq_true rfl, Nat.le_of_ble_eq_true rfl⟩ rfl (Nat.le_of_ble_eq_true rfl) Tu2.ob rfl rfl) rfl ?_
  have := sp_duties_le (t := (sp_set A.1 36 0 z)) Wu2
  exact hr_iret X hr dX0_dutiesWithout_27 ⟨rfl, hu2⟩

theorem tc_bestSacks {l : Launch} {D : hg_D} {lo : Nat} (htr : l.stackTraces = false) {G : hg_G} {ca : Nat → Nat} {A : ab_S} (h : cp_R G ca A) (hW : ab_wf A) {k : Nat} (hk : k ≤ 3) :
    hg_M l D lo yX0_bestSacks (ws_ yX0_bestSacks cX0_bestSacks 5 ((some FieldType.int))) rm_X0_bestSacks [.ref (ca 0), .int (nI k)] G (fun r G' => r = .inl (some (.int (oI (sp_sax A k (2 ^ A.1.1 0 0))))) ∧ cp_R G' ca A) := by
  refine hg_M.of htr (by decide) [some (.ref (ca 0)), some (.int (nI k)), none, none, none] rfl (Nat.le_of_ble_eq_true rfl) ?_
  intro p e s m args below meth c X hr hnm htab
  have X : hg_X p l s m args meth c D lo "TaxOnLooks" cX0_bestSacks 5 := X
  have hw := hW.w; have w0 := hw.b0; have w1 := hw.b1; have w2 := hw.b2; have w3 := hw.b3; have w36 := hW.b36; have w43 := hW.b43
  have hpw := sp_wpk hw; have hpb := sp_bpk hw
  refine hr_iconst (v := (-1)) (q := 1) X dX0_bestSacks_0 rfl rfl ?_
  refine hr_istore2 (q := 2) X dX0_bestSacks_1 rfl rfl (Nat.le_of_ble_eq_true rfl) ?_
  refine hr_iconst (v := (nI 0)) (q := 3) X dX0_bestSacks_2 rfl rfl ?_
  refine hr_istore3 (q := 4) X dX0_bestSacks_3 rfl rfl (Nat.le_of_ble_eq_true rfl) ?_
  have loop4 : ∀ (kr nr n : Nat) (i B : Nat) (G9 : hg_G), (i ≤ 2 ^ A.1.1 0 0) → (2 ^ A.1.1 0 0 + 1 ≤ i + n) → (B = sp_sax A k i) → (cp_R G9 ca A) → hg_W p l e rm_X0_bestSacks s m args below meth c (hg_Q below D lo args s rm_X0_bestSacks G (fun r G' => r = .inl (some (.int (oI (sp_sax A k (2 ^ A.1.1 0 0))))) ∧ cp_R G' ca A)) D lo G.1 5 kr nr G9 4 [some (.ref (ca 0)), some (.int (nI k)), some (.int (oI B)), some (.int (nI i)), none] [] := by
    intro kr nr n
    induction n with
    | zero =>
      intro i B G9 h4_0 h4_1 h4_2 h4_3
      omega
    | succ n ih =>
      intro i B G9 h4_0 h4_1 h4_2 h4_3
      refine hr_iload3 (q := 5) X dX0_bestSacks_4 rfl ?_
      have hpw2 := sp_pow (i := A.1.1 0 0) (by omega)
      have hB := sp_bst_lt (fun z => decide (sp_cnt z 7 = k)) (fun a b => decide (sp_skd A a < sp_skd A b)) i
      rw [← (show B = sp_bst _ _ i from h4_2)] at hB
      refine hr_iconst (v := (nI 1)) (q := 6) X dX0_bestSacks_5 rfl rfl ?_
      refine hr_aload0 (q := 7) X dX0_bestSacks_6 rfl ?_
      refine hr_getR (v := (cp_w ca 0)) (q := 10) X dX0_bestSacks_7 rfl fr_q250_0 rfl h4_3.o.1 h4_3.o.2.2.2.2.2.2.1 ?_
      refine hr_getI (v := (nI (A.1.1 0 0))) (q := 13) X dX0_bestSacks_10 rfl fr_q154_2 rfl h4_3.w.ob h4_3.w.f0 ?_
      refine hr_ishl (v := (nI (2 ^ (A.1.1 0 0)))) (q := 14) X dX0_bestSacks_13 rfl (sp_shl (by omega)) ?_
      refine hr_icmpN_ge (q := 17) (tgt := 67) X dX0_bestSacks_14 rfl (by decide) (by omega) (by omega) (fun c14 => ?_) (fun c14 => ?_)
      · refine hr_iload2 (q := 68) X dX0_bestSacks_67 rfl ?_
        exact hr_iret X hr dX0_bestSacks_68 ⟨by rw [h4_2, show i = 2 ^ A.1.1 0 0 by omega], h4_3⟩
      · refine hr_iload3 (q := 18) X dX0_bestSacks_17 rfl ?_
        refine hr_callP (v := .int (nI (sp_cnt i 7))) (q := 21) (hc_S (n := 1) (As := [.int (nI i)]) X dX0_bestSacks_18 rfl (tj_bits X.tr (x := i) (by omega)) q1173 cs_J12_bitCount ⟨Nat.le_of_ble_eq_true rfl, Nat.le_of_ble_eq_true rfl⟩ rfl (Nat.le_of_ble_eq_true rfl)) rfl ?_
        have := sp_cnt_le i 7
        refine hr_iload1 (q := 22) X dX0_bestSacks_21 rfl ?_
        refine hr_icmpN_ne (q := 25) (tgt := 29) X dX0_bestSacks_22 rfl (by decide) (by omega) (by omega) (fun c22 => ?_) (fun c22 => ?_)
        · refine hr_iconst (v := (nI 0)) (q := 30) X dX0_bestSacks_29 rfl rfl ?_
          refine hr_istore4 (q := 32) X dX0_bestSacks_30 rfl rfl (Nat.le_of_ble_eq_true rfl) ?_
          refine hr_iload4 (q := 34) X dX0_bestSacks_32 rfl ?_
          refine hr_if_eq (q := 37) (tgt := 59) X dX0_bestSacks_34 rfl (by decide) (fun _ => ?_) (fun z => absurd z (by decide))
          refine hr_iload2 (q := 60) X dX0_bestSacks_59 rfl ?_
          refine hr_istore2 (q := 61) X dX0_bestSacks_60 rfl rfl (Nat.le_of_ble_eq_true rfl) ?_
          refine hr_iinc3 (v := (nI (i + 1))) (q := 64) X dX0_bestSacks_61 rfl (nI_add _ _) rfl (Nat.le_of_ble_eq_true rfl) ?_
          refine hr_goto (tgt := 4) X dX0_bestSacks_64 (by decide) ?_
          refine hr_fg4 ?_
          exact ih (i + 1) B G9 (by omega) (by omega) (sp_bst_k h4_2 (Or.inl (decide_eq_false (by omega)))) h4_3
        · refine hr_iconst (v := (nI 1)) (q := 26) X dX0_bestSacks_25 rfl rfl ?_
          refine hr_goto (tgt := 30) X dX0_bestSacks_26 (by decide) ?_
          refine hr_istore4 (q := 32) X dX0_bestSacks_30 rfl rfl (Nat.le_of_ble_eq_true rfl) ?_
          refine hr_iload4 (q := 34) X dX0_bestSacks_32 rfl ?_
          refine hr_if_eq (q := 37) (tgt := 59) X dX0_bestSacks_34 rfl (by decide) (fun z => absurd z (by decide)) (fun _ => ?_)
          refine hr_iload2 (q := 38) X dX0_bestSacks_37 rfl ?_
          refine hr_iconst (v := (-1)) (q := 39) X dX0_bestSacks_38 rfl rfl ?_
          refine hr_icmpO_eq (q := 42) (tgt := 55) X dX0_bestSacks_39 rfl (by decide) (by omega) (fun c39 => ?_) (fun c39 => ?_)
          · refine hr_iload3 (q := 56) X dX0_bestSacks_55 rfl ?_
            refine hr_goto (tgt := 60) X dX0_bestSacks_56 (by decide) ?_
            refine hr_st1 (v' := .int (oI i)) (congrArg Value.int (oI_of (fun z => by subst z; exact absurd (show sp_cnt 99 7 = 4 from rfl) (by omega))).symm) ?_
            refine hr_istore2 (q := 61) X dX0_bestSacks_60 rfl rfl (Nat.le_of_ble_eq_true rfl) ?_
            refine hr_iinc3 (v := (nI (i + 1))) (q := 64) X dX0_bestSacks_61 rfl (nI_add _ _) rfl (Nat.le_of_ble_eq_true rfl) ?_
            refine hr_goto (tgt := 4) X dX0_bestSacks_64 (by decide) ?_
            refine hr_fg4 ?_
            exact ih (i + 1) i G9 (by omega) (by omega) (sp_bst_y h4_2 (decide_eq_true (by omega)) (Or.inl (by omega))) h4_3
          · refine hr_aload0 (q := 43) X dX0_bestSacks_42 rfl ?_
            refine hr_iload3 (q := 44) X dX0_bestSacks_43 rfl ?_
            refine hr_call0 (q := 47) (hc_V (n := 1) (ci := 0) (As := [.int (nI i)]) X dX0_bestSacks_44 rfl (tc_dutiesWith X.tr h4_3 hW (z := i) (by omega)) q1174 cv_X0_dutiesWith ⟨Nat.le_of_ble_eq_true rfl, Nat.le_of_ble_eq_true rfl⟩ rfl (Nat.le_of_ble_eq_true rfl) h4_3.o.1 rfl rfl) rfl (fun qx E G' hp => by cases hp.1) (fun r Gd1 hp _ => ?_)
            obtain ⟨hvd1, hd1⟩ := hp
            cases hvd1
            have := sp_skd_le hw (A := A) i
            refine hr_aload0 (q := 48) X dX0_bestSacks_47 rfl ?_
            refine hr_iload2 (q := 49) X dX0_bestSacks_48 rfl ?_
            refine hr_st1 (v' := .int (nI B)) (congrArg Value.int (oI_of (by omega))) ?_
            refine hr_call0 (q := 52) (hc_V (n := 1) (ci := 0) (As := [.int (nI B)]) X dX0_bestSacks_49 rfl (tc_dutiesWith X.tr hd1 hW (z := B) (by omega)) q1174 cv_X0_dutiesWith ⟨Nat.le_of_ble_eq_true rfl, Nat.le_of_ble_eq_true rfl⟩ rfl (Nat.le_of_ble_eq_true rfl) hd1.o.1 rfl rfl) rfl (fun qx E G' hp => by cases hp.1) (fun r Gd2 hp _ => ?_)
            obtain ⟨hvd2, hd2⟩ := hp
            cases hvd2
            have := sp_skd_le hw (A := A) B
            refine hr_icmpN_ge (q := 55) (tgt := 59) X dX0_bestSacks_52 rfl (by decide) (by omega) (by omega) (fun c52 => ?_) (fun c52 => ?_)
            · refine hr_iload2 (q := 60) X dX0_bestSacks_59 rfl ?_
              refine hr_istore2 (q := 61) X dX0_bestSacks_60 rfl rfl (Nat.le_of_ble_eq_true rfl) ?_
              refine hr_iinc3 (v := (nI (i + 1))) (q := 64) X dX0_bestSacks_61 rfl (nI_add _ _) rfl (Nat.le_of_ble_eq_true rfl) ?_
              refine hr_goto (tgt := 4) X dX0_bestSacks_64 (by decide) ?_
              refine hr_fg4 ?_
              exact ih (i + 1) B Gd2 (by omega) (by omega) (sp_bst_k h4_2 (Or.inr ⟨by omega, decide_eq_false (by omega)⟩)) hd2
            · refine hr_iload3 (q := 56) X dX0_bestSacks_55 rfl ?_
              refine hr_goto (tgt := 60) X dX0_bestSacks_56 (by decide) ?_
              refine hr_st1 (v' := .int (oI i)) (congrArg Value.int (oI_of (fun z => by subst z; exact absurd (show sp_cnt 99 7 = 4 from rfl) (by omega))).symm) ?_
              refine hr_istore2 (q := 61) X dX0_bestSacks_60 rfl rfl (Nat.le_of_ble_eq_true rfl) ?_
              refine hr_iinc3 (v := (nI (i + 1))) (q := 64) X dX0_bestSacks_61 rfl (nI_add _ _) rfl (Nat.le_of_ble_eq_true rfl) ?_
              refine hr_goto (tgt := 4) X dX0_bestSacks_64 (by decide) ?_
              refine hr_fg4 ?_
              exact ih (i + 1) i Gd2 (by omega) (by omega) (sp_bst_y h4_2 (decide_eq_true (by omega)) (Or.inr (decide_eq_true (by omega)))) hd2
  exact loop4 _ _ (2 ^ A.1.1 0 0 + 1) 0 99 G (Nat.zero_le _) (by omega) rfl h

abbrev rk_X0_sacks : Room := { frames := 12, cells := 40, slots := 3000, locals := 400 }
theorem tc_sacks {l : Launch} {D : hg_D} {lo : Nat} (htr : l.stackTraces = false) {G : hg_G} {ca : Nat → Nat} {A : ab_S} (h : cp_R G ca A) (hW : ab_wf A) {a1 a2 : Int32} :
    hg_M l D lo yX0_sacks (wsW_ yX0_sacks cX0_sacks 4 ((some FieldType.int)) [(0, 50, 51, 21)]) rk_X0_sacks [.ref (ca 0), .int a1, .int a2] G (cp_Po ca (sq_sacks a1 a2 A)) := by
  refine hg_M.ofH htr (by decide) [some (.ref (ca 0)), some (.int a1), some (.int a2), none] rfl (Nat.le_of_ble_eq_true rfl) ?_
  intro p e s m args below meth c X hr hnm htab
  have X : hg_X p l s m args meth c D lo "TaxOnLooks" cX0_sacks 4 := X
  refine hr_room (kr' := 40) (nr' := 3000) (Nat.le_of_ble_eq_true rfl) (Nat.le_of_ble_eq_true rfl) ?_
  have hw := hW.w; have w0 := hw.b0; have w1 := hw.b1; have w2 := hw.b2; have w3 := hw.b3; have w36 := hW.b36; have w43 := hW.b43
  have hpw := sp_wpk hw; have hpb := sp_bpk hw
  obtain ⟨K, hK, hKs, hKb⟩ := h.w.sk
  refine hr_iload2 (q := 1) X dX0_sacks_0 rfl ?_
  refine hr_i2l (v := a2.toInt64) (q := 2) X dX0_sacks_1 rfl rfl ?_
  refine hr_lconst (v := (lN 0)) (q := 3) X dX0_sacks_2 rfl rfl ?_
  refine hr_lconst (v := (lN 1)) (q := 4) X dX0_sacks_3 rfl rfl ?_
  refine hr_callP (v := .int (bI (sp_fr a2 (nI 0) (nI 1)))) (q := 7) (hc_S (n := 3) (As := [.long a2.toInt64, .long (lN 0), .long (lN 1)]) X dX0_sacks_4 rfl (tc_in X.tr (x := a2) (b := 0) (z := 1) (by decide) (by decide)) q387 cs_X0_in ⟨Nat.le_of_ble_eq_true rfl, Nat.le_of_ble_eq_true rfl⟩ rfl (Nat.le_of_ble_eq_true rfl)) rfl ?_
  refine hr_bipush (v := (-5)) (q := 9) X dX0_sacks_7 rfl rfl ?_
  refine hr_call (kr := 39) (nr := 2993) (q := 12) (hc_S (n := 2) (As := [.int (bI (sp_fr a2 (nI 0) (nI 1))), .int (-5)]) X dX0_sacks_9 rfl (tc_need X.tr (g := sp_fr a2 (nI 0) (nI 1)) (w := (-5))) q383 cs_X0_need ⟨Nat.le_of_ble_eq_true rfl, Nat.le_of_ble_eq_true rfl⟩ rfl (Nat.le_of_ble_eq_true rfl)) rfl (fun qxn1 E Gxn1 hpn1 _ => ?_) (fun r Gn1 hpn1 _ => ?_)
  · obtain ⟨hgn1, hrn1, -⟩ | ⟨hgn1, qn1, hrn1, htn1⟩ := hpn1
    · cases hrn1
    · cases hrn1
      have hxn1 := h.T htn1
      refine hx_catch (name := "TaxOnLooks$Refused") X [] ⟨0, 50, 51, 21⟩ [] htab (fun z hz => nomatch hz) (by decide) (by decide) q277 (by decide) ?_
      have fhgn1 : a2 < (0 : Int32) ∨ (¬ a2 < (0 : Int32) ∧ ¬ a2 ≤ nI 1) := sp_fr_f hgn1
      refine hr_astore3 (q := 52) X dX0_sacks_51 rfl rfl (Nat.le_of_ble_eq_true rfl) ?_
      refine hr_aload0 (q := 53) X dX0_sacks_52 rfl ?_
      refine hr_aload3 (q := 54) X dX0_sacks_53 rfl ?_
      refine hr_call0 (q := 57) (hc_V (n := 1) (ci := 0) (As := [.ref qxn1]) X dX0_sacks_54 rfl (tc_refused X.tr hxn1 hW (q := qxn1) htn1.2.1 htn1.2.2.1 (k := 5) (by decide) (by decide) (by decide)) q452 cv_X0_refused ⟨Nat.le_of_ble_eq_true rfl, Nat.le_of_ble_eq_true rfl⟩ rfl (Nat.le_of_ble_eq_true rfl) hxn1.o.1 rfl rfl) rfl (fun qx E G' hp => by cases hp.1) (fun r Gf2 hp _ => ?_)
      obtain ⟨hvf2, hhf2⟩ := hp
      cases hvf2
      refine hr_bipush (v := (nI 10)) (q := 59) X dX0_sacks_57 rfl rfl ?_
      refine hr_isub (v := ((-5) - (nI 10))) (q := 60) X dX0_sacks_59 rfl rfl ?_
      have hq3 : sq_sacks a1 a2 A = (((-5) - (nI 10)), (sq_no (-5) A).2) := by
        rcases fhgn1 with g | ⟨g, g2⟩
        · simp [sq_sacks, sq_noTen, sq_no_1, hgn1, eq_true g]
        · simp [sq_sacks, sq_noTen, sq_no_1, hgn1, eq_false g, eq_false g2]
      exact hr_iret X hr dX0_sacks_60 (by rw [hq3]; exact ⟨rfl, ca, rfl, hhf2⟩)
  · obtain ⟨hgn1, hrn1, hGn1⟩ | ⟨hgn1, qn1, hrn1, htn1⟩ := hpn1
    · cases hrn1
      have hGn1 := hGn1.symm
      subst hGn1
      have fhgn1 : ¬ a2 < (0 : Int32) ∧ a2 ≤ nI 1 := sp_fr_t hgn1
      refine hr_iload1 (q := 13) X dX0_sacks_12 rfl ?_
      refine hr_i2l (v := a1.toInt64) (q := 14) X dX0_sacks_13 rfl rfl ?_
      refine hr_lconst (v := (lN 0)) (q := 15) X dX0_sacks_14 rfl rfl ?_
      refine hr_ldc2 (q := 18) X dX0_sacks_15 rfl q386 ?_
      refine hr_callP (v := .int (bI (sp_fr a1 (nI 0) (nI 3)))) (q := 21) (hc_S (n := 3) (As := [.long a1.toInt64, .long (lN 0), .long 3]) X dX0_sacks_18 rfl (tc_in X.tr (x := a1) (b := 0) (z := 3) (by decide) (by decide)) q387 cs_X0_in ⟨Nat.le_of_ble_eq_true rfl, Nat.le_of_ble_eq_true rfl⟩ rfl (Nat.le_of_ble_eq_true rfl)) rfl ?_
      refine hr_bipush (v := (-6)) (q := 23) X dX0_sacks_21 rfl rfl ?_
      refine hr_call (kr := 38) (nr := 2986) (q := 26) (hc_S (n := 2) (As := [.int (bI (sp_fr a1 (nI 0) (nI 3))), .int (-6)]) X dX0_sacks_23 rfl (tc_need X.tr (g := sp_fr a1 (nI 0) (nI 3)) (w := (-6))) q383 cs_X0_need ⟨Nat.le_of_ble_eq_true rfl, Nat.le_of_ble_eq_true rfl⟩ rfl (Nat.le_of_ble_eq_true rfl)) rfl (fun qxn4 E Gxn4 hpn4 _ => ?_) (fun r Gn4 hpn4 _ => ?_)
      · obtain ⟨hgn4, hrn4, -⟩ | ⟨hgn4, qn4, hrn4, htn4⟩ := hpn4
        · cases hrn4
        · cases hrn4
          have hxn4 := h.T htn4
          refine hx_catch (name := "TaxOnLooks$Refused") X [] ⟨0, 50, 51, 21⟩ [] htab (fun z hz => nomatch hz) (by decide) (by decide) q277 (by decide) ?_
          have fhgn4 : a1 < (0 : Int32) ∨ (¬ a1 < (0 : Int32) ∧ ¬ a1 ≤ nI 3) := sp_fr_f hgn4
          refine hr_astore3 (q := 52) X dX0_sacks_51 rfl rfl (Nat.le_of_ble_eq_true rfl) ?_
          refine hr_aload0 (q := 53) X dX0_sacks_52 rfl ?_
          refine hr_aload3 (q := 54) X dX0_sacks_53 rfl ?_
          refine hr_call0 (q := 57) (hc_V (n := 1) (ci := 0) (As := [.ref qxn4]) X dX0_sacks_54 rfl (tc_refused X.tr hxn4 hW (q := qxn4) htn4.2.1 htn4.2.2.1 (k := 6) (by decide) (by decide) (by decide)) q452 cv_X0_refused ⟨Nat.le_of_ble_eq_true rfl, Nat.le_of_ble_eq_true rfl⟩ rfl (Nat.le_of_ble_eq_true rfl) hxn4.o.1 rfl rfl) rfl (fun qx E G' hp => by cases hp.1) (fun r Gf5 hp _ => ?_)
          obtain ⟨hvf5, hhf5⟩ := hp
          cases hvf5
          refine hr_bipush (v := (nI 10)) (q := 59) X dX0_sacks_57 rfl rfl ?_
          refine hr_isub (v := ((-6) - (nI 10))) (q := 60) X dX0_sacks_59 rfl rfl ?_
          have hq6 : sq_sacks a1 a2 A = (((-6) - (nI 10)), (sq_no (-6) A).2) := by
            rcases fhgn4 with g | ⟨g, g2⟩
            · simp [sq_sacks, sq_noTen, sq_no_1, eq_false fhgn1.1, eq_true fhgn1.2, hgn4, eq_true g]
            · simp [sq_sacks, sq_noTen, sq_no_1, eq_false fhgn1.1, eq_true fhgn1.2, hgn4, eq_false g, eq_false g2]
          exact hr_iret X hr dX0_sacks_60 (by rw [hq6]; exact ⟨rfl, ca, rfl, hhf5⟩)
      · obtain ⟨hgn4, hrn4, hGn4⟩ | ⟨hgn4, qn4, hrn4, htn4⟩ := hpn4
        · cases hrn4
          have hGn4 := hGn4.symm
          subst hGn4
          have fhgn4 : ¬ a1 < (0 : Int32) ∧ a1 ≤ nI 3 := sp_fr_t hgn4
          obtain ⟨ea1, la1, ma1⟩ := sp_frN (by decide) (by decide) hgn4
          refine hr_L (L' := [some (.ref (ca 0)), some (.int (nI (iN a1))), some (.int a2), none]) (by rw [← ea1]) ?_
          refine hr_aload0 (q := 27) X dX0_sacks_26 rfl ?_
          refine hr_iload1 (q := 28) X dX0_sacks_27 rfl ?_
          refine hr_call0 (q := 31) (hc_V (n := 1) (ci := 0) (As := [.int (nI (iN a1))]) X dX0_sacks_28 rfl (tc_bestSacks X.tr h hW (k := iN a1) (by omega)) q1169 cv_X0_bestSacks ⟨Nat.le_of_ble_eq_true rfl, Nat.le_of_ble_eq_true rfl⟩ rfl (Nat.le_of_ble_eq_true rfl) h.o.1 rfl rfl) rfl (fun qx E G' hp => by cases hp.1) (fun r Gd7 hp _ => ?_)
          obtain ⟨hvd7, hd7⟩ := hp
          cases hvd7
          have hpw2 := sp_pow (i := A.1.1 0 0) (by omega)
          have hB := sp_bst_lt (fun z => decide (sp_cnt z 7 = (iN a1))) (fun a b => decide (sp_skd A a < sp_skd A b)) (2 ^ A.1.1 0 0)
          change sp_sax A (iN a1) (2 ^ A.1.1 0 0) = 99 ∨ sp_sax A (iN a1) (2 ^ A.1.1 0 0) < _ at hB
          refine hr_istore3 (q := 32) X dX0_sacks_31 rfl rfl (Nat.le_of_ble_eq_true rfl) ?_
          refine hr_iload2 (q := 33) X dX0_sacks_32 rfl ?_
          refine hr_if_eq (q := 36) (tgt := 41) X dX0_sacks_33 rfl (by decide) (fun c33 => ?_) (fun c33 => ?_)
          · refine hr_iload3 (q := 42) X dX0_sacks_41 rfl ?_
            refine hr_goto (tgt := 50) X dX0_sacks_42 (by decide) ?_
            have hq8 : sq_sacks a1 a2 A = ((oI (sp_sax A (iN a1) (2 ^ A.1.1 0 0))), A) := by
              simp [sq_sacks, sq_noTen, sq_no_1, eq_false fhgn1.1, eq_true fhgn1.2, eq_false fhgn4.1, eq_true fhgn4.2, hgn4, eq_true c33]
            exact hr_iret X hr dX0_sacks_50 (by rw [hq8]; exact ⟨rfl, ca, rfl, hd7⟩)
          · refine hr_iload3 (q := 37) X dX0_sacks_36 rfl ?_
            refine hr_iconst (v := (-1)) (q := 38) X dX0_sacks_37 rfl rfl ?_
            refine hr_icmpO_ne (q := 41) (tgt := 45) X dX0_sacks_38 rfl (by decide) (by omega) (fun c38 => ?_) (fun c38 => ?_)
            · refine hr_aload0 (q := 46) X dX0_sacks_45 rfl ?_
              refine hr_iload3 (q := 47) X dX0_sacks_46 rfl ?_
              refine hr_st1 (v' := .int (nI (sp_sax A (iN a1) (2 ^ A.1.1 0 0)))) (congrArg Value.int (oI_of (by omega))) ?_
              refine hr_call0 (q := 50) (hc_V (n := 1) (ci := 0) (As := [.int (nI (sp_sax A (iN a1) (2 ^ A.1.1 0 0)))]) X dX0_sacks_47 rfl (tc_dutiesWith X.tr hd7 hW (z := sp_sax A (iN a1) (2 ^ A.1.1 0 0)) (by omega)) q1174 cv_X0_dutiesWith ⟨Nat.le_of_ble_eq_true rfl, Nat.le_of_ble_eq_true rfl⟩ rfl (Nat.le_of_ble_eq_true rfl) hd7.o.1 rfl rfl) rfl (fun qx E G' hp => by cases hp.1) (fun r Gd9 hp _ => ?_)
              obtain ⟨hvd9, hd9⟩ := hp
              cases hvd9
              have := sp_skd_le hw (A := A) (sp_sax A (iN a1) (2 ^ A.1.1 0 0))
              have hq10 : sq_sacks a1 a2 A = ((nI (sp_skd A (sp_sax A (iN a1) (2 ^ A.1.1 0 0)))), A) := by
                simp [sq_sacks, sq_noTen, sq_no_1, eq_false fhgn1.1, eq_true fhgn1.2, eq_false fhgn4.1, eq_true fhgn4.2, hgn4, eq_false c33, eq_false c38, sp_mst, oI]
              exact hr_iret X hr dX0_sacks_50 (by rw [hq10]; exact ⟨rfl, ca, rfl, hd9⟩)
            · refine hr_iload3 (q := 42) X dX0_sacks_41 rfl ?_
              refine hr_goto (tgt := 50) X dX0_sacks_42 (by decide) ?_
              have hq11 : sq_sacks a1 a2 A = ((oI (sp_sax A (iN a1) (2 ^ A.1.1 0 0))), A) := by
                simp [sq_sacks, sq_noTen, sq_no_1, eq_false fhgn1.1, eq_true fhgn1.2, eq_false fhgn4.1, eq_true fhgn4.2, hgn4, eq_false c33, eq_true c38, sp_mst, oI]
              exact hr_iret X hr dX0_sacks_50 (by rw [hq11]; exact ⟨rfl, ca, rfl, hd7⟩)
        · cases hrn4
    · cases hrn1

abbrev rk_X0_balconies : Room := { frames := 12, cells := 40, slots := 3000, locals := 400 }
theorem tc_balconies {l : Launch} {D : hg_D} {lo : Nat} (htr : l.stackTraces = false) {G : hg_G} {ca : Nat → Nat} {A : ab_S} (h : cp_R G ca A) (hW : ab_wf A) {a1 : Int32} :
    hg_M l D lo yX0_balconies (wsW_ yX0_balconies cX0_balconies 6 ((some FieldType.int)) [(0, 69, 70, 21)]) rk_X0_balconies [.ref (ca 0), .int a1] G (cp_Po ca (sq_balconies a1 A)) := by
  refine hg_M.ofH htr (by decide) [some (.ref (ca 0)), some (.int a1), none, none, none, none] rfl (Nat.le_of_ble_eq_true rfl) ?_
  intro p e s m args below meth c X hr hnm htab
  have X : hg_X p l s m args meth c D lo "TaxOnLooks" cX0_balconies 6 := X
  refine hr_room (kr' := 40) (nr' := 3000) (Nat.le_of_ble_eq_true rfl) (Nat.le_of_ble_eq_true rfl) ?_
  have hw := hW.w; have w0 := hw.b0; have w1 := hw.b1; have w2 := hw.b2; have w3 := hw.b3; have w36 := hW.b36; have w43 := hW.b43
  have hpw := sp_wpk hw; have hpb := sp_bpk hw
  obtain ⟨K, hK, hKs, hKb⟩ := h.w.sk
  refine hr_iload1 (q := 1) X dX0_balconies_0 rfl ?_
  refine hr_i2l (v := a1.toInt64) (q := 2) X dX0_balconies_1 rfl rfl ?_
  refine hr_lconst (v := (lN 0)) (q := 3) X dX0_balconies_2 rfl rfl ?_
  refine hr_lconst (v := (lN 1)) (q := 4) X dX0_balconies_3 rfl rfl ?_
  refine hr_callP (v := .int (bI (sp_fr a1 (nI 0) (nI 1)))) (q := 7) (hc_S (n := 3) (As := [.long a1.toInt64, .long (lN 0), .long (lN 1)]) X dX0_balconies_4 rfl (tc_in X.tr (x := a1) (b := 0) (z := 1) (by decide) (by decide)) q387 cs_X0_in ⟨Nat.le_of_ble_eq_true rfl, Nat.le_of_ble_eq_true rfl⟩ rfl (Nat.le_of_ble_eq_true rfl)) rfl ?_
  refine hr_bipush (v := (-5)) (q := 9) X dX0_balconies_7 rfl rfl ?_
  refine hr_call (kr := 39) (nr := 2993) (q := 12) (hc_S (n := 2) (As := [.int (bI (sp_fr a1 (nI 0) (nI 1))), .int (-5)]) X dX0_balconies_9 rfl (tc_need X.tr (g := sp_fr a1 (nI 0) (nI 1)) (w := (-5))) q383 cs_X0_need ⟨Nat.le_of_ble_eq_true rfl, Nat.le_of_ble_eq_true rfl⟩ rfl (Nat.le_of_ble_eq_true rfl)) rfl (fun qxn1 E Gxn1 hpn1 _ => ?_) (fun r Gn1 hpn1 _ => ?_)
  · obtain ⟨hgn1, hrn1, -⟩ | ⟨hgn1, qn1, hrn1, htn1⟩ := hpn1
    · cases hrn1
    · cases hrn1
      have hxn1 := h.T htn1
      refine hx_catch (name := "TaxOnLooks$Refused") X [] ⟨0, 69, 70, 21⟩ [] htab (fun z hz => nomatch hz) (by decide) (by decide) q277 (by decide) ?_
      have fhgn1 : a1 < (0 : Int32) ∨ (¬ a1 < (0 : Int32) ∧ ¬ a1 ≤ nI 1) := sp_fr_f hgn1
      refine hr_astore2 (q := 71) X dX0_balconies_70 rfl rfl (Nat.le_of_ble_eq_true rfl) ?_
      refine hr_aload0 (q := 72) X dX0_balconies_71 rfl ?_
      refine hr_aload2 (q := 73) X dX0_balconies_72 rfl ?_
      refine hr_call0 (q := 76) (hc_V (n := 1) (ci := 0) (As := [.ref qxn1]) X dX0_balconies_73 rfl (tc_refused X.tr hxn1 hW (q := qxn1) htn1.2.1 htn1.2.2.1 (k := 5) (by decide) (by decide) (by decide)) q452 cv_X0_refused ⟨Nat.le_of_ble_eq_true rfl, Nat.le_of_ble_eq_true rfl⟩ rfl (Nat.le_of_ble_eq_true rfl) hxn1.o.1 rfl rfl) rfl (fun qx E G' hp => by cases hp.1) (fun r Gf2 hp _ => ?_)
      obtain ⟨hvf2, hhf2⟩ := hp
      cases hvf2
      have hq3 : sq_balconies a1 A = ((-5), (sq_no (-5) A).2) := by
        rcases fhgn1 with g | ⟨g, g2⟩
        · simp [sq_balconies, sq_noTen, sq_no_1, hgn1, eq_true g]
        · simp [sq_balconies, sq_noTen, sq_no_1, hgn1, eq_false g, eq_false g2]
      exact hr_iret X hr dX0_balconies_76 (by rw [hq3]; exact ⟨rfl, ca, rfl, hhf2⟩)
  · obtain ⟨hgn1, hrn1, hGn1⟩ | ⟨hgn1, qn1, hrn1, htn1⟩ := hpn1
    · cases hrn1
      have hGn1 := hGn1.symm
      subst hGn1
      have fhgn1 : ¬ a1 < (0 : Int32) ∧ a1 ≤ nI 1 := sp_fr_t hgn1
      refine hr_iconst (v := (nI 0)) (q := 13) X dX0_balconies_12 rfl rfl ?_
      refine hr_istore2 (q := 14) X dX0_balconies_13 rfl rfl (Nat.le_of_ble_eq_true rfl) ?_
      refine hr_iconst (v := (-1)) (q := 15) X dX0_balconies_14 rfl rfl ?_
      refine hr_istore3 (q := 16) X dX0_balconies_15 rfl rfl (Nat.le_of_ble_eq_true rfl) ?_
      refine hr_iconst (v := (nI 0)) (q := 17) X dX0_balconies_16 rfl rfl ?_
      refine hr_istore4 (q := 19) X dX0_balconies_17 rfl rfl (Nat.le_of_ble_eq_true rfl) ?_
      have loop19 : ∀ (kr nr n : Nat) (i B : Nat) (G9 : hg_G), (i ≤ 36) → (37 ≤ i + n) → (B = sp_bst (fun _ => true) (fun a b => decide ((fun z => sp_entAll (sp_set A.1 17 z 1)) b < (fun z => sp_entAll (sp_set A.1 17 z 1)) a)) i) → (cp_R G9 ca A) → hg_W p l e rk_X0_balconies s m args below meth c (hg_Q below D lo args s rk_X0_balconies G (cp_Po ca (sq_balconies a1 A))) D lo G.1 6 kr nr G9 19 [some (.ref (ca 0)), some (.int a1), some (.int (nI (if B = 99 then 0 else B))), some (.int (sp_mst (fun z => sp_entAll (sp_set A.1 17 z 1)) B)), some (.int (nI i)), none] [] := by
        intro kr nr n
        induction n with
        | zero =>
          intro i B G9 h19_0 h19_1 h19_2 h19_3
          omega
        | succ n ih =>
          intro i B G9 h19_0 h19_1 h19_2 h19_3
          refine hr_iload4 (q := 21) X dX0_balconies_19 rfl ?_
          refine hr_bipush (v := (nI 36)) (q := 23) X dX0_balconies_21 rfl rfl ?_
          refine hr_icmpN_ge (q := 26) (tgt := 60) X dX0_balconies_23 rfl (by decide) (by omega) (by omega) (fun c23 => ?_) (fun c23 => ?_)
          · have hi36 : i = 36 := by omega
            subst hi36
            have hB9 : B = sp_balc A.1 := h19_2
            have hB8 := sp_bst_all (lt := (fun a b => decide ((fun z => sp_entAll (sp_set A.1 17 z 1)) b < (fun z => sp_entAll (sp_set A.1 17 z 1)) a))) (i := 36) (by decide) (by decide)
            rw [← h19_2] at hB8
            have hB7 : ¬ sp_balc A.1 = 99 := by rw [← hB9]; omega
            refine hr_iload1 (q := 61) X dX0_balconies_60 rfl ?_
            refine hr_if_ne (q := 64) (tgt := 68) X dX0_balconies_61 rfl (by decide) (fun c61 => ?_) (fun c61 => ?_)
            · refine hr_iload3 (q := 69) X dX0_balconies_68 rfl ?_
              have hq4 : sq_balconies a1 A = ((sp_mst (fun z => sp_entAll (sp_set A.1 17 z 1)) B), A) := by
                simp [sq_balconies, sq_noTen, sq_no_1, eq_false fhgn1.1, eq_true fhgn1.2, hB9, eq_false hB7, oI, sp_mst, eq_false c61]
              exact hr_iret X hr dX0_balconies_69 (by rw [hq4]; exact ⟨rfl, ca, rfl, h19_3⟩)
            · refine hr_iload2 (q := 65) X dX0_balconies_64 rfl ?_
              refine hr_goto (tgt := 69) X dX0_balconies_65 (by decide) ?_
              have hq5 : sq_balconies a1 A = ((nI (if B = 99 then 0 else B)), A) := by
                simp [sq_balconies, sq_noTen, sq_no_1, eq_false fhgn1.1, eq_true fhgn1.2, hB9, eq_false hB7, oI, sp_mst, eq_true c61]
              exact hr_iret X hr dX0_balconies_69 (by rw [hq5]; exact ⟨rfl, ca, rfl, h19_3⟩)
          · refine hr_aload0 (q := 27) X dX0_balconies_26 rfl ?_
            refine hr_iload4 (q := 29) X dX0_balconies_27 rfl ?_
            refine hr_call0 (q := 32) (hc_V (n := 1) (ci := 0) (As := [.int (nI i)]) X dX0_balconies_29 rfl (tc_enteredWith X.tr h19_3 hW (z := i) (by omega)) q1182 cv_X0_enteredWith ⟨Nat.le_of_ble_eq_true rfl, Nat.le_of_ble_eq_true rfl⟩ rfl (Nat.le_of_ble_eq_true rfl) h19_3.o.1 rfl rfl) rfl (fun qx E G' hp => by cases hp.1) (fun r Gd6 hp _ => ?_)
            obtain ⟨hvd6, hd6⟩ := hp
            cases hvd6
            have := sp_entAll_le (sp_wf_balcony hw (x := i) (n := 1) (by decide))
            refine hr_istore5 (q := 34) X dX0_balconies_32 rfl rfl (Nat.le_of_ble_eq_true rfl) ?_
            have hB := sp_bst_lt (fun _ => true) (fun a b => decide ((fun z => sp_entAll (sp_set A.1 17 z 1)) b < (fun z => sp_entAll (sp_set A.1 17 z 1)) a)) i
            rw [← h19_2] at hB
            have hF : B = 99 ∨ (fun z => sp_entAll (sp_set A.1 17 z 1)) B < 2 ^ 31 := hB.imp id (fun z => Nat.lt_of_le_of_lt (sp_entAll_le (sp_wf_balcony hw (by decide))) (by decide))
            have hM := sp_mst_lt (f := (fun z => sp_entAll (sp_set A.1 17 z 1))) (B := B) (T := sp_entAll (sp_set A.1 17 i 1)) (by omega) hF
            refine hr_iload5 (q := 36) X dX0_balconies_34 rfl ?_
            refine hr_iload3 (q := 37) X dX0_balconies_36 rfl ?_
            refine hr_icmp_le (q := 40) (tgt := 45) X dX0_balconies_37 rfl (by decide) (fun c37 => ?_) (fun c37 => ?_)
            · have hBn : ¬ B = 99 := fun z => Int32.not_lt.mpr c37 (hM.mpr (Or.inl z))
              have hBl : ¬ (fun z => sp_entAll (sp_set A.1 17 z 1)) B < sp_entAll (sp_set A.1 17 i 1) := fun z => Int32.not_lt.mpr c37 (hM.mpr (Or.inr z))
              have hBl : ¬ sp_entAll (sp_set A.1 17 B 1) < sp_entAll (sp_set A.1 17 i 1) := hBl
              refine hr_iload2 (q := 46) X dX0_balconies_45 rfl ?_
              refine hr_istore2 (q := 47) X dX0_balconies_46 rfl rfl (Nat.le_of_ble_eq_true rfl) ?_
              refine hr_iload3 (q := 48) X dX0_balconies_47 rfl ?_
              refine hr_iload5 (q := 50) X dX0_balconies_48 rfl ?_
              refine hr_callP (v := .int (if (nI (sp_entAll (sp_set A.1 17 i 1))) ≤ (sp_mst (fun z => sp_entAll (sp_set A.1 17 z 1)) B) then (sp_mst (fun z => sp_entAll (sp_set A.1 17 z 1)) B) else (nI (sp_entAll (sp_set A.1 17 i 1))))) (q := 53) (hc_S (n := 2) (As := [.int (sp_mst (fun z => sp_entAll (sp_set A.1 17 z 1)) B), .int (nI (sp_entAll (sp_set A.1 17 i 1)))]) X dX0_balconies_50 rfl (tj_maxI X.tr (a := (sp_mst (fun z => sp_entAll (sp_set A.1 17 z 1)) B)) (b := (nI (sp_entAll (sp_set A.1 17 i 1))))) q1190 cs_J8_max ⟨Nat.le_of_ble_eq_true rfl, Nat.le_of_ble_eq_true rfl⟩ rfl (Nat.le_of_ble_eq_true rfl)) rfl ?_
              refine hr_st1 (v' := .int (sp_mst (fun z => sp_entAll (sp_set A.1 17 z 1)) B)) (congrArg Value.int (if_pos c37)) ?_
              refine hr_istore3 (q := 54) X dX0_balconies_53 rfl rfl (Nat.le_of_ble_eq_true rfl) ?_
              refine hr_iinc4 (v := (nI (i + 1))) (q := 57) X dX0_balconies_54 rfl (nI_add _ _) rfl (Nat.le_of_ble_eq_true rfl) ?_
              refine hr_goto (tgt := 19) X dX0_balconies_57 (by decide) ?_
              refine hr_fg5 ?_
              exact ih (i + 1) B Gd6 (by omega) (by omega) (sp_bst_k h19_2 (Or.inr ⟨hBn, decide_eq_false (by show ¬ _ < _; omega)⟩)) hd6
            · have hBl := hM.mp (Int32.not_le.mp c37)
              refine hr_iload4 (q := 42) X dX0_balconies_40 rfl ?_
              refine hr_goto (tgt := 46) X dX0_balconies_42 (by decide) ?_
              refine hr_st1 (v' := .int (nI (if i = 99 then 0 else i))) (congrArg Value.int (congrArg nI (if_neg (by omega)).symm)) ?_
              refine hr_istore2 (q := 47) X dX0_balconies_46 rfl rfl (Nat.le_of_ble_eq_true rfl) ?_
              refine hr_iload3 (q := 48) X dX0_balconies_47 rfl ?_
              refine hr_iload5 (q := 50) X dX0_balconies_48 rfl ?_
              refine hr_callP (v := .int (if (nI (sp_entAll (sp_set A.1 17 i 1))) ≤ (sp_mst (fun z => sp_entAll (sp_set A.1 17 z 1)) B) then (sp_mst (fun z => sp_entAll (sp_set A.1 17 z 1)) B) else (nI (sp_entAll (sp_set A.1 17 i 1))))) (q := 53) (hc_S (n := 2) (As := [.int (sp_mst (fun z => sp_entAll (sp_set A.1 17 z 1)) B), .int (nI (sp_entAll (sp_set A.1 17 i 1)))]) X dX0_balconies_50 rfl (tj_maxI X.tr (a := (sp_mst (fun z => sp_entAll (sp_set A.1 17 z 1)) B)) (b := (nI (sp_entAll (sp_set A.1 17 i 1))))) q1190 cs_J8_max ⟨Nat.le_of_ble_eq_true rfl, Nat.le_of_ble_eq_true rfl⟩ rfl (Nat.le_of_ble_eq_true rfl)) rfl ?_
              refine hr_st1 (v' := .int (sp_mst (fun z => sp_entAll (sp_set A.1 17 z 1)) i)) (congrArg Value.int ((if_neg c37).trans (sp_mst_n (f := (fun z => sp_entAll (sp_set A.1 17 z 1))) (by omega)).symm)) ?_
              refine hr_istore3 (q := 54) X dX0_balconies_53 rfl rfl (Nat.le_of_ble_eq_true rfl) ?_
              refine hr_iinc4 (v := (nI (i + 1))) (q := 57) X dX0_balconies_54 rfl (nI_add _ _) rfl (Nat.le_of_ble_eq_true rfl) ?_
              refine hr_goto (tgt := 19) X dX0_balconies_57 (by decide) ?_
              refine hr_fg5 ?_
              exact ih (i + 1) i Gd6 (by omega) (by omega) (sp_bst_y h19_2 rfl (hBl.imp id (fun z => decide_eq_true z))) hd6
      exact loop19 _ _ 37 0 99 G (by omega) (by omega) rfl h
    · cases hrn1

abbrev rk_X0_most : Room := { frames := 12, cells := 40, slots := 3000, locals := 400 }
theorem tc_most {l : Launch} {D : hg_D} {lo : Nat} (htr : l.stackTraces = false) {G : hg_G} {ca : Nat → Nat} {A : ab_S} (h : cp_R G ca A) (hW : ab_wf A) {a1 : Int32} :
    hg_M l D lo yX0_most (wsW_ yX0_most cX0_most 5 ((some FieldType.int)) [(0, 114, 115, 21)]) rk_X0_most [.ref (ca 0), .int a1] G (cp_Po ca (sq_most a1 A)) := by
  refine hg_M.ofH htr (by decide) [some (.ref (ca 0)), some (.int a1), none, none, none] rfl (Nat.le_of_ble_eq_true rfl) ?_
  intro p e s m args below meth c X hr hnm htab
  have X : hg_X p l s m args meth c D lo "TaxOnLooks" cX0_most 5 := X
  refine hr_room (kr' := 40) (nr' := 3000) (Nat.le_of_ble_eq_true rfl) (Nat.le_of_ble_eq_true rfl) ?_
  have hw := hW.w; have w0 := hw.b0; have w1 := hw.b1; have w2 := hw.b2; have w3 := hw.b3; have w36 := hW.b36; have w43 := hW.b43
  have hpw := sp_wpk hw; have hpb := sp_bpk hw
  obtain ⟨K, hK, hKs, hKb⟩ := h.w.sk
  refine hr_aload0 (q := 1) X dX0_most_0 rfl ?_
  refine hr_getR (v := (cp_w ca 0)) (q := 4) X dX0_most_1 rfl fr_q250_0 rfl h.o.1 h.o.2.2.2.2.2.2.1 ?_
  refine hr_getI (v := (nI (A.1.1 0 0))) (q := 7) X dX0_most_4 rfl fr_q154_2 rfl h.w.ob h.w.f0 ?_
  refine hr_ifN_le (q := 10) (tgt := 24) X dX0_most_7 rfl (by decide) (by omega) (fun c7 => ?_) (fun c7 => ?_)
  · refine hr_iconst (v := (bI false)) (q := 25) X dX0_most_24 rfl rfl ?_
    refine hr_bipush (v := (-5)) (q := 27) X dX0_most_25 rfl rfl ?_
    refine hr_call (kr := 39) (nr := 2993) (q := 30) (hc_S (n := 2) (As := [.int (bI false), .int (-5)]) X dX0_most_27 rfl (tc_need X.tr (g := false) (w := (-5))) q383 cs_X0_need ⟨Nat.le_of_ble_eq_true rfl, Nat.le_of_ble_eq_true rfl⟩ rfl (Nat.le_of_ble_eq_true rfl)) rfl (fun qxn1 E Gxn1 hpn1 _ => ?_) (fun r Gn1 hpn1 _ => ?_)
    · obtain ⟨hgn1, hrn1, -⟩ | ⟨hgn1, qn1, hrn1, htn1⟩ := hpn1
      · cases hrn1
      · cases hrn1
        have hxn1 := h.T htn1
        refine hx_catch (name := "TaxOnLooks$Refused") X [] ⟨0, 114, 115, 21⟩ [] htab (fun z hz => nomatch hz) (by decide) (by decide) q277 (by decide) ?_
        refine hr_astore2 (q := 116) X dX0_most_115 rfl rfl (Nat.le_of_ble_eq_true rfl) ?_
        refine hr_aload0 (q := 117) X dX0_most_116 rfl ?_
        refine hr_aload2 (q := 118) X dX0_most_117 rfl ?_
        refine hr_call0 (q := 121) (hc_V (n := 1) (ci := 0) (As := [.ref qxn1]) X dX0_most_118 rfl (tc_refused X.tr hxn1 hW (q := qxn1) htn1.2.1 htn1.2.2.1 (k := 5) (by decide) (by decide) (by decide)) q452 cv_X0_refused ⟨Nat.le_of_ble_eq_true rfl, Nat.le_of_ble_eq_true rfl⟩ rfl (Nat.le_of_ble_eq_true rfl) hxn1.o.1 rfl rfl) rfl (fun qx E G' hp => by cases hp.1) (fun r Gf2 hp _ => ?_)
        obtain ⟨hvf2, hhf2⟩ := hp
        cases hvf2
        have hq3 : sq_most a1 A = ((-5), (sq_no (-5) A).2) := by
          simp [sq_most, sq_noTen, sq_no_1, eq_true (show (A.1.1 0 0) = 0 by omega)]
        exact hr_iret X hr dX0_most_121 (by rw [hq3]; exact ⟨rfl, ca, rfl, hhf2⟩)
    · obtain ⟨hgn1, hrn1, hGn1⟩ | ⟨hgn1, qn1, hrn1, htn1⟩ := hpn1
      · cases hgn1
      · cases hrn1
  · refine hr_iload1 (q := 11) X dX0_most_10 rfl ?_
    refine hr_i2l (v := a1.toInt64) (q := 12) X dX0_most_11 rfl rfl ?_
    refine hr_lconst (v := (lN 0)) (q := 13) X dX0_most_12 rfl rfl ?_
    refine hr_lconst (v := (lN 1)) (q := 14) X dX0_most_13 rfl rfl ?_
    refine hr_callP (v := .int (bI (sp_fr a1 (nI 0) (nI 1)))) (q := 17) (hc_S (n := 3) (As := [.long a1.toInt64, .long (lN 0), .long (lN 1)]) X dX0_most_14 rfl (tc_in X.tr (x := a1) (b := 0) (z := 1) (by decide) (by decide)) q387 cs_X0_in ⟨Nat.le_of_ble_eq_true rfl, Nat.le_of_ble_eq_true rfl⟩ rfl (Nat.le_of_ble_eq_true rfl)) rfl ?_
    refine hr_ifB_eq (q := 20) (tgt := 24) X dX0_most_17 rfl (by decide) (fun c17 => ?_) (fun c17 => ?_)
    · have fc17 : a1 < (0 : Int32) ∨ (¬ a1 < (0 : Int32) ∧ ¬ a1 ≤ nI 1) := sp_fr_f c17
      refine hr_iconst (v := (bI false)) (q := 25) X dX0_most_24 rfl rfl ?_
      refine hr_bipush (v := (-5)) (q := 27) X dX0_most_25 rfl rfl ?_
      refine hr_call (kr := 39) (nr := 2993) (q := 30) (hc_S (n := 2) (As := [.int (bI false), .int (-5)]) X dX0_most_27 rfl (tc_need X.tr (g := false) (w := (-5))) q383 cs_X0_need ⟨Nat.le_of_ble_eq_true rfl, Nat.le_of_ble_eq_true rfl⟩ rfl (Nat.le_of_ble_eq_true rfl)) rfl (fun qxn4 E Gxn4 hpn4 _ => ?_) (fun r Gn4 hpn4 _ => ?_)
      · obtain ⟨hgn4, hrn4, -⟩ | ⟨hgn4, qn4, hrn4, htn4⟩ := hpn4
        · cases hrn4
        · cases hrn4
          have hxn4 := h.T htn4
          refine hx_catch (name := "TaxOnLooks$Refused") X [] ⟨0, 114, 115, 21⟩ [] htab (fun z hz => nomatch hz) (by decide) (by decide) q277 (by decide) ?_
          refine hr_astore2 (q := 116) X dX0_most_115 rfl rfl (Nat.le_of_ble_eq_true rfl) ?_
          refine hr_aload0 (q := 117) X dX0_most_116 rfl ?_
          refine hr_aload2 (q := 118) X dX0_most_117 rfl ?_
          refine hr_call0 (q := 121) (hc_V (n := 1) (ci := 0) (As := [.ref qxn4]) X dX0_most_118 rfl (tc_refused X.tr hxn4 hW (q := qxn4) htn4.2.1 htn4.2.2.1 (k := 5) (by decide) (by decide) (by decide)) q452 cv_X0_refused ⟨Nat.le_of_ble_eq_true rfl, Nat.le_of_ble_eq_true rfl⟩ rfl (Nat.le_of_ble_eq_true rfl) hxn4.o.1 rfl rfl) rfl (fun qx E G' hp => by cases hp.1) (fun r Gf5 hp _ => ?_)
          obtain ⟨hvf5, hhf5⟩ := hp
          cases hvf5
          have hq6 : sq_most a1 A = ((-5), (sq_no (-5) A).2) := by
            rcases fc17 with g | ⟨g, g2⟩
            · simp [sq_most, sq_noTen, sq_no_1, eq_false (show ¬ ((A.1.1 0 0) = 0) by omega), c17, eq_true g]
            · simp [sq_most, sq_noTen, sq_no_1, eq_false (show ¬ ((A.1.1 0 0) = 0) by omega), c17, eq_false g, eq_false g2]
          exact hr_iret X hr dX0_most_121 (by rw [hq6]; exact ⟨rfl, ca, rfl, hhf5⟩)
      · obtain ⟨hgn4, hrn4, hGn4⟩ | ⟨hgn4, qn4, hrn4, htn4⟩ := hpn4
        · cases hgn4
        · cases hrn4
    · have fc17 : ¬ a1 < (0 : Int32) ∧ a1 ≤ nI 1 := sp_fr_t c17
      refine hr_iconst (v := (bI true)) (q := 21) X dX0_most_20 rfl rfl ?_
      refine hr_goto (tgt := 25) X dX0_most_21 (by decide) ?_
      refine hr_bipush (v := (-5)) (q := 27) X dX0_most_25 rfl rfl ?_
      refine hr_call (kr := 39) (nr := 2993) (q := 30) (hc_S (n := 2) (As := [.int (bI true), .int (-5)]) X dX0_most_27 rfl (tc_need X.tr (g := true) (w := (-5))) q383 cs_X0_need ⟨Nat.le_of_ble_eq_true rfl, Nat.le_of_ble_eq_true rfl⟩ rfl (Nat.le_of_ble_eq_true rfl)) rfl (fun qxn7 E Gxn7 hpn7 _ => ?_) (fun r Gn7 hpn7 _ => ?_)
      · obtain ⟨hgn7, hrn7, -⟩ | ⟨hgn7, qn7, hrn7, htn7⟩ := hpn7
        · cases hrn7
        · cases hgn7
      · obtain ⟨hgn7, hrn7, hGn7⟩ | ⟨hgn7, qn7, hrn7, htn7⟩ := hpn7
        · cases hrn7
          have hGn7 := hGn7.symm
          subst hGn7
          refine hr_iconst (v := (nI 0)) (q := 31) X dX0_most_30 rfl rfl ?_
          refine hr_istore2 (q := 32) X dX0_most_31 rfl rfl (Nat.le_of_ble_eq_true rfl) ?_
          refine hr_iconst (v := (nI 1)) (q := 33) X dX0_most_32 rfl rfl ?_
          refine hr_istore3 (q := 34) X dX0_most_33 rfl rfl (Nat.le_of_ble_eq_true rfl) ?_
          have loop34 : ∀ (kr nr n : Nat) (i B : Nat) (G9 : hg_G), (i ≤ A.1.1 0 0) → (A.1.1 0 0 + 1 ≤ i + n) → (1 ≤ i) → (B < i) → (a1 = 0 → B = sp_bst (fun _ => true) (fun a b => decide (sp_owes A.1 b < sp_owes A.1 a)) i) → (¬ a1 = 0 → B = sp_bst (fun _ => true) (fun a b => decide (sp_duties (sp_set A.1 36 0 a) < sp_duties (sp_set A.1 36 0 b))) i) → (cp_R G9 ca A) → hg_W p l e rk_X0_most s m args below meth c (hg_Q below D lo args s rk_X0_most G (cp_Po ca (sq_most a1 A))) D lo G.1 5 kr nr G9 34 [some (.ref (ca 0)), some (.int a1), some (.int (nI B)), some (.int (nI i)), none] [] := by
            intro kr nr n
            induction n with
            | zero =>
              intro i B G9 h34_0 h34_1 h34_2 h34_3 h34_4 h34_5 h34_6
              omega
            | succ n ih =>
              intro i B G9 h34_0 h34_1 h34_2 h34_3 h34_4 h34_5 h34_6
              refine hr_iload3 (q := 35) X dX0_most_34 rfl ?_
              refine hr_aload0 (q := 36) X dX0_most_35 rfl ?_
              refine hr_getR (v := (cp_w ca 0)) (q := 39) X dX0_most_36 rfl fr_q250_0 rfl h34_6.o.1 h34_6.o.2.2.2.2.2.2.1 ?_
              refine hr_getI (v := (nI (A.1.1 0 0))) (q := 42) X dX0_most_39 rfl fr_q154_2 rfl h34_6.w.ob h34_6.w.f0 ?_
              refine hr_icmpN_ge (q := 45) (tgt := 113) X dX0_most_42 rfl (by decide) (by omega) (by omega) (fun c42 => ?_) (fun c42 => ?_)
              · refine hr_iload2 (q := 114) X dX0_most_113 rfl ?_
                have hq : sq_most a1 A = (nI B, A) := by
                  have hiN : i = A.1.1 0 0 := by omega
                  by_cases ha : a1 = 0
                  · have hb : B = sp_mostOwes A.1 := by rw [h34_4 ha, hiN]; rfl
                    have hn : ¬ a1 = nI 1 := by rw [ha]; decide
                    rw [sq_most, if_neg (by omega), if_neg fc17.1, if_pos fc17.2, if_neg hn, ← hb]
                  · have hb : B = sp_wo A.1 (A.1.1 0 0) := by rw [h34_5 ha, hiN]; rfl
                    rw [sq_most, if_neg (by omega), if_neg fc17.1, if_pos fc17.2, if_pos (cp_a1 fc17.1 fc17.2 ha), ← hb, oI_of (by omega)]
                exact hr_iret X hr dX0_most_114 (by rw [hq]; exact ⟨rfl, ca, rfl, h34_6⟩)
              · refine hr_iload1 (q := 46) X dX0_most_45 rfl ?_
                refine hr_if_ne (q := 49) (tgt := 76) X dX0_most_46 rfl (by decide) (fun c46 => ?_) (fun c46 => ?_)
                · refine hr_aload0 (q := 77) X dX0_most_76 rfl ?_
                  refine hr_iload3 (q := 78) X dX0_most_77 rfl ?_
                  refine hr_call0 (q := 81) (hc_V (n := 1) (ci := 0) (As := [.int (nI i)]) X dX0_most_78 rfl (tc_dutiesWithout X.tr h34_6 hW (z := i) (by omega)) q1205 cv_X0_dutiesWithout ⟨Nat.le_of_ble_eq_true rfl, Nat.le_of_ble_eq_true rfl⟩ rfl (Nat.le_of_ble_eq_true rfl) h34_6.o.1 rfl rfl) rfl (fun qx E G' hp => by cases hp.1) (fun r Gd8 hp _ => ?_)
                  obtain ⟨hvd8, hd8⟩ := hp
                  cases hvd8
                  have := sp_duties_le (sp_wf_missing hw (n := i) (by omega))
                  refine hr_aload0 (q := 82) X dX0_most_81 rfl ?_
                  refine hr_iload2 (q := 83) X dX0_most_82 rfl ?_
                  refine hr_call0 (q := 86) (hc_V (n := 1) (ci := 0) (As := [.int (nI B)]) X dX0_most_83 rfl (tc_dutiesWithout X.tr hd8 hW (z := B) (by omega)) q1205 cv_X0_dutiesWithout ⟨Nat.le_of_ble_eq_true rfl, Nat.le_of_ble_eq_true rfl⟩ rfl (Nat.le_of_ble_eq_true rfl) hd8.o.1 rfl rfl) rfl (fun qx E G' hp => by cases hp.1) (fun r Gd9 hp _ => ?_)
                  obtain ⟨hvd9, hd9⟩ := hp
                  cases hvd9
                  have := sp_duties_le (sp_wf_missing hw (n := B) (by omega))
                  refine hr_icmpN_ge (q := 89) (tgt := 93) X dX0_most_86 rfl (by decide) (by omega) (by omega) (fun c86 => ?_) (fun c86 => ?_)
                  · refine hr_iconst (v := (nI 0)) (q := 94) X dX0_most_93 rfl rfl ?_
                    refine hr_istore4 (q := 96) X dX0_most_94 rfl rfl (Nat.le_of_ble_eq_true rfl) ?_
                    refine hr_iload4 (q := 98) X dX0_most_96 rfl ?_
                    refine hr_if_eq (q := 101) (tgt := 105) X dX0_most_98 rfl (by decide) (fun _ => ?_) (fun z => absurd z (by decide))
                    refine hr_iload2 (q := 106) X dX0_most_105 rfl ?_
                    refine hr_istore2 (q := 107) X dX0_most_106 rfl rfl (Nat.le_of_ble_eq_true rfl) ?_
                    refine hr_iinc3 (v := (nI (i + 1))) (q := 110) X dX0_most_107 rfl (nI_add _ _) rfl (Nat.le_of_ble_eq_true rfl) ?_
                    refine hr_goto (tgt := 34) X dX0_most_110 (by decide) ?_
                    refine hr_fg4 ?_
                    exact ih (i + 1) B Gd9 (by omega) (by omega) (by omega) (by omega) (fun z => absurd z c46) (fun _ => sp_bst_k (h34_5 c46) (Or.inr ⟨by omega, decide_eq_false (by omega)⟩)) hd9
                  · refine hr_iconst (v := (nI 1)) (q := 90) X dX0_most_89 rfl rfl ?_
                    refine hr_goto (tgt := 94) X dX0_most_90 (by decide) ?_
                    refine hr_istore4 (q := 96) X dX0_most_94 rfl rfl (Nat.le_of_ble_eq_true rfl) ?_
                    refine hr_iload4 (q := 98) X dX0_most_96 rfl ?_
                    refine hr_if_eq (q := 101) (tgt := 105) X dX0_most_98 rfl (by decide) (fun z => absurd z (by decide)) (fun _ => ?_)
                    refine hr_iload3 (q := 102) X dX0_most_101 rfl ?_
                    refine hr_goto (tgt := 106) X dX0_most_102 (by decide) ?_
                    refine hr_istore2 (q := 107) X dX0_most_106 rfl rfl (Nat.le_of_ble_eq_true rfl) ?_
                    refine hr_iinc3 (v := (nI (i + 1))) (q := 110) X dX0_most_107 rfl (nI_add _ _) rfl (Nat.le_of_ble_eq_true rfl) ?_
                    refine hr_goto (tgt := 34) X dX0_most_110 (by decide) ?_
                    refine hr_fg4 ?_
                    exact ih (i + 1) i Gd9 (by omega) (by omega) (by omega) (by omega) (fun z => absurd z c46) (fun _ => sp_bst_y (h34_5 c46) rfl (Or.inr (decide_eq_true (by omega)))) hd9
                · refine hr_aload0 (q := 50) X dX0_most_49 rfl ?_
                  refine hr_getR (v := (cp_w ca 0)) (q := 53) X dX0_most_50 rfl fr_q250_0 rfl h34_6.o.1 h34_6.o.2.2.2.2.2.2.1 ?_
                  refine hr_iload3 (q := 54) X dX0_most_53 rfl ?_
                  refine hr_callP (q := 57) (hc_V (n := 1) (ci := 2) (As := [.int (nI i)]) X dX0_most_54 rfl (tn_duty X.tr h34_6.w hw (x := i) (by omega)) q1067 cv_X2_duty ⟨Nat.le_of_ble_eq_true rfl, Nat.le_of_ble_eq_true rfl⟩ rfl (Nat.le_of_ble_eq_true rfl) h34_6.w.ob rfl rfl) rfl ?_
                  have := sp_owes_lt (t := A.1) hw i
                  refine hr_aload0 (q := 58) X dX0_most_57 rfl ?_
                  refine hr_getR (v := (cp_w ca 0)) (q := 61) X dX0_most_58 rfl fr_q250_0 rfl h34_6.o.1 h34_6.o.2.2.2.2.2.2.1 ?_
                  refine hr_iload2 (q := 62) X dX0_most_61 rfl ?_
                  refine hr_callP (q := 65) (hc_V (n := 1) (ci := 2) (As := [.int (nI B)]) X dX0_most_62 rfl (tn_duty X.tr h34_6.w hw (x := B) (by omega)) q1067 cv_X2_duty ⟨Nat.le_of_ble_eq_true rfl, Nat.le_of_ble_eq_true rfl⟩ rfl (Nat.le_of_ble_eq_true rfl) h34_6.w.ob rfl rfl) rfl ?_
                  have := sp_owes_lt (t := A.1) hw B
                  refine hr_icmpN_le (q := 68) (tgt := 72) X dX0_most_65 rfl (by decide) (by omega) (by omega) (fun c65 => ?_) (fun c65 => ?_)
                  · refine hr_iconst (v := (nI 0)) (q := 73) X dX0_most_72 rfl rfl ?_
                    refine hr_goto (tgt := 94) X dX0_most_73 (by decide) ?_
                    refine hr_istore4 (q := 96) X dX0_most_94 rfl rfl (Nat.le_of_ble_eq_true rfl) ?_
                    refine hr_iload4 (q := 98) X dX0_most_96 rfl ?_
                    refine hr_if_eq (q := 101) (tgt := 105) X dX0_most_98 rfl (by decide) (fun _ => ?_) (fun z => absurd z (by decide))
                    refine hr_iload2 (q := 106) X dX0_most_105 rfl ?_
                    refine hr_istore2 (q := 107) X dX0_most_106 rfl rfl (Nat.le_of_ble_eq_true rfl) ?_
                    refine hr_iinc3 (v := (nI (i + 1))) (q := 110) X dX0_most_107 rfl (nI_add _ _) rfl (Nat.le_of_ble_eq_true rfl) ?_
                    refine hr_goto (tgt := 34) X dX0_most_110 (by decide) ?_
                    refine hr_fg4 ?_
                    exact ih (i + 1) B G9 (by omega) (by omega) (by omega) (by omega) (fun _ => sp_bst_k (h34_4 c46) (Or.inr ⟨by omega, decide_eq_false (by omega)⟩)) (fun z => absurd c46 z) h34_6
                  · refine hr_iconst (v := (nI 1)) (q := 69) X dX0_most_68 rfl rfl ?_
                    refine hr_goto (tgt := 94) X dX0_most_69 (by decide) ?_
                    refine hr_istore4 (q := 96) X dX0_most_94 rfl rfl (Nat.le_of_ble_eq_true rfl) ?_
                    refine hr_iload4 (q := 98) X dX0_most_96 rfl ?_
                    refine hr_if_eq (q := 101) (tgt := 105) X dX0_most_98 rfl (by decide) (fun z => absurd z (by decide)) (fun _ => ?_)
                    refine hr_iload3 (q := 102) X dX0_most_101 rfl ?_
                    refine hr_goto (tgt := 106) X dX0_most_102 (by decide) ?_
                    refine hr_istore2 (q := 107) X dX0_most_106 rfl rfl (Nat.le_of_ble_eq_true rfl) ?_
                    refine hr_iinc3 (v := (nI (i + 1))) (q := 110) X dX0_most_107 rfl (nI_add _ _) rfl (Nat.le_of_ble_eq_true rfl) ?_
                    refine hr_goto (tgt := 34) X dX0_most_110 (by decide) ?_
                    refine hr_fg4 ?_
                    exact ih (i + 1) i G9 (by omega) (by omega) (by omega) (by omega) (fun _ => sp_bst_y (h34_4 c46) rfl (Or.inr (decide_eq_true (by omega)))) (fun z => absurd c46 z) h34_6
          exact loop34 _ _ (A.1.1 0 0 + 1) 1 0 G (by omega) (by omega) (by omega) (by omega) (fun _ => (sp_bst_1 _).symm) (fun _ => (sp_bst_1 _).symm) h
        · cases hrn7

