/-! what is told keeps the ranges -/
theorem sp_bits_0 {f : Nat → Bool} : ∀ {n}, sp_bits f n = 0 → ∀ i, i < n → f i = false
  | 0, _, i, hi => absurd hi (Nat.not_lt_zero i)
  | n + 1, h, i, hi => by
    rw [sp_bits] at h
    have h1 : sp_bits f n = 0 := by omega
    by_cases e : i = n
    · subst e
      cases g : f i with
      | false => rfl
      | true =>
        rw [if_pos g] at h
        have := Nat.two_pow_pos i
        omega
    · exact sp_bits_0 h1 i (by omega)
theorem sp_there_0 {t : sp_S} {z : Nat} (h : sp_there t z = 0) {p : Nat} (hp : p < t.1 0 0) : t.1 14 p ≠ z := by
  have := sp_bits_0 h p hp
  simpa using this
theorem sp_wf_wall {t : sp_S} (h : sp_wf t) {x n : Nat} (hn : n ≤ 1) (hx : n = 0 ∨ ∀ p, p < t.1 0 0 → t.1 14 p ≠ x) : sp_wf (sp_set t 16 x n) := by
  obtain ⟨h1, h2, h3, h4, h5, h6, h7, h8⟩ := h
  refine ⟨h1, h2, h3, h4, h5, fun c hc => ⟨?_, (h6 c hc).2⟩, fun p hp => ?_, h8⟩
  · have := (h6 c hc).1
    show (if c = x then n else t.1 16 c) ≤ 1
    split <;> omega
  · have h9 := h7 p hp
    show (if t.1 14 p = x then n else t.1 16 (t.1 14 p)) = 0
    split
    · rename_i g
      rcases hx with hx | hx
      · exact hx
      · exact absurd g (hx p hp)
    · exact h9
theorem sp_wf_sack {t : sp_S} (h : sp_wf t) {x n : Nat} (hn : n ≤ 1) : sp_wf (sp_set t 15 x n) := by
  obtain ⟨h1, h2, h3, h4, h5, h6, h7, h8⟩ := h
  refine ⟨h1, h2, h3, h4, fun p hp => ?_, h6, h7, h8⟩
  obtain ⟨a1, a2, a3, a4, a5, a6, a7⟩ := h5 p hp
  refine ⟨a1, a2, a3, a4, a5, a6, ?_⟩
  show (if p = x then n else t.1 15 p) ≤ 1
  split <;> omega
theorem sp_wf_kind {t : sp_S} (h : sp_wf t) {x n : Nat} (hn : n ≤ 6) : sp_wf (sp_set t 9 x n) := by
  obtain ⟨h1, h2, h3, h4, h5, h6, h7, h8⟩ := h
  refine ⟨h1, h2, h3, h4, fun p hp => ?_, h6, h7, h8⟩
  obtain ⟨a1, a2⟩ := h5 p hp
  refine ⟨?_, a2⟩
  show (if p = x then n else t.1 9 p) ≤ 6
  split <;> omega
theorem sp_wf_part {t : sp_S} (h : sp_wf t) {x n : Nat} (hn : n ≤ 9) : sp_wf (sp_set t 10 x n) := by
  obtain ⟨h1, h2, h3, h4, h5, h6, h7, h8⟩ := h
  refine ⟨h1, h2, h3, h4, fun p hp => ?_, h6, h7, h8⟩
  obtain ⟨a1, a2, a3⟩ := h5 p hp
  refine ⟨a1, ?_, a3⟩
  show (if p = x then n else t.1 10 p) ≤ 9
  split <;> omega
theorem sp_wf_shame {t : sp_S} (h : sp_wf t) {x n : Nat} (hn : n ≤ 9) : sp_wf (sp_set t 12 x n) := by
  obtain ⟨h1, h2, h3, h4, h5, h6, h7, h8⟩ := h
  refine ⟨h1, h2, h3, h4, fun p hp => ?_, h6, h7, h8⟩
  obtain ⟨a1, a2, a3, a4, a5⟩ := h5 p hp
  refine ⟨a1, a2, a3, ?_, a5⟩
  show (if p = x then n else t.1 12 p) ≤ 9
  split <;> omega
theorem sp_wf_mite {t : sp_S} (h : sp_wf t) {n : Nat} (h1 : 1 ≤ n) (h2 : n ≤ 9) : sp_wf (sp_set t 1 0 n) := by
  obtain ⟨a1, a2, a3, a4, h5, h6, h7, h8⟩ := h
  exact ⟨a1, ⟨h1, h2⟩, a3, a4, h5, h6, h7, h8⟩
theorem sp_wf_reach {t : sp_S} (h : sp_wf t) {n : Nat} (h1 : 1 ≤ n) (h2 : n ≤ 5) : sp_wf (sp_set t 2 0 n) := by
  obtain ⟨a1, a2, a3, a4, h5, h6, h7, h8⟩ := h
  exact ⟨a1, a2, ⟨h1, h2⟩, a4, h5, h6, h7, h8⟩
theorem sp_wf_people {t : sp_S} (h : sp_wf t) (h7 : t.1 0 0 < 7) (hf : t.1 16 (t.1 14 (t.1 0 0)) = 0) : sp_wf (sp_set t 0 0 (t.1 0 0 + 1)) := by
  obtain ⟨h1, h2, h3, h4, h5, h6, h8, h9⟩ := h
  refine ⟨h7, h2, h3, h4, h5, h6, fun p hp => ?_, ?_⟩
  · have hp : p < t.1 0 0 + 1 := hp
    show t.1 16 (t.1 14 p) = 0
    rcases Nat.lt_or_ge p (t.1 0 0) with g | g
    · exact h8 p g
    · rw [show p = t.1 0 0 by omega]; exact hf
  · show t.1 36 0 = 99 ∨ t.1 36 0 < t.1 0 0 + 1
    omega
theorem ab_wf.no {A : ab_S} (h : ab_wf A) (b : Int32) : ab_wf (sq_no b A).2 := h.same rfl rfl
theorem ab_wf.adds {A : ab_S} (h : ab_wf A) (h7 : A.1.1 0 0 < 7) {k1 k2 k3 k4 k5 k6 : Nat} (b1 : k1 ≤ 6) (b2 : k2 ≤ 9) (b3 : k3 ≤ 20) (b4 : k4 ≤ 9) (b5 : k5 ≤ 9999) (b6 : k6 < 36) (hf : A.1.1 16 k6 = 0) : ab_wf (sq_adds k1 k2 k3 k4 k5 k6 A).2 := by
  unfold sq_adds
  have a1 := h.n (k := 9) (j := A.1.1 0 0) (n := k1) (by decide) (sp_wf_kind h.w b1)
  have a2 := a1.n (k := 10) (j := A.1.1 0 0) (n := k2) (by decide) (sp_wf_part a1.w b2)
  have a3 := a2.n (k := 11) (j := A.1.1 0 0) (n := k3) (by decide) (sp_wf_look a2.w b3)
  have a4 := a3.n (k := 12) (j := A.1.1 0 0) (n := k4) (by decide) (sp_wf_shame a3.w b4)
  have a5 := a4.n (k := 13) (j := A.1.1 0 0) (n := k5) (by decide) (sp_wf_purse a4.w b5)
  have a6 := a5.n (k := 14) (j := A.1.1 0 0) (n := k6) (by decide) (sp_wf_at a5.w b6 hf)
  have a7 := a6.n (k := 15) (j := A.1.1 0 0) (n := 0) (by decide) (sp_wf_sack a6.w (by decide))
  have e16 : (ab_n (ab_n (ab_n (ab_n (ab_n (ab_n (ab_n A 9 (A.1.1 0 0) k1) 10 (A.1.1 0 0) k2) 11 (A.1.1 0 0) k3) 12 (A.1.1 0 0) k4) 13 (A.1.1 0 0) k5) 14 (A.1.1 0 0) k6) 15 (A.1.1 0 0) 0).1.1 14 (A.1.1 0 0) = k6 := if_pos rfl
  revert a7 e16
  generalize hB : (ab_n (ab_n (ab_n (ab_n (ab_n (ab_n (ab_n A 9 (A.1.1 0 0) k1) 10 (A.1.1 0 0) k2) 11 (A.1.1 0 0) k3) 12 (A.1.1 0 0) k4) 13 (A.1.1 0 0) k5) 14 (A.1.1 0 0) k6) 15 (A.1.1 0 0) 0) = B
  have e0 : B.1.1 0 0 = A.1.1 0 0 := by rw [← hB]; rfl
  have ew : B.1.1 16 k6 = A.1.1 16 k6 := by rw [← hB]; rfl
  intro a7 e16
  rw [← e0] at e16 h7 ⊢
  obtain ⟨c1, c2, c3, c4, c5⟩ := a7
  refine ⟨sp_wf_people c1 h7 (by rw [e16, ew]; exact hf), c2, fun j hj => ?_, c4, c5⟩
  obtain ⟨d1, d2, d3, d4⟩ := c3 j hj
  refine ⟨d1, d2, d3, fun z => ?_⟩
  have := d4 z
  show B.1.1 21 j < B.1.1 0 0 + 1
  omega
theorem ab_wf.asks {A : ab_S} (h : ab_wf A) {w v : Int32} (ha : sp_asked w v = true) : ab_wf (sq_asks w (iN v) A) := by
  unfold sq_asks
  unfold sp_asked at ha
  split
  · rename_i e
    rw [if_pos e] at ha
    have := sp_frN (by decide) (by decide) ha
    exact h.n (by decide) (sp_wf_mite h.w this.2.1 this.2.2)
  · rename_i e
    rw [if_neg e] at ha
    split
    · rename_i e2
      rw [if_pos e2] at ha
      have := sp_frN (by decide) (by decide) ha
      exact h.n (by decide) (sp_wf_reach h.w this.2.1 this.2.2)
    · rename_i e2
      rw [if_neg e2] at ha
      have := sp_frN (by decide) (by decide) ha
      exact h.n (by decide) (sp_wf_rain h.w this.2.2)
/-- only the town's told part differs -/
def ab_tw (A B : ab_S) : Prop := (∀ a, ¬ (a < 4 ∨ (9 ≤ a ∧ a ≤ 17)) → B.1.1 a = A.1.1 a) ∧ B.1.2 = A.1.2 ∧ B.2 = A.2
theorem ab_tw.rf {A : ab_S} : ab_tw A A := ⟨fun _ _ => rfl, rfl, rfl⟩
theorem ab_tw.tr {A B C : ab_S} (h : ab_tw A B) (h' : ab_tw B C) : ab_tw A C := ⟨fun a ha => (h'.1 a ha).trans (h.1 a ha), h'.2.1.trans h.2.1, h'.2.2.trans h.2.2⟩
theorem ab_tw.n {A B : ab_S} (h : ab_tw A B) {k j n : Nat} (hk : k < 4 ∨ (9 ≤ k ∧ k ≤ 17)) : ab_tw A (ab_n B k j n) := by
  refine ⟨fun a ha => ?_, h.2.1, h.2.2⟩
  rw [← h.1 a ha]
  funext i
  exact sp_set_o (fun e => ha (by rw [e]; exact hk))
theorem sp_back_tw {A B : ab_S} (h : ab_tw A B) : sp_back B A.1 = A := by
  obtain ⟨h1, h2, h3⟩ := h
  refine ab_ext (fun a i => ?_) (fun k => ?_) (congrArg Prod.fst h3) (fun a i => ?_) (fun i => ?_)
  · show (if a < 4 ∨ (9 ≤ a ∧ a ≤ 17) then A.1.1 a i else B.1.1 a i) = A.1.1 a i
    split
    · rfl
    · rename_i g
      rw [h1 a g]
  · show (if 4 ≤ k ∧ k ≤ 6 then A.1.2 k else B.1.2 k) = A.1.2 k
    rw [h2]
    split <;> rfl
  · show B.2.2.1 a i = A.2.2.1 a i
    rw [h3]
  · show B.2.2.2 i = A.2.2.2 i
    rw [h3]
theorem rd_f_tw {A B : ab_S} (h : ab_tw A B) (s : Nat) : rd_f B s = rd_f A s := by
  unfold rd_f
  rw [h.2.2]
theorem ab_tw.adds {A : ab_S} {k1 k2 k3 k4 k5 k6 : Nat} : ab_tw A (sq_adds k1 k2 k3 k4 k5 k6 A).2 := by
  unfold sq_adds
  exact (((((((ab_tw.rf.n (by decide)).n (by decide)).n (by decide)).n (by decide)).n (by decide)).n (by decide)).n (by decide)).n (by decide)
theorem ab_tw.asks {A : ab_S} {w : Int32} {v : Nat} : ab_tw A (sq_asks w v A) := by
  unfold sq_asks
  (repeat' split) <;> exact ab_tw.rf.n (by decide)
theorem ab_tw.do {A : ab_S} {w : Nat} {v : Nat → Nat} : ab_tw A (rd_do A w v) := by
  unfold rd_do
  split
  · exact ab_tw.rf.n (by decide)
  · split
    · exact ab_tw.rf.n (by decide)
    · split
      · exact ab_tw.rf.n (by decide)
      · split
        · exact ab_tw.adds
        · split
          · exact ab_tw.rf.n (by decide)
          · exact ab_tw.asks
theorem rd_ns_ok {f : Nat → Int32} {E : Nat} {A : ab_S} {w : Nat} : ∀ (m i p : Nat) (v : Nat → Nat) (q : Nat) (v' : Nat → Nat), rd_ns f E A w m i p v = (true, q, v') → p ≤ E → q ≤ E ∧ p ≤ q ∧ (0 < m → p < q) ∧ (∀ j, i ≤ j → j < i + m → rd_so A w j (v' j) = true ∧ v' j < 100) ∧ ∀ j, j < i → v' j = v j
  | 0, i, p, v, q, v', h, hp => by
    cases h
    exact ⟨hp, Nat.le_refl _, fun z => absurd z (Nat.lt_irrefl 0), fun j h1 h2 => by omega, fun _ _ => rfl⟩
  | m + 1, i, p, v, q, v', h, hp => by
    rw [rd_ns] at h
    have hpp : p ≤ if i = 0 then p else p + 1 := by split <;> omega
    revert h hpp
    generalize (if i = 0 then p else p + 1) = Q
    intro h hpp
    split at h
    · rename_i h0
      split at h
      · rename_i h1
        split at h
        · rename_i h2
          have hd := rd_end_le h1
          have hn := rd_num_lt h1
          obtain ⟨r1, r2, r3, r4, r5⟩ := rd_ns_ok m (i + 1) _ _ q v' h hd.2
          have e : v' i = rd_num f E Q := (r5 i (Nat.lt_succ_self i)).trans (if_pos rfl)
          refine ⟨r1, by omega, fun _ => by omega, fun j g1 g2 => ?_, fun j g => (r5 j (by omega)).trans (if_neg (by omega))⟩
          by_cases ej : j = i
          · rw [ej, e]
            exact ⟨h2, hn⟩
          · exact r4 j (by omega) (by omega)
        · cases h
      · cases h
    · cases h
theorem rd_item_wf {f : Nat → Int32} {E p : Nat} {B : ab_S} (hB : ab_wf B) (hp : p ≤ E) : ab_wf (rd_item f E B p).2.2 ∧ ab_tw B (rd_item f E B p).2.2 ∧ ((rd_item f E B p).1 = true → p < (rd_item f E B p).2.1 ∧ (rd_item f E B p).2.1 ≤ E) := by
  have hk := rd_sel_lt f E p
  have hN := rd_nlt _ hk
  unfold rd_item
  revert hk hN
  generalize rd_sel f E p = k
  intro hk hN
  split
  · rename_i h1
    split
    · exact ⟨hB, ab_tw.rf, fun z => nomatch z⟩
    · rename_i h2
      split
      · rename_i h3
        have h4 := rd_is_b.mp h3
        generalize hZ : rd_ns f E B k (sp_nums.getD k 0) 0 (p + (rd_w k).length + 1) (fun _ => 0) = Z
        obtain ⟨b, q, v⟩ := Z
        cases b with
        | false => exact ⟨hB, ab_tw.rf, fun z => nomatch z⟩
        | true =>
          obtain ⟨r1, r2, r3, r4, -⟩ := rd_ns_ok _ _ _ _ _ _ hZ (by omega)
          refine ⟨?_, ab_tw.do, fun _ => ⟨by show p < q; omega, r1⟩⟩
          show ab_wf (rd_do B k v)
          have h0 := hB.w.b0
          have v0 := r4 0 (Nat.le_refl 0) (by omega)
          unfold rd_do
          split
          · rename_i e
            have g := rd_so_36 (by omega) v0.1
            exact hB.n (by decide) (sp_wf_wall hB.w (by decide) (Or.inr fun p hp => sp_there_0 (g.2 e) hp))
          · split
            · exact hB.n (by decide) (sp_wf_wall hB.w (by decide) (Or.inl rfl))
            · split
              · exact hB.n (by decide) (sp_wf_balcony hB.w (by decide))
              · split
                · rename_i e
                  subst e
                  have g0 := (rd_so_3 v0.1).1
                  have g1 := (rd_so_3 (r4 1 (by omega) (by decide)).1).1
                  have g2 := (rd_so_3 (r4 2 (by omega) (by decide)).1).1
                  have g3 := (rd_so_3 (r4 3 (by omega) (by decide)).1).1
                  have g4 := (rd_so_3 (r4 4 (by omega) (by decide)).1).1
                  have g5 := rd_so_3 (r4 5 (by omega) (by decide)).1
                  have l0 : sp_mosts.getD 0 0 = 6 := rfl
                  have l1 : sp_mosts.getD 1 0 = 9 := rfl
                  have l2 : sp_mosts.getD 2 0 = 20 := rfl
                  have l3 : sp_mosts.getD 3 0 = 9 := rfl
                  have l4 : sp_mosts.getD 4 0 = 99 := rfl
                  have l5 : sp_mosts.getD 5 0 = 35 := rfl
                  exact hB.adds (by have := fun z => h2 ⟨rfl, z⟩; omega) (by omega) (by omega) (by omega) (by omega) (by omega) (by omega) (g5.2 rfl)
                · split
                  · exact hB.n (by decide) (sp_wf_sack hB.w (by decide))
                  · have g := rd_so_5 (by omega) v0.1
                    have := hB.asks g
                    rw [iN_nI (by omega)] at this
                    exact this
      · exact ⟨hB, ab_tw.rf, fun z => nomatch z⟩
  · exact ⟨hB, ab_tw.rf, fun z => nomatch z⟩
/-! items one behind another -/
def rd_cont (f : Nat → Int32) (E k : Nat) (A : ab_S) (p n : Nat) : Bool × Nat × ab_S := if p < E then (if f p = nI 59 then rd_items f E k A (p + 1) (n + 1) else (false, p, A)) else (true, n, A)
theorem rd_items_s {f : Nat → Int32} {E k p n : Nat} {A : ab_S} (h : (rd_item f E A p).1 = true) : rd_items f E (k + 1) A p n = rd_cont f E k (rd_item f E A p).2.2 (rd_item f E A p).2.1 n := by
  rw [rd_items, if_pos h]
  rfl
theorem rd_items_n {f : Nat → Int32} {E k p n : Nat} {A : ab_S} (h : (rd_item f E A p).1 = false) : rd_items f E (k + 1) A p n = (false, (rd_item f E A p).2.1, (rd_item f E A p).2.2) := by
  rw [rd_items, if_neg (by rw [h]; decide)]
theorem rd_cont_w {f : Nat → Int32} {E k p n : Nat} {A : ab_S} (h : p < E) (h2 : ¬ f p = nI 59) : rd_cont f E k A p n = (false, p, A) := by rw [rd_cont, if_pos h, if_neg h2]
theorem rd_cont_s {f : Nat → Int32} {E k p n : Nat} {A : ab_S} (h : p < E) (h2 : f p = nI 59) : rd_cont f E k A p n = rd_items f E k A (p + 1) (n + 1) := by rw [rd_cont, if_pos h, if_pos h2]
theorem rd_cont_e {f : Nat → Int32} {E k p n : Nat} {A : ab_S} (h : E ≤ p) : rd_cont f E k A p n = (true, n, A) := by rw [rd_cont, if_neg (by omega)]
def sq_townZ (a : Nat) (A : ab_S) : Bool × Nat × ab_S := rd_items (rd_f A a) (A.1.1 20 a) 200 (ab_i A 7 (-1)) 0 1
def sq_town (a1 : Int32) (A : ab_S) : Int32 × ab_S :=
  if sq_wanted a1 A = 0 then
    (if (sq_townZ (iN a1) A).1 = true then (nI (sq_townZ (iN a1) A).2.1, (sq_townZ (iN a1) A).2.2) else sq_no (-6) (ab_i (ab_i A 7 (-1)) 7 (nI (sq_townZ (iN a1) A).2.1)))
  else sq_no (sq_wanted a1 A) A
