/-! hours -/
theorem ab_wf.n {A : ab_S} (h : ab_wf A) {k j n : Nat} (hk : k ≠ 36 ∧ k ≠ 18 ∧ k ≠ 19 ∧ k ≠ 20 ∧ k ≠ 21 ∧ k ≠ 43 ∧ k ≠ 0) (hs : sp_wf (sp_set A.1 k j n)) : ab_wf (ab_n A k j n) := by
  have e : ∀ a i, a = 36 ∨ a = 18 ∨ a = 19 ∨ a = 20 ∨ a = 21 ∨ a = 43 ∨ a = 0 → (ab_n A k j n).1.1 a i = A.1.1 a i := fun a i ha => if_neg (by omega)
  obtain ⟨h1, h2, h3, h4, h5⟩ := h
  refine ⟨hs, (e 36 0 (by omega)).trans h2, fun s hs => ?_, ?_, fun z => ?_⟩
  · rw [e 18 s (by omega), e 19 s (by omega), e 20 s (by omega), e 21 s (by omega), e 0 0 (by omega)]
    exact h3 s hs
  · rw [e 43 0 (by omega)]
    exact h4
  · rw [e 43 0 (by omega)] at z
    exact h5 z
theorem ab_wf.i {A : ab_S} (h : ab_wf A) (k : Nat) (v : Int32) : ab_wf (ab_i A k v) := h.same rfl rfl
theorem sp_beside_lt {c w : Nat} (hc : c < 36) : sp_beside c w = 99 ∨ sp_beside c w < 36 := by
  unfold sp_beside
  (repeat' split) <;> omega
def sq_to (B : ab_S) (p : Nat) : Nat := if iN (sq_drawn 5 (sq_next (B.1.2 6))) = 4 then 99 else sp_beside (B.1.1 14 p) (iN (sq_drawn 5 (sq_next (B.1.2 6))))
def sq_goes (B : ab_S) (p : Nat) : ab_S := if sq_to B p = 99 then ab_i B 6 (sq_next (B.1.2 6)) else if B.1.1 16 (sq_to B p) = 0 then ab_n (ab_i B 6 (sq_next (B.1.2 6))) 14 p (sq_to B p) else ab_i B 6 (sq_next (B.1.2 6))
def sq_rain (B : ab_S) : ab_S := ab_n (ab_i B 6 (sq_next (B.1.2 6))) 3 0 (if sq_drawn 4 (sq_next (B.1.2 6)) = 0 then 1 else 0)
def sq_moves (B : ab_S) : Nat → ab_S
  | 0 => B
  | p + 1 => sq_goes (sq_moves B p) p
def sq_pays (B : ab_S) : Nat → ab_S × Nat
  | 0 => (B, 0)
  | p + 1 => (sq_pay (sq_pays B p).1 p, (sq_pays B p).2 + sp_paid (sq_pays B p).1.1 p)
def sq_paidAll (B : ab_S) : ab_S × Nat := sq_pays B (B.1.1 0 0)
def sq_hour (B : ab_S) : ab_S :=
  let M := sq_moves (sq_rain B) (B.1.1 0 0)
  let Z := sq_pays M (B.1.1 0 0)
  ab_i (ab_i Z.1 5 (Z.1.1.2 5 + nI Z.2)) 4 (Z.1.1.2 4 + nI 1)
def sq_nHours (A : ab_S) : Nat → ab_S
  | 0 => A
  | k + 1 => sq_hour (sq_nHours A k)
theorem sq_to_lt {B : ab_S} (hB : ab_wf B) {p : Nat} (hp : p < 7) : sq_to B p = 99 ∨ sq_to B p < 36 := by
  unfold sq_to
  split
  · left; rfl
  · exact sp_beside_lt (hB.w.b14 hp)
theorem ab_wf.goes {B : ab_S} (h : ab_wf B) {p : Nat} (hp : p < 7) : ab_wf (sq_goes B p) ∧ (sq_goes B p).1.1 0 0 = B.1.1 0 0 := by
  have h3 := sq_to_lt h hp
  unfold sq_goes
  generalize sq_to B p = to at *
  generalize sq_next (B.1.2 6) = nx
  split
  · exact ⟨h.i _ _, rfl⟩
  · rename_i h1
    split
    · rename_i h2
      exact ⟨(h.i _ _).n (by decide) (sp_wf_at (t := (ab_i B 6 nx).1) (h.i _ _).w (h3.resolve_left h1) h2), rfl⟩
    · exact ⟨h.i _ _, rfl⟩
theorem ab_wf.rain {B : ab_S} (h : ab_wf B) : ab_wf (sq_rain B) := by
  unfold sq_rain
  refine (h.i _ _).n (by decide) (sp_wf_rain (h.i _ _).w ?_)
  split <;> decide
theorem ab_wf.moves {B : ab_S} (h : ab_wf B) : ∀ p, p ≤ 7 → ab_wf (sq_moves B p) ∧ (sq_moves B p).1.1 0 0 = B.1.1 0 0
  | 0, _ => ⟨h, rfl⟩
  | p + 1, hp => by
    obtain ⟨h1, h2⟩ := ab_wf.moves h p (by omega)
    obtain ⟨h3, h4⟩ := h1.goes (p := p) (by omega)
    exact ⟨h3, h4.trans h2⟩
theorem ab_wf.pay {B : ab_S} (h : ab_wf B) {p : Nat} (hp : p < 7) : ab_wf (sq_pay B p) ∧ (sq_pay B p).1.1 0 0 = B.1.1 0 0 := by
  refine ⟨h.n (by decide) (sp_wf_purse h.w ?_), rfl⟩
  have := h.w.b13 hp
  omega
theorem ab_wf.pays {B : ab_S} (h : ab_wf B) : ∀ p, p ≤ 7 → ab_wf (sq_pays B p).1 ∧ (sq_pays B p).1.1.1 0 0 = B.1.1 0 0
  | 0, _ => ⟨h, rfl⟩
  | p + 1, hp => by
    obtain ⟨h1, h2⟩ := ab_wf.pays h p (by omega)
    obtain ⟨h3, h4⟩ := h1.pay (p := p) (by omega)
    exact ⟨h3, h4.trans h2⟩
theorem ab_wf.hour {B : ab_S} (h : ab_wf B) : ab_wf (sq_hour B) ∧ (sq_hour B).1.1 0 0 = B.1.1 0 0 := by
  have h1 := h.w.b0
  obtain ⟨h2, h3⟩ := h.rain.moves (B.1.1 0 0) h1
  obtain ⟨h4, h5⟩ := h2.pays (B.1.1 0 0) h1
  exact ⟨(h4.i _ _).i _ _, h5.trans h3⟩
theorem ab_wf.nHours {A : ab_S} (h : ab_wf A) : ∀ k, ab_wf (sq_nHours A k) ∧ (sq_nHours A k).1.1 0 0 = A.1.1 0 0
  | 0 => ⟨h, rfl⟩
  | k + 1 => by
    obtain ⟨h1, h2⟩ := ab_wf.nHours h k
    obtain ⟨h3, h4⟩ := h1.hour
    exact ⟨h3, h4.trans h2⟩
/-! strolls told -/
def sp_strTo (t : sp_S) (v : Int32) : Nat := if v < 0 then 99 else if iN v / 10 < t.1 0 0 then (if iN v % 10 ≤ 3 then sp_beside (t.1 14 (iN v / 10)) (iN v % 10) else 99) else 99
def sp_strOk (t : sp_S) (v : Int32) : Bool := decide (¬ sp_strTo t v = 99 ∧ ¬ t.1 16 (sp_strTo t v) = 1)
def sq_strGo (Z : ab_S × Nat) (v : Int32) : ab_S × Nat := (sq_pay (ab_n Z.1 14 (iN v / 10) (sp_strTo Z.1.1 v)) (iN v / 10), Z.2 + sp_paid (ab_n Z.1 14 (iN v / 10) (sp_strTo Z.1.1 v)).1 (iN v / 10))
/-- behind the first i steps of a shelf's row -/
def sq_str (A : ab_S) (s : Nat) : Nat → ab_S × Nat
  | 0 => (A, 0)
  | i + 1 => sq_strGo (sq_str A s i) (A.2.2.2 (160 * s + i)).toInt32
/-- the first of n steps that can't be, from the i-th on: 99 if there is none -/
def sq_bad (A : ab_S) (s n : Nat) : Nat → Nat → Nat
  | 0, _ => 99
  | f + 1, i => if i < n then (if sp_strOk (sq_str A s i).1.1 (A.2.2.2 (160 * s + i)).toInt32 = true then sq_bad A s n f (i + 1) else i) else 99
theorem ab_wf.strGo {Z : ab_S × Nat} (h : ab_wf Z.1) {v : Int32} (hv : sp_strOk Z.1.1 v = true) : ab_wf (sq_strGo Z v).1 ∧ (sq_strGo Z v).1.1.1 0 0 = Z.1.1.1 0 0 := by
  have hv := of_decide_eq_true hv
  have h0 := h.w.b0
  have hx : iN v / 10 < Z.1.1.1 0 0 ∧ (sp_strTo Z.1.1 v = 99 ∨ sp_strTo Z.1.1 v < 36) := by
    have hv1 := hv.1
    unfold sp_strTo at hv1 ⊢
    split at hv1
    · exact absurd rfl hv1
    · split at hv1
      · rename_i h1 h2
        rw [if_neg h1, if_pos h2]
        split at hv1
        · rename_i h3
          rw [if_pos h3]
          exact ⟨h2, sp_beside_lt (h.w.b14 (by omega))⟩
        · exact absurd rfl hv1
      · exact absurd rfl hv1
  have h1 := hx.2.resolve_left hv.1
  have h2 := h.w.b16 h1
  have h3 : ab_wf (ab_n Z.1 14 (iN v / 10) (sp_strTo Z.1.1 v)) := h.n (by decide) (sp_wf_at h.w h1 (by omega))
  exact ⟨(h3.pay (p := iN v / 10) (by omega)).1, rfl⟩
