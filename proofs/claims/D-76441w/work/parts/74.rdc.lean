/-! the Reader at an item -/
def rd_Str (D : hg_D) (G : hg_G) : Prop := js_S G (D.2.2 0) (rd_w 3) ∧ js_S G (D.2.2 1) (rd_w 0) ∧ js_S G (D.2.2 2) (rd_w 1) ∧ js_S G (D.2.2 3) (rd_w 2) ∧ js_S G (D.2.2 4) (rd_w 4) ∧ js_S G (D.2.2 5) (rd_w 5) ∧ js_S G (D.2.2 6) (rd_w 6)
theorem js_S.nw {G G' : hg_G} {a : Nat} {l9 : List Nat} {W : Nat → Prop} (h : js_S G a l9) (hf : hg_fr W G G') (hW : ∀ b, W b → G.1 b ≠ some (0, 20) ∧ ∀ n, G.1 b ≠ some (7, n)) : js_S G' a l9 := by
  obtain ⟨h1, h2, h3, h4, b, h5, h6, h7⟩ := h
  have s1 : hg_st G G' a := hf _ (fun e => (hW _ e).1 h1)
  have s2 : hg_st G G' b := hf _ (fun e => (hW _ e).2 _ h6)
  exact ⟨s1.1.trans h1, (s1.2.1 1).trans h2, h3, h4, b, (s1.2.2.2 0).trans h5, s2.1.trans h6, fun j hj => (s2.2.1 j).trans (h7 j hj)⟩
theorem rd_Str.nw {D : hg_D} {G G' : hg_G} {W : Nat → Prop} (h : rd_Str D G) (hf : hg_fr W G G') (hW : ∀ b, W b → G.1 b ≠ some (0, 20) ∧ ∀ n, G.1 b ≠ some (7, n)) : rd_Str D G' := by
  obtain ⟨h0, h1, h2, h3, h4, h5, h6⟩ := h
  exact ⟨h0.nw hf hW, h1.nw hf hW, h2.nw hf hW, h3.nw hf hW, h4.nw hf hW, h5.nw hf hW, h6.nw hf hW⟩
def rd_T (D : hg_D) (G : hg_G) (o x y k E : Nat) (f : Nat → Int32) (ta : Nat → Nat) (t : sp_S) (p : Nat) : Prop := rd_O G o x y k E f (ta 0) ∧ G.2.1 o 2 = nI p ∧ p ≤ E ∧ tn_R G ta t ∧ tn_D ta ∧ (∀ i, i < 5 → ta i ≠ x ∧ ta i ≠ y) ∧ rd_Str D G
def rd_Wf (G : hg_G) (o : Nat) (ta : Nat → Nat) (a : Nat) : Prop := a = o ∨ tn_W ta a ∨ G.1 a = none
section RD8
variable {D : hg_D} {G G1 G' : hg_G} {o x y k E p p' : Nat} {f : Nat → Int32} {ta : Nat → Nat} {t t' : sp_S}
theorem tn_R.kd (h : tn_R G ta t) {i : Nat} (hi : i < 5) : G.1 (ta i) = some (0, 2) ∨ G.1 (ta i) = some (6, 7) ∨ G.1 (ta i) = some (1, 7) := by
  have hi2 : i = 0 ∨ i = 1 ∨ i = 2 ∨ i = 3 ∨ i = 4 := by omega
  rcases hi2 with rfl | rfl | rfl | rfl | rfl
  · exact Or.inl h.ob
  · exact Or.inr (Or.inl h.k1)
  · exact Or.inr (Or.inr h.k2)
  · exact Or.inr (Or.inr h.k3)
  · exact Or.inr (Or.inr h.k4)
theorem rd_T.no (h : rd_T D G o x y k E f ta t p) {i : Nat} (hi : i < 5) : ta i ≠ o := fun e => by
  have g := h.2.2.2.1.kd hi
  rw [e, h.1.1] at g
  rcases g with g | g | g <;> cases g
theorem rd_T.o' (h : rd_T D G o x y k E f ta t p) (hw : sp_wf t) (hf : hg_fr (fun a => a = o) G G') (h1 : G'.1 = G.1) (h2 : G'.2.2.2 = G.2.2.2) (hp : G'.2.1 o 2 = nI p') (hE : p' ≤ E) : rd_T D G' o x y k E f ta t p' := by
  obtain ⟨a1, a2, a3, a4, a5, a6, a7⟩ := h
  have hh : rd_T D G o x y k E f ta t p := ⟨a1, a2, a3, a4, a5, a6, a7⟩
  refine ⟨a1.fr hf h1 h2, hp, hE, a4.fr hf (fun j hj => hh.no hj) (fun p q hp hq e => ?_), a5, a6, a7.nw hf (fun b e => ?_)⟩
  · obtain ⟨q2, k1, k2, -⟩ := a4.pe hp
    cases hq.symm.trans k1
    have e : q = o := e
    rw [e, a1.1] at k2
    have h1 := (Prod.mk.inj (Option.some.inj k2)).2
    have w0 := hw.b0
    have := hw.b9 (p := p) (by omega)
    omega
  · have e : b = o := e
    rw [e, a1.1]
    exact ⟨fun z => (by cases z), fun n z => (by cases z)⟩
theorem rd_T.w (h : rd_T D G o x y k E f ta t p) (hf : hg_fr (fun a => tn_W ta a ∨ G.1 a = none) G G') (ht : tn_R G' ta t') : rd_T D G' o x y k E f ta t' p := by
  obtain ⟨a1, a2, a3, a4, a5, a6, a7⟩ := h
  have hh : rd_T D G o x y k E f ta t p := ⟨a1, a2, a3, a4, a5, a6, a7⟩
  have so : hg_st G G' o := hf _ (fun z => z.elim (fun ⟨i, hi, e⟩ => hh.no hi e.symm) (fun e => nomatch (a1.1.symm.trans e)))
  have sx : hg_st G G' x := hf _ (fun z => z.elim (fun ⟨i, hi, e⟩ => (a6 i hi).1 e.symm) (fun e => nomatch (a1.2.2.2.1.2.2.1.symm.trans e)))
  have sy : hg_st G G' y := hf _ (fun z => z.elim (fun ⟨i, hi, e⟩ => (a6 i hi).2 e.symm) (fun e => nomatch (a1.2.2.2.1.2.2.2.2.symm.trans e)))
  refine ⟨⟨so.1.trans a1.1, (so.2.2.2 0).trans a1.2.1, (so.2.2.2 1).trans a1.2.2.1, a1.2.2.2.1.st sx sy, fun j hj => by rw [rr_el.st sy]; exact a1.2.2.2.2 j hj⟩, (so.2.1 2).trans a2, a3, ht, a5, a6, a7.nw hf (fun b e => ?_)⟩
  rcases e with ⟨i, hi, e⟩ | e
  · rw [e]
    have g := a4.kd hi
    refine ⟨fun z => ?_, fun n z => ?_⟩
    · rw [z] at g; rcases g with g | g | g <;> cases g
    · rw [z] at g; rcases g with g | g | g <;> cases g
  · exact ⟨fun z => (nomatch (z.symm.trans e)), fun n z => (nomatch (z.symm.trans e))⟩
theorem rd_Wf.oo (hf : hg_fr (fun a => a = o) G G') : hg_fr (rd_Wf G o ta) G G' := hf.mono (fun a e => Or.inl e)
theorem rd_Wf.thr {q w : Nat} (h : rd_thr G G' o q w) : hg_fr (rd_Wf G o ta) G G' := h.2.2.mono (fun a e => e.elim Or.inl (fun e => Or.inr (Or.inr e)))
theorem rd_Wf.w (hf : hg_fr (fun a => tn_W ta a ∨ G.1 a = none) G G') : hg_fr (rd_Wf G o ta) G G' := hf.mono (fun a e => e.elim (fun e => Or.inr (Or.inl e)) (fun e => Or.inr (Or.inr e)))
/-- one behind the other: what was none and stays or is made -/
theorem rd_Wf.tr (h : hg_fr (rd_Wf G o ta) G G1) (hE : ∀ a v, G.1 a = some v → G1.1 a = some v) (h' : hg_fr (rd_Wf G1 o ta) G1 G') : hg_fr (rd_Wf G o ta) G G' := h.tr (h'.mono (fun a e => by
  rcases e with e | e | e
  · exact Or.inl e
  · exact Or.inr (Or.inl e)
  · refine Or.inr (Or.inr ?_)
    cases g : G.1 a with
    | none => rfl
    | some v => rw [hE a v g] at e; cases e))
end RD8
/-- an item of a word given -/
def rd_iw (f : Nat → Int32) (E : Nat) (A : ab_S) (w p : Nat) : Bool × Nat × ab_S :=
  if rd_mat f E (rd_w w) p = p + (rd_w w).length then
    (if w = 3 ∧ A.1.1 0 0 = 7 then (false, p, A)
    else if rd_is f E (p + (rd_w w).length) 32 = true then
      (if (rd_ns f E A w (sp_nums.getD w 0) 0 (p + (rd_w w).length + 1) (fun _ => 0)).1 = true then
        (true, (rd_ns f E A w (sp_nums.getD w 0) 0 (p + (rd_w w).length + 1) (fun _ => 0)).2.1, rd_do A w (rd_ns f E A w (sp_nums.getD w 0) 0 (p + (rd_w w).length + 1) (fun _ => 0)).2.2)
      else (false, (rd_ns f E A w (sp_nums.getD w 0) 0 (p + (rd_w w).length + 1) (fun _ => 0)).2.1, A))
    else (false, p + (rd_w w).length, A))
  else (false, rd_mat f E (rd_w w) p, A)
theorem rd_item_iw (f : Nat → Int32) (E : Nat) (A : ab_S) (p : Nat) : rd_item f E A p = rd_iw f E A (rd_sel f E p) p := rfl
section IW
variable {f : Nat → Int32} {E : Nat} {A : ab_S} {w p : Nat}
theorem rd_iw_n (h : ¬ rd_mat f E (rd_w w) p = p + (rd_w w).length) : rd_iw f E A w p = (false, rd_mat f E (rd_w w) p, A) := if_neg h
theorem rd_iw_b (h : rd_mat f E (rd_w w) p = p + (rd_w w).length) (h3 : ¬ (w = 3 ∧ A.1.1 0 0 = 7)) (hb : rd_is f E (p + (rd_w w).length) 32 = false) : rd_iw f E A w p = (false, p + (rd_w w).length, A) := by
  rw [rd_iw, if_pos h, if_neg h3, if_neg (by rw [hb]; decide)]
theorem rd_iw_7 (h : rd_mat f E (rd_w 3) p = p + (rd_w 3).length) (h3 : A.1.1 0 0 = 7) : rd_iw f E A 3 p = (false, p, A) := by
  rw [rd_iw, if_pos h, if_pos ⟨rfl, h3⟩]
theorem rd_iw_N (h : rd_mat f E (rd_w w) p = p + (rd_w w).length) (h3 : ¬ (w = 3 ∧ A.1.1 0 0 = 7)) (hb : rd_is f E (p + (rd_w w).length) 32 = true) {b : Bool} {q : Nat} {v : Nat → Nat} (hN : rd_ns f E A w (sp_nums.getD w 0) 0 (p + (rd_w w).length + 1) (fun _ => 0) = (b, q, v)) : rd_iw f E A w p = (b, q, if b = true then rd_do A w v else A) := by
  rw [rd_iw, if_pos h, if_neg h3, if_pos hb, hN]
  cases b <;> rfl
/-- words with one number -/
theorem rd_iw_1 (hw : w < 7) (hw3 : w ≠ 3) (h : rd_mat f E (rd_w w) p = p + (rd_w w).length) (hb : rd_is f E (p + (rd_w w).length) 32 = true) {d : Bool} (hd : rd_dig f E (p + (rd_w w).length + 1) = d) :
    rd_iw f E A w p = (if d = true then (if rd_so A w 0 (rd_num f E (p + (rd_w w).length + 1)) = true then (true, rd_end f E (p + (rd_w w).length + 1), rd_do A w (fun j => if j = 0 then rd_num f E (p + (rd_w w).length + 1) else 0)) else (false, p + (rd_w w).length + 1, A)) else (false, p + (rd_w w).length + 1, A)) := by
  have e1 : sp_nums.getD w 0 = 1 := by
    have : w = 0 ∨ w = 1 ∨ w = 2 ∨ w = 4 ∨ w = 5 ∨ w = 6 := by omega
    rcases this with rfl | rfl | rfl | rfl | rfl | rfl <;> rfl
  have h3 : ¬ (w = 3 ∧ A.1.1 0 0 = 7) := fun z => hw3 z.1
  cases d
  · exact rd_iw_N h h3 hb (by rw [e1]; exact rd_ns_d (by decide) (Or.inl ⟨rfl, rfl⟩) hd)
  · rw [if_pos rfl]
    by_cases hs : rd_so A w 0 (rd_num f E (p + (rd_w w).length + 1)) = true
    · rw [if_pos hs]
      refine (rd_iw_N h h3 hb (b := true) (by rw [e1, rd_ns_s (Or.inl ⟨rfl, rfl⟩) hd hs]; rfl)).trans ?_
      rfl
    · rw [if_neg hs]
      have hs : rd_so A w 0 (rd_num f E (p + (rd_w w).length + 1)) = false := by simpa using hs
      exact rd_iw_N h h3 hb (by rw [e1]; exact rd_ns_o (by decide) (Or.inl ⟨rfl, rfl⟩) hd hs)
theorem rd_num_le {p : Nat} (h : rd_dig f E p = true) : rd_num f E p ≤ 99 := by
  have h1 := (rd_dig_v h).2.2
  unfold rd_num
  by_cases g : rd_dig f E (p + 1) = true
  · rw [if_pos g]
    have h2 := (rd_dig_v g).2.2
    omega
  · rw [if_neg g]
    omega
theorem rg_dec {b z v : Nat} (hb : b < 2 ^ 31) (hz : z < 2 ^ 31) (hv : v ≤ 99) : decide (nI b ≤ nI v ∧ nI v ≤ nI z) = decide (b ≤ v ∧ v ≤ z) := by
  have e1 : (nI b ≤ nI v) = (b ≤ v) := propext (nI_leI hb (by omega))
  have e2 : (nI v ≤ nI z) = (v ≤ z) := propext (nI_leI (by omega) hz)
  simp only [e1, e2]
theorem rg_dec1 {v m : Nat} (hm : m ≤ 20) (hv : v ≤ 99) : decide (nI 0 ≤ nI v ∧ nI v ≤ nI m - nI 1) = decide (v < m) := by
  have h : (nI 0 ≤ nI v ∧ nI v ≤ nI m - nI 1) = (¬ nI v < nI 0 ∧ nI v < nI m) := propext (cp_tr (x := nI v) hm)
  have h1 : ¬ nI v < nI 0 := fun z => by
    have := (nI_ltI (by omega) (by decide)).mp z
    omega
  have h2 : (nI v < nI m) = (v < m) := propext (nI_ltI (by omega) (by omega))
  have h3 : (¬ nI v < nI 0 ∧ nI v < nI m) = (v < m) := by rw [h2]; exact propext ⟨fun z => z.2, fun z => ⟨h1, z⟩⟩
  have h4 := h.trans h3
  by_cases g : v < m
  · rw [decide_eq_true g, decide_eq_true (h4.mpr g)]
  · rw [decide_eq_false g, decide_eq_false (fun z => g (h4.mp z))]
end IW
