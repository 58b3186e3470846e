/-! the component made -/
theorem hg_st.tr {G G1 G2 : hg_G} {a : Nat} (h : hg_st G G1 a) (h' : hg_st G1 G2 a) : hg_st G G2 a := ⟨h'.1.trans h.1, fun j => (h'.2.1 j).trans (h.2.1 j), fun j => (h'.2.2.1 j).trans (h.2.2.1 j), fun j => (h'.2.2.2 j).trans (h.2.2.2 j)⟩
theorem ini_st {G G' : hg_G} {o a : Nat} {v : Nat × Nat} (hF : hg_fr (fun b => b = o ∨ G.1 b = none) G G') (ho : a ≠ o) (he : G.1 a = some v) : hg_st G G' a := hF a (fun z => z.elim ho (fun e => nomatch (he.symm.trans e)))
theorem ini_ne {G : hg_G} {a b : Nat} {v : Nat × Nat} (h : G.1 a = some v) (hn : G.1 b = none) : a ≠ b := fun e => by rw [e, hn] at h; cases h
theorem hg_fr.upn {G G1 G2 : hg_G} {o : Nat} (h : hg_fr (fun b => b = o ∨ G.1 b = none) G G1) (hu : hg_up G G1) (h' : hg_fr (fun b => b = o ∨ G1.1 b = none) G1 G2) : hg_fr (fun b => b = o ∨ G.1 b = none) G G2 := h.tr (h'.mono (fun b e => e.elim Or.inl (fun e => Or.inr (hu.nn e))))
theorem tn_R.stt {G G' : hg_G} {ta : Nat → Nat} {t : sp_S} (h : tn_R G ta t) (s : ∀ i, i < 5 → hg_st G G' (ta i)) (h0 : t.1 0 0 = 0) : tn_R G' ta t := by
  obtain ⟨⟨a0, a1, a2, a3, a4⟩, ⟨b1, b2, b3, b4⟩, ⟨c0, c1, c2, c3, c4, c5, c6, c7⟩, ⟨d1, d2⟩, ⟨K, k1, k2, k3⟩, e, f⟩ := h
  have z := s 0 (by decide)
  refine ⟨⟨z.1.trans a0, (s 1 (by decide)).1.trans a1, (s 2 (by decide)).1.trans a2, (s 3 (by decide)).1.trans a3, (s 4 (by decide)).1.trans a4⟩, ⟨(z.2.2.2 _).trans b1, (z.2.2.2 _).trans b2, (z.2.2.2 _).trans b3, (z.2.2.2 _).trans b4⟩, ⟨(z.2.1 _).trans c0, (z.2.1 _).trans c1, (z.2.1 _).trans c2, (z.2.1 _).trans c3, (z.2.1 _).trans c4, (z.2.1 _).trans c5, (z.2.1 _).trans c6, (z.2.1 _).trans c7⟩, ⟨(z.2.2.1 _).trans d1, (z.2.2.1 _).trans d2⟩, ⟨K, k1, (z.2.1 _).trans k2, k3⟩, fun p hp => by rw [h0] at hp; omega, fun p hp => by rw [h0] at hp; omega⟩
/-- roles of a new one -/
def cp_mk (o sh rf tr bo wk ow le : Nat) (sf ta tb : Nat → Nat) : Nat → Nat := fun r =>
  if r = 0 then o else if r = 1 then sh else if r = 2 then rf else if r = 3 then tr else if r = 4 then bo else if r = 5 then wk else if r = 6 then ow else if r = 7 then le
  else if r < 16 then sf (r - 8) else if r < 21 then ta (r - 16) else tb (r - 21)
/-- told apart by when they came: in the order of a list of pictures -/
theorem ini_inj {ca : Nat → Nat} {P : Nat → Nat → Prop} {rk : Nat → Nat} (hP : ∀ i j, i < 26 → j < 26 → rk i < rk j → ca i ≠ ca j) (hE : ∀ i j, i < 26 → j < 26 → rk i = rk j → ca i = ca j → i = j) : ∀ i j, i < 26 → j < 26 → ca i = ca j → i = j := fun i j hi hj e => by
  rcases Nat.lt_trichotomy (rk i) (rk j) with h | h | h
  · exact absurd e (hP i j hi hj h)
  · exact hE i j hi hj h e
  · exact absurd e.symm (hP j i hj hi h)
abbrev rk_X1_init : Room := { frames := 1, cells := 1, slots := 20, locals := 40 }
abbrev rk_X3_init : Room := { frames := 1, cells := 2, slots := 72, locals := 40 }
theorem ti_trace {l : Launch} {D : hg_D} {lo : Nat} (htr : l.stackTraces = false) {G : hg_G} {x : Nat} (hx : G.1 x = some (0, 1)) :
    hg_M l D lo yX1_init (ws_ yX1_init cX1_init 1 (none)) rk_X1_init [.ref x] G (fun r G' => r = .inl none ∧ ∃ b, G.1 b = none ∧ G' = hs_R (hs_N G b (1, 20)) x 0 (some b)) := by
  refine hg_M.of htr (by decide) [some (.ref x)] rfl (Nat.le_of_ble_eq_true rfl) ?_
  intro p e s m args below meth c X hr hnm htab
  have X : hg_X p l s m args meth c D lo "TaxOnLooks$Trace" cX1_init 1 := X
  have hnm : meth.name = "<init>" := hnm
  refine hr_room (kr' := 1) (nr' := 20) (by decide) (by decide) ?_
  refine hr_aload0 (q := 1) X dX1_init_0 rfl ?_
  refine hr_objInit (q := 4) X dX1_init_1 rfl q133 (by decide) (by decide) ?_
  refine hr_aload0 (q := 5) X dX1_init_4 rfl ?_
  refine hr_bipush (v := (nI 20)) (q := 7) X dX1_init_5 rfl rfl ?_
  refine hr_newarr (kr := 0) (nr := 0) (q := 9) (t := 0) (N := 20) X dX1_init_7 rfl (Or.inl ⟨rfl, rfl⟩) q143 rfl (by decide) (fun x1 hlx1 hnx1 => ?_)
  refine hr_putR (q := 12) X dX1_init_9 rfl fw_q134_1 (fun _ => hnm) rfl rfl (by rw [hs_N1, if_neg (ini_ne hx hnx1)]; exact hx) ?_
  exact hr_vret X hr dX1_init_12 ⟨rfl, x1, hnx1, rfl⟩

theorem ti_walks {l : Launch} {D : hg_D} {lo : Nat} (htr : l.stackTraces = false) {G : hg_G} {x : Nat} (hx : G.1 x = some (0, 3)) :
    hg_M l D lo yX3_init (ws_ yX3_init cX3_init 1 (none)) rk_X3_init [.ref x] G (fun r G' => r = .inl none ∧ ∃ y z, G.1 y = none ∧ (hs_N G y (1, 36)).1 z = none ∧ G' = hs_R (hs_N (hs_R (hs_N G y (1, 36)) x 0 (some y)) z (1, 36)) x 1 (some z)) := by
  refine hg_M.of htr (by decide) [some (.ref x)] rfl (Nat.le_of_ble_eq_true rfl) ?_
  intro p e s m args below meth c X hr hnm htab
  have X : hg_X p l s m args meth c D lo "TaxOnLooks$Walks" cX3_init 1 := X
  have hnm : meth.name = "<init>" := hnm
  refine hr_room (kr' := 2) (nr' := 72) (by decide) (by decide) ?_
  refine hr_aload0 (q := 1) X dX3_init_0 rfl ?_
  refine hr_objInit (q := 4) X dX3_init_1 rfl q227 (by decide) (by decide) ?_
  refine hr_aload0 (q := 5) X dX3_init_4 rfl ?_
  refine hr_bipush (v := (nI 36)) (q := 7) X dX3_init_5 rfl rfl ?_
  refine hr_newarr (kr := 1) (nr := 36) (q := 9) (t := 0) (N := 36) X dX3_init_7 rfl (Or.inl ⟨rfl, rfl⟩) q143 rfl (by decide) (fun x1 hlx1 hnx1 => ?_)
  refine hr_putR (q := 12) X dX3_init_9 rfl fw_q228_3 (fun _ => hnm) rfl rfl (by rw [hs_N1, if_neg (ini_ne hx hnx1)]; exact hx) ?_
  refine hr_aload0 (q := 13) X dX3_init_12 rfl ?_
  refine hr_bipush (v := (nI 36)) (q := 15) X dX3_init_13 rfl rfl ?_
  refine hr_newarr (kr := 0) (nr := 0) (q := 17) (t := 0) (N := 36) X dX3_init_15 rfl (Or.inl ⟨rfl, rfl⟩) q143 rfl (by decide) (fun x2 hlx2 hnx2 => ?_)
  refine hr_putR (q := 20) X dX3_init_17 rfl fw_q229_3 (fun _ => hnm) rfl rfl (by rw [hs_N1, hs_R1, hs_N1, if_neg (fun e => (hs_Nn (G := G) hnx2).2 |> fun g => by rw [← e, hx] at g; cases g), if_neg (ini_ne hx hnx1)]; exact hx) ?_
  exact hr_vret X hr dX3_init_20 ⟨rfl, x1, x2, hnx1, hnx2, rfl⟩

theorem ti_shelf {l : Launch} {D : hg_D} {lo : Nat} (htr : l.stackTraces = false) {G : hg_G} {x : Nat} :
    hg_M l D lo yX4_init (ws_ yX4_init cX4_init 1 (none)) rm_X4_init [.ref x] G (fun r G' => r = .inl none ∧ G' = G) := by
  refine hg_M.of htr (by decide) [some (.ref x)] rfl (Nat.le_of_ble_eq_true rfl) ?_
  intro p e s m args below meth c X hr hnm htab
  have X : hg_X p l s m args meth c D lo "TaxOnLooks$Shelf" cX4_init 1 := X
  refine hr_aload0 (q := 1) X dX4_init_0 rfl ?_
  refine hr_objInit (q := 4) X dX4_init_1 rfl q239 (by decide) (by decide) ?_
  exact hr_vret X hr dX4_init_4 ⟨rfl, rfl⟩

