/-! a new town -/
theorem hs_N1 {G : hg_G} {a b : Nat} {kd : Nat × Nat} : (hs_N G a kd).1 b = if b = a then some kd else G.1 b := rfl
theorem hs_NI {G : hg_G} {a b j : Nat} {kd : Nat × Nat} : (hs_N G a kd).2.1 b j = if b = a then 0 else G.2.1 b j := rfl
theorem hs_NJ {G : hg_G} {a b j : Nat} {kd : Nat × Nat} : (hs_N G a kd).2.2.1 b j = if b = a then 0 else G.2.2.1 b j := rfl
theorem hs_NR {G : hg_G} {a b j : Nat} {kd : Nat × Nat} : (hs_N G a kd).2.2.2 b j = if b = a then none else G.2.2.2 b j := rfl
theorem hs_Nn {G : hg_G} {a b : Nat} {kd : Nat × Nat} (h : (hs_N G a kd).1 b = none) : b ≠ a ∧ G.1 b = none := by
  rw [hs_N1] at h
  split at h
  · cases h
  · exact ⟨‹_›, h⟩
theorem hg_fr.N {W : Nat → Prop} {G G1 : hg_G} (h : hg_fr W G G1) {a : Nat} {kd : Nat × Nat} (ha : W a) : hg_fr W G (hs_N G1 a kd) := h.tr fun b hb => by
  have e : b ≠ a := fun e => hb (e ▸ ha)
  exact ⟨if_neg e, fun _ => if_neg e, fun _ => if_neg e, fun _ => if_neg e⟩
theorem hg_fr.mono {W W' : Nat → Prop} {G G' : hg_G} (h : hg_fr W G G') (hw : ∀ a, W a → W' a) : hg_fr W' G G' := fun a ha => h a (fun z => ha (hw a z))
def tn_mk (o x1 x2 x3 x4 : Nat) : Nat → Nat := fun i => match i with
  | 0 => o
  | 1 => x1
  | 2 => x2
  | 3 => x3
  | _ => x4
theorem tn_mk_D {o x1 x2 x3 x4 : Nat} (h1 : x1 ≠ o) (h2 : x2 ≠ o ∧ x2 ≠ x1) (h3 : x3 ≠ o ∧ x3 ≠ x1 ∧ x3 ≠ x2) (h4 : x4 ≠ o ∧ x4 ≠ x1 ∧ x4 ≠ x2 ∧ x4 ≠ x3) : tn_D (tn_mk o x1 x2 x3 x4) := by
  intro i j hi hj e
  have hi2 : i = 0 ∨ i = 1 ∨ i = 2 ∨ i = 3 ∨ i = 4 := by omega
  have hj2 : j = 0 ∨ j = 1 ∨ j = 2 ∨ j = 3 ∨ j = 4 := by omega
  rcases hi2 with rfl | rfl | rfl | rfl | rfl <;> rcases hj2 with rfl | rfl | rfl | rfl | rfl <;> simp only [tn_mk] at e <;> first | rfl | omega
theorem tn_mk_z {P : Nat → Prop} {o x1 x2 x3 x4 : Nat} (h1 : P x1) (h2 : P x2) (h3 : P x3) (h4 : P x4) : ∀ i, 0 < i → i < 5 → P (tn_mk o x1 x2 x3 x4 i) := by
  intro i g1 g2
  have hi : i = 1 ∨ i = 2 ∨ i = 3 ∨ i = 4 := by omega
  rcases hi with rfl | rfl | rfl | rfl
  · exact h1
  · exact h2
  · exact h3
  · exact h4
theorem sp_pk_0 (n : Nat) : sp_pk (fun _ => 0) n = 0 := by
  induction n with
  | zero => rfl
  | succ n ih =>
    show sp_pk (fun _ => 0) n + 0 * 2 ^ n = 0
    rw [ih, Nat.zero_mul]
abbrev rk_X2_init : Room := { frames := 1, cells := 4, slots := 28, locals := 40 }
theorem tn_init {l : Launch} {D : hg_D} {lo : Nat} (htr : l.stackTraces = false) {G : hg_G} {o : Nat} (h0 : G.1 o = some (0, 2)) (hz : ∀ k, G.2.1 o k = 0) (hzj : ∀ k, G.2.2.1 o k = 0) :
    hg_M l D lo yX2_init (ws_ yX2_init cX2_init 1 (none)) rk_X2_init [.ref o] G (fun r G' => r = .inl none ∧ ∃ ta, ta 0 = o ∧ tn_R G' ta sp_0 ∧ tn_D ta ∧ (∀ i, 0 < i → i < 5 → G.1 (ta i) = none) ∧ hg_fr (fun a => a = o ∨ G.1 a = none) G G') := by
  refine hg_M.of htr (by decide) [some (.ref o)] rfl (Nat.le_of_ble_eq_true rfl) ?_
  intro p e s m args below meth c X hr hnm htab
  have X : hg_X p l s m args meth c D lo "TaxOnLooks$Town" cX2_init 1 := X
  refine hr_room (kr' := 4) (nr' := 28) (by decide) (by decide) ?_
  refine hr_aload0 (q := 1) X dX2_init_0 rfl ?_
  refine hr_objInit (q := 4) X dX2_init_1 rfl q149 (by decide) (by decide) ?_
  refine hr_aload0 (q := 5) X dX2_init_4 rfl ?_
  refine hr_iconst (v := (nI 1)) (q := 6) X dX2_init_5 rfl rfl ?_
  refine hr_putI (q := 9) X dX2_init_6 rfl fw_q155_2 (fun h => nomatch h) rfl rfl rfl h0 ?_
  refine hr_aload0 (q := 10) X dX2_init_9 rfl ?_
  refine hr_iconst (v := (nI 5)) (q := 11) X dX2_init_10 rfl rfl ?_
  refine hr_putI (q := 14) X dX2_init_11 rfl fw_q158_2 (fun h => nomatch h) rfl rfl rfl h0 ?_
  refine hr_aload0 (q := 15) X dX2_init_14 rfl ?_
  refine hr_iconst (v := (nI 1)) (q := 16) X dX2_init_15 rfl rfl ?_
  refine hr_putI (q := 19) X dX2_init_16 rfl fw_q167_2 (fun h => nomatch h) rfl rfl rfl h0 ?_
  refine hr_aload0 (q := 20) X dX2_init_19 rfl ?_
  refine hr_iconst (v := (-1)) (q := 21) X dX2_init_20 rfl rfl ?_
  refine hr_putI (q := 24) X dX2_init_21 rfl fw_q178_2 (fun h => nomatch h) rfl rfl rfl h0 ?_
  refine hr_aload0 (q := 25) X dX2_init_24 rfl ?_
  refine hr_bipush (v := (nI 7)) (q := 27) X dX2_init_25 rfl rfl ?_
  refine hr_newq (kr := 3) (nr := 21) (q := 30) (t := 5) (N := 7) X dX2_init_27 rfl (by decide) q150 rfl (by decide) (fun x1 hlx1 hnx1 => ?_)
  have zx1 : G.1 x1 = none := hnx1
  have nox1 : o ≠ x1 := fun e => by rw [← e, h0] at zx1; cases zx1
  refine hr_putR (q := 33) X dX2_init_30 rfl fw_q180_2 (fun _ => hnm) rfl rfl (by simp [hs_N1, hs_I1, hs_R1, h0, nox1]) ?_
  refine hr_aload0 (q := 34) X dX2_init_33 rfl ?_
  refine hr_bipush (v := (nI 7)) (q := 36) X dX2_init_34 rfl rfl ?_
  refine hr_newarr (kr := 2) (nr := 14) (q := 38) (t := 0) (N := 7) X dX2_init_36 rfl (Or.inl ⟨rfl, rfl⟩) q143 rfl (by decide) (fun x2 hlx2 hnx2 => ?_)
  have nx2x1 := (hs_Nn hnx2).1; have hx2x1 := (hs_Nn hnx2).2
  have zx2 : G.1 x2 = none := hx2x1
  have nox2 : o ≠ x2 := fun e => by rw [← e, h0] at zx2; cases zx2
  refine hr_putR (q := 41) X dX2_init_38 rfl fw_q182_2 (fun _ => hnm) rfl rfl (by simp [hs_N1, hs_I1, hs_R1, h0, nox1, nox2]) ?_
  refine hr_aload0 (q := 42) X dX2_init_41 rfl ?_
  refine hr_bipush (v := (nI 7)) (q := 44) X dX2_init_42 rfl rfl ?_
  refine hr_newarr (kr := 1) (nr := 7) (q := 46) (t := 0) (N := 7) X dX2_init_44 rfl (Or.inl ⟨rfl, rfl⟩) q143 rfl (by decide) (fun x3 hlx3 hnx3 => ?_)
  have nx3x2 := (hs_Nn hnx3).1; have hx3x2 := (hs_Nn hnx3).2
  have nx3x1 := (hs_Nn hx3x2).1; have hx3x1 := (hs_Nn hx3x2).2
  have zx3 : G.1 x3 = none := hx3x1
  have nox3 : o ≠ x3 := fun e => by rw [← e, h0] at zx3; cases zx3
  refine hr_putR (q := 49) X dX2_init_46 rfl fw_q184_2 (fun _ => hnm) rfl rfl (by simp [hs_N1, hs_I1, hs_R1, h0, nox1, nox2, nox3]) ?_
  refine hr_aload0 (q := 50) X dX2_init_49 rfl ?_
  refine hr_bipush (v := (nI 7)) (q := 52) X dX2_init_50 rfl rfl ?_
  refine hr_newarr (kr := 0) (nr := 0) (q := 54) (t := 0) (N := 7) X dX2_init_52 rfl (Or.inl ⟨rfl, rfl⟩) q143 rfl (by decide) (fun x4 hlx4 hnx4 => ?_)
  have nx4x3 := (hs_Nn hnx4).1; have hx4x3 := (hs_Nn hnx4).2
  have nx4x2 := (hs_Nn hx4x3).1; have hx4x2 := (hs_Nn hx4x3).2
  have nx4x1 := (hs_Nn hx4x2).1; have hx4x1 := (hs_Nn hx4x2).2
  have zx4 : G.1 x4 = none := hx4x1
  have nox4 : o ≠ x4 := fun e => by rw [← e, h0] at zx4; cases zx4
  refine hr_putR (q := 57) X dX2_init_54 rfl fw_q187_2 (fun _ => hnm) rfl rfl (by simp [hs_N1, hs_I1, hs_R1, h0, nox1, nox2, nox3, nox4]) ?_
  have f1 : (hs_R (hs_N (hs_R (hs_N (hs_R (hs_N (hs_R (hs_N (hs_I (hs_I (hs_I (hs_I G o 1 (nI 1)) o 2 (nI 5)) o 6 (nI 1)) o 10 (-1)) x1 (6, 7)) o 11 (some x1)) x2 (1, 7)) o 12 (some x2)) x3 (1, 7)) o 13 (some x3)) x4 (1, 7)) o 14 (some x4)).1 o = some (0, 2) ∧ (hs_R (hs_N (hs_R (hs_N (hs_R (hs_N (hs_R (hs_N (hs_I (hs_I (hs_I (hs_I G o 1 (nI 1)) o 2 (nI 5)) o 6 (nI 1)) o 10 (-1)) x1 (6, 7)) o 11 (some x1)) x2 (1, 7)) o 12 (some x2)) x3 (1, 7)) o 13 (some x3)) x4 (1, 7)) o 14 (some x4)).1 x1 = some (6, 7) ∧ (hs_R (hs_N (hs_R (hs_N (hs_R (hs_N (hs_R (hs_N (hs_I (hs_I (hs_I (hs_I G o 1 (nI 1)) o 2 (nI 5)) o 6 (nI 1)) o 10 (-1)) x1 (6, 7)) o 11 (some x1)) x2 (1, 7)) o 12 (some x2)) x3 (1, 7)) o 13 (some x3)) x4 (1, 7)) o 14 (some x4)).1 x2 = some (1, 7) ∧ (hs_R (hs_N (hs_R (hs_N (hs_R (hs_N (hs_R (hs_N (hs_I (hs_I (hs_I (hs_I G o 1 (nI 1)) o 2 (nI 5)) o 6 (nI 1)) o 10 (-1)) x1 (6, 7)) o 11 (some x1)) x2 (1, 7)) o 12 (some x2)) x3 (1, 7)) o 13 (some x3)) x4 (1, 7)) o 14 (some x4)).1 x3 = some (1, 7) ∧ (hs_R (hs_N (hs_R (hs_N (hs_R (hs_N (hs_R (hs_N (hs_I (hs_I (hs_I (hs_I G o 1 (nI 1)) o 2 (nI 5)) o 6 (nI 1)) o 10 (-1)) x1 (6, 7)) o 11 (some x1)) x2 (1, 7)) o 12 (some x2)) x3 (1, 7)) o 13 (some x3)) x4 (1, 7)) o 14 (some x4)).1 x4 = some (1, 7) := by simp [hs_II, hs_IJ, hs_IR, hs_JI, hs_RI, hs_RJ, hs_RR, hs_I1, hs_R1, hs_N1, hs_NI, hs_NJ, hs_NR, hz, hzj, h0, nox1, nox2, nox3, nox4, (Ne.symm nox1), (Ne.symm nox2), (Ne.symm nox3), (Ne.symm nox4), nx2x1, nx3x1, nx3x2, nx4x1, nx4x2, nx4x3, (Ne.symm nx2x1), (Ne.symm nx3x1), (Ne.symm nx3x2), (Ne.symm nx4x1), (Ne.symm nx4x2), (Ne.symm nx4x3)]
  have f2 : (hs_R (hs_N (hs_R (hs_N (hs_R (hs_N (hs_R (hs_N (hs_I (hs_I (hs_I (hs_I G o 1 (nI 1)) o 2 (nI 5)) o 6 (nI 1)) o 10 (-1)) x1 (6, 7)) o 11 (some x1)) x2 (1, 7)) o 12 (some x2)) x3 (1, 7)) o 13 (some x3)) x4 (1, 7)) o 14 (some x4)).2.2.2 o 11 = some x1 ∧ (hs_R (hs_N (hs_R (hs_N (hs_R (hs_N (hs_R (hs_N (hs_I (hs_I (hs_I (hs_I G o 1 (nI 1)) o 2 (nI 5)) o 6 (nI 1)) o 10 (-1)) x1 (6, 7)) o 11 (some x1)) x2 (1, 7)) o 12 (some x2)) x3 (1, 7)) o 13 (some x3)) x4 (1, 7)) o 14 (some x4)).2.2.2 o 12 = some x2 ∧ (hs_R (hs_N (hs_R (hs_N (hs_R (hs_N (hs_R (hs_N (hs_I (hs_I (hs_I (hs_I G o 1 (nI 1)) o 2 (nI 5)) o 6 (nI 1)) o 10 (-1)) x1 (6, 7)) o 11 (some x1)) x2 (1, 7)) o 12 (some x2)) x3 (1, 7)) o 13 (some x3)) x4 (1, 7)) o 14 (some x4)).2.2.2 o 13 = some x3 ∧ (hs_R (hs_N (hs_R (hs_N (hs_R (hs_N (hs_R (hs_N (hs_I (hs_I (hs_I (hs_I G o 1 (nI 1)) o 2 (nI 5)) o 6 (nI 1)) o 10 (-1)) x1 (6, 7)) o 11 (some x1)) x2 (1, 7)) o 12 (some x2)) x3 (1, 7)) o 13 (some x3)) x4 (1, 7)) o 14 (some x4)).2.2.2 o 14 = some x4 := by simp [hs_II, hs_IJ, hs_IR, hs_JI, hs_RI, hs_RJ, hs_RR, hs_I1, hs_R1, hs_N1, hs_NI, hs_NJ, hs_NR, hz, hzj, h0, nox1, nox2, nox3, nox4, (Ne.symm nox1), (Ne.symm nox2), (Ne.symm nox3), (Ne.symm nox4), nx2x1, nx3x1, nx3x2, nx4x1, nx4x2, nx4x3, (Ne.symm nx2x1), (Ne.symm nx3x1), (Ne.symm nx3x2), (Ne.symm nx4x1), (Ne.symm nx4x2), (Ne.symm nx4x3)]
  have f3 : (hs_R (hs_N (hs_R (hs_N (hs_R (hs_N (hs_R (hs_N (hs_I (hs_I (hs_I (hs_I G o 1 (nI 1)) o 2 (nI 5)) o 6 (nI 1)) o 10 (-1)) x1 (6, 7)) o 11 (some x1)) x2 (1, 7)) o 12 (some x2)) x3 (1, 7)) o 13 (some x3)) x4 (1, 7)) o 14 (some x4)).2.1 o 0 = nI 0 ∧ (hs_R (hs_N (hs_R (hs_N (hs_R (hs_N (hs_R (hs_N (hs_I (hs_I (hs_I (hs_I G o 1 (nI 1)) o 2 (nI 5)) o 6 (nI 1)) o 10 (-1)) x1 (6, 7)) o 11 (some x1)) x2 (1, 7)) o 12 (some x2)) x3 (1, 7)) o 13 (some x3)) x4 (1, 7)) o 14 (some x4)).2.1 o 1 = nI 1 ∧ (hs_R (hs_N (hs_R (hs_N (hs_R (hs_N (hs_R (hs_N (hs_I (hs_I (hs_I (hs_I G o 1 (nI 1)) o 2 (nI 5)) o 6 (nI 1)) o 10 (-1)) x1 (6, 7)) o 11 (some x1)) x2 (1, 7)) o 12 (some x2)) x3 (1, 7)) o 13 (some x3)) x4 (1, 7)) o 14 (some x4)).2.1 o 2 = nI 5 ∧ (hs_R (hs_N (hs_R (hs_N (hs_R (hs_N (hs_R (hs_N (hs_I (hs_I (hs_I (hs_I G o 1 (nI 1)) o 2 (nI 5)) o 6 (nI 1)) o 10 (-1)) x1 (6, 7)) o 11 (some x1)) x2 (1, 7)) o 12 (some x2)) x3 (1, 7)) o 13 (some x3)) x4 (1, 7)) o 14 (some x4)).2.1 o 3 = nI 0 ∧ (hs_R (hs_N (hs_R (hs_N (hs_R (hs_N (hs_R (hs_N (hs_I (hs_I (hs_I (hs_I G o 1 (nI 1)) o 2 (nI 5)) o 6 (nI 1)) o 10 (-1)) x1 (6, 7)) o 11 (some x1)) x2 (1, 7)) o 12 (some x2)) x3 (1, 7)) o 13 (some x3)) x4 (1, 7)) o 14 (some x4)).2.1 o 4 = 0 ∧ (hs_R (hs_N (hs_R (hs_N (hs_R (hs_N (hs_R (hs_N (hs_I (hs_I (hs_I (hs_I G o 1 (nI 1)) o 2 (nI 5)) o 6 (nI 1)) o 10 (-1)) x1 (6, 7)) o 11 (some x1)) x2 (1, 7)) o 12 (some x2)) x3 (1, 7)) o 13 (some x3)) x4 (1, 7)) o 14 (some x4)).2.1 o 5 = 0 ∧ (hs_R (hs_N (hs_R (hs_N (hs_R (hs_N (hs_R (hs_N (hs_I (hs_I (hs_I (hs_I G o 1 (nI 1)) o 2 (nI 5)) o 6 (nI 1)) o 10 (-1)) x1 (6, 7)) o 11 (some x1)) x2 (1, 7)) o 12 (some x2)) x3 (1, 7)) o 13 (some x3)) x4 (1, 7)) o 14 (some x4)).2.1 o 6 = nI 1 ∧ (hs_R (hs_N (hs_R (hs_N (hs_R (hs_N (hs_R (hs_N (hs_I (hs_I (hs_I (hs_I G o 1 (nI 1)) o 2 (nI 5)) o 6 (nI 1)) o 10 (-1)) x1 (6, 7)) o 11 (some x1)) x2 (1, 7)) o 12 (some x2)) x3 (1, 7)) o 13 (some x3)) x4 (1, 7)) o 14 (some x4)).2.1 o 10 = -1 := by simp [hs_II, hs_IJ, hs_IR, hs_JI, hs_RI, hs_RJ, hs_RR, hs_I1, hs_R1, hs_N1, hs_NI, hs_NJ, hs_NR, hz, hzj, h0, nox1, nox2, nox3, nox4, (Ne.symm nox1), (Ne.symm nox2), (Ne.symm nox3), (Ne.symm nox4), nx2x1, nx3x1, nx3x2, nx4x1, nx4x2, nx4x3, (Ne.symm nx2x1), (Ne.symm nx3x1), (Ne.symm nx3x2), (Ne.symm nx4x1), (Ne.symm nx4x2), (Ne.symm nx4x3), nI]
  have f4 : (hs_R (hs_N (hs_R (hs_N (hs_R (hs_N (hs_R (hs_N (hs_I (hs_I (hs_I (hs_I G o 1 (nI 1)) o 2 (nI 5)) o 6 (nI 1)) o 10 (-1)) x1 (6, 7)) o 11 (some x1)) x2 (1, 7)) o 12 (some x2)) x3 (1, 7)) o 13 (some x3)) x4 (1, 7)) o 14 (some x4)).2.2.1 o 7 = 0 ∧ (hs_R (hs_N (hs_R (hs_N (hs_R (hs_N (hs_R (hs_N (hs_I (hs_I (hs_I (hs_I G o 1 (nI 1)) o 2 (nI 5)) o 6 (nI 1)) o 10 (-1)) x1 (6, 7)) o 11 (some x1)) x2 (1, 7)) o 12 (some x2)) x3 (1, 7)) o 13 (some x3)) x4 (1, 7)) o 14 (some x4)).2.2.1 o 8 = 0 := by simp [hs_II, hs_IJ, hs_IR, hs_JI, hs_RI, hs_RJ, hs_RR, hs_I1, hs_R1, hs_N1, hs_NI, hs_NJ, hs_NR, hz, hzj, h0, nox1, nox2, nox3, nox4, (Ne.symm nox1), (Ne.symm nox2), (Ne.symm nox3), (Ne.symm nox4), nx2x1, nx3x1, nx3x2, nx4x1, nx4x2, nx4x3, (Ne.symm nx2x1), (Ne.symm nx3x1), (Ne.symm nx3x2), (Ne.symm nx4x1), (Ne.symm nx4x2), (Ne.symm nx4x3)]
  have f5 : (hs_R (hs_N (hs_R (hs_N (hs_R (hs_N (hs_R (hs_N (hs_I (hs_I (hs_I (hs_I G o 1 (nI 1)) o 2 (nI 5)) o 6 (nI 1)) o 10 (-1)) x1 (6, 7)) o 11 (some x1)) x2 (1, 7)) o 12 (some x2)) x3 (1, 7)) o 13 (some x3)) x4 (1, 7)) o 14 (some x4)).2.1 o 9 = 0 := by simp [hs_II, hs_IJ, hs_IR, hs_JI, hs_RI, hs_RJ, hs_RR, hs_I1, hs_R1, hs_N1, hs_NI, hs_NJ, hs_NR, hz, hzj, h0, nox1, nox2, nox3, nox4, (Ne.symm nox1), (Ne.symm nox2), (Ne.symm nox3), (Ne.symm nox4), nx2x1, nx3x1, nx3x2, nx4x1, nx4x2, nx4x3, (Ne.symm nx2x1), (Ne.symm nx3x1), (Ne.symm nx3x2), (Ne.symm nx4x1), (Ne.symm nx4x2), (Ne.symm nx4x3)]
  have fr : hg_fr (fun a => a = o ∨ G.1 a = none) G (hs_R (hs_N (hs_R (hs_N (hs_R (hs_N (hs_R (hs_N (hs_I (hs_I (hs_I (hs_I G o 1 (nI 1)) o 2 (nI 5)) o 6 (nI 1)) o 10 (-1)) x1 (6, 7)) o 11 (some x1)) x2 (1, 7)) o 12 (some x2)) x3 (1, 7)) o 13 (some x3)) x4 (1, 7)) o 14 (some x4)) := (((((((((((((hg_fr.rf).I (Or.inl rfl)).I (Or.inl rfl)).I (Or.inl rfl)).I (Or.inl rfl)).N (Or.inr zx1)).R (Or.inl rfl)).N (Or.inr zx2)).R (Or.inl rfl)).N (Or.inr zx3)).R (Or.inl rfl)).N (Or.inr zx4)).R (Or.inl rfl))
  exact hr_vret X hr dX2_init_57 ⟨rfl, tn_mk o x1 x2 x3 x4, rfl, ⟨f1, f2, f3, ⟨f4.1.trans (congrArg lN (sp_pk_0 36)).symm, f4.2.trans (congrArg lN (sp_pk_0 36)).symm⟩, ⟨0, by decide, f5, fun p hp => absurd hp (Nat.not_lt_zero p)⟩, fun p hp => absurd hp (Nat.not_lt_zero p), fun p hp => absurd hp (Nat.not_lt_zero p)⟩, tn_mk_D (Ne.symm nox1) ⟨Ne.symm nox2, nx2x1⟩ ⟨Ne.symm nox3, nx3x1, nx3x2⟩ ⟨Ne.symm nox4, nx4x1, nx4x2, nx4x3⟩, tn_mk_z (P := fun x => G.1 x = none) zx1 zx2 zx3 zx4, fr⟩

