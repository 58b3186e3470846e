/-! rows: Bytes, Shorts, Ints, Longs (sorts 0 to 3) -/
def rr_k (s : Nat) : Nat := if s = 0 then 3 else if s = 1 then 4 else if s = 2 then 1 else 2
def rr_nar (s : Nat) (w : Int32) : Int32 := if s = 0 then w.toInt8.toInt32 else if s = 1 then w.toInt16.toInt32 else w
/-- the row x of sort s, n long, its elements at y -/
def rr_R (G : hg_G) (x y s n : Nat) : Prop := s ≤ 3 ∧ n ≤ 160 ∧ G.1 x = some (0, 8 + s) ∧ G.2.2.2 x 0 = some y ∧ G.1 y = some (rr_k s, n)
def rr_el (G : hg_G) (y s j : Nat) : Int64 := if s = 3 then G.2.2.1 y j else (G.2.1 y j).toInt64
def rr_put (G : hg_G) (y s j : Nat) (v : Int64) : hg_G := if s = 3 then hs_J G y j v else hs_I G y j (rr_nar s v.toInt32)
theorem rr_n8 (w : Int32) : w.toInt8.toInt32.toInt8.toInt32 = w.toInt8.toInt32 := by rw [Int8.toInt8_toInt32]
theorem rr_n16 (w : Int32) : w.toInt16.toInt32.toInt16.toInt32 = w.toInt16.toInt32 := by rw [Int16.toInt16_toInt32]
theorem rr_hc : ∀ s, s ≤ 3 → ∃ r, hg_cl[8 + s]? = some r := fun s hs => match s, hs with | 0, _ => ⟨_, rfl⟩ | 1, _ => ⟨_, rfl⟩ | 2, _ => ⟨_, rfl⟩ | 3, _ => ⟨_, rfl⟩ | (s + 4), h => absurd h (by omega)
abbrev rk_X8_get : Room := { frames := 10, cells := 3, slots := 222, locals := 10260 }
abbrev rk_X8_put : Room := { frames := 10, cells := 3, slots := 222, locals := 10260 }
abbrev rk_X8_init : Room := { frames := 3, cells := 1, slots := 160, locals := 100 }
abbrev rk_X9_get : Room := { frames := 10, cells := 3, slots := 222, locals := 10260 }
abbrev rk_X9_put : Room := { frames := 10, cells := 3, slots := 222, locals := 10260 }
abbrev rk_X9_init : Room := { frames := 3, cells := 1, slots := 160, locals := 100 }
abbrev rk_X10_get : Room := { frames := 10, cells := 3, slots := 222, locals := 10260 }
abbrev rk_X10_put : Room := { frames := 10, cells := 3, slots := 222, locals := 10260 }
abbrev rk_X10_init : Room := { frames := 3, cells := 1, slots := 160, locals := 100 }
abbrev rk_X11_get : Room := { frames := 10, cells := 3, slots := 222, locals := 10260 }
abbrev rk_X11_put : Room := { frames := 10, cells := 3, slots := 222, locals := 10260 }
abbrev rk_X11_init : Room := { frames := 3, cells := 1, slots := 160, locals := 100 }
theorem pr_sort_0 {l : Launch} {D : hg_D} {lo : Nat} (htr : l.stackTraces = false) {G : hg_G} {x : Nat} :
    hg_M l D lo yX8_sort (ws_ yX8_sort cX8_sort 1 ((some FieldType.int))) rm_X8_sort [.ref x] G (hg_Pv G (.int (nI 0))) := by
  refine hg_M.of htr (by decide) [some (.ref x)] rfl (Nat.le_of_ble_eq_true rfl) ?_
  intro p e s m args below meth c X hr hnm htab
  have X : hg_X p l s m args meth c D lo "TaxOnLooks$Bytes" cX8_sort 1 := X
  refine hr_iconst (v := (nI 0)) (q := 1) X dX8_sort_0 rfl rfl ?_
  exact hr_iret X hr dX8_sort_1 ⟨rfl, rfl⟩

theorem pr_length_0 {l : Launch} {D : hg_D} {lo : Nat} (htr : l.stackTraces = false) {G : hg_G} {x y n : Nat} (hk : G.1 x = some (0, 8)) (hy : G.2.2.2 x 0 = some y) (ha : G.1 y = some (3, n)) (hn : n ≤ 160) :
    hg_M l D lo yX8_length (ws_ yX8_length cX8_length 1 ((some FieldType.int))) rm_X8_length [.ref x] G (hg_Pv G (.int (nI n))) := by
  refine hg_M.of htr (by decide) [some (.ref x)] rfl (Nat.le_of_ble_eq_true rfl) ?_
  intro p e s m args below meth c X hr hnm htab
  have X : hg_X p l s m args meth c D lo "TaxOnLooks$Bytes" cX8_length 1 := X
  refine hr_aload0 (q := 1) X dX8_length_0 rfl ?_
  refine hr_getR (v := y) (q := 4) X dX8_length_1 rfl fr_q416_8 rfl hk hy ?_
  refine hr_alen (t := 2) (v := nI n) (q := 5) X dX8_length_4 rfl ha (by decide) rfl ?_
  exact hr_iret X hr dX8_length_5 ⟨rfl, rfl⟩

theorem pr_held_0 {l : Launch} {D : hg_D} {lo : Nat} (htr : l.stackTraces = false) {G : hg_G} {x y n : Nat} (hk : G.1 x = some (0, 8)) (hy : G.2.2.2 x 0 = some y) (ha : G.1 y = some (3, n)) (hn : n ≤ 160) :
    hg_M l D lo yX8_held (ws_ yX8_held cX8_held 1 ((some (FieldType.object "java/lang/Object")))) rm_X8_held [.ref x] G (hg_Pv G (.ref y)) := by
  refine hg_M.of htr (by decide) [some (.ref x)] rfl (Nat.le_of_ble_eq_true rfl) ?_
  intro p e s m args below meth c X hr hnm htab
  have X : hg_X p l s m args meth c D lo "TaxOnLooks$Bytes" cX8_held 1 := X
  refine hr_aload0 (q := 1) X dX8_held_0 rfl ?_
  refine hr_getR (v := y) (q := 4) X dX8_held_1 rfl fr_q416_8 rfl hk hy ?_
  exact hr_aret X hr rfl dX8_held_4 ⟨rfl, rfl⟩

theorem pr_get_0 {l : Launch} {D : hg_D} {lo : Nat} (htr : l.stackTraces = false) {G : hg_G} {x y n : Nat} (hk : G.1 x = some (0, 8)) (hy : G.2.2.2 x 0 = some y) (ha : G.1 y = some (3, n)) (hn : n ≤ 160) {i : Int32} (hi : vp_in i n) :
    hg_M l D lo yX8_get (ws_ yX8_get cX8_get 2 ((some FieldType.long))) rm_X8_get [.ref x, .int i] G (hg_Pv G (.long ((G.2.1 y i.toNatClampNeg).toInt64))) := by
  refine hg_M.of htr (by decide) [some (.ref x), some (.int i)] rfl (Nat.le_of_ble_eq_true rfl) ?_
  intro p e s m args below meth c X hr hnm htab
  have X : hg_X p l s m args meth c D lo "TaxOnLooks$Bytes" cX8_get 2 := X
  refine hr_aload0 (q := 1) X dX8_get_0 rfl ?_
  refine hr_getR (v := y) (q := 4) X dX8_get_1 rfl fr_q416_8 rfl hk hy ?_
  refine hr_iload1 (q := 5) X dX8_get_4 rfl ?_
  refine hr_bald (t := 2) (v := (G.2.1 y i.toNatClampNeg)) (q := 6) X dX8_get_5 rfl ha (Or.inl rfl) hi rfl ?_
  refine hr_i2l (v := ((G.2.1 y i.toNatClampNeg).toInt64)) (q := 7) X dX8_get_6 rfl rfl ?_
  exact hr_lret X hr dX8_get_7 ⟨rfl, rfl⟩

theorem pr_getX_0 {l : Launch} {D : hg_D} {lo : Nat} (htr : l.stackTraces = false) {G : hg_G} {x y n : Nat} (hk : G.1 x = some (0, 8)) (hy : G.2.2.2 x 0 = some y) (ha : G.1 y = some (3, n)) (hn : n ≤ 160) {i : Int32} (hi : ¬ vp_in i n) :
    hg_M l D lo yX8_get (ws_ yX8_get cX8_get 2 ((some FieldType.long))) rk_X8_get [.ref x, .int i] G (fun r G' => G' = G ∧ ∃ q, r = .inr (q, "java/lang/ArrayIndexOutOfBoundsException")) := by
  refine hg_M.of htr (by decide) [some (.ref x), some (.int i)] rfl (Nat.le_of_ble_eq_true rfl) ?_
  intro p e s m args below meth c X hr hnm htab
  have X : hg_X p l s m args meth c D lo "TaxOnLooks$Bytes" cX8_get 2 := X
  refine hr_room (kr' := 3) (nr' := 222) (by decide) (by decide) ?_
  refine hr_aload0 (q := 1) X dX8_get_0 rfl ?_
  refine hr_getR (v := y) (q := 4) X dX8_get_1 rfl fr_q416_8 rfl hk hy ?_
  refine hr_iload1 (q := 5) X dX8_get_4 rfl ?_
  refine hr_baldX (kr := 0) (nr := 0) X dX8_get_5 ha hi (by omega) (by decide) (by decide) (fun q9 => ?_)
  exact hx_out X (fun z hz => absurd hz (htab z)) ⟨rfl, q9, rfl⟩

theorem pr_put_0 {l : Launch} {D : hg_D} {lo : Nat} (htr : l.stackTraces = false) {G : hg_G} {x y n : Nat} (hk : G.1 x = some (0, 8)) (hy : G.2.2.2 x 0 = some y) (ha : G.1 y = some (3, n)) (hn : n ≤ 160) {i : Int32} {v : Int64} (hi : vp_in i n) :
    hg_M l D lo yX8_put (ws_ yX8_put cX8_put 4 (none)) rm_X8_put [.ref x, .int i, .long v] G (fun r G' => r = .inl none ∧ G' = rr_put G y 0 i.toNatClampNeg v) := by
  refine hg_M.of htr (by decide) [some (.ref x), some (.int i), some (.long v), none] rfl (Nat.le_of_ble_eq_true rfl) ?_
  intro p e s m args below meth c X hr hnm htab
  have X : hg_X p l s m args meth c D lo "TaxOnLooks$Bytes" cX8_put 4 := X
  refine hr_aload0 (q := 1) X dX8_put_0 rfl ?_
  refine hr_getR (v := y) (q := 4) X dX8_put_1 rfl fr_q416_8 rfl hk hy ?_
  refine hr_iload1 (q := 5) X dX8_put_4 rfl ?_
  refine hr_lload2 (q := 6) X dX8_put_5 rfl ?_
  refine hr_l2i (v := v.toInt32) (q := 7) X dX8_put_6 rfl rfl ?_
  refine hr_i2b (v := v.toInt32.toInt8.toInt32) (q := 8) X dX8_put_7 rfl rfl ?_
  refine hr_bast (q := 9) X dX8_put_8 rfl ha hi ?_
  exact hr_vret X hr dX8_put_9 ⟨rfl, congrArg (hs_I G y _) (rr_n8 _)⟩

theorem pr_putX_0 {l : Launch} {D : hg_D} {lo : Nat} (htr : l.stackTraces = false) {G : hg_G} {x y n : Nat} (hk : G.1 x = some (0, 8)) (hy : G.2.2.2 x 0 = some y) (ha : G.1 y = some (3, n)) (hn : n ≤ 160) {i : Int32} {v : Int64} (hi : ¬ vp_in i n) :
    hg_M l D lo yX8_put (ws_ yX8_put cX8_put 4 (none)) rk_X8_put [.ref x, .int i, .long v] G (fun r G' => G' = G ∧ ∃ q, r = .inr (q, "java/lang/ArrayIndexOutOfBoundsException")) := by
  refine hg_M.of htr (by decide) [some (.ref x), some (.int i), some (.long v), none] rfl (Nat.le_of_ble_eq_true rfl) ?_
  intro p e s m args below meth c X hr hnm htab
  have X : hg_X p l s m args meth c D lo "TaxOnLooks$Bytes" cX8_put 4 := X
  refine hr_room (kr' := 3) (nr' := 222) (by decide) (by decide) ?_
  refine hr_aload0 (q := 1) X dX8_put_0 rfl ?_
  refine hr_getR (v := y) (q := 4) X dX8_put_1 rfl fr_q416_8 rfl hk hy ?_
  refine hr_iload1 (q := 5) X dX8_put_4 rfl ?_
  refine hr_lload2 (q := 6) X dX8_put_5 rfl ?_
  refine hr_l2i (v := v.toInt32) (q := 7) X dX8_put_6 rfl rfl ?_
  refine hr_i2b (v := v.toInt32.toInt8.toInt32) (q := 8) X dX8_put_7 rfl rfl ?_
  refine hr_bastX (kr := 0) (nr := 0) X dX8_put_8 ha hi (by omega) (by decide) (by decide) (fun q9 => ?_)
  exact hx_out X (fun z hz => absurd hz (htab z)) ⟨rfl, q9, rfl⟩

theorem pr_sort_1 {l : Launch} {D : hg_D} {lo : Nat} (htr : l.stackTraces = false) {G : hg_G} {x : Nat} :
    hg_M l D lo yX9_sort (ws_ yX9_sort cX9_sort 1 ((some FieldType.int))) rm_X9_sort [.ref x] G (hg_Pv G (.int (nI 1))) := by
  refine hg_M.of htr (by decide) [some (.ref x)] rfl (Nat.le_of_ble_eq_true rfl) ?_
  intro p e s m args below meth c X hr hnm htab
  have X : hg_X p l s m args meth c D lo "TaxOnLooks$Shorts" cX9_sort 1 := X
  refine hr_iconst (v := (nI 1)) (q := 1) X dX9_sort_0 rfl rfl ?_
  exact hr_iret X hr dX9_sort_1 ⟨rfl, rfl⟩

theorem pr_length_1 {l : Launch} {D : hg_D} {lo : Nat} (htr : l.stackTraces = false) {G : hg_G} {x y n : Nat} (hk : G.1 x = some (0, 9)) (hy : G.2.2.2 x 0 = some y) (ha : G.1 y = some (4, n)) (hn : n ≤ 160) :
    hg_M l D lo yX9_length (ws_ yX9_length cX9_length 1 ((some FieldType.int))) rm_X9_length [.ref x] G (hg_Pv G (.int (nI n))) := by
  refine hg_M.of htr (by decide) [some (.ref x)] rfl (Nat.le_of_ble_eq_true rfl) ?_
  intro p e s m args below meth c X hr hnm htab
  have X : hg_X p l s m args meth c D lo "TaxOnLooks$Shorts" cX9_length 1 := X
  refine hr_aload0 (q := 1) X dX9_length_0 rfl ?_
  refine hr_getR (v := y) (q := 4) X dX9_length_1 rfl fr_q426_9 rfl hk hy ?_
  refine hr_alen (t := 3) (v := nI n) (q := 5) X dX9_length_4 rfl ha (by decide) rfl ?_
  exact hr_iret X hr dX9_length_5 ⟨rfl, rfl⟩

theorem pr_held_1 {l : Launch} {D : hg_D} {lo : Nat} (htr : l.stackTraces = false) {G : hg_G} {x y n : Nat} (hk : G.1 x = some (0, 9)) (hy : G.2.2.2 x 0 = some y) (ha : G.1 y = some (4, n)) (hn : n ≤ 160) :
    hg_M l D lo yX9_held (ws_ yX9_held cX9_held 1 ((some (FieldType.object "java/lang/Object")))) rm_X9_held [.ref x] G (hg_Pv G (.ref y)) := by
  refine hg_M.of htr (by decide) [some (.ref x)] rfl (Nat.le_of_ble_eq_true rfl) ?_
  intro p e s m args below meth c X hr hnm htab
  have X : hg_X p l s m args meth c D lo "TaxOnLooks$Shorts" cX9_held 1 := X
  refine hr_aload0 (q := 1) X dX9_held_0 rfl ?_
  refine hr_getR (v := y) (q := 4) X dX9_held_1 rfl fr_q426_9 rfl hk hy ?_
  exact hr_aret X hr rfl dX9_held_4 ⟨rfl, rfl⟩

theorem pr_get_1 {l : Launch} {D : hg_D} {lo : Nat} (htr : l.stackTraces = false) {G : hg_G} {x y n : Nat} (hk : G.1 x = some (0, 9)) (hy : G.2.2.2 x 0 = some y) (ha : G.1 y = some (4, n)) (hn : n ≤ 160) {i : Int32} (hi : vp_in i n) :
    hg_M l D lo yX9_get (ws_ yX9_get cX9_get 2 ((some FieldType.long))) rm_X9_get [.ref x, .int i] G (hg_Pv G (.long ((G.2.1 y i.toNatClampNeg).toInt64))) := by
  refine hg_M.of htr (by decide) [some (.ref x), some (.int i)] rfl (Nat.le_of_ble_eq_true rfl) ?_
  intro p e s m args below meth c X hr hnm htab
  have X : hg_X p l s m args meth c D lo "TaxOnLooks$Shorts" cX9_get 2 := X
  refine hr_aload0 (q := 1) X dX9_get_0 rfl ?_
  refine hr_getR (v := y) (q := 4) X dX9_get_1 rfl fr_q426_9 rfl hk hy ?_
  refine hr_iload1 (q := 5) X dX9_get_4 rfl ?_
  refine hr_sald  (v := (G.2.1 y i.toNatClampNeg)) (q := 6) X dX9_get_5 rfl ha hi rfl ?_
  refine hr_i2l (v := ((G.2.1 y i.toNatClampNeg).toInt64)) (q := 7) X dX9_get_6 rfl rfl ?_
  exact hr_lret X hr dX9_get_7 ⟨rfl, rfl⟩

theorem pr_getX_1 {l : Launch} {D : hg_D} {lo : Nat} (htr : l.stackTraces = false) {G : hg_G} {x y n : Nat} (hk : G.1 x = some (0, 9)) (hy : G.2.2.2 x 0 = some y) (ha : G.1 y = some (4, n)) (hn : n ≤ 160) {i : Int32} (hi : ¬ vp_in i n) :
    hg_M l D lo yX9_get (ws_ yX9_get cX9_get 2 ((some FieldType.long))) rk_X9_get [.ref x, .int i] G (fun r G' => G' = G ∧ ∃ q, r = .inr (q, "java/lang/ArrayIndexOutOfBoundsException")) := by
  refine hg_M.of htr (by decide) [some (.ref x), some (.int i)] rfl (Nat.le_of_ble_eq_true rfl) ?_
  intro p e s m args below meth c X hr hnm htab
  have X : hg_X p l s m args meth c D lo "TaxOnLooks$Shorts" cX9_get 2 := X
  refine hr_room (kr' := 3) (nr' := 222) (by decide) (by decide) ?_
  refine hr_aload0 (q := 1) X dX9_get_0 rfl ?_
  refine hr_getR (v := y) (q := 4) X dX9_get_1 rfl fr_q426_9 rfl hk hy ?_
  refine hr_iload1 (q := 5) X dX9_get_4 rfl ?_
  refine hr_saldX (kr := 0) (nr := 0) X dX9_get_5 ha hi (by omega) (by decide) (by decide) (fun q9 => ?_)
  exact hx_out X (fun z hz => absurd hz (htab z)) ⟨rfl, q9, rfl⟩

theorem pr_put_1 {l : Launch} {D : hg_D} {lo : Nat} (htr : l.stackTraces = false) {G : hg_G} {x y n : Nat} (hk : G.1 x = some (0, 9)) (hy : G.2.2.2 x 0 = some y) (ha : G.1 y = some (4, n)) (hn : n ≤ 160) {i : Int32} {v : Int64} (hi : vp_in i n) :
    hg_M l D lo yX9_put (ws_ yX9_put cX9_put 4 (none)) rm_X9_put [.ref x, .int i, .long v] G (fun r G' => r = .inl none ∧ G' = rr_put G y 1 i.toNatClampNeg v) := by
  refine hg_M.of htr (by decide) [some (.ref x), some (.int i), some (.long v), none] rfl (Nat.le_of_ble_eq_true rfl) ?_
  intro p e s m args below meth c X hr hnm htab
  have X : hg_X p l s m args meth c D lo "TaxOnLooks$Shorts" cX9_put 4 := X
  refine hr_aload0 (q := 1) X dX9_put_0 rfl ?_
  refine hr_getR (v := y) (q := 4) X dX9_put_1 rfl fr_q426_9 rfl hk hy ?_
  refine hr_iload1 (q := 5) X dX9_put_4 rfl ?_
  refine hr_lload2 (q := 6) X dX9_put_5 rfl ?_
  refine hr_l2i (v := v.toInt32) (q := 7) X dX9_put_6 rfl rfl ?_
  refine hr_i2s (v := v.toInt32.toInt16.toInt32) (q := 8) X dX9_put_7 rfl rfl ?_
  refine hr_sast (q := 9) X dX9_put_8 rfl ha hi ?_
  exact hr_vret X hr dX9_put_9 ⟨rfl, congrArg (hs_I G y _) (rr_n16 _)⟩

theorem pr_putX_1 {l : Launch} {D : hg_D} {lo : Nat} (htr : l.stackTraces = false) {G : hg_G} {x y n : Nat} (hk : G.1 x = some (0, 9)) (hy : G.2.2.2 x 0 = some y) (ha : G.1 y = some (4, n)) (hn : n ≤ 160) {i : Int32} {v : Int64} (hi : ¬ vp_in i n) :
    hg_M l D lo yX9_put (ws_ yX9_put cX9_put 4 (none)) rk_X9_put [.ref x, .int i, .long v] G (fun r G' => G' = G ∧ ∃ q, r = .inr (q, "java/lang/ArrayIndexOutOfBoundsException")) := by
  refine hg_M.of htr (by decide) [some (.ref x), some (.int i), some (.long v), none] rfl (Nat.le_of_ble_eq_true rfl) ?_
  intro p e s m args below meth c X hr hnm htab
  have X : hg_X p l s m args meth c D lo "TaxOnLooks$Shorts" cX9_put 4 := X
  refine hr_room (kr' := 3) (nr' := 222) (by decide) (by decide) ?_
  refine hr_aload0 (q := 1) X dX9_put_0 rfl ?_
  refine hr_getR (v := y) (q := 4) X dX9_put_1 rfl fr_q426_9 rfl hk hy ?_
  refine hr_iload1 (q := 5) X dX9_put_4 rfl ?_
  refine hr_lload2 (q := 6) X dX9_put_5 rfl ?_
  refine hr_l2i (v := v.toInt32) (q := 7) X dX9_put_6 rfl rfl ?_
  refine hr_i2s (v := v.toInt32.toInt16.toInt32) (q := 8) X dX9_put_7 rfl rfl ?_
  refine hr_sastX (kr := 0) (nr := 0) X dX9_put_8 ha hi (by omega) (by decide) (by decide) (fun q9 => ?_)
  exact hx_out X (fun z hz => absurd hz (htab z)) ⟨rfl, q9, rfl⟩

theorem pr_sort_2 {l : Launch} {D : hg_D} {lo : Nat} (htr : l.stackTraces = false) {G : hg_G} {x : Nat} :
    hg_M l D lo yX10_sort (ws_ yX10_sort cX10_sort 1 ((some FieldType.int))) rm_X10_sort [.ref x] G (hg_Pv G (.int (nI 2))) := by
  refine hg_M.of htr (by decide) [some (.ref x)] rfl (Nat.le_of_ble_eq_true rfl) ?_
  intro p e s m args below meth c X hr hnm htab
  have X : hg_X p l s m args meth c D lo "TaxOnLooks$Ints" cX10_sort 1 := X
  refine hr_iconst (v := (nI 2)) (q := 1) X dX10_sort_0 rfl rfl ?_
  exact hr_iret X hr dX10_sort_1 ⟨rfl, rfl⟩

theorem pr_length_2 {l : Launch} {D : hg_D} {lo : Nat} (htr : l.stackTraces = false) {G : hg_G} {x y n : Nat} (hk : G.1 x = some (0, 10)) (hy : G.2.2.2 x 0 = some y) (ha : G.1 y = some (1, n)) (hn : n ≤ 160) :
    hg_M l D lo yX10_length (ws_ yX10_length cX10_length 1 ((some FieldType.int))) rm_X10_length [.ref x] G (hg_Pv G (.int (nI n))) := by
  refine hg_M.of htr (by decide) [some (.ref x)] rfl (Nat.le_of_ble_eq_true rfl) ?_
  intro p e s m args below meth c X hr hnm htab
  have X : hg_X p l s m args meth c D lo "TaxOnLooks$Ints" cX10_length 1 := X
  refine hr_aload0 (q := 1) X dX10_length_0 rfl ?_
  refine hr_getR (v := y) (q := 4) X dX10_length_1 rfl fr_q437_10 rfl hk hy ?_
  refine hr_alen (t := 0) (v := nI n) (q := 5) X dX10_length_4 rfl ha (by decide) rfl ?_
  exact hr_iret X hr dX10_length_5 ⟨rfl, rfl⟩

theorem pr_held_2 {l : Launch} {D : hg_D} {lo : Nat} (htr : l.stackTraces = false) {G : hg_G} {x y n : Nat} (hk : G.1 x = some (0, 10)) (hy : G.2.2.2 x 0 = some y) (ha : G.1 y = some (1, n)) (hn : n ≤ 160) :
    hg_M l D lo yX10_held (ws_ yX10_held cX10_held 1 ((some (FieldType.object "java/lang/Object")))) rm_X10_held [.ref x] G (hg_Pv G (.ref y)) := by
  refine hg_M.of htr (by decide) [some (.ref x)] rfl (Nat.le_of_ble_eq_true rfl) ?_
  intro p e s m args below meth c X hr hnm htab
  have X : hg_X p l s m args meth c D lo "TaxOnLooks$Ints" cX10_held 1 := X
  refine hr_aload0 (q := 1) X dX10_held_0 rfl ?_
  refine hr_getR (v := y) (q := 4) X dX10_held_1 rfl fr_q437_10 rfl hk hy ?_
  exact hr_aret X hr rfl dX10_held_4 ⟨rfl, rfl⟩

theorem pr_get_2 {l : Launch} {D : hg_D} {lo : Nat} (htr : l.stackTraces = false) {G : hg_G} {x y n : Nat} (hk : G.1 x = some (0, 10)) (hy : G.2.2.2 x 0 = some y) (ha : G.1 y = some (1, n)) (hn : n ≤ 160) {i : Int32} (hi : vp_in i n) :
    hg_M l D lo yX10_get (ws_ yX10_get cX10_get 2 ((some FieldType.long))) rm_X10_get [.ref x, .int i] G (hg_Pv G (.long ((G.2.1 y i.toNatClampNeg).toInt64))) := by
  refine hg_M.of htr (by decide) [some (.ref x), some (.int i)] rfl (Nat.le_of_ble_eq_true rfl) ?_
  intro p e s m args below meth c X hr hnm htab
  have X : hg_X p l s m args meth c D lo "TaxOnLooks$Ints" cX10_get 2 := X
  refine hr_aload0 (q := 1) X dX10_get_0 rfl ?_
  refine hr_getR (v := y) (q := 4) X dX10_get_1 rfl fr_q437_10 rfl hk hy ?_
  refine hr_iload1 (q := 5) X dX10_get_4 rfl ?_
  refine hr_iald (t := 0) (v := (G.2.1 y i.toNatClampNeg)) (q := 6) X dX10_get_5 rfl ha (Or.inl rfl) hi rfl ?_
  refine hr_i2l (v := ((G.2.1 y i.toNatClampNeg).toInt64)) (q := 7) X dX10_get_6 rfl rfl ?_
  exact hr_lret X hr dX10_get_7 ⟨rfl, rfl⟩

theorem pr_getX_2 {l : Launch} {D : hg_D} {lo : Nat} (htr : l.stackTraces = false) {G : hg_G} {x y n : Nat} (hk : G.1 x = some (0, 10)) (hy : G.2.2.2 x 0 = some y) (ha : G.1 y = some (1, n)) (hn : n ≤ 160) {i : Int32} (hi : ¬ vp_in i n) :
    hg_M l D lo yX10_get (ws_ yX10_get cX10_get 2 ((some FieldType.long))) rk_X10_get [.ref x, .int i] G (fun r G' => G' = G ∧ ∃ q, r = .inr (q, "java/lang/ArrayIndexOutOfBoundsException")) := by
  refine hg_M.of htr (by decide) [some (.ref x), some (.int i)] rfl (Nat.le_of_ble_eq_true rfl) ?_
  intro p e s m args below meth c X hr hnm htab
  have X : hg_X p l s m args meth c D lo "TaxOnLooks$Ints" cX10_get 2 := X
  refine hr_room (kr' := 3) (nr' := 222) (by decide) (by decide) ?_
  refine hr_aload0 (q := 1) X dX10_get_0 rfl ?_
  refine hr_getR (v := y) (q := 4) X dX10_get_1 rfl fr_q437_10 rfl hk hy ?_
  refine hr_iload1 (q := 5) X dX10_get_4 rfl ?_
  refine hr_ialdX (kr := 0) (nr := 0) X dX10_get_5 ha hi (by omega) (by decide) (by decide) (fun q9 => ?_)
  exact hx_out X (fun z hz => absurd hz (htab z)) ⟨rfl, q9, rfl⟩

theorem pr_put_2 {l : Launch} {D : hg_D} {lo : Nat} (htr : l.stackTraces = false) {G : hg_G} {x y n : Nat} (hk : G.1 x = some (0, 10)) (hy : G.2.2.2 x 0 = some y) (ha : G.1 y = some (1, n)) (hn : n ≤ 160) {i : Int32} {v : Int64} (hi : vp_in i n) :
    hg_M l D lo yX10_put (ws_ yX10_put cX10_put 4 (none)) rm_X10_put [.ref x, .int i, .long v] G (fun r G' => r = .inl none ∧ G' = rr_put G y 2 i.toNatClampNeg v) := by
  refine hg_M.of htr (by decide) [some (.ref x), some (.int i), some (.long v), none] rfl (Nat.le_of_ble_eq_true rfl) ?_
  intro p e s m args below meth c X hr hnm htab
  have X : hg_X p l s m args meth c D lo "TaxOnLooks$Ints" cX10_put 4 := X
  refine hr_aload0 (q := 1) X dX10_put_0 rfl ?_
  refine hr_getR (v := y) (q := 4) X dX10_put_1 rfl fr_q437_10 rfl hk hy ?_
  refine hr_iload1 (q := 5) X dX10_put_4 rfl ?_
  refine hr_lload2 (q := 6) X dX10_put_5 rfl ?_
  refine hr_l2i (v := v.toInt32) (q := 7) X dX10_put_6 rfl rfl ?_
  refine hr_iast (q := 8) X dX10_put_7 rfl ha hi ?_
  exact hr_vret X hr dX10_put_8 ⟨rfl, rfl⟩

theorem pr_putX_2 {l : Launch} {D : hg_D} {lo : Nat} (htr : l.stackTraces = false) {G : hg_G} {x y n : Nat} (hk : G.1 x = some (0, 10)) (hy : G.2.2.2 x 0 = some y) (ha : G.1 y = some (1, n)) (hn : n ≤ 160) {i : Int32} {v : Int64} (hi : ¬ vp_in i n) :
    hg_M l D lo yX10_put (ws_ yX10_put cX10_put 4 (none)) rk_X10_put [.ref x, .int i, .long v] G (fun r G' => G' = G ∧ ∃ q, r = .inr (q, "java/lang/ArrayIndexOutOfBoundsException")) := by
  refine hg_M.of htr (by decide) [some (.ref x), some (.int i), some (.long v), none] rfl (Nat.le_of_ble_eq_true rfl) ?_
  intro p e s m args below meth c X hr hnm htab
  have X : hg_X p l s m args meth c D lo "TaxOnLooks$Ints" cX10_put 4 := X
  refine hr_room (kr' := 3) (nr' := 222) (by decide) (by decide) ?_
  refine hr_aload0 (q := 1) X dX10_put_0 rfl ?_
  refine hr_getR (v := y) (q := 4) X dX10_put_1 rfl fr_q437_10 rfl hk hy ?_
  refine hr_iload1 (q := 5) X dX10_put_4 rfl ?_
  refine hr_lload2 (q := 6) X dX10_put_5 rfl ?_
  refine hr_l2i (v := v.toInt32) (q := 7) X dX10_put_6 rfl rfl ?_
  refine hr_iastX (kr := 0) (nr := 0) X dX10_put_7 ha hi (by omega) (by decide) (by decide) (fun q9 => ?_)
  exact hx_out X (fun z hz => absurd hz (htab z)) ⟨rfl, q9, rfl⟩

theorem pr_sort_3 {l : Launch} {D : hg_D} {lo : Nat} (htr : l.stackTraces = false) {G : hg_G} {x : Nat} :
    hg_M l D lo yX11_sort (ws_ yX11_sort cX11_sort 1 ((some FieldType.int))) rm_X11_sort [.ref x] G (hg_Pv G (.int (nI 3))) := by
  refine hg_M.of htr (by decide) [some (.ref x)] rfl (Nat.le_of_ble_eq_true rfl) ?_
  intro p e s m args below meth c X hr hnm htab
  have X : hg_X p l s m args meth c D lo "TaxOnLooks$Longs" cX11_sort 1 := X
  refine hr_iconst (v := (nI 3)) (q := 1) X dX11_sort_0 rfl rfl ?_
  exact hr_iret X hr dX11_sort_1 ⟨rfl, rfl⟩

theorem pr_length_3 {l : Launch} {D : hg_D} {lo : Nat} (htr : l.stackTraces = false) {G : hg_G} {x y n : Nat} (hk : G.1 x = some (0, 11)) (hy : G.2.2.2 x 0 = some y) (ha : G.1 y = some (2, n)) (hn : n ≤ 160) :
    hg_M l D lo yX11_length (ws_ yX11_length cX11_length 1 ((some FieldType.int))) rm_X11_length [.ref x] G (hg_Pv G (.int (nI n))) := by
  refine hg_M.of htr (by decide) [some (.ref x)] rfl (Nat.le_of_ble_eq_true rfl) ?_
  intro p e s m args below meth c X hr hnm htab
  have X : hg_X p l s m args meth c D lo "TaxOnLooks$Longs" cX11_length 1 := X
  refine hr_aload0 (q := 1) X dX11_length_0 rfl ?_
  refine hr_getR (v := y) (q := 4) X dX11_length_1 rfl fr_q447_11 rfl hk hy ?_
  refine hr_alen (t := 1) (v := nI n) (q := 5) X dX11_length_4 rfl ha (by decide) rfl ?_
  exact hr_iret X hr dX11_length_5 ⟨rfl, rfl⟩

theorem pr_held_3 {l : Launch} {D : hg_D} {lo : Nat} (htr : l.stackTraces = false) {G : hg_G} {x y n : Nat} (hk : G.1 x = some (0, 11)) (hy : G.2.2.2 x 0 = some y) (ha : G.1 y = some (2, n)) (hn : n ≤ 160) :
    hg_M l D lo yX11_held (ws_ yX11_held cX11_held 1 ((some (FieldType.object "java/lang/Object")))) rm_X11_held [.ref x] G (hg_Pv G (.ref y)) := by
  refine hg_M.of htr (by decide) [some (.ref x)] rfl (Nat.le_of_ble_eq_true rfl) ?_
  intro p e s m args below meth c X hr hnm htab
  have X : hg_X p l s m args meth c D lo "TaxOnLooks$Longs" cX11_held 1 := X
  refine hr_aload0 (q := 1) X dX11_held_0 rfl ?_
  refine hr_getR (v := y) (q := 4) X dX11_held_1 rfl fr_q447_11 rfl hk hy ?_
  exact hr_aret X hr rfl dX11_held_4 ⟨rfl, rfl⟩

theorem pr_get_3 {l : Launch} {D : hg_D} {lo : Nat} (htr : l.stackTraces = false) {G : hg_G} {x y n : Nat} (hk : G.1 x = some (0, 11)) (hy : G.2.2.2 x 0 = some y) (ha : G.1 y = some (2, n)) (hn : n ≤ 160) {i : Int32} (hi : vp_in i n) :
    hg_M l D lo yX11_get (ws_ yX11_get cX11_get 2 ((some FieldType.long))) rm_X11_get [.ref x, .int i] G (hg_Pv G (.long ((G.2.2.1 y i.toNatClampNeg)))) := by
  refine hg_M.of htr (by decide) [some (.ref x), some (.int i)] rfl (Nat.le_of_ble_eq_true rfl) ?_
  intro p e s m args below meth c X hr hnm htab
  have X : hg_X p l s m args meth c D lo "TaxOnLooks$Longs" cX11_get 2 := X
  refine hr_aload0 (q := 1) X dX11_get_0 rfl ?_
  refine hr_getR (v := y) (q := 4) X dX11_get_1 rfl fr_q447_11 rfl hk hy ?_
  refine hr_iload1 (q := 5) X dX11_get_4 rfl ?_
  refine hr_lald  (v := (G.2.2.1 y i.toNatClampNeg)) (q := 6) X dX11_get_5 rfl ha hi rfl ?_
  exact hr_lret X hr dX11_get_6 ⟨rfl, rfl⟩

theorem pr_getX_3 {l : Launch} {D : hg_D} {lo : Nat} (htr : l.stackTraces = false) {G : hg_G} {x y n : Nat} (hk : G.1 x = some (0, 11)) (hy : G.2.2.2 x 0 = some y) (ha : G.1 y = some (2, n)) (hn : n ≤ 160) {i : Int32} (hi : ¬ vp_in i n) :
    hg_M l D lo yX11_get (ws_ yX11_get cX11_get 2 ((some FieldType.long))) rk_X11_get [.ref x, .int i] G (fun r G' => G' = G ∧ ∃ q, r = .inr (q, "java/lang/ArrayIndexOutOfBoundsException")) := by
  refine hg_M.of htr (by decide) [some (.ref x), some (.int i)] rfl (Nat.le_of_ble_eq_true rfl) ?_
  intro p e s m args below meth c X hr hnm htab
  have X : hg_X p l s m args meth c D lo "TaxOnLooks$Longs" cX11_get 2 := X
  refine hr_room (kr' := 3) (nr' := 222) (by decide) (by decide) ?_
  refine hr_aload0 (q := 1) X dX11_get_0 rfl ?_
  refine hr_getR (v := y) (q := 4) X dX11_get_1 rfl fr_q447_11 rfl hk hy ?_
  refine hr_iload1 (q := 5) X dX11_get_4 rfl ?_
  refine hr_laldX (kr := 0) (nr := 0) X dX11_get_5 ha hi (by omega) (by decide) (by decide) (fun q9 => ?_)
  exact hx_out X (fun z hz => absurd hz (htab z)) ⟨rfl, q9, rfl⟩

theorem pr_put_3 {l : Launch} {D : hg_D} {lo : Nat} (htr : l.stackTraces = false) {G : hg_G} {x y n : Nat} (hk : G.1 x = some (0, 11)) (hy : G.2.2.2 x 0 = some y) (ha : G.1 y = some (2, n)) (hn : n ≤ 160) {i : Int32} {v : Int64} (hi : vp_in i n) :
    hg_M l D lo yX11_put (ws_ yX11_put cX11_put 4 (none)) rm_X11_put [.ref x, .int i, .long v] G (fun r G' => r = .inl none ∧ G' = rr_put G y 3 i.toNatClampNeg v) := by
  refine hg_M.of htr (by decide) [some (.ref x), some (.int i), some (.long v), none] rfl (Nat.le_of_ble_eq_true rfl) ?_
  intro p e s m args below meth c X hr hnm htab
  have X : hg_X p l s m args meth c D lo "TaxOnLooks$Longs" cX11_put 4 := X
  refine hr_aload0 (q := 1) X dX11_put_0 rfl ?_
  refine hr_getR (v := y) (q := 4) X dX11_put_1 rfl fr_q447_11 rfl hk hy ?_
  refine hr_iload1 (q := 5) X dX11_put_4 rfl ?_
  refine hr_lload2 (q := 6) X dX11_put_5 rfl ?_
  refine hr_last (q := 7) X dX11_put_6 rfl ha hi ?_
  exact hr_vret X hr dX11_put_7 ⟨rfl, rfl⟩

theorem pr_putX_3 {l : Launch} {D : hg_D} {lo : Nat} (htr : l.stackTraces = false) {G : hg_G} {x y n : Nat} (hk : G.1 x = some (0, 11)) (hy : G.2.2.2 x 0 = some y) (ha : G.1 y = some (2, n)) (hn : n ≤ 160) {i : Int32} {v : Int64} (hi : ¬ vp_in i n) :
    hg_M l D lo yX11_put (ws_ yX11_put cX11_put 4 (none)) rk_X11_put [.ref x, .int i, .long v] G (fun r G' => G' = G ∧ ∃ q, r = .inr (q, "java/lang/ArrayIndexOutOfBoundsException")) := by
  refine hg_M.of htr (by decide) [some (.ref x), some (.int i), some (.long v), none] rfl (Nat.le_of_ble_eq_true rfl) ?_
  intro p e s m args below meth c X hr hnm htab
  have X : hg_X p l s m args meth c D lo "TaxOnLooks$Longs" cX11_put 4 := X
  refine hr_room (kr' := 3) (nr' := 222) (by decide) (by decide) ?_
  refine hr_aload0 (q := 1) X dX11_put_0 rfl ?_
  refine hr_getR (v := y) (q := 4) X dX11_put_1 rfl fr_q447_11 rfl hk hy ?_
  refine hr_iload1 (q := 5) X dX11_put_4 rfl ?_
  refine hr_lload2 (q := 6) X dX11_put_5 rfl ?_
  refine hr_lastX (kr := 0) (nr := 0) X dX11_put_6 ha hi (by omega) (by decide) (by decide) (fun q9 => ?_)
  exact hx_out X (fun z hz => absurd hz (htab z)) ⟨rfl, q9, rfl⟩

theorem pr_init {l : Launch} {D : hg_D} {lo : Nat} (htr : l.stackTraces = false) {G : hg_G} {x : Nat} :
    hg_M l D lo yX7_init (ws_ yX7_init cX7_init 1 (none)) rm_X7_init [.ref x] G (fun r G' => r = .inl none ∧ G' = G) := by
  refine hg_M.of htr (by decide) [some (.ref x)] rfl (Nat.le_of_ble_eq_true rfl) ?_
  intro p e s m args below meth c X hr hnm htab
  have X : hg_X p l s m args meth c D lo "TaxOnLooks$Row" cX7_init 1 := X
  refine hr_aload0 (q := 1) X dX7_init_0 rfl ?_
  refine hr_objInit (q := 4) X dX7_init_1 rfl q415 (by decide) (by decide) ?_
  exact hr_vret X hr dX7_init_4 ⟨rfl, rfl⟩

theorem pr_init_0 {l : Launch} {D : hg_D} {lo : Nat} (htr : l.stackTraces = false) {G : hg_G} {x n : Nat} (hk : G.1 x = some (0, 8)) (hn : n ≤ 160) :
    hg_M l D lo yX8_init (ws_ yX8_init cX8_init 2 (none)) rk_X8_init [.ref x, .int (nI n)] G (fun r G' => r = .inl none ∧ ∃ y, G.1 y = none ∧ rr_R G' x y 0 n ∧ (∀ j, rr_el G' y 0 j = 0) ∧ hg_fr (fun a => a = x ∨ a = y) G G') := by
  refine hg_M.of htr (by decide) [some (.ref x), some (.int (nI n))] rfl (Nat.le_of_ble_eq_true rfl) ?_
  intro p e s m args below meth c X hr hnm htab
  have X : hg_X p l s m args meth c D lo "TaxOnLooks$Bytes" cX8_init 2 := X
  have hnm : meth.name = "<init>" := hnm
  refine hr_room (kr' := 0 + 1) (nr' := (160 - n) + n) (by decide) (show (160 - n) + n ≤ 160 by omega) ?_
  refine hr_aload0 (q := 1) X dX8_init_0 rfl ?_
  refine hr_call0 (q := 4) (hc_I (n := 0) (As := []) X dX8_init_1 rfl (pr_init X.tr) q412 cj_X7_init ⟨Nat.le_of_ble_eq_true rfl, Nat.le_of_ble_eq_true rfl⟩ rfl (Nat.le_of_ble_eq_true rfl)) rfl (fun qx E G' hp => by cases hp.1) (fun r G1 hp _ => ?_)
  obtain ⟨hv1, hG1⟩ := hp
  cases hv1
  subst hG1
  refine hr_aload0 (q := 5) X dX8_init_4 rfl ?_
  refine hr_iload1 (q := 6) X dX8_init_5 rfl ?_
  refine hr_newarr (kr := 0) (nr := 160 - n) (q := 8) (t := 2) (N := n) X dX8_init_6 rfl (Or.inr (Or.inr (Or.inl ⟨rfl, rfl⟩))) q355 rfl (by omega) (fun y hly hny => ?_)
  have hxy : x ≠ y := fun e => by rw [← e, hk] at hny; cases hny
  refine hr_putR (q := 11) X dX8_init_8 rfl fw_q416_8 (fun _ => hnm) rfl rfl (by rw [hs_N1, if_neg hxy]; exact hk) ?_
  exact hr_vret X hr dX8_init_11 ⟨rfl, y, hny, ⟨by decide, hn, by show (hs_R _ _ _ _).1 x = _; rw [hs_R1, hs_N1, if_neg hxy]; exact hk, by rw [hs_RR, if_pos rfl, if_pos rfl], by rw [hs_R1, hs_N1, if_pos rfl]; rfl⟩, fun j => by show ((hs_R _ _ _ _).2.1 y j).toInt64 = 0; rw [hs_RI, hs_NI, if_pos rfl]; rfl, (hg_fr.rf.N (Or.inr rfl)).R (Or.inl rfl)⟩

theorem pr_init_1 {l : Launch} {D : hg_D} {lo : Nat} (htr : l.stackTraces = false) {G : hg_G} {x n : Nat} (hk : G.1 x = some (0, 9)) (hn : n ≤ 160) :
    hg_M l D lo yX9_init (ws_ yX9_init cX9_init 2 (none)) rk_X9_init [.ref x, .int (nI n)] G (fun r G' => r = .inl none ∧ ∃ y, G.1 y = none ∧ rr_R G' x y 1 n ∧ (∀ j, rr_el G' y 1 j = 0) ∧ hg_fr (fun a => a = x ∨ a = y) G G') := by
  refine hg_M.of htr (by decide) [some (.ref x), some (.int (nI n))] rfl (Nat.le_of_ble_eq_true rfl) ?_
  intro p e s m args below meth c X hr hnm htab
  have X : hg_X p l s m args meth c D lo "TaxOnLooks$Shorts" cX9_init 2 := X
  have hnm : meth.name = "<init>" := hnm
  refine hr_room (kr' := 0 + 1) (nr' := (160 - n) + n) (by decide) (show (160 - n) + n ≤ 160 by omega) ?_
  refine hr_aload0 (q := 1) X dX9_init_0 rfl ?_
  refine hr_call0 (q := 4) (hc_I (n := 0) (As := []) X dX9_init_1 rfl (pr_init X.tr) q425 cj_X7_init ⟨Nat.le_of_ble_eq_true rfl, Nat.le_of_ble_eq_true rfl⟩ rfl (Nat.le_of_ble_eq_true rfl)) rfl (fun qx E G' hp => by cases hp.1) (fun r G1 hp _ => ?_)
  obtain ⟨hv1, hG1⟩ := hp
  cases hv1
  subst hG1
  refine hr_aload0 (q := 5) X dX9_init_4 rfl ?_
  refine hr_iload1 (q := 6) X dX9_init_5 rfl ?_
  refine hr_newarr (kr := 0) (nr := 160 - n) (q := 8) (t := 3) (N := n) X dX9_init_6 rfl (Or.inr (Or.inr (Or.inr ⟨rfl, rfl⟩))) q430 rfl (by omega) (fun y hly hny => ?_)
  have hxy : x ≠ y := fun e => by rw [← e, hk] at hny; cases hny
  refine hr_putR (q := 11) X dX9_init_8 rfl fw_q426_9 (fun _ => hnm) rfl rfl (by rw [hs_N1, if_neg hxy]; exact hk) ?_
  exact hr_vret X hr dX9_init_11 ⟨rfl, y, hny, ⟨by decide, hn, by show (hs_R _ _ _ _).1 x = _; rw [hs_R1, hs_N1, if_neg hxy]; exact hk, by rw [hs_RR, if_pos rfl, if_pos rfl], by rw [hs_R1, hs_N1, if_pos rfl]; rfl⟩, fun j => by show ((hs_R _ _ _ _).2.1 y j).toInt64 = 0; rw [hs_RI, hs_NI, if_pos rfl]; rfl, (hg_fr.rf.N (Or.inr rfl)).R (Or.inl rfl)⟩

theorem pr_init_2 {l : Launch} {D : hg_D} {lo : Nat} (htr : l.stackTraces = false) {G : hg_G} {x n : Nat} (hk : G.1 x = some (0, 10)) (hn : n ≤ 160) :
    hg_M l D lo yX10_init (ws_ yX10_init cX10_init 2 (none)) rk_X10_init [.ref x, .int (nI n)] G (fun r G' => r = .inl none ∧ ∃ y, G.1 y = none ∧ rr_R G' x y 2 n ∧ (∀ j, rr_el G' y 2 j = 0) ∧ hg_fr (fun a => a = x ∨ a = y) G G') := by
  refine hg_M.of htr (by decide) [some (.ref x), some (.int (nI n))] rfl (Nat.le_of_ble_eq_true rfl) ?_
  intro p e s m args below meth c X hr hnm htab
  have X : hg_X p l s m args meth c D lo "TaxOnLooks$Ints" cX10_init 2 := X
  have hnm : meth.name = "<init>" := hnm
  refine hr_room (kr' := 0 + 1) (nr' := (160 - n) + n) (by decide) (show (160 - n) + n ≤ 160 by omega) ?_
  refine hr_aload0 (q := 1) X dX10_init_0 rfl ?_
  refine hr_call0 (q := 4) (hc_I (n := 0) (As := []) X dX10_init_1 rfl (pr_init X.tr) q436 cj_X7_init ⟨Nat.le_of_ble_eq_true rfl, Nat.le_of_ble_eq_true rfl⟩ rfl (Nat.le_of_ble_eq_true rfl)) rfl (fun qx E G' hp => by cases hp.1) (fun r G1 hp _ => ?_)
  obtain ⟨hv1, hG1⟩ := hp
  cases hv1
  subst hG1
  refine hr_aload0 (q := 5) X dX10_init_4 rfl ?_
  refine hr_iload1 (q := 6) X dX10_init_5 rfl ?_
  refine hr_newarr (kr := 0) (nr := 160 - n) (q := 8) (t := 0) (N := n) X dX10_init_6 rfl (Or.inl ⟨rfl, rfl⟩) q143 rfl (by omega) (fun y hly hny => ?_)
  have hxy : x ≠ y := fun e => by rw [← e, hk] at hny; cases hny
  refine hr_putR (q := 11) X dX10_init_8 rfl fw_q437_10 (fun _ => hnm) rfl rfl (by rw [hs_N1, if_neg hxy]; exact hk) ?_
  exact hr_vret X hr dX10_init_11 ⟨rfl, y, hny, ⟨by decide, hn, by show (hs_R _ _ _ _).1 x = _; rw [hs_R1, hs_N1, if_neg hxy]; exact hk, by rw [hs_RR, if_pos rfl, if_pos rfl], by rw [hs_R1, hs_N1, if_pos rfl]; rfl⟩, fun j => by show ((hs_R _ _ _ _).2.1 y j).toInt64 = 0; rw [hs_RI, hs_NI, if_pos rfl]; rfl, (hg_fr.rf.N (Or.inr rfl)).R (Or.inl rfl)⟩

theorem pr_init_3 {l : Launch} {D : hg_D} {lo : Nat} (htr : l.stackTraces = false) {G : hg_G} {x n : Nat} (hk : G.1 x = some (0, 11)) (hn : n ≤ 160) :
    hg_M l D lo yX11_init (ws_ yX11_init cX11_init 2 (none)) rk_X11_init [.ref x, .int (nI n)] G (fun r G' => r = .inl none ∧ ∃ y, G.1 y = none ∧ rr_R G' x y 3 n ∧ (∀ j, rr_el G' y 3 j = 0) ∧ hg_fr (fun a => a = x ∨ a = y) G G') := by
  refine hg_M.of htr (by decide) [some (.ref x), some (.int (nI n))] rfl (Nat.le_of_ble_eq_true rfl) ?_
  intro p e s m args below meth c X hr hnm htab
  have X : hg_X p l s m args meth c D lo "TaxOnLooks$Longs" cX11_init 2 := X
  have hnm : meth.name = "<init>" := hnm
  refine hr_room (kr' := 0 + 1) (nr' := (160 - n) + n) (by decide) (show (160 - n) + n ≤ 160 by omega) ?_
  refine hr_aload0 (q := 1) X dX11_init_0 rfl ?_
  refine hr_call0 (q := 4) (hc_I (n := 0) (As := []) X dX11_init_1 rfl (pr_init X.tr) q446 cj_X7_init ⟨Nat.le_of_ble_eq_true rfl, Nat.le_of_ble_eq_true rfl⟩ rfl (Nat.le_of_ble_eq_true rfl)) rfl (fun qx E G' hp => by cases hp.1) (fun r G1 hp _ => ?_)
  obtain ⟨hv1, hG1⟩ := hp
  cases hv1
  subst hG1
  refine hr_aload0 (q := 5) X dX11_init_4 rfl ?_
  refine hr_iload1 (q := 6) X dX11_init_5 rfl ?_
  refine hr_newarr (kr := 0) (nr := 160 - n) (q := 8) (t := 1) (N := n) X dX11_init_6 rfl (Or.inr (Or.inl ⟨rfl, rfl⟩)) q451 rfl (by omega) (fun y hly hny => ?_)
  have hxy : x ≠ y := fun e => by rw [← e, hk] at hny; cases hny
  refine hr_putR (q := 11) X dX11_init_8 rfl fw_q447_11 (fun _ => hnm) rfl rfl (by rw [hs_N1, if_neg hxy]; exact hk) ?_
  exact hr_vret X hr dX11_init_11 ⟨rfl, y, hny, ⟨by decide, hn, by show (hs_R _ _ _ _).1 x = _; rw [hs_R1, hs_N1, if_neg hxy]; exact hk, by rw [hs_RR, if_pos rfl, if_pos rfl], by rw [hs_R1, hs_N1, if_pos rfl]; rfl⟩, fun j => by show (hs_R _ _ _ _).2.2.1 y j = 0; rw [hs_RJ, hs_NJ, if_pos rfl], (hg_fr.rf.N (Or.inr rfl)).R (Or.inl rfl)⟩

theorem hcR_sort {p : Program} {l : Launch} {e : Env} {R : Room} {s : State} {m : MethodId} {args : Array Value} {below : List Frame} {meth : Method} {c : Code} {D : hg_D} {lo : Nat} {C0 : hg_K} {nL : Nat} {G : hg_G} {own : String} {cc : ByteArray} {pc : Nat} {L : List (Option Value)} {rest : List Value} {index x y k n : Nat} (hR : rr_R G x y k n) (X : hg_X p l s m args meth c D lo own cc nL) (hdc : decode cc pc = .ok (.invokevirtual index, 3)) (hl : Cond.methodLink own index ⟨"TaxOnLooks$Row", "sort", "()I"⟩ ∈ lw_all) (hrm : 1 ≤ R.frames ∧ 20 ≤ R.locals) (hrest : (rest.map fun v => v.category).sum ≤ 8) :
    hg_Call p l e R s m args below meth c D lo C0 nL G pc L (.ref x :: rest) rest 0 0 (hg_Pv G (.int (nI k))) := by
  match k, hR.1 with
  | 0, _ => exact hc_U (n := 0) (As := []) (owner := "TaxOnLooks$Row") X hdc rfl (pr_sort_0 X.tr (x := x)) hl q509 q510 q511 q97 q512 (Or.inl (by decide)) ⟨by decide +kernel, by decide +kernel, by decide +kernel⟩ ⟨Nat.le_trans (by decide) hrm.1, Nat.le_trans (by decide) hrm.2⟩ rfl hrest hR.2.2.1 rfl rfl
  | 1, _ => exact hc_U (n := 0) (As := []) (owner := "TaxOnLooks$Row") X hdc rfl (pr_sort_1 X.tr (x := x)) hl q509 q519 q520 q98 q521 (Or.inl (by decide)) ⟨by decide +kernel, by decide +kernel, by decide +kernel⟩ ⟨Nat.le_trans (by decide) hrm.1, Nat.le_trans (by decide) hrm.2⟩ rfl hrest hR.2.2.1 rfl rfl
  | 2, _ => exact hc_U (n := 0) (As := []) (owner := "TaxOnLooks$Row") X hdc rfl (pr_sort_2 X.tr (x := x)) hl q509 q513 q514 q99 q515 (Or.inl (by decide)) ⟨by decide +kernel, by decide +kernel, by decide +kernel⟩ ⟨Nat.le_trans (by decide) hrm.1, Nat.le_trans (by decide) hrm.2⟩ rfl hrest hR.2.2.1 rfl rfl
  | 3, _ => exact hc_U (n := 0) (As := []) (owner := "TaxOnLooks$Row") X hdc rfl (pr_sort_3 X.tr (x := x)) hl q509 q516 q517 q100 q518 (Or.inl (by decide)) ⟨by decide +kernel, by decide +kernel, by decide +kernel⟩ ⟨Nat.le_trans (by decide) hrm.1, Nat.le_trans (by decide) hrm.2⟩ rfl hrest hR.2.2.1 rfl rfl
  | (k + 4), h => omega

theorem hcR_length {p : Program} {l : Launch} {e : Env} {R : Room} {s : State} {m : MethodId} {args : Array Value} {below : List Frame} {meth : Method} {c : Code} {D : hg_D} {lo : Nat} {C0 : hg_K} {nL : Nat} {G : hg_G} {own : String} {cc : ByteArray} {pc : Nat} {L : List (Option Value)} {rest : List Value} {index x y k n : Nat} (hR : rr_R G x y k n) (X : hg_X p l s m args meth c D lo own cc nL) (hdc : decode cc pc = .ok (.invokevirtual index, 3)) (hl : Cond.methodLink own index ⟨"TaxOnLooks$Row", "length", "()I"⟩ ∈ lw_all) (hrm : 1 ≤ R.frames ∧ 20 ≤ R.locals) (hrest : (rest.map fun v => v.category).sum ≤ 8) :
    hg_Call p l e R s m args below meth c D lo C0 nL G pc L (.ref x :: rest) rest 0 0 (hg_Pv G (.int (nI n))) := by
  match k, hR.1 with
  | 0, _ => exact hc_U (n := 0) (As := []) (owner := "TaxOnLooks$Row") X hdc rfl (pr_length_0 X.tr hR.2.2.1 hR.2.2.2.1 hR.2.2.2.2 hR.2.1) hl q858 q859 q860 q97 q861 (Or.inl (by decide)) ⟨by decide +kernel, by decide +kernel, by decide +kernel⟩ ⟨Nat.le_trans (by decide) hrm.1, Nat.le_trans (by decide) hrm.2⟩ rfl hrest hR.2.2.1 rfl rfl
  | 1, _ => exact hc_U (n := 0) (As := []) (owner := "TaxOnLooks$Row") X hdc rfl (pr_length_1 X.tr hR.2.2.1 hR.2.2.2.1 hR.2.2.2.2 hR.2.1) hl q858 q868 q869 q98 q870 (Or.inl (by decide)) ⟨by decide +kernel, by decide +kernel, by decide +kernel⟩ ⟨Nat.le_trans (by decide) hrm.1, Nat.le_trans (by decide) hrm.2⟩ rfl hrest hR.2.2.1 rfl rfl
  | 2, _ => exact hc_U (n := 0) (As := []) (owner := "TaxOnLooks$Row") X hdc rfl (pr_length_2 X.tr hR.2.2.1 hR.2.2.2.1 hR.2.2.2.2 hR.2.1) hl q858 q862 q863 q99 q864 (Or.inl (by decide)) ⟨by decide +kernel, by decide +kernel, by decide +kernel⟩ ⟨Nat.le_trans (by decide) hrm.1, Nat.le_trans (by decide) hrm.2⟩ rfl hrest hR.2.2.1 rfl rfl
  | 3, _ => exact hc_U (n := 0) (As := []) (owner := "TaxOnLooks$Row") X hdc rfl (pr_length_3 X.tr hR.2.2.1 hR.2.2.2.1 hR.2.2.2.2 hR.2.1) hl q858 q865 q866 q100 q867 (Or.inl (by decide)) ⟨by decide +kernel, by decide +kernel, by decide +kernel⟩ ⟨Nat.le_trans (by decide) hrm.1, Nat.le_trans (by decide) hrm.2⟩ rfl hrest hR.2.2.1 rfl rfl
  | (k + 4), h => omega

theorem hcR_held {p : Program} {l : Launch} {e : Env} {R : Room} {s : State} {m : MethodId} {args : Array Value} {below : List Frame} {meth : Method} {c : Code} {D : hg_D} {lo : Nat} {C0 : hg_K} {nL : Nat} {G : hg_G} {own : String} {cc : ByteArray} {pc : Nat} {L : List (Option Value)} {rest : List Value} {index x y k n : Nat} (hR : rr_R G x y k n) (X : hg_X p l s m args meth c D lo own cc nL) (hdc : decode cc pc = .ok (.invokevirtual index, 3)) (hl : Cond.methodLink own index ⟨"TaxOnLooks$Row", "held", "()Ljava/lang/Object;"⟩ ∈ lw_all) (hrm : 1 ≤ R.frames ∧ 20 ≤ R.locals) (hrest : (rest.map fun v => v.category).sum ≤ 8) :
    hg_Call p l e R s m args below meth c D lo C0 nL G pc L (.ref x :: rest) rest 0 0 (hg_Pv G (.ref y)) := by
  match k, hR.1 with
  | 0, _ => exact hc_U (n := 0) (As := []) (owner := "TaxOnLooks$Row") X hdc rfl (pr_held_0 X.tr hR.2.2.1 hR.2.2.2.1 hR.2.2.2.2 hR.2.1) hl q524 q525 q526 q97 q527 (Or.inl (by decide)) ⟨by decide +kernel, by decide +kernel, by decide +kernel⟩ ⟨Nat.le_trans (by decide) hrm.1, Nat.le_trans (by decide) hrm.2⟩ rfl hrest hR.2.2.1 rfl rfl
  | 1, _ => exact hc_U (n := 0) (As := []) (owner := "TaxOnLooks$Row") X hdc rfl (pr_held_1 X.tr hR.2.2.1 hR.2.2.2.1 hR.2.2.2.2 hR.2.1) hl q524 q534 q535 q98 q536 (Or.inl (by decide)) ⟨by decide +kernel, by decide +kernel, by decide +kernel⟩ ⟨Nat.le_trans (by decide) hrm.1, Nat.le_trans (by decide) hrm.2⟩ rfl hrest hR.2.2.1 rfl rfl
  | 2, _ => exact hc_U (n := 0) (As := []) (owner := "TaxOnLooks$Row") X hdc rfl (pr_held_2 X.tr hR.2.2.1 hR.2.2.2.1 hR.2.2.2.2 hR.2.1) hl q524 q528 q529 q99 q530 (Or.inl (by decide)) ⟨by decide +kernel, by decide +kernel, by decide +kernel⟩ ⟨Nat.le_trans (by decide) hrm.1, Nat.le_trans (by decide) hrm.2⟩ rfl hrest hR.2.2.1 rfl rfl
  | 3, _ => exact hc_U (n := 0) (As := []) (owner := "TaxOnLooks$Row") X hdc rfl (pr_held_3 X.tr hR.2.2.1 hR.2.2.2.1 hR.2.2.2.2 hR.2.1) hl q524 q531 q532 q100 q533 (Or.inl (by decide)) ⟨by decide +kernel, by decide +kernel, by decide +kernel⟩ ⟨Nat.le_trans (by decide) hrm.1, Nat.le_trans (by decide) hrm.2⟩ rfl hrest hR.2.2.1 rfl rfl
  | (k + 4), h => omega

theorem hcR_get {p : Program} {l : Launch} {e : Env} {R : Room} {s : State} {m : MethodId} {args : Array Value} {below : List Frame} {meth : Method} {c : Code} {D : hg_D} {lo : Nat} {C0 : hg_K} {nL : Nat} {G : hg_G} {own : String} {cc : ByteArray} {pc : Nat} {L : List (Option Value)} {rest : List Value} {index x y k n : Nat} (hR : rr_R G x y k n) {i : Int32} (hi : vp_in i n) (X : hg_X p l s m args meth c D lo own cc nL) (hdc : decode cc pc = .ok (.invokevirtual index, 3)) (hl : Cond.methodLink own index ⟨"TaxOnLooks$Row", "get", "(I)J"⟩ ∈ lw_all) (hrm : 11 ≤ R.frames ∧ 10281 ≤ R.locals) (hrest : (rest.map fun v => v.category).sum ≤ 8) :
    hg_Call p l e R s m args below meth c D lo C0 nL G pc L (.int i :: .ref x :: rest) rest 0 0 (hg_Pv G (.long (rr_el G y k i.toNatClampNeg))) := by
  match k, hR.1 with
  | 0, _ => exact hc_U (n := 1) (As := [.int i]) (owner := "TaxOnLooks$Row") X hdc rfl (pr_get_0 X.tr hR.2.2.1 hR.2.2.2.1 hR.2.2.2.2 hR.2.1 (i := i) hi) hl q546 q547 q548 q97 q549 (Or.inl (by decide)) ⟨by decide +kernel, by decide +kernel, by decide +kernel⟩ ⟨Nat.le_trans (by decide) hrm.1, Nat.le_trans (by decide) hrm.2⟩ rfl hrest hR.2.2.1 rfl rfl
  | 1, _ => exact hc_U (n := 1) (As := [.int i]) (owner := "TaxOnLooks$Row") X hdc rfl (pr_get_1 X.tr hR.2.2.1 hR.2.2.2.1 hR.2.2.2.2 hR.2.1 (i := i) hi) hl q546 q556 q557 q98 q558 (Or.inl (by decide)) ⟨by decide +kernel, by decide +kernel, by decide +kernel⟩ ⟨Nat.le_trans (by decide) hrm.1, Nat.le_trans (by decide) hrm.2⟩ rfl hrest hR.2.2.1 rfl rfl
  | 2, _ => exact hc_U (n := 1) (As := [.int i]) (owner := "TaxOnLooks$Row") X hdc rfl (pr_get_2 X.tr hR.2.2.1 hR.2.2.2.1 hR.2.2.2.2 hR.2.1 (i := i) hi) hl q546 q550 q551 q99 q552 (Or.inl (by decide)) ⟨by decide +kernel, by decide +kernel, by decide +kernel⟩ ⟨Nat.le_trans (by decide) hrm.1, Nat.le_trans (by decide) hrm.2⟩ rfl hrest hR.2.2.1 rfl rfl
  | 3, _ => exact hc_U (n := 1) (As := [.int i]) (owner := "TaxOnLooks$Row") X hdc rfl (pr_get_3 X.tr hR.2.2.1 hR.2.2.2.1 hR.2.2.2.2 hR.2.1 (i := i) hi) hl q546 q553 q554 q100 q555 (Or.inl (by decide)) ⟨by decide +kernel, by decide +kernel, by decide +kernel⟩ ⟨Nat.le_trans (by decide) hrm.1, Nat.le_trans (by decide) hrm.2⟩ rfl hrest hR.2.2.1 rfl rfl
  | (k + 4), h => omega

theorem hcR_getX {p : Program} {l : Launch} {e : Env} {R : Room} {s : State} {m : MethodId} {args : Array Value} {below : List Frame} {meth : Method} {c : Code} {D : hg_D} {lo : Nat} {C0 : hg_K} {nL : Nat} {G : hg_G} {own : String} {cc : ByteArray} {pc : Nat} {L : List (Option Value)} {rest : List Value} {index x y k n : Nat} (hR : rr_R G x y k n) {i : Int32} (hi : ¬ vp_in i n) (X : hg_X p l s m args meth c D lo own cc nL) (hdc : decode cc pc = .ok (.invokevirtual index, 3)) (hl : Cond.methodLink own index ⟨"TaxOnLooks$Row", "get", "(I)J"⟩ ∈ lw_all) (hrm : 11 ≤ R.frames ∧ 10281 ≤ R.locals) (hrest : (rest.map fun v => v.category).sum ≤ 8) :
    hg_Call p l e R s m args below meth c D lo C0 nL G pc L (.int i :: .ref x :: rest) rest 3 222 (fun r G' => G' = G ∧ ∃ q, r = .inr (q, "java/lang/ArrayIndexOutOfBoundsException")) := by
  match k, hR.1 with
  | 0, _ => exact hc_U (n := 1) (As := [.int i]) (owner := "TaxOnLooks$Row") X hdc rfl (pr_getX_0 X.tr hR.2.2.1 hR.2.2.2.1 hR.2.2.2.2 hR.2.1 (i := i) hi) hl q546 q547 q548 q97 q549 (Or.inl (by decide)) ⟨by decide +kernel, by decide +kernel, by decide +kernel⟩ ⟨Nat.le_trans (by decide) hrm.1, Nat.le_trans (by decide) hrm.2⟩ rfl hrest hR.2.2.1 rfl rfl
  | 1, _ => exact hc_U (n := 1) (As := [.int i]) (owner := "TaxOnLooks$Row") X hdc rfl (pr_getX_1 X.tr hR.2.2.1 hR.2.2.2.1 hR.2.2.2.2 hR.2.1 (i := i) hi) hl q546 q556 q557 q98 q558 (Or.inl (by decide)) ⟨by decide +kernel, by decide +kernel, by decide +kernel⟩ ⟨Nat.le_trans (by decide) hrm.1, Nat.le_trans (by decide) hrm.2⟩ rfl hrest hR.2.2.1 rfl rfl
  | 2, _ => exact hc_U (n := 1) (As := [.int i]) (owner := "TaxOnLooks$Row") X hdc rfl (pr_getX_2 X.tr hR.2.2.1 hR.2.2.2.1 hR.2.2.2.2 hR.2.1 (i := i) hi) hl q546 q550 q551 q99 q552 (Or.inl (by decide)) ⟨by decide +kernel, by decide +kernel, by decide +kernel⟩ ⟨Nat.le_trans (by decide) hrm.1, Nat.le_trans (by decide) hrm.2⟩ rfl hrest hR.2.2.1 rfl rfl
  | 3, _ => exact hc_U (n := 1) (As := [.int i]) (owner := "TaxOnLooks$Row") X hdc rfl (pr_getX_3 X.tr hR.2.2.1 hR.2.2.2.1 hR.2.2.2.2 hR.2.1 (i := i) hi) hl q546 q553 q554 q100 q555 (Or.inl (by decide)) ⟨by decide +kernel, by decide +kernel, by decide +kernel⟩ ⟨Nat.le_trans (by decide) hrm.1, Nat.le_trans (by decide) hrm.2⟩ rfl hrest hR.2.2.1 rfl rfl
  | (k + 4), h => omega

theorem hcR_put {p : Program} {l : Launch} {e : Env} {R : Room} {s : State} {m : MethodId} {args : Array Value} {below : List Frame} {meth : Method} {c : Code} {D : hg_D} {lo : Nat} {C0 : hg_K} {nL : Nat} {G : hg_G} {own : String} {cc : ByteArray} {pc : Nat} {L : List (Option Value)} {rest : List Value} {index x y k n : Nat} (hR : rr_R G x y k n) {i : Int32} {v : Int64} (hi : vp_in i n) (X : hg_X p l s m args meth c D lo own cc nL) (hdc : decode cc pc = .ok (.invokevirtual index, 3)) (hl : Cond.methodLink own index ⟨"TaxOnLooks$Row", "put", "(IJ)V"⟩ ∈ lw_all) (hrm : 11 ≤ R.frames ∧ 10283 ≤ R.locals) (hrest : (rest.map fun v => v.category).sum ≤ 8) :
    hg_Call p l e R s m args below meth c D lo C0 nL G pc L (.long v :: .int i :: .ref x :: rest) rest 0 0 (fun r G' => r = .inl none ∧ G' = rr_put G y k i.toNatClampNeg v) := by
  match k, hR.1 with
  | 0, _ => exact hc_U (n := 2) (As := [.int i, .long v]) (owner := "TaxOnLooks$Row") X hdc rfl (pr_put_0 X.tr hR.2.2.1 hR.2.2.2.1 hR.2.2.2.2 hR.2.1 (i := i) (v := v) hi) hl q484 q485 q486 q97 q487 (Or.inl (by decide)) ⟨by decide +kernel, by decide +kernel, by decide +kernel⟩ ⟨Nat.le_trans (by decide) hrm.1, Nat.le_trans (by decide) hrm.2⟩ rfl hrest hR.2.2.1 rfl rfl
  | 1, _ => exact hc_U (n := 2) (As := [.int i, .long v]) (owner := "TaxOnLooks$Row") X hdc rfl (pr_put_1 X.tr hR.2.2.1 hR.2.2.2.1 hR.2.2.2.2 hR.2.1 (i := i) (v := v) hi) hl q484 q494 q495 q98 q496 (Or.inl (by decide)) ⟨by decide +kernel, by decide +kernel, by decide +kernel⟩ ⟨Nat.le_trans (by decide) hrm.1, Nat.le_trans (by decide) hrm.2⟩ rfl hrest hR.2.2.1 rfl rfl
  | 2, _ => exact hc_U (n := 2) (As := [.int i, .long v]) (owner := "TaxOnLooks$Row") X hdc rfl (pr_put_2 X.tr hR.2.2.1 hR.2.2.2.1 hR.2.2.2.2 hR.2.1 (i := i) (v := v) hi) hl q484 q488 q489 q99 q490 (Or.inl (by decide)) ⟨by decide +kernel, by decide +kernel, by decide +kernel⟩ ⟨Nat.le_trans (by decide) hrm.1, Nat.le_trans (by decide) hrm.2⟩ rfl hrest hR.2.2.1 rfl rfl
  | 3, _ => exact hc_U (n := 2) (As := [.int i, .long v]) (owner := "TaxOnLooks$Row") X hdc rfl (pr_put_3 X.tr hR.2.2.1 hR.2.2.2.1 hR.2.2.2.2 hR.2.1 (i := i) (v := v) hi) hl q484 q491 q492 q100 q493 (Or.inl (by decide)) ⟨by decide +kernel, by decide +kernel, by decide +kernel⟩ ⟨Nat.le_trans (by decide) hrm.1, Nat.le_trans (by decide) hrm.2⟩ rfl hrest hR.2.2.1 rfl rfl
  | (k + 4), h => omega

theorem hcR_putX {p : Program} {l : Launch} {e : Env} {R : Room} {s : State} {m : MethodId} {args : Array Value} {below : List Frame} {meth : Method} {c : Code} {D : hg_D} {lo : Nat} {C0 : hg_K} {nL : Nat} {G : hg_G} {own : String} {cc : ByteArray} {pc : Nat} {L : List (Option Value)} {rest : List Value} {index x y k n : Nat} (hR : rr_R G x y k n) {i : Int32} {v : Int64} (hi : ¬ vp_in i n) (X : hg_X p l s m args meth c D lo own cc nL) (hdc : decode cc pc = .ok (.invokevirtual index, 3)) (hl : Cond.methodLink own index ⟨"TaxOnLooks$Row", "put", "(IJ)V"⟩ ∈ lw_all) (hrm : 11 ≤ R.frames ∧ 10283 ≤ R.locals) (hrest : (rest.map fun v => v.category).sum ≤ 8) :
    hg_Call p l e R s m args below meth c D lo C0 nL G pc L (.long v :: .int i :: .ref x :: rest) rest 3 222 (fun r G' => G' = G ∧ ∃ q, r = .inr (q, "java/lang/ArrayIndexOutOfBoundsException")) := by
  match k, hR.1 with
  | 0, _ => exact hc_U (n := 2) (As := [.int i, .long v]) (owner := "TaxOnLooks$Row") X hdc rfl (pr_putX_0 X.tr hR.2.2.1 hR.2.2.2.1 hR.2.2.2.2 hR.2.1 (i := i) (v := v) hi) hl q484 q485 q486 q97 q487 (Or.inl (by decide)) ⟨by decide +kernel, by decide +kernel, by decide +kernel⟩ ⟨Nat.le_trans (by decide) hrm.1, Nat.le_trans (by decide) hrm.2⟩ rfl hrest hR.2.2.1 rfl rfl
  | 1, _ => exact hc_U (n := 2) (As := [.int i, .long v]) (owner := "TaxOnLooks$Row") X hdc rfl (pr_putX_1 X.tr hR.2.2.1 hR.2.2.2.1 hR.2.2.2.2 hR.2.1 (i := i) (v := v) hi) hl q484 q494 q495 q98 q496 (Or.inl (by decide)) ⟨by decide +kernel, by decide +kernel, by decide +kernel⟩ ⟨Nat.le_trans (by decide) hrm.1, Nat.le_trans (by decide) hrm.2⟩ rfl hrest hR.2.2.1 rfl rfl
  | 2, _ => exact hc_U (n := 2) (As := [.int i, .long v]) (owner := "TaxOnLooks$Row") X hdc rfl (pr_putX_2 X.tr hR.2.2.1 hR.2.2.2.1 hR.2.2.2.2 hR.2.1 (i := i) (v := v) hi) hl q484 q488 q489 q99 q490 (Or.inl (by decide)) ⟨by decide +kernel, by decide +kernel, by decide +kernel⟩ ⟨Nat.le_trans (by decide) hrm.1, Nat.le_trans (by decide) hrm.2⟩ rfl hrest hR.2.2.1 rfl rfl
  | 3, _ => exact hc_U (n := 2) (As := [.int i, .long v]) (owner := "TaxOnLooks$Row") X hdc rfl (pr_putX_3 X.tr hR.2.2.1 hR.2.2.2.1 hR.2.2.2.2 hR.2.1 (i := i) (v := v) hi) hl q484 q491 q492 q100 q493 (Or.inl (by decide)) ⟨by decide +kernel, by decide +kernel, by decide +kernel⟩ ⟨Nat.le_trans (by decide) hrm.1, Nat.le_trans (by decide) hrm.2⟩ rfl hrest hR.2.2.1 rfl rfl
  | (k + 4), h => omega

theorem pr_asInt {l : Launch} {D : hg_D} {lo : Nat} (htr : l.stackTraces = false) {G : hg_G} {x y k n : Nat} (hR : rr_R G x y k n) {i : Int32} (hi : vp_in i n) :
    hg_M l D lo yX7_asInt (ws_ yX7_asInt cX7_asInt 2 ((some FieldType.int))) rm_X7_asInt [.ref x, .int i] G (hg_Pv G (.int (rr_el G y k i.toNatClampNeg).toInt32)) := by
  refine hg_M.of htr (by decide) [some (.ref x), some (.int i)] rfl (Nat.le_of_ble_eq_true rfl) ?_
  intro p e s m args below meth c X hr hnm htab
  have X : hg_X p l s m args meth c D lo "TaxOnLooks$Row" cX7_asInt 2 := X
  refine hr_aload0 (q := 1) X dX7_asInt_0 rfl ?_
  refine hr_iload1 (q := 2) X dX7_asInt_1 rfl ?_
  refine hr_callP (v := .long (rr_el G y k i.toNatClampNeg)) (q := 5) (hcR_get hR (i := i) hi X dX7_asInt_2 q879 ⟨Nat.le_of_ble_eq_true rfl, Nat.le_of_ble_eq_true rfl⟩ (Nat.le_of_ble_eq_true rfl)) rfl ?_
  refine hr_l2i (v := ((rr_el G y k i.toNatClampNeg).toInt32)) (q := 6) X dX7_asInt_5 rfl rfl ?_
  exact hr_iret X hr dX7_asInt_6 ⟨rfl, rfl⟩

theorem hcR_asInt {p : Program} {l : Launch} {e : Env} {R : Room} {s : State} {m : MethodId} {args : Array Value} {below : List Frame} {meth : Method} {c : Code} {D : hg_D} {lo : Nat} {C0 : hg_K} {nL : Nat} {G : hg_G} {own : String} {cc : ByteArray} {pc : Nat} {L : List (Option Value)} {rest : List Value} {index x y k n : Nat} (hR : rr_R G x y k n) {i : Int32} (hi : vp_in i n) (X : hg_X p l s m args meth c D lo own cc nL) (hdc : decode cc pc = .ok (.invokevirtual index, 3)) (hl : Cond.methodLink own index yX7_asInt ∈ lw_all) (hrm : 12 ≤ R.frames ∧ 10302 ≤ R.locals) (hrest : (rest.map fun v => v.category).sum ≤ 8) :
    hg_Call p l e R s m args below meth c D lo C0 nL G pc L (.int i :: .ref x :: rest) rest 0 0 (hg_Pv G (.int (rr_el G y k i.toNatClampNeg).toInt32)) := by
  match k, hR.1 with
  | 0, _ => exact hc_U (n := 1) (As := [.int i]) (owner := "TaxOnLooks$Row") X hdc rfl (pr_asInt X.tr hR hi) hl q873 q874 q872 q96 q878 (Or.inr ⟨_, _, _, q872, q878⟩) ⟨by decide +kernel, by decide +kernel, by decide +kernel⟩ ⟨Nat.le_trans (by decide) hrm.1, Nat.le_trans (by decide) hrm.2⟩ rfl hrest hR.2.2.1 rfl rfl
  | 1, _ => exact hc_U (n := 1) (As := [.int i]) (owner := "TaxOnLooks$Row") X hdc rfl (pr_asInt X.tr hR hi) hl q873 q877 q872 q96 q878 (Or.inr ⟨_, _, _, q872, q878⟩) ⟨by decide +kernel, by decide +kernel, by decide +kernel⟩ ⟨Nat.le_trans (by decide) hrm.1, Nat.le_trans (by decide) hrm.2⟩ rfl hrest hR.2.2.1 rfl rfl
  | 2, _ => exact hc_U (n := 1) (As := [.int i]) (owner := "TaxOnLooks$Row") X hdc rfl (pr_asInt X.tr hR hi) hl q873 q875 q872 q96 q878 (Or.inr ⟨_, _, _, q872, q878⟩) ⟨by decide +kernel, by decide +kernel, by decide +kernel⟩ ⟨Nat.le_trans (by decide) hrm.1, Nat.le_trans (by decide) hrm.2⟩ rfl hrest hR.2.2.1 rfl rfl
  | 3, _ => exact hc_U (n := 1) (As := [.int i]) (owner := "TaxOnLooks$Row") X hdc rfl (pr_asInt X.tr hR hi) hl q873 q876 q872 q96 q878 (Or.inr ⟨_, _, _, q872, q878⟩) ⟨by decide +kernel, by decide +kernel, by decide +kernel⟩ ⟨Nat.le_trans (by decide) hrm.1, Nat.le_trans (by decide) hrm.2⟩ rfl hrest hR.2.2.1 rfl rfl
  | (k + 4), h => omega

