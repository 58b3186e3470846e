/-! OWN LAYER: a heap's picture as total functions of address and place. G.1: kind (0, class) or (t + 1, length); G.2.1 ints, G.2.2.1 longs, G.2.2.2 references, by address and place (field or index) -/
abbrev hg_K : Type := Nat → Option (Nat × Nat)
abbrev hg_G : Type := hg_K × (Nat → Nat → Int32) × (Nat → Nat → Int64) × (Nat → Nat → Option Nat)
/-- what is chosen once: class numbers and slots, array classes, the texts' addresses -/
abbrev hg_D : Type := va_G × (Nat → ClassId) × (Nat → Nat)
def hg_cl : List vw_C := [(RX0, TX0, 9), (RX1, TX1, 2), (RX2, TX2, 15), (RX3, TX3, 2), (RX4, TX4, 1), (RX5, TX5, 44), (RX6, TX6, 7), (RX20, TX20, 7), (RX8, TX8, 1), (RX9, TX9, 1), (RX10, TX10, 1), (RX11, TX11, 1), (RX12, TX12, 3), (RX13, TX13, 3), (RX14, TX14, 3), (RX15, TX15, 3), (RX16, TX16, 3), (RX17, TX17, 3), (RX18, TX18, 3), (RX19, TX19, 4), (RJ5, TJ5, 2)]
def hg_fl : List (List Nat) := [[2, 2, 2, 2, 2, 2, 2, 0, 0], [2, 0], [0, 0, 0, 0, 0, 0, 0, 1, 1, 0, 0, 2, 2, 2, 2], [2, 2], [2], [0, 0, 0, 0, 0, 0, 0, 0, 2, 2, 2, 2, 2, 2, 2, 2, 2, 2, 2, 2, 2, 2, 2, 2, 2, 2, 2, 2, 0, 0, 0, 0, 0, 2, 2, 2, 0, 2, 2, 2, 0, 2, 0, 0], [2, 2, 2, 2, 2, 0, 0], [2, 2, 2, 2, 2, 0, 0], [2], [2], [2], [2], [0, 0, 0], [0, 0, 0], [0, 0, 0], [0, 0, 0], [0, 0, 0], [0, 0, 0], [0, 0, 0], [2, 2, 0, 0], [2, 0]]
/-- casts that come through -/
def hg_cs : List (String × String) := [("TaxOnLooks$Actress", "TaxOnLooks$Beauty"), ("TaxOnLooks$Actress", "TaxOnLooks$Person"), ("TaxOnLooks$Beauty", "TaxOnLooks$Person"), ("TaxOnLooks$Blind", "TaxOnLooks$Person"), ("TaxOnLooks$Bytes", "TaxOnLooks$Row"), ("TaxOnLooks$Child", "TaxOnLooks$Blind"), ("TaxOnLooks$Child", "TaxOnLooks$Person"), ("TaxOnLooks$Faulty", "TaxOnLooks$Faulty"), ("TaxOnLooks$Ints", "TaxOnLooks$Row"), ("TaxOnLooks$Longs", "TaxOnLooks$Row"), ("TaxOnLooks$Lover", "TaxOnLooks$Person"), ("TaxOnLooks$Refused", "TaxOnLooks$Refused"), ("TaxOnLooks$Shamed", "TaxOnLooks$Lover"), ("TaxOnLooks$Shamed", "TaxOnLooks$Person"), ("TaxOnLooks$Shorts", "TaxOnLooks$Row"), ("java/lang/ArrayIndexOutOfBoundsException", "java/lang/ArrayIndexOutOfBoundsException"), ("java/lang/ArrayIndexOutOfBoundsException", "java/lang/IndexOutOfBoundsException"), ("java/lang/ClassCastException", "java/lang/ClassCastException"), ("java/lang/NegativeArraySizeException", "java/lang/NegativeArraySizeException")]
/-- casts that fail -/
def hg_nc : List (String × String) := [("java/lang/ArrayIndexOutOfBoundsException", "TaxOnLooks$Refused"), ("java/lang/ClassCastException", "TaxOnLooks$Refused"), ("TaxOnLooks$Faulty", "TaxOnLooks$Refused"), ("TaxOnLooks$Refused", "java/lang/ArrayIndexOutOfBoundsException"), ("java/lang/ClassCastException", "java/lang/ArrayIndexOutOfBoundsException"), ("TaxOnLooks$Faulty", "java/lang/ArrayIndexOutOfBoundsException"), ("java/lang/ArrayIndexOutOfBoundsException", "java/lang/NegativeArraySizeException"), ("TaxOnLooks$Refused", "java/lang/NegativeArraySizeException"), ("java/lang/ClassCastException", "java/lang/NegativeArraySizeException"), ("TaxOnLooks$Faulty", "java/lang/NegativeArraySizeException"), ("java/lang/ArrayIndexOutOfBoundsException", "java/lang/ClassCastException"), ("TaxOnLooks$Refused", "java/lang/ClassCastException"), ("TaxOnLooks$Faulty", "java/lang/ClassCastException"), ("TaxOnLooks$Refused", "java/lang/IndexOutOfBoundsException"), ("java/lang/ClassCastException", "java/lang/IndexOutOfBoundsException"), ("TaxOnLooks$Faulty", "java/lang/IndexOutOfBoundsException"), ("TaxOnLooks$Bytes", "TaxOnLooks$Person"), ("TaxOnLooks$Shorts", "TaxOnLooks$Person"), ("TaxOnLooks$Ints", "TaxOnLooks$Person"), ("TaxOnLooks$Longs", "TaxOnLooks$Person"), ("java/lang/ArrayIndexOutOfBoundsException", "TaxOnLooks$Faulty"), ("TaxOnLooks$Refused", "TaxOnLooks$Faulty"), ("java/lang/ClassCastException", "TaxOnLooks$Faulty"), ("TaxOnLooks$Beauty", "TaxOnLooks$Row"), ("TaxOnLooks$Actress", "TaxOnLooks$Row"), ("TaxOnLooks$Blind", "TaxOnLooks$Row"), ("TaxOnLooks$Lover", "TaxOnLooks$Row"), ("TaxOnLooks$Child", "TaxOnLooks$Row"), ("TaxOnLooks$Shamed", "TaxOnLooks$Row"), ("TaxOnLooks$Person", "TaxOnLooks$Row"), ("TaxOnLooks$Bytes", "TaxOnLooks$Beauty"), ("TaxOnLooks$Shorts", "TaxOnLooks$Beauty"), ("TaxOnLooks$Ints", "TaxOnLooks$Beauty"), ("TaxOnLooks$Longs", "TaxOnLooks$Beauty"), ("TaxOnLooks$Blind", "TaxOnLooks$Beauty"), ("TaxOnLooks$Lover", "TaxOnLooks$Beauty"), ("TaxOnLooks$Child", "TaxOnLooks$Beauty"), ("TaxOnLooks$Shamed", "TaxOnLooks$Beauty"), ("TaxOnLooks$Person", "TaxOnLooks$Beauty"), ("TaxOnLooks$Bytes", "TaxOnLooks$Actress"), ("TaxOnLooks$Shorts", "TaxOnLooks$Actress"), ("TaxOnLooks$Ints", "TaxOnLooks$Actress"), ("TaxOnLooks$Longs", "TaxOnLooks$Actress"), ("TaxOnLooks$Beauty", "TaxOnLooks$Actress"), ("TaxOnLooks$Blind", "TaxOnLooks$Actress"), ("TaxOnLooks$Lover", "TaxOnLooks$Actress"), ("TaxOnLooks$Child", "TaxOnLooks$Actress"), ("TaxOnLooks$Shamed", "TaxOnLooks$Actress"), ("TaxOnLooks$Person", "TaxOnLooks$Actress"), ("TaxOnLooks$Bytes", "TaxOnLooks$Blind"), ("TaxOnLooks$Shorts", "TaxOnLooks$Blind"), ("TaxOnLooks$Ints", "TaxOnLooks$Blind"), ("TaxOnLooks$Longs", "TaxOnLooks$Blind"), ("TaxOnLooks$Beauty", "TaxOnLooks$Blind"), ("TaxOnLooks$Actress", "TaxOnLooks$Blind"), ("TaxOnLooks$Lover", "TaxOnLooks$Blind"), ("TaxOnLooks$Shamed", "TaxOnLooks$Blind"), ("TaxOnLooks$Person", "TaxOnLooks$Blind"), ("TaxOnLooks$Bytes", "TaxOnLooks$Lover"), ("TaxOnLooks$Shorts", "TaxOnLooks$Lover"), ("TaxOnLooks$Ints", "TaxOnLooks$Lover"), ("TaxOnLooks$Longs", "TaxOnLooks$Lover"), ("TaxOnLooks$Beauty", "TaxOnLooks$Lover"), ("TaxOnLooks$Actress", "TaxOnLooks$Lover"), ("TaxOnLooks$Blind", "TaxOnLooks$Lover"), ("TaxOnLooks$Child", "TaxOnLooks$Lover"), ("TaxOnLooks$Person", "TaxOnLooks$Lover"), ("TaxOnLooks$Bytes", "TaxOnLooks$Child"), ("TaxOnLooks$Shorts", "TaxOnLooks$Child"), ("TaxOnLooks$Ints", "TaxOnLooks$Child"), ("TaxOnLooks$Longs", "TaxOnLooks$Child"), ("TaxOnLooks$Beauty", "TaxOnLooks$Child"), ("TaxOnLooks$Actress", "TaxOnLooks$Child"), ("TaxOnLooks$Blind", "TaxOnLooks$Child"), ("TaxOnLooks$Lover", "TaxOnLooks$Child"), ("TaxOnLooks$Shamed", "TaxOnLooks$Child"), ("TaxOnLooks$Person", "TaxOnLooks$Child"), ("TaxOnLooks$Bytes", "TaxOnLooks$Shamed"), ("TaxOnLooks$Shorts", "TaxOnLooks$Shamed"), ("TaxOnLooks$Ints", "TaxOnLooks$Shamed"), ("TaxOnLooks$Longs", "TaxOnLooks$Shamed"), ("TaxOnLooks$Beauty", "TaxOnLooks$Shamed"), ("TaxOnLooks$Actress", "TaxOnLooks$Shamed"), ("TaxOnLooks$Blind", "TaxOnLooks$Shamed"), ("TaxOnLooks$Lover", "TaxOnLooks$Shamed"), ("TaxOnLooks$Child", "TaxOnLooks$Shamed"), ("TaxOnLooks$Person", "TaxOnLooks$Shamed")]
def hg_ds : List MethodName := [⟨"TaxOnLooks$Person", "paying", "(ILTaxOnLooks$Trace;)I"⟩, ⟨"TaxOnLooks$Person", "shows", "(I)I"⟩, ⟨"TaxOnLooks$Person", "walking", "(ILTaxOnLooks$Trace;)I"⟩, ⟨"TaxOnLooks$Row", "get", "(I)J"⟩, ⟨"TaxOnLooks$Row", "held", "()Ljava/lang/Object;"⟩, ⟨"TaxOnLooks$Row", "length", "()I"⟩, ⟨"TaxOnLooks$Row", "put", "(IJ)V"⟩, ⟨"TaxOnLooks$Row", "sort", "()I"⟩, ⟨"java/lang/IndexOutOfBoundsException", "<init>", "(Ljava/lang/String;)V"⟩, ⟨"java/lang/RuntimeException", "<init>", "(Ljava/lang/String;)V"⟩, ⟨"java/lang/Exception", "<init>", "(Ljava/lang/String;)V"⟩, ⟨"java/lang/Throwable", "<init>", "(Ljava/lang/String;)V"⟩]
/-- the reader's words: pool index, text, number -/
def hg_tx : List (Nat × String × Nat) := [(77, "person", 0), (102, "wall", 1), (113, "gap", 2), (117, "balcony", 3), (124, "sack", 4), (129, "mite", 5), (133, "reach", 6)]
def hg_ft (c k : Nat) : Nat := (hg_fl.getD c []).getD k 0
def hg_ty : Nat → FieldType := fun t => match t with
  | 0 => .int
  | 1 => .long
  | 2 => .byte
  | 3 => .short
  | 4 => .object "TaxOnLooks$Shelf"
  | 5 => .object "TaxOnLooks$Person"
  | 7 => .int
  | _ => .byte
/-- kinds that nobody writes: texts (objects of class 20), their bytes (t = 6), the script (t = 7) -/
def hg_ro (k n : Nat) : Bool := (k == 0 && n == 20) || (k == 7 || k == 8)
def hg_vF (G : hg_G) (c a k : Nat) : Value := match hg_ft c k with
  | 0 => .int (G.2.1 a k)
  | 1 => .long (G.2.2.1 a k)
  | _ => va_rf (G.2.2.2 a k)
def hg_vA (G : hg_G) (t a j : Nat) : Value := match t with
  | 1 => .long (G.2.2.1 a j)
  | 4 => va_rf (G.2.2.2 a j)
  | 5 => va_rf (G.2.2.2 a j)
  | _ => .int (G.2.1 a j)
def hg_atS (D : hg_D) (G : hg_G) (H : Heap) (a k n : Nat) : Prop := match k with
  | 0 => ∃ r : vw_C, hg_cl[n]? = some r ∧ t_OB a (D.1.1 n) r.2.2 (D.1.2 n) H (hg_vF G n a)
  | t + 1 => H[a]? = some (arrV (D.2.1 t) n (hg_vA G t a))
/-- what nobody writes was there at the start: of its cell less is known -/
def hg_atR (D : hg_D) (G : hg_G) (a k n : Nat) (cell : Cell) : Prop := (∀ c : ClassId, cell.vm ≠ .statics c) ∧ cell.vm ≠ .unknown ∧ match k with
  | 0 => cell.cls = D.1.1 n ∧ ∃ r : vw_C, hg_cl[n]? = some r ∧ ∀ j, j < r.2.2 → cell.slots[D.1.2 n j]? = some (hg_vF G n a j)
  | t + 1 => (∃ u : Nat, u < 16 ∧ hg_ty u = hg_ty t ∧ cell.cls = D.2.1 u) ∧ cell.slots.size = n ∧ ∀ j, j < n → cell.slots[j]? = some (hg_vA G t a j)
def hg_at (D : hg_D) (G : hg_G) (H : Heap) (a k n : Nat) : Prop := (hg_ro k n = false → hg_atS D G H a k n) ∧ (hg_ro k n = true → ∃ cell : Cell, H[a]? = some cell ∧ hg_atR D G a k n cell)
def hg_P0 (D : hg_D) (G : hg_G) (H : Heap) : Prop := ∀ (a k n : Nat), G.1 a = some (k, n) → hg_at D G H a k n
def hg_P (D : hg_D) (lo : Nat) (G : hg_G) (H : Heap) : Prop := hg_P0 D G H ∧ ∀ (a k n : Nat), G.1 a = some (k, n) → hg_ro k n = false → lo ≤ a
theorem hg_at.mk' {D : hg_D} {G : hg_G} {H : Heap} {a k n : Nat} (h : hg_atS D G H a k n) (hr : hg_ro k n = false) : hg_at D G H a k n := ⟨fun _ => h, fun e => by rw [hr] at e; cases e⟩
theorem hg_at.lt {D : hg_D} {G : hg_G} {H : Heap} {a k n : Nat} (h : hg_at D G H a k n) : a < H.size := by
  cases hr : hg_ro k n with
  | true =>
    obtain ⟨cell, h2, -⟩ := h.2 hr
    exact (Array.getElem?_eq_some_iff.mp h2).1
  | false =>
    have h := h.1 hr
    cases k with
    | zero =>
      obtain ⟨r, h1, cell, h2, -⟩ := h
      exact (Array.getElem?_eq_some_iff.mp h2).1
    | succ t => exact (Array.getElem?_eq_some_iff.mp h).1
theorem hg_at.kept {D : hg_D} {G G' : hg_G} {H H' : Heap} {b k n : Nat} (h : hg_at D G H b k n) (hH : H'[b]? = H[b]?) (h1 : ∀ j, G'.2.1 b j = G.2.1 b j) (h2 : ∀ j, G'.2.2.1 b j = G.2.2.1 b j) (h3 : ∀ j, G'.2.2.2 b j = G.2.2.2 b j) : hg_at D G' H' b k n := by
  have eF : ∀ c j, hg_vF G' c b j = hg_vF G c b j := fun c j => by unfold hg_vF; rw [h1, h2, h3]
  have eA : ∀ t, hg_vA G' t b = hg_vA G t b := fun t => by
    funext j
    unfold hg_vA
    rw [h1, h2, h3]
  refine ⟨fun hr => ?_, fun hr => ?_⟩
  · have h := h.1 hr
    cases k with
    | zero =>
      obtain ⟨r, hr, ho⟩ := h
      exact ⟨r, hr, (ho.kept hH).to (fun j _ => (eF n j).symm)⟩
    | succ t =>
      show H'[b]? = _
      rw [hH, eA]
      exact h
  · obtain ⟨cell, g1, g2, g3, g4⟩ := h.2 hr
    refine ⟨cell, hH.trans g1, g2, g3, ?_⟩
    cases k with
    | zero =>
      obtain ⟨g5, r, g6, g7⟩ := g4
      exact ⟨g5, r, g6, fun j hj => (g7 j hj).trans (congrArg some (eF n j).symm)⟩
    | succ t =>
      obtain ⟨g5, g6, g7⟩ := g4
      exact ⟨g5, g6, fun j hj => (g7 j hj).trans (by rw [eA])⟩
/-- of any object -/
theorem hg_at.g {D : hg_D} {G : hg_G} {H : Heap} {a n : Nat} (h : hg_at D G H a 0 n) : ∃ r : vw_C, hg_cl[n]? = some r ∧ ∃ cell : Cell, H[a]? = some cell ∧ cell.cls = D.1.1 n ∧ (cell.vm ≠ .unknown ∧ cell.vm.isStatics = false) ∧ ∀ j, j < r.2.2 → cell.slots[D.1.2 n j]? = some (hg_vF G n a j) := by
  cases hr : hg_ro 0 n with
  | true =>
    obtain ⟨cell, g1, g2, g3, g5, r, g6, g7⟩ := h.2 hr
    refine ⟨r, g6, cell, g1, g5, ⟨g3, ?_⟩, g7⟩
    cases e : cell.vm with
    | statics c => exact absurd e (g2 c)
    | _ => rfl
  | false =>
    obtain ⟨r, h1, cell, q1, q2, q3, q4⟩ := h.1 hr
    exact ⟨r, h1, cell, q1, q2, ⟨(by rw [q3]; exact fun z => (by cases z)), (by rw [q3]; rfl)⟩, q4⟩
theorem hg_P0.none {D : hg_D} {G : hg_G} {H : Heap} (h : hg_P0 D G H) {q : Nat} (hq : H.size ≤ q) : G.1 q = none := by
  cases e : G.1 q with
  | none => rfl
  | some x =>
    obtain ⟨k, n⟩ := x
    have := (h q k n e).lt
    omega
/-! stores -/
def hs_I (G : hg_G) (a k : Nat) (v : Int32) : hg_G := (G.1, (fun b j => if j = k then (if b = a then v else G.2.1 b j) else G.2.1 b j), G.2.2)
def hs_J (G : hg_G) (a k : Nat) (v : Int64) : hg_G := (G.1, G.2.1, (fun b j => if j = k then (if b = a then v else G.2.2.1 b j) else G.2.2.1 b j), G.2.2.2)
def hs_R (G : hg_G) (a k : Nat) (v : Option Nat) : hg_G := (G.1, G.2.1, G.2.2.1, (fun b j => if j = k then (if b = a then v else G.2.2.2 b j) else G.2.2.2 b j))
def hs_N (G : hg_G) (a : Nat) (kd : Nat × Nat) : hg_G := ((fun b => if b = a then some kd else G.1 b), (fun b j => if b = a then 0 else G.2.1 b j), (fun b j => if b = a then 0 else G.2.2.1 b j), (fun b j => if b = a then none else G.2.2.2 b j))
theorem hs_I1 (G : hg_G) (a k : Nat) (v : Int32) : (hs_I G a k v).1 = G.1 := rfl
theorem hs_J1 (G : hg_G) (a k : Nat) (v : Int64) : (hs_J G a k v).1 = G.1 := rfl
theorem hs_R1 (G : hg_G) (a k : Nat) (v : Option Nat) : (hs_R G a k v).1 = G.1 := rfl
theorem hs_II (G : hg_G) (a k : Nat) (v : Int32) (b j : Nat) : (hs_I G a k v).2.1 b j = if j = k then (if b = a then v else G.2.1 b j) else G.2.1 b j := rfl
theorem hs_IJ (G : hg_G) (a k : Nat) (v : Int32) : (hs_I G a k v).2.2.1 = G.2.2.1 := rfl
theorem hs_IR (G : hg_G) (a k : Nat) (v : Int32) : (hs_I G a k v).2.2.2 = G.2.2.2 := rfl
theorem hs_JI (G : hg_G) (a k : Nat) (v : Int64) : (hs_J G a k v).2.1 = G.2.1 := rfl
theorem hs_JJ (G : hg_G) (a k : Nat) (v : Int64) (b j : Nat) : (hs_J G a k v).2.2.1 b j = if j = k then (if b = a then v else G.2.2.1 b j) else G.2.2.1 b j := rfl
theorem hs_JR (G : hg_G) (a k : Nat) (v : Int64) : (hs_J G a k v).2.2.2 = G.2.2.2 := rfl
theorem hs_RI (G : hg_G) (a k : Nat) (v : Option Nat) : (hs_R G a k v).2.1 = G.2.1 := rfl
theorem hs_RJ (G : hg_G) (a k : Nat) (v : Option Nat) : (hs_R G a k v).2.2.1 = G.2.2.1 := rfl
theorem hs_RR (G : hg_G) (a k : Nat) (v : Option Nat) (b j : Nat) : (hs_R G a k v).2.2.2 b j = if j = k then (if b = a then v else G.2.2.2 b j) else G.2.2.2 b j := rfl
/-- a field written: the picture goes along -/
theorem hg_P0.putI {D : hg_D} {G : hg_G} {H H' : Heap} {a c k : Nat} {v : Int32} {r : vw_C} (h : hg_P0 D G H) (ha : G.1 a = some (0, c)) (hro : hg_ro 0 c = false) (hr : hg_cl[c]? = some r) (ht : hg_ft c k = 0) (ho : t_OB a (D.1.1 c) r.2.2 (D.1.2 c) H' (updV (hg_vF G c a) k (.int v))) (oq : ∀ q : Nat, q ≠ a → H'[q]? = H[q]?) : hg_P0 D (hs_I G a k v) H' := by
  intro b kk n hb
  have hb : G.1 b = some (kk, n) := hb
  by_cases e : b = a
  · subst e
    cases hb.symm.trans ha
    refine hg_at.mk' ⟨r, hr, ho.to (fun j _ => ?_)⟩ hro
    by_cases e : j = k
    · subst e
      simp [updV, hg_vF, ht, hs_I]
    · simp [updV, hg_vF, e, hs_I]
  · exact (h b kk n hb).kept (oq b e) (fun j => by simp [hs_I, e]) (fun j => rfl) (fun j => rfl)
theorem hg_P0.putJ {D : hg_D} {G : hg_G} {H H' : Heap} {a c k : Nat} {v : Int64} {r : vw_C} (h : hg_P0 D G H) (ha : G.1 a = some (0, c)) (hro : hg_ro 0 c = false) (hr : hg_cl[c]? = some r) (ht : hg_ft c k = 1) (ho : t_OB a (D.1.1 c) r.2.2 (D.1.2 c) H' (updV (hg_vF G c a) k (.long v))) (oq : ∀ q : Nat, q ≠ a → H'[q]? = H[q]?) : hg_P0 D (hs_J G a k v) H' := by
  intro b kk n hb
  have hb : G.1 b = some (kk, n) := hb
  by_cases e : b = a
  · subst e
    cases hb.symm.trans ha
    refine hg_at.mk' ⟨r, hr, ho.to (fun j _ => ?_)⟩ hro
    by_cases e : j = k
    · subst e
      simp [updV, hg_vF, ht, hs_J]
    · simp [updV, hg_vF, e, hs_J]
  · exact (h b kk n hb).kept (oq b e) (fun j => rfl) (fun j => by simp [hs_J, e]) (fun j => rfl)
theorem hg_P0.putR {D : hg_D} {G : hg_G} {H H' : Heap} {a c k : Nat} {v : Option Nat} {r : vw_C} (h : hg_P0 D G H) (ha : G.1 a = some (0, c)) (hro : hg_ro 0 c = false) (hr : hg_cl[c]? = some r) (ht : hg_ft c k = 2) (ho : t_OB a (D.1.1 c) r.2.2 (D.1.2 c) H' (updV (hg_vF G c a) k (va_rf v))) (oq : ∀ q : Nat, q ≠ a → H'[q]? = H[q]?) : hg_P0 D (hs_R G a k v) H' := by
  intro b kk n hb
  have hb : G.1 b = some (kk, n) := hb
  by_cases e : b = a
  · subst e
    cases hb.symm.trans ha
    refine hg_at.mk' ⟨r, hr, ho.to (fun j _ => ?_)⟩ hro
    by_cases e : j = k
    · subst e
      simp [updV, hg_vF, ht, hs_R]
    · simp [updV, hg_vF, e, hs_R]
  · exact (h b kk n hb).kept (oq b e) (fun j => rfl) (fun j => rfl) (fun j => by simp [hs_R, e])
/-- an array's place written -/
theorem hg_P0.stI {D : hg_D} {G : hg_G} {H H' : Heap} {a t n k : Nat} {v : Int32} (h : hg_P0 D G H) (ha : G.1 a = some (t + 1, n)) (ht : t = 0 ∨ t = 2 ∨ t = 3) (ho : H'[a]? = some (arrV (D.2.1 t) n (updV (hg_vA G t a) k (.int v)))) (oq : ∀ q : Nat, q ≠ a → H'[q]? = H[q]?) : hg_P0 D (hs_I G a k v) H' := by
  intro b kk m hb
  have hb : G.1 b = some (kk, m) := hb
  by_cases e : b = a
  · subst e
    cases hb.symm.trans ha
    refine hg_at.mk' ?_ (by rcases ht with rfl | rfl | rfl <;> rfl)
    show H'[b]? = _
    rw [ho]
    congr 2
    funext j
    by_cases e : j = k
    · subst e
      rcases ht with rfl | rfl | rfl <;> simp [updV, hg_vA, hs_I]
    · rcases ht with rfl | rfl | rfl <;> simp [updV, hg_vA, hs_I, e]
  · exact (h b kk m hb).kept (oq b e) (fun j => by simp [hs_I, e]) (fun j => rfl) (fun j => rfl)
theorem hg_P0.stJ {D : hg_D} {G : hg_G} {H H' : Heap} {a n k : Nat} {v : Int64} (h : hg_P0 D G H) (ha : G.1 a = some (2, n)) (ho : H'[a]? = some (arrV (D.2.1 1) n (updV (hg_vA G 1 a) k (.long v)))) (oq : ∀ q : Nat, q ≠ a → H'[q]? = H[q]?) : hg_P0 D (hs_J G a k v) H' := by
  intro b kk m hb
  have hb : G.1 b = some (kk, m) := hb
  by_cases e : b = a
  · subst e
    cases hb.symm.trans ha
    refine hg_at.mk' ?_ rfl
    show H'[b]? = _
    rw [ho]
    congr 2
    funext j
    by_cases e : j = k
    · subst e
      simp [updV, hg_vA, hs_J]
    · simp [updV, hg_vA, hs_J, e]
  · exact (h b kk m hb).kept (oq b e) (fun j => rfl) (fun j => by simp [hs_J, e]) (fun j => rfl)
theorem hg_P0.stR {D : hg_D} {G : hg_G} {H H' : Heap} {a t n k : Nat} {v : Option Nat} (h : hg_P0 D G H) (ha : G.1 a = some (t + 1, n)) (ht : t = 4 ∨ t = 5) (ho : H'[a]? = some (arrV (D.2.1 t) n (updV (hg_vA G t a) k (va_rf v)))) (oq : ∀ q : Nat, q ≠ a → H'[q]? = H[q]?) : hg_P0 D (hs_R G a k v) H' := by
  intro b kk m hb
  have hb : G.1 b = some (kk, m) := hb
  by_cases e : b = a
  · subst e
    cases hb.symm.trans ha
    refine hg_at.mk' ?_ (by rcases ht with rfl | rfl <;> rfl)
    show H'[b]? = _
    rw [ho]
    congr 2
    funext j
    by_cases e : j = k
    · subst e
      rcases ht with rfl | rfl <;> simp [updV, hg_vA, hs_R]
    · rcases ht with rfl | rfl <;> simp [updV, hg_vA, hs_R, e]
  · exact (h b kk m hb).kept (oq b e) (fun j => rfl) (fun j => rfl) (fun j => by simp [hs_R, e])
/-- a cell made -/
theorem hg_P0.made {D : hg_D} {G : hg_G} {H H' : Heap} {kd : Nat × Nat} (h : hg_P0 D G H) (hn : hg_at D (hs_N G H.size kd) H' H.size kd.1 kd.2) (oq : ∀ q : Nat, q < H.size → H'[q]? = H[q]?) : hg_P0 D (hs_N G H.size kd) H' := by
  intro b k n hb
  by_cases e : b = H.size
  · subst e
    have hb : (if H.size = H.size then some kd else G.1 H.size) = some (k, n) := hb
    rw [if_pos rfl] at hb
    cases hb
    exact hn
  · have hb : (if b = H.size then some kd else G.1 b) = some (k, n) := hb
    rw [if_neg e] at hb
    have h1 := h b k n hb
    exact h1.kept (oq b h1.lt) (fun j => by simp [hs_N, e]) (fun j => by simp [hs_N, e]) (fun j => by simp [hs_N, e])
theorem hg_P.new {D : hg_D} {lo : Nat} {G : hg_G} {H H' : Heap} {kd : Nat × Nat} (h : hg_P D lo G H) (hlo : lo ≤ H.size) (hn : hg_at D (hs_N G H.size kd) H' H.size kd.1 kd.2) (oq : ∀ q : Nat, q < H.size → H'[q]? = H[q]?) : hg_P D lo (hs_N G H.size kd) H' := by
  refine ⟨h.1.made hn oq, fun a k n ha hr => ?_⟩
  have ha : (if a = H.size then some kd else G.1 a) = some (k, n) := ha
  by_cases e : a = H.size
  · omega
  · rw [if_neg e] at ha
    exact h.2 a k n ha hr
/-! which cells may be written; how the kinds grow -/
def hg_A (lo : Nat) (C0 : hg_K) (sz : Nat) : Nat → Prop := fun q => lo ≤ q ∧ (C0 q ≠ none ∨ sz ≤ q)
def hg_E (C0 C : hg_K) (sz : Nat) : Prop := (∀ q v, C0 q = some v → C q = some v) ∧ ∀ q, C q ≠ none → C0 q ≠ none ∨ sz ≤ q
theorem hg_E.rf {C : hg_K} {sz : Nat} : hg_E C C sz := ⟨fun _ _ h => h, fun _ h => Or.inl h⟩
theorem hg_E.tr {C0 C1 C2 : hg_K} {s0 s1 : Nat} (h : hg_E C0 C1 s0) (h' : hg_E C1 C2 s1) (hs : s0 ≤ s1) : hg_E C0 C2 s0 :=
  ⟨fun q v e => h'.1 q v (h.1 q v e), fun q e => by
    rcases h'.2 q e with h1 | h1
    · exact h.2 q h1
    · exact Or.inr (Nat.le_trans hs h1)⟩
theorem hg_E.new {C0 : hg_K} {G : hg_G} {sz a : Nat} {kd : Nat × Nat} (h : hg_E C0 G.1 sz) (ha : sz ≤ a) (hn : G.1 a = none) : hg_E C0 (hs_N G a kd).1 sz := by
  refine ⟨fun q v e => ?_, fun q e => ?_⟩
  · have h1 := h.1 q v e
    show (if q = a then some kd else G.1 q) = some v
    by_cases hq : q = a
    · subst hq
      rw [hn] at h1
      cases h1
    · rw [if_neg hq]
      exact h1
  · by_cases hq : q = a
    · subst hq
      exact Or.inr ha
    · have e : (if q = a then some kd else G.1 q) ≠ none := e
      rw [if_neg hq] at e
      exact h.2 q e
theorem hg_A.up {lo : Nat} {C0 C : hg_K} {s0 s1 q : Nat} (hE : hg_E C0 C s0) (hs : s0 ≤ s1) (h : hg_A lo C s1 q) : hg_A lo C0 s0 q := by
  refine ⟨h.1, ?_⟩
  rcases h.2 with h1 | h1
  · exact hE.2 q h1
  · exact Or.inr (Nat.le_trans hs h1)
/-- a known cell that lies above the line may be written -/
theorem hg_A.of {lo : Nat} {C0 C : hg_K} {s0 a : Nat} {v : Nat × Nat} (hE : hg_E C0 C s0) (hlo : lo ≤ a) (h : C a = some v) : hg_A lo C0 s0 a := ⟨hlo, hE.2 a (by rw [h]; exact fun e => by cases e)⟩
/-! locals, place by place -/
def hg_L : Nat → List (Option Value) → List (Nat × Value)
  | _, [] => []
  | i, none :: l => hg_L (i + 1) l
  | i, some v :: l => (i, v) :: hg_L (i + 1) l
theorem hg_L_mem : ∀ (L : List (Option Value)) (j i : Nat) (v : Value), (i, v) ∈ hg_L j L ↔ j ≤ i ∧ L[i - j]? = some (some v)
  | [], j, i, v => by simp [hg_L]
  | none :: l, j, i, v => by
    rw [hg_L, hg_L_mem l (j + 1) i v]
    constructor
    · rintro ⟨h1, h2⟩
      refine ⟨by omega, ?_⟩
      rw [show i - j = (i - (j + 1)) + 1 by omega, List.getElem?_cons_succ]
      exact h2
    · rintro ⟨h1, h2⟩
      by_cases e : i = j
      · subst e
        rw [Nat.sub_self, List.getElem?_cons_zero] at h2
        cases h2
      · refine ⟨by omega, ?_⟩
        rw [show i - j = (i - (j + 1)) + 1 by omega, List.getElem?_cons_succ] at h2
        exact h2
  | some w :: l, j, i, v => by
    rw [hg_L, List.mem_cons, hg_L_mem l (j + 1) i v]
    constructor
    · rintro (h | ⟨h1, h2⟩)
      · cases h
        exact ⟨Nat.le_refl _, by rw [Nat.sub_self]; rfl⟩
      · refine ⟨by omega, ?_⟩
        rw [show i - j = (i - (j + 1)) + 1 by omega, List.getElem?_cons_succ]
        exact h2
    · rintro ⟨h1, h2⟩
      by_cases e : i = j
      · subst e
        rw [Nat.sub_self, List.getElem?_cons_zero] at h2
        cases h2
        exact Or.inl rfl
      · refine Or.inr ⟨by omega, ?_⟩
        rw [show i - j = (i - (j + 1)) + 1 by omega, List.getElem?_cons_succ] at h2
        exact h2
theorem hg_Lm {L : List (Option Value)} {i : Nat} {v : Value} : (i, v) ∈ hg_L 0 L ↔ L[i]? = some (some v) := by
  rw [hg_L_mem]
  simp
theorem hg_Lat {ls : Array Slot} {nL : Nat} {L : List (Option Value)} {i : Nat} {v : Value} (h : lv_has ls nL (hg_L 0 L)) (hi : L[i]? = some (some v)) : ls[i]? = some (.val v) := h.2.2 (i, v) (hg_Lm.mpr hi)
theorem hg_Lsub {ls : Array Slot} {nL : Nat} {l : List (Nat × Value)} {L : List (Option Value)} (h : lv_has ls nL l) (hi : ∀ (i : Nat) (v : Value), L[i]? = some (some v) → (i, v) ∈ l) : lv_has ls nL (hg_L 0 L) :=
  ⟨h.1, h.2.1, fun q hq => h.2.2 q (hi q.1 q.2 (hg_Lm.mp hq))⟩
/-- the place before holds no long -/
def hg_nl (o : Option Value) : Bool := match o with
  | some v => v.category != 2
  | none => true
def hg_pv (L : List (Option Value)) (i : Nat) : Bool := match i with
  | 0 => true
  | i + 1 => hg_nl (L.getD i none)
theorem hg_set1 {nL : Nat} {L : List (Option Value)} {i : Nat} {v : Value} (hp : hg_pv L i = true) {ls' : Array Slot} (h : lv_has ls' nL ((i, v) :: (hg_L 0 L).filter (fun q => !(q.1 == i) && !(q.1 + 1 == i && q.2.category == 2)))) : lv_has ls' nL (hg_L 0 (L.set i (some v))) := by
  refine hg_Lsub h fun j w hj => ?_
  by_cases e : j = i
  · subst e
    rw [List.getElem?_set] at hj
    split at hj
    · split at hj
      · cases hj
        exact List.mem_cons_self
      · cases hj
    · exact absurd rfl ‹_›
  · rw [List.getElem?_set_ne (Ne.symm e)] at hj
    refine List.mem_cons_of_mem _ (List.mem_filter.mpr ⟨hg_Lm.mpr hj, ?_⟩)
    cases i with
    | zero => simp [e]
    | succ i =>
      by_cases e2 : j = i
      · subst e2
        have h1 : hg_nl (L.getD j none) = true := hp
        rw [List.getD_eq_getElem?_getD, hj] at h1
        have h2 : (w.category != 2) = true := h1
        simp at h2
        simp [h2]
      · simp [e, e2]
theorem hg_set2 {nL : Nat} {L : List (Option Value)} {i : Nat} {v : Value} (hp : hg_pv L i = true) {ls' : Array Slot} (h : lv_has ls' nL ((i, v) :: (hg_L 0 L).filter (fun q => !(q.1 == i) && (!(q.1 == i + 1) && !(q.1 + 1 == i && q.2.category == 2))))) : lv_has ls' nL (hg_L 0 ((L.set i (some v)).set (i + 1) none)) := by
  refine hg_Lsub h fun j w hj => ?_
  by_cases e1 : j = i + 1
  · subst e1
    rw [List.getElem?_set] at hj
    split at hj
    · split at hj <;> cases hj
    · exact absurd rfl ‹_›
  · rw [List.getElem?_set_ne (Ne.symm e1)] at hj
    by_cases e : j = i
    · subst e
      rw [List.getElem?_set] at hj
      split at hj
      · split at hj
        · cases hj
          exact List.mem_cons_self
        · cases hj
      · exact absurd rfl ‹_›
    · rw [List.getElem?_set_ne (Ne.symm e)] at hj
      refine List.mem_cons_of_mem _ (List.mem_filter.mpr ⟨hg_Lm.mpr hj, ?_⟩)
      cases i with
      | zero => simp [e, e1]
      | succ i =>
        by_cases e2 : j = i
        · subst e2
          have h1 : hg_nl (L.getD j none) = true := hp
          rw [List.getD_eq_getElem?_getD, hj] at h1
          have h2 : (w.category != 2) = true := h1
          simp at h2
          simp [h2]
          omega
        · simp [e, e1, e2]
/-! what the tables say all along; what lies under the line and stays -/
def hg_Kn (D : hg_D) (U : State) : Prop :=
  (∀ (c : Nat) (q : vw_C), hg_cl[c]? = some q → u_Kn U q.1 q.2.1 q.2.2 (D.1.1 c) (D.1.2 c)) ∧ (∀ t : Nat, t < 16 → ArrOfT U (D.2.1 t) (hg_ty t) ∧ (t < 6 → va_RA U (D.2.1 t) (hg_ty t))) ∧
  (∀ q ∈ hg_cs, va_Nw (.castable q.1 q.2) U) ∧ (∀ q ∈ hg_nc, va_Nc q.1 q.2 U) ∧ (∀ x ∈ hg_ds, va_Nw (.declares x) U) ∧ va_AO "TaxOnLooks$Shelf" U ∧ va_AO "TaxOnLooks$Person" U ∧
  modulesRight_1 U = true ∧ ∀ q ∈ hg_tx, vk_R "TaxOnLooks$Reader" q.1 q.2.1 (D.2.2 q.2.2) U
theorem hg_mod {u U : State} (h : u.vm.Alike U.vm) (e : modulesRight_1 u = true) : modulesRight_1 U = true := by
  unfold modulesRight_1 at *
  rw [h.1]
  exact e
theorem hg_Kn.same {D : hg_D} {u U : State} (hv : U.vm = u.vm) (h : hg_Kn D u) : hg_Kn D U := by
  obtain ⟨h1, h2, h3, h4, h5, h6, h7, h8, h9⟩ := h
  have ha : u.vm.Alike U.vm := by rw [hv]; exact Vm.Alike.refl _
  exact ⟨fun c q hq => u_Kn_moved ha (h1 c q hq), fun t ht => ⟨arrOfT_moved ha (h2 t ht).1, fun h6 => ((h2 t ht).2 h6).moved ha⟩, fun q hq => va_Nw.same rfl hv.symm (h3 q hq), fun q hq => (h4 q hq).moved ha, fun x hx => va_Nw.same rfl hv.symm (h5 x hx), h6.moved ha, h7.moved ha, hg_mod ha h8, fun q hq => (h9 q hq).same hv⟩
theorem hg_Kn.warm {D : hg_D} {s U : State} (hW : s.WarmedH U.vm) (h : hg_Kn D s) : hg_Kn D U := by
  obtain ⟨h1, h2, h3, h4, h5, h6, h7, h8, h9⟩ := h
  have ha : s.vm.Alike U.vm := hW.alike
  exact ⟨fun c q hq => u_Kn_moved ha (h1 c q hq), fun t ht => ⟨arrOfT_moved ha (h2 t ht).1, fun h6 => ((h2 t ht).2 h6).moved ha⟩, fun q hq => va_Nw.warmC hW (h3 q hq), fun q hq => (h4 q hq).moved ha, fun x hx => va_Nw.warmD hW (h5 x hx), h6.moved ha, h7.moved ha, hg_mod ha h8, fun q hq => (h9 q hq).warm hW⟩
def hg_Old (lo : Nat) (U : State) (H : Heap) : Prop :=
  vx_Zq Bundle.tN "UNASSIGNED_STACK" Bundle.steD (fun q => lo ≤ q) U H ∧ vx_Zq Bundle.tN "SUPPRESSED_SENTINEL" Bundle.listD (fun q => lo ≤ q) U H ∧ va_Z "java/lang/String" "COMPACT_STRINGS" "Z" (.int 1) (fun q => lo ≤ q) U H ∧ va_Zq "jdk/internal/util/Preconditions" "SIOOBE_FORMATTER" "Ljava/util/function/BiFunction;" (fun q => lo ≤ q) U H
theorem hg_Old.moved {lo : Nat} {u U : State} {H : Heap} (ha : u.vm.Alike U.vm) (h : hg_Old lo u H) : hg_Old lo U H := ⟨h.1.moved ha, h.2.1.moved ha, h.2.2.1.moved ha, h.2.2.2.moved ha⟩
theorem hg_Old.kept {lo : Nat} {U : State} {H H1 : Heap} (h : hg_Old lo U H) (hq : ∀ a : Nat, a < H.size → a < lo → H1[a]? = H[a]?) : hg_Old lo U H1 :=
  have hq' : ∀ a : Nat, a < H.size → ¬ (fun q => lo ≤ q) a → H1[a]? = H[a]? := fun a h1 h2 => hq a h1 (Nat.not_le.mp h2)
  ⟨h.1.kept hq', h.2.1.kept hq', h.2.2.1.kept hq', h.2.2.2.kept hq'⟩
/-! a method's fixed things -/
def hg_X (p : Program) (l : Launch) (s : State) (m : MethodId) (args : Array Value) (meth : Method) (c : Code) (D : hg_D) (lo : Nat) (own : String) (cc : ByteArray) (nL : Nat) : Prop :=
  p.tables.exec = Jvm.exec ∧ c.code = cc ∧ c.maxLocals = nL ∧ s.vm.findClass own = some m.cls ∧ (∀ w ∈ lw_all, w.before args s = true) ∧ meth.locks = false ∧ hg_Kn D s ∧ hg_Old lo s s.heap ∧ lo ≤ s.heap.size ∧ l.stackTraces = false
section HGX
variable {p : Program} {l : Launch} {s : State} {m : MethodId} {args : Array Value} {meth : Method} {c : Code} {D : hg_D} {lo : Nat} {own : String} {cc : ByteArray} {nL : Nat}
theorem hg_X.x (X : hg_X p l s m args meth c D lo own cc nL) : p.tables.exec = Jvm.exec := X.1
theorem hg_X.b (X : hg_X p l s m args meth c D lo own cc nL) : c.code = cc := X.2.1
theorem hg_X.ml (X : hg_X p l s m args meth c D lo own cc nL) : c.maxLocals = nL := X.2.2.1
theorem hg_X.o (X : hg_X p l s m args meth c D lo own cc nL) : s.vm.findClass own = some m.cls := X.2.2.2.1
theorem hg_X.w (X : hg_X p l s m args meth c D lo own cc nL) : ∀ w ∈ lw_all, w.before args s = true := X.2.2.2.2.1
theorem hg_X.lk (X : hg_X p l s m args meth c D lo own cc nL) : meth.locks = false := X.2.2.2.2.2.1
theorem hg_X.kn (X : hg_X p l s m args meth c D lo own cc nL) : hg_Kn D s := X.2.2.2.2.2.2.1
theorem hg_X.old (X : hg_X p l s m args meth c D lo own cc nL) : hg_Old lo s s.heap := X.2.2.2.2.2.2.2.1
theorem hg_X.hlo (X : hg_X p l s m args meth c D lo own cc nL) : lo ≤ s.heap.size := X.2.2.2.2.2.2.2.2.1
theorem hg_X.tr (X : hg_X p l s m args meth c D lo own cc nL) : l.stackTraces = false := X.2.2.2.2.2.2.2.2.2
theorem hg_X.cls (X : hg_X p l s m args meth c D lo own cc nL) {n : Nat} {q : vw_C} (h : hg_cl[n]? = some q) : s.vm.findClass q.1 = some (D.1.1 n) := (X.kn.1 n q h).2.1
end HGX
/-- the machine at a place of a method, over every heap that holds the picture G, with kr cells and nr slots of the room left -/
def hg_W (p : Program) (l : Launch) (e : Env) (R : Room) (s : State) (m : MethodId) (args : Array Value) (below : List Frame) (meth : Method) (c : Code) (Q : State → Prop) (D : hg_D) (lo : Nat) (C0 : hg_K) (nL kr nr : Nat) (G : hg_G) (pc : Nat) (L : List (Option Value)) (st : List Value) : Prop :=
  ∀ (ls : Array Slot) (H : Heap) (locs : List Loc) (k n : Nat), lv_has ls nL (hg_L 0 L) → hg_P D lo G H → va_S (hg_A lo C0 s.heap.size) s.heap H locs → hg_E C0 G.1 s.heap.size → k + kr ≤ R.cells → n + nr ≤ R.slots → W p l e R s m args below meth c H locs k n Q (F0 m pc ls st)
theorem hr_st1 {p : Program} {l : Launch} {e : Env} {R : Room} {s : State} {m : MethodId} {args : Array Value} {below : List Frame} {meth : Method} {c : Code} {Q : State → Prop} {D : hg_D} {lo : Nat} {C0 : hg_K} {nL kr nr : Nat} {G : hg_G} {pc : Nat} {L : List (Option Value)} {st : List Value} {v v' : Value} (h : v = v') (k : hg_W p l e R s m args below meth c Q D lo C0 nL kr nr G pc L (v' :: st)) : hg_W p l e R s m args below meth c Q D lo C0 nL kr nr G pc L (v :: st) := by subst h; exact k
theorem hr_L {p : Program} {l : Launch} {e : Env} {R : Room} {s : State} {m : MethodId} {args : Array Value} {below : List Frame} {meth : Method} {c : Code} {Q : State → Prop} {D : hg_D} {lo : Nat} {C0 : hg_K} {nL kr nr : Nat} {G : hg_G} {pc : Nat} {L L' : List (Option Value)} {st : List Value} (h : L = L') (k : hg_W p l e R s m args below meth c Q D lo C0 nL kr nr G pc L' st) : hg_W p l e R s m args below meth c Q D lo C0 nL kr nr G pc L st := by subst h; exact k
/-- .. with q of class E thrown over it -/
def hg_XW (p : Program) (l : Launch) (e : Env) (R : Room) (s : State) (m : MethodId) (args : Array Value) (below : List Frame) (meth : Method) (c : Code) (Q : State → Prop) (D : hg_D) (lo : Nat) (C0 : hg_K) (nL kr nr : Nat) (G : hg_G) (pc : Nat) (L : List (Option Value)) (rest : List Value) (q : Nat) (E : String) : Prop :=
  ∀ (ls : Array Slot) (H : Heap) (locs : List Loc) (k n : Nat), lv_has ls nL (hg_L 0 L) → hg_P D lo G H → va_S (hg_A lo C0 s.heap.size) s.heap H locs → hg_E C0 G.1 s.heap.size → k + kr ≤ R.cells → n + nr ≤ R.slots →
    (∃ ce : Cell, H[q]? = some ce ∧ ce.vm = .none ∧ s.vm.findClass E = some ce.cls) → vx_W p l e R s m args below meth c H locs k n Q (F0 m pc ls rest) q
abbrev hg_R : Type := (Option Value) ⊕ (Nat × String)
abbrev hg_Po : Type := hg_R → hg_G → Prop
/-- a contract's start and ends -/
def hg_Pc (D : hg_D) (lo : Nat) (as : List Value) (G : hg_G) (sz : Nat) : Array Value → State → Prop := fun v U => v = as.toArray ∧ U.heap.size = sz ∧ hg_Kn D U ∧ hg_Old lo U U.heap ∧ hg_P D lo G U.heap
def hg_Qc (D : hg_D) (lo : Nat) (G : hg_G) (sz : Nat) (Post : hg_Po) : Array Value → State → Outcome → State → Prop := fun _ st o t => (∃ (r : Option Value) (G' : hg_G), o = .returned r ∧ Post (.inl r) G' ∧ hg_E G.1 G'.1 sz ∧ hg_P D lo G' t.heap) ∧ va_F (hg_A lo G.1 sz) st t
def hg_Xc (D : hg_D) (lo : Nat) (G : hg_G) (sz : Nat) (Post : hg_Po) : Addr → String → State → State → Prop := fun q E st t => (∃ G' : hg_G, Post (.inr (q, E)) G' ∧ hg_E G.1 G'.1 sz ∧ hg_P D lo G' t.heap) ∧ va_F (hg_A lo G.1 sz) st t
def hg_M (l : Launch) (D : hg_D) (lo : Nat) (y : MethodName) (ws : List Cond) (rm : Room) (as : List Value) (G : hg_G) (Post : hg_Po) : Prop :=
  ∀ sz : Nat, lo ≤ sz → vx_Met l y ws rm (hg_Pc D lo as G sz) (hg_Qc D lo G sz Post) (hg_Xc D lo G sz Post) rm.cells rm.slots (hg_A lo G.1 sz)
theorem hg_M.imp {l : Launch} {D : hg_D} {lo : Nat} {y : MethodName} {ws : List Cond} {rm : Room} {as : List Value} {G : hg_G} {Post Post' : hg_Po} (h : hg_M l D lo y ws rm as G Post) (hi : ∀ r G', Post r G' → Post' r G') : hg_M l D lo y ws rm as G Post' := by
  intro sz hsz
  refine MetFree.mono (h sz hsz) (fun _ _ z => z) (fun _ _ _ _ _ z => z) ?_
  intro a st o t _ hq
  rcases hq with ⟨⟨⟨r, G', h1, h2, h3⟩, h4⟩, h5⟩ | ⟨q, h0, E, ce, L, ⟨⟨G', h1, h2⟩, h3⟩, h4⟩
  · exact Or.inl ⟨⟨⟨r, G', h1, hi _ _ h2, h3⟩, h4⟩, h5⟩
  · exact Or.inr ⟨q, h0, E, ce, L, ⟨⟨G', hi _ _ h1, h2⟩, h3⟩, h4⟩
/-- what a body owes at its end -/
def hg_Q (below : List Frame) (D : hg_D) (lo : Nat) (args : Array Value) (s : State) (rm : Room) (G : hg_G) (Post : hg_Po) : State → Prop :=
  vx_MQ below (hg_Qc D lo G s.heap.size Post) (hg_Xc D lo G s.heap.size Post) args s rm.cells rm.slots (hg_A lo G.1 s.heap.size)
theorem hg_start {p : Program} {l : Launch} {e : Env} {s : State} {m : MethodId} {args : Array Value} {below : List Frame} {meth : Method} {c : Code} {Q : State → Prop} {D : hg_D} {lo : Nat} {rm : Room} {nL : Nat} {as : List Value} {G : hg_G} (L0 : List (Option Value)) (hL : hg_L 0 L0 = lv_args 0 as) (hn : (lg_sl as).length ≤ nL) (ha : args = as.toArray) (hP : hg_P D lo G s.heap)
    (k : hg_W p l e rm s m args below meth c Q D lo G.1 nL rm.cells rm.slots G 0 L0 []) : W p l e rm s m args below meth c s.heap [] 0 0 Q (entryFrame m args nL) := by
  subst ha
  rw [lg_entry_eq]
  have hl := lv_entry as (n := nL) hn
  rw [← hL] at hl
  exact k _ s.heap [] 0 0 hl hP va_S.rf hg_E.rf (by omega) (by omega)
/-- a contract out of a walk of the body: a method without handlers -/
theorem hg_M.of {l : Launch} (htr : l.stackTraces = false) {D : hg_D} {lo : Nat} {y : MethodName} {rm : Room} {as : List Value} {G : hg_G} {Post : hg_Po} {cc : ByteArray} {nL : Nat} {ret : Option FieldType} (hy : plainName y.cls = true) (L0 : List (Option Value)) (hL : hg_L 0 L0 = lv_args 0 as) (hn : (lg_sl as).length ≤ nL)
    (body : ∀ (p : Program) (e : Env) (s : State) (m : MethodId) (args : Array Value) (below : List Frame) (meth : Method) (c : Code), hg_X p l s m args meth c D lo y.cls cc nL → meth.sig.returnType = ret → meth.name = y.name → (∀ x ∈ c.exceptionTable.toList, False) →
      hg_W p l e rm s m args below meth c (hg_Q below D lo args s rm G Post) D lo G.1 nL rm.cells rm.slots G 0 L0 []) : hg_M l D lo y (ws_ y cc nL ret) rm as G Post := by
  intro sz hsz
  refine vx_ofW (cc := cc) (maxL := nL) (ret := ret) hy rfl ?_
  intro p e s m args below meth c s₁ B hml hemp hv
  obtain ⟨ha, rfl, hK, hO, hP⟩ := hv
  have hts := atoms_spec (ws := ws_ y cc nL ret) B.pre
  refine hg_start (rm := rm) L0 hL hn ha hP ?_
  exact body p e s m args below meth c ⟨B.exec, B.bytes, hml, findClass_of_methodNamed B.named, fun w h => hts w (List.mem_cons_of_mem _ h), B.notSynchronized, hK, hO, hsz, htr⟩ B.returns (name_of_methodNamed B.named B.method).1 hemp
/-- .. with handlers -/
theorem hg_M.ofH {l : Launch} (htr : l.stackTraces = false) {D : hg_D} {lo : Nat} {y : MethodName} {rm : Room} {as : List Value} {G : hg_G} {Post : hg_Po} {cc : ByteArray} {nL : Nat} {ret : Option FieldType} {hh : List (Nat × Nat × Nat × Nat)} (hy : plainName y.cls = true) (L0 : List (Option Value)) (hL : hg_L 0 L0 = lv_args 0 as) (hn : (lg_sl as).length ≤ nL)
    (body : ∀ (p : Program) (e : Env) (s : State) (m : MethodId) (args : Array Value) (below : List Frame) (meth : Method) (c : Code), hg_X p l s m args meth c D lo y.cls cc nL → meth.sig.returnType = ret → meth.name = y.name → c.exceptionTable.toList = tableOf hh →
      hg_W p l e rm s m args below meth c (hg_Q below D lo args s rm G Post) D lo G.1 nL rm.cells rm.slots G 0 L0 []) : hg_M l D lo y (wsW_ y cc nL ret hh) rm as G Post := by
  intro sz hsz
  refine vx_ofWH (cc := cc) (maxL := nL) (ret := ret) (hh := hh) hy rfl ?_
  intro p e s m args below meth c s₁ B hml hv
  obtain ⟨ha, rfl, hK, hO, hP⟩ := hv
  have hts := atoms_spec (ws := wsW_ y cc nL ret hh) B.pre
  refine hg_start (rm := rm) L0 hL hn ha hP ?_
  exact body p e s m args below meth c ⟨B.exec, B.bytes, hml, findClass_of_methodNamed B.named, fun w h => hts w (List.mem_cons_of_mem _ h), B.notSynchronized, hK, hO, hsz, htr⟩ B.returns (name_of_methodNamed B.named B.method).1 (vx_table (x := y) B (hts _ List.mem_cons_self))
def bI (b : Bool) : Int32 := if b = true then 1 else 0
theorem bI_0 {b : Bool} : bI b = 0 ↔ b = false := by cases b <;> decide
theorem bI_1 {b : Bool} : ¬ bI b = 0 ↔ b = true := by cases b <;> decide
def oI (n : Nat) : Int32 := if n = 99 then -1 else nI n
theorem oI_of {n : Nat} (h : ¬ n = 99) : oI n = nI n := if_neg h
theorem oI_99 : oI 99 = -1 := rfl
theorem oI_m1 {n : Nat} (h : n < 2 ^ 31) : oI n = -1 ↔ n = 99 := by
  unfold oI
  split
  · simp [*]
  · constructor
    · intro e
      have h1 := congrArg Int32.toInt e
      rw [nI_toInt h] at h1
      have h2 : (-1 : Int32).toInt = -1 := by decide
      omega
    · intro e
      contradiction
theorem oI_in {n N : Nat} (h : ¬ n = 99) (hn : n < N) (hN : N < 2 ^ 31) : vp_in (oI n) N := by rw [oI_of h]; exact vp_in_nI hn hN
theorem oI_cl {n : Nat} (h : ¬ n = 99) (hn : n < 2 ^ 31) : (oI n).toNatClampNeg = n := by rw [oI_of h]; exact nI_clamp hn
theorem oI_nI {n k : Nat} (hn : n < 2 ^ 31) (hk : k < 99) : nI k = oI n ↔ k = n := by
  unfold oI
  split
  · subst_vars
    constructor
    · intro e
      have h1 := congrArg Int32.toInt e
      rw [nI_toInt (by omega)] at h1
      have h2 : (-1 : Int32).toInt = -1 := by decide
      omega
    · intro e
      omega
  · exact nI_eq (by omega) hn
theorem nI_z {a : Nat} (ha : a < 2 ^ 31) : nI a = 0 ↔ a = 0 := by
  rw [← nI_0]
  exact nI_eq ha (by decide)
theorem nI_lez {a : Nat} (ha : a < 2 ^ 31) : nI a ≤ 0 ↔ a = 0 := by
  rw [← nI_0, nI_leI ha (by decide)]
  omega
theorem nI_gtz {a : Nat} (ha : a < 2 ^ 31) : 0 < nI a ↔ ¬ a = 0 := by
  rw [← nI_0, nI_ltI (by decide) ha]
  omega
theorem hg_fg {L : List (Option Value)} {i j : Nat} {v : Value} (h : (L.set i none)[j]? = some (some v)) : j ≠ i ∧ L[j]? = some (some v) := by
  by_cases e : i = j
  · subst e
    rw [List.getElem?_set] at h
    split at h
    · split at h <;> cases h
    · exact absurd rfl ‹_›
  · rw [List.getElem?_set_ne e] at h
    exact ⟨Ne.symm e, h⟩
section HGR
variable {p : Program} {l : Launch} {e : Env} {R : Room} {s : State} {m : MethodId} {args : Array Value} {below : List Frame} {meth : Method} {c : Code} {Q : State → Prop} {D : hg_D} {lo : Nat} {C0 : hg_K} {nL kr nr : Nat} {G : hg_G} {own : String} {cc : ByteArray} {pc q : Nat} {L tl : List (Option Value)} {st : List Value}
theorem hr_iconst {n : Int} {v : Int32} (X : hg_X p l s m args meth c D lo own cc nL) (d : decode cc pc = .ok (.iconst n, 1)) (hq : pc + 1 = q) (hv : Int32.ofInt n = v) (k : hg_W p l e R s m args below meth c Q D lo C0 nL kr nr G q (L) (.int v :: st)) : hg_W p l e R s m args below meth c Q D lo C0 nL kr nr G pc (L) (st) := by
  subst hq
  exact fun ls H locs k0 n0 hl hP hS hE hk hn => lv_iconst X.x X.b d hv (k ls H locs k0 n0 hl hP hS hE hk hn)
theorem hr_bipush {n : Int} {v : Int32} (X : hg_X p l s m args meth c D lo own cc nL) (d : decode cc pc = .ok (.bipush n, 2)) (hq : pc + 2 = q) (hv : (Int8.ofInt n).toInt32 = v) (k : hg_W p l e R s m args below meth c Q D lo C0 nL kr nr G q (L) (.int v :: st)) : hg_W p l e R s m args below meth c Q D lo C0 nL kr nr G pc (L) (st) := by
  subst hq
  exact fun ls H locs k0 n0 hl hP hS hE hk hn => lv_bipush X.x X.b d hv (k ls H locs k0 n0 hl hP hS hE hk hn)
theorem hr_sipush {n : Int} {v : Int32} (X : hg_X p l s m args meth c D lo own cc nL) (d : decode cc pc = .ok (.sipush n, 3)) (hq : pc + 3 = q) (hv : (Int16.ofInt n).toInt32 = v) (k : hg_W p l e R s m args below meth c Q D lo C0 nL kr nr G q (L) (.int v :: st)) : hg_W p l e R s m args below meth c Q D lo C0 nL kr nr G pc (L) (st) := by
  subst hq
  exact fun ls H locs k0 n0 hl hP hS hE hk hn => lv_sipush X.x X.b d hv (k ls H locs k0 n0 hl hP hS hE hk hn)
theorem hr_lconst {n : Fin 2} {v : Int64} (X : hg_X p l s m args meth c D lo own cc nL) (d : decode cc pc = .ok (.lconst n, 1)) (hq : pc + 1 = q) (hv : Int64.ofNat (n : Nat) = v) (k : hg_W p l e R s m args below meth c Q D lo C0 nL kr nr G q (L) (.long v :: st)) : hg_W p l e R s m args below meth c Q D lo C0 nL kr nr G pc (L) (st) := by
  subst hq
  exact fun ls H locs k0 n0 hl hP hS hE hk hn => lv_lconst X.x X.b d hv (k ls H locs k0 n0 hl hP hS hE hk hn)
theorem hr_iadd {x y : Int32} {v : Int32} (X : hg_X p l s m args meth c D lo own cc nL) (d : decode cc pc = .ok (.iadd, 1)) (hq : pc + 1 = q) (hv : x + y = v) (k : hg_W p l e R s m args below meth c Q D lo C0 nL kr nr G q (L) (.int v :: st)) : hg_W p l e R s m args below meth c Q D lo C0 nL kr nr G pc (L) (.int y :: .int x :: st) := by
  subst hq
  exact fun ls H locs k0 n0 hl hP hS hE hk hn => lv_iadd X.x X.b d (by rw [hv]; exact k ls H locs k0 n0 hl hP hS hE hk hn)
theorem hr_isub {x y : Int32} {v : Int32} (X : hg_X p l s m args meth c D lo own cc nL) (d : decode cc pc = .ok (.isub, 1)) (hq : pc + 1 = q) (hv : x - y = v) (k : hg_W p l e R s m args below meth c Q D lo C0 nL kr nr G q (L) (.int v :: st)) : hg_W p l e R s m args below meth c Q D lo C0 nL kr nr G pc (L) (.int y :: .int x :: st) := by
  subst hq
  exact fun ls H locs k0 n0 hl hP hS hE hk hn => lv_isub X.x X.b d (by rw [hv]; exact k ls H locs k0 n0 hl hP hS hE hk hn)
theorem hr_imul {x y : Int32} {v : Int32} (X : hg_X p l s m args meth c D lo own cc nL) (d : decode cc pc = .ok (.imul, 1)) (hq : pc + 1 = q) (hv : x * y = v) (k : hg_W p l e R s m args below meth c Q D lo C0 nL kr nr G q (L) (.int v :: st)) : hg_W p l e R s m args below meth c Q D lo C0 nL kr nr G pc (L) (.int y :: .int x :: st) := by
  subst hq
  exact fun ls H locs k0 n0 hl hP hS hE hk hn => lv_imul X.x X.b d (by rw [hv]; exact k ls H locs k0 n0 hl hP hS hE hk hn)
theorem hr_iand {x y : Int32} {v : Int32} (X : hg_X p l s m args meth c D lo own cc nL) (d : decode cc pc = .ok (.iand, 1)) (hq : pc + 1 = q) (hv : x &&& y = v) (k : hg_W p l e R s m args below meth c Q D lo C0 nL kr nr G q (L) (.int v :: st)) : hg_W p l e R s m args below meth c Q D lo C0 nL kr nr G pc (L) (.int y :: .int x :: st) := by
  subst hq
  exact fun ls H locs k0 n0 hl hP hS hE hk hn => lv_iand X.x X.b d (by rw [hv]; exact k ls H locs k0 n0 hl hP hS hE hk hn)
theorem hr_ior {x y : Int32} {v : Int32} (X : hg_X p l s m args meth c D lo own cc nL) (d : decode cc pc = .ok (.ior, 1)) (hq : pc + 1 = q) (hv : x ||| y = v) (k : hg_W p l e R s m args below meth c Q D lo C0 nL kr nr G q (L) (.int v :: st)) : hg_W p l e R s m args below meth c Q D lo C0 nL kr nr G pc (L) (.int y :: .int x :: st) := by
  subst hq
  exact fun ls H locs k0 n0 hl hP hS hE hk hn => lv_ior X.x X.b d (by rw [hv]; exact k ls H locs k0 n0 hl hP hS hE hk hn)
theorem hr_ixor {x y : Int32} {v : Int32} (X : hg_X p l s m args meth c D lo own cc nL) (d : decode cc pc = .ok (.ixor, 1)) (hq : pc + 1 = q) (hv : x ^^^ y = v) (k : hg_W p l e R s m args below meth c Q D lo C0 nL kr nr G q (L) (.int v :: st)) : hg_W p l e R s m args below meth c Q D lo C0 nL kr nr G pc (L) (.int y :: .int x :: st) := by
  subst hq
  exact fun ls H locs k0 n0 hl hP hS hE hk hn => lv_ixor X.x X.b d (by rw [hv]; exact k ls H locs k0 n0 hl hP hS hE hk hn)
theorem hr_ishl {x y : Int32} {v : Int32} (X : hg_X p l s m args meth c D lo own cc nL) (d : decode cc pc = .ok (.ishl, 1)) (hq : pc + 1 = q) (hv : x <<< (y &&& 31) = v) (k : hg_W p l e R s m args below meth c Q D lo C0 nL kr nr G q (L) (.int v :: st)) : hg_W p l e R s m args below meth c Q D lo C0 nL kr nr G pc (L) (.int y :: .int x :: st) := by
  subst hq
  exact fun ls H locs k0 n0 hl hP hS hE hk hn => lv_ishl X.x X.b d (by rw [hv]; exact k ls H locs k0 n0 hl hP hS hE hk hn)
theorem hr_ishr {x y : Int32} {v : Int32} (X : hg_X p l s m args meth c D lo own cc nL) (d : decode cc pc = .ok (.ishr, 1)) (hq : pc + 1 = q) (hv : x >>> (y &&& 31) = v) (k : hg_W p l e R s m args below meth c Q D lo C0 nL kr nr G q (L) (.int v :: st)) : hg_W p l e R s m args below meth c Q D lo C0 nL kr nr G pc (L) (.int y :: .int x :: st) := by
  subst hq
  exact fun ls H locs k0 n0 hl hP hS hE hk hn => lv_ishr X.x X.b d (by rw [hv]; exact k ls H locs k0 n0 hl hP hS hE hk hn)
theorem hr_idiv {x y : Int32} {v : Int32} (X : hg_X p l s m args meth c D lo own cc nL) (d : decode cc pc = .ok (.idiv, 1)) (hq : pc + 1 = q) (hne : ¬ y = 0) (hv : x / y = v) (k : hg_W p l e R s m args below meth c Q D lo C0 nL kr nr G q (L) (.int v :: st)) : hg_W p l e R s m args below meth c Q D lo C0 nL kr nr G pc (L) (.int y :: .int x :: st) := by
  subst hq
  exact fun ls H locs k0 n0 hl hP hS hE hk hn => lv_idiv X.x X.b d hne (by rw [hv]; exact k ls H locs k0 n0 hl hP hS hE hk hn)
theorem hr_irem {x y : Int32} {v : Int32} (X : hg_X p l s m args meth c D lo own cc nL) (d : decode cc pc = .ok (.irem, 1)) (hq : pc + 1 = q) (hne : ¬ y = 0) (hv : x - x / y * y = v) (k : hg_W p l e R s m args below meth c Q D lo C0 nL kr nr G q (L) (.int v :: st)) : hg_W p l e R s m args below meth c Q D lo C0 nL kr nr G pc (L) (.int y :: .int x :: st) := by
  subst hq
  exact fun ls H locs k0 n0 hl hP hS hE hk hn => lv_irem X.x X.b d hne (by rw [hv]; exact k ls H locs k0 n0 hl hP hS hE hk hn)
theorem hr_ineg {x : Int32} {v : Int32} (X : hg_X p l s m args meth c D lo own cc nL) (d : decode cc pc = .ok (.ineg, 1)) (hq : pc + 1 = q) (hv : -x = v) (k : hg_W p l e R s m args below meth c Q D lo C0 nL kr nr G q (L) (.int v :: st)) : hg_W p l e R s m args below meth c Q D lo C0 nL kr nr G pc (L) (.int x :: st) := by
  subst hq
  exact fun ls H locs k0 n0 hl hP hS hE hk hn => lv_ineg X.x X.b d (by rw [hv]; exact k ls H locs k0 n0 hl hP hS hE hk hn)
theorem hr_iushr {x y : Int32} {v : Int32} (X : hg_X p l s m args meth c D lo own cc nL) (d : decode cc pc = .ok (.iushr, 1)) (hq : pc + 1 = q) (hv : (x.toUInt32 >>> (y.toUInt32 &&& Int32.toUInt32 31)).toInt32 = v) (k : hg_W p l e R s m args below meth c Q D lo C0 nL kr nr G q (L) (.int v :: st)) : hg_W p l e R s m args below meth c Q D lo C0 nL kr nr G pc (L) (.int y :: .int x :: st) := by
  subst hq
  exact fun ls H locs k0 n0 hl hP hS hE hk hn => lv_iushr X.x X.b d rfl (by rw [hv]; exact k ls H locs k0 n0 hl hP hS hE hk hn)
theorem hr_ladd {x y : Int64} {v : Int64} (X : hg_X p l s m args meth c D lo own cc nL) (d : decode cc pc = .ok (.ladd, 1)) (hq : pc + 1 = q) (hv : x + y = v) (k : hg_W p l e R s m args below meth c Q D lo C0 nL kr nr G q (L) (.long v :: st)) : hg_W p l e R s m args below meth c Q D lo C0 nL kr nr G pc (L) (.long y :: .long x :: st) := by
  subst hq
  exact fun ls H locs k0 n0 hl hP hS hE hk hn => lv_ladd X.x X.b d (by rw [hv]; exact k ls H locs k0 n0 hl hP hS hE hk hn)
theorem hr_lsub {x y : Int64} {v : Int64} (X : hg_X p l s m args meth c D lo own cc nL) (d : decode cc pc = .ok (.lsub, 1)) (hq : pc + 1 = q) (hv : x - y = v) (k : hg_W p l e R s m args below meth c Q D lo C0 nL kr nr G q (L) (.long v :: st)) : hg_W p l e R s m args below meth c Q D lo C0 nL kr nr G pc (L) (.long y :: .long x :: st) := by
  subst hq
  exact fun ls H locs k0 n0 hl hP hS hE hk hn => lv_lsub X.x X.b d (by rw [hv]; exact k ls H locs k0 n0 hl hP hS hE hk hn)
theorem hr_land {x y : Int64} {v : Int64} (X : hg_X p l s m args meth c D lo own cc nL) (d : decode cc pc = .ok (.land, 1)) (hq : pc + 1 = q) (hv : x &&& y = v) (k : hg_W p l e R s m args below meth c Q D lo C0 nL kr nr G q (L) (.long v :: st)) : hg_W p l e R s m args below meth c Q D lo C0 nL kr nr G pc (L) (.long y :: .long x :: st) := by
  subst hq
  exact fun ls H locs k0 n0 hl hP hS hE hk hn => lv_land X.x X.b d (by rw [hv]; exact k ls H locs k0 n0 hl hP hS hE hk hn)
theorem hr_lor {x y : Int64} {v : Int64} (X : hg_X p l s m args meth c D lo own cc nL) (d : decode cc pc = .ok (.lor, 1)) (hq : pc + 1 = q) (hv : x ||| y = v) (k : hg_W p l e R s m args below meth c Q D lo C0 nL kr nr G q (L) (.long v :: st)) : hg_W p l e R s m args below meth c Q D lo C0 nL kr nr G pc (L) (.long y :: .long x :: st) := by
  subst hq
  exact fun ls H locs k0 n0 hl hP hS hE hk hn => lv_lor X.x X.b d (by rw [hv]; exact k ls H locs k0 n0 hl hP hS hE hk hn)
theorem hr_lxor {x y : Int64} {v : Int64} (X : hg_X p l s m args meth c D lo own cc nL) (d : decode cc pc = .ok (.lxor, 1)) (hq : pc + 1 = q) (hv : x ^^^ y = v) (k : hg_W p l e R s m args below meth c Q D lo C0 nL kr nr G q (L) (.long v :: st)) : hg_W p l e R s m args below meth c Q D lo C0 nL kr nr G pc (L) (.long y :: .long x :: st) := by
  subst hq
  exact fun ls H locs k0 n0 hl hP hS hE hk hn => lv_lxor X.x X.b d (by rw [hv]; exact k ls H locs k0 n0 hl hP hS hE hk hn)
theorem hr_lshl {x : Int64} {y : Int32} {v : Int64} (X : hg_X p l s m args meth c D lo own cc nL) (d : decode cc pc = .ok (.lshl, 1)) (hq : pc + 1 = q) (hv : x <<< (y.toInt64 &&& 63) = v) (k : hg_W p l e R s m args below meth c Q D lo C0 nL kr nr G q (L) (.long v :: st)) : hg_W p l e R s m args below meth c Q D lo C0 nL kr nr G pc (L) (.int y :: .long x :: st) := by
  subst hq
  exact fun ls H locs k0 n0 hl hP hS hE hk hn => lv_lshl X.x X.b d rfl (by rw [hv]; exact k ls H locs k0 n0 hl hP hS hE hk hn)
theorem hr_lshr {x : Int64} {y : Int32} {v : Int64} (X : hg_X p l s m args meth c D lo own cc nL) (d : decode cc pc = .ok (.lshr, 1)) (hq : pc + 1 = q) (hv : x >>> (y.toInt64 &&& 63) = v) (k : hg_W p l e R s m args below meth c Q D lo C0 nL kr nr G q (L) (.long v :: st)) : hg_W p l e R s m args below meth c Q D lo C0 nL kr nr G pc (L) (.int y :: .long x :: st) := by
  subst hq
  exact fun ls H locs k0 n0 hl hP hS hE hk hn => lv_lshr X.x X.b d rfl (by rw [hv]; exact k ls H locs k0 n0 hl hP hS hE hk hn)
theorem hr_lushr {x : Int64} {y : Int32} {v : Int64} (X : hg_X p l s m args meth c D lo own cc nL) (d : decode cc pc = .ok (.lushr, 1)) (hq : pc + 1 = q) (hv : (x.toUInt64 >>> (y.toInt64.toUInt64 &&& Int64.toUInt64 63)).toInt64 = v) (k : hg_W p l e R s m args below meth c Q D lo C0 nL kr nr G q (L) (.long v :: st)) : hg_W p l e R s m args below meth c Q D lo C0 nL kr nr G pc (L) (.int y :: .long x :: st) := by
  subst hq
  exact fun ls H locs k0 n0 hl hP hS hE hk hn => lv_lushr X.x X.b d rfl (by rw [hv]; exact k ls H locs k0 n0 hl hP hS hE hk hn)
theorem hr_i2l {x : Int32} {v : Int64} (X : hg_X p l s m args meth c D lo own cc nL) (d : decode cc pc = .ok (.i2l, 1)) (hq : pc + 1 = q) (hv : x.toInt64 = v) (k : hg_W p l e R s m args below meth c Q D lo C0 nL kr nr G q (L) (.long v :: st)) : hg_W p l e R s m args below meth c Q D lo C0 nL kr nr G pc (L) (.int x :: st) := by
  subst hq
  exact fun ls H locs k0 n0 hl hP hS hE hk hn => lv_i2l X.x X.b d rfl (by rw [hv]; exact k ls H locs k0 n0 hl hP hS hE hk hn)
theorem hr_l2i {x : Int64} {v : Int32} (X : hg_X p l s m args meth c D lo own cc nL) (d : decode cc pc = .ok (.l2i, 1)) (hq : pc + 1 = q) (hv : x.toInt32 = v) (k : hg_W p l e R s m args below meth c Q D lo C0 nL kr nr G q (L) (.int v :: st)) : hg_W p l e R s m args below meth c Q D lo C0 nL kr nr G pc (L) (.long x :: st) := by
  subst hq
  exact fun ls H locs k0 n0 hl hP hS hE hk hn => lv_l2i X.x X.b d rfl (by rw [hv]; exact k ls H locs k0 n0 hl hP hS hE hk hn)
theorem hr_i2b {x : Int32} {v : Int32} (X : hg_X p l s m args meth c D lo own cc nL) (d : decode cc pc = .ok (.i2b, 1)) (hq : pc + 1 = q) (hv : x.toInt8.toInt32 = v) (k : hg_W p l e R s m args below meth c Q D lo C0 nL kr nr G q (L) (.int v :: st)) : hg_W p l e R s m args below meth c Q D lo C0 nL kr nr G pc (L) (.int x :: st) := by
  subst hq
  exact fun ls H locs k0 n0 hl hP hS hE hk hn => lv_i2b X.x X.b d rfl (by rw [hv]; exact k ls H locs k0 n0 hl hP hS hE hk hn)
theorem hr_i2s {x : Int32} {v : Int32} (X : hg_X p l s m args meth c D lo own cc nL) (d : decode cc pc = .ok (.i2s, 1)) (hq : pc + 1 = q) (hv : x.toInt16.toInt32 = v) (k : hg_W p l e R s m args below meth c Q D lo C0 nL kr nr G q (L) (.int v :: st)) : hg_W p l e R s m args below meth c Q D lo C0 nL kr nr G pc (L) (.int x :: st) := by
  subst hq
  exact fun ls H locs k0 n0 hl hP hS hE hk hn => lv_i2s X.x X.b d rfl (by rw [hv]; exact k ls H locs k0 n0 hl hP hS hE hk hn)
theorem hr_i2c {x : Int32} {v : Int32} (X : hg_X p l s m args meth c D lo own cc nL) (d : decode cc pc = .ok (.i2c, 1)) (hq : pc + 1 = q) (hv : (x.toUInt32 % 65536).toInt32 = v) (k : hg_W p l e R s m args below meth c Q D lo C0 nL kr nr G q (L) (.int v :: st)) : hg_W p l e R s m args below meth c Q D lo C0 nL kr nr G pc (L) (.int x :: st) := by
  subst hq
  exact fun ls H locs k0 n0 hl hP hS hE hk hn => lv_i2c X.x X.b d rfl (by rw [hv]; exact k ls H locs k0 n0 hl hP hS hE hk hn)
theorem hr_lcmp {x y : Int64} {v : Int32} (X : hg_X p l s m args meth c D lo own cc nL) (d : decode cc pc = .ok (.lcmp, 1)) (hq : pc + 1 = q) (hv : lg_cmp x y = v) (k : hg_W p l e R s m args below meth c Q D lo C0 nL kr nr G q (L) (.int v :: st)) : hg_W p l e R s m args below meth c Q D lo C0 nL kr nr G pc (L) (.long y :: .long x :: st) := by
  subst hq
  exact fun ls H locs k0 n0 hl hP hS hE hk hn => W.lcmp X.x X.b d (by rw [hv]; exact k ls H locs k0 n0 hl hP hS hE hk hn)
theorem hr_dup {va : Value} (X : hg_X p l s m args meth c D lo own cc nL) (d : decode cc pc = .ok (.dup, 1)) (hq : pc + 1 = q) (h1 : va.category = 1) (k : hg_W p l e R s m args below meth c Q D lo C0 nL kr nr G q (L) (va :: va :: st)) : hg_W p l e R s m args below meth c Q D lo C0 nL kr nr G pc (L) (va :: st) := by
  subst hq
  exact fun ls H locs k0 n0 hl hP hS hE hk hn => lv_dup X.x X.b d h1 (k ls H locs k0 n0 hl hP hS hE hk hn)
theorem hr_pop {va : Value} (X : hg_X p l s m args meth c D lo own cc nL) (d : decode cc pc = .ok (.pop, 1)) (hq : pc + 1 = q) (h1 : va.category = 1) (k : hg_W p l e R s m args below meth c Q D lo C0 nL kr nr G q (L) (st)) : hg_W p l e R s m args below meth c Q D lo C0 nL kr nr G pc (L) (va :: st) := by
  subst hq
  exact fun ls H locs k0 n0 hl hP hS hE hk hn => lv_pop X.x X.b d h1 (k ls H locs k0 n0 hl hP hS hE hk hn)
theorem hr_dup_x1 {va vb : Value} (X : hg_X p l s m args meth c D lo own cc nL) (d : decode cc pc = .ok (.dup_x1, 1)) (hq : pc + 1 = q) (h1 : va.category = 1) (h2 : vb.category = 1) (k : hg_W p l e R s m args below meth c Q D lo C0 nL kr nr G q (L) (va :: vb :: va :: st)) : hg_W p l e R s m args below meth c Q D lo C0 nL kr nr G pc (L) (va :: vb :: st) := by
  subst hq
  exact fun ls H locs k0 n0 hl hP hS hE hk hn => lv_dup_x1 X.x X.b d h1 h2 (k ls H locs k0 n0 hl hP hS hE hk hn)
theorem hr_dup2 {va vb : Value} (X : hg_X p l s m args meth c D lo own cc nL) (d : decode cc pc = .ok (.dup2, 1)) (hq : pc + 1 = q) (h1 : va.category = 1) (h2 : vb.category = 1) (k : hg_W p l e R s m args below meth c Q D lo C0 nL kr nr G q (L) (va :: vb :: va :: vb :: st)) : hg_W p l e R s m args below meth c Q D lo C0 nL kr nr G pc (L) (va :: vb :: st) := by
  subst hq
  exact fun ls H locs k0 n0 hl hP hS hE hk hn => lv_dup2_11 X.x X.b d h1 h2 (k ls H locs k0 n0 hl hP hS hE hk hn)
theorem hr_null (X : hg_X p l s m args meth c D lo own cc nL) (d : decode cc pc = .ok (.aconst_null, 1)) (hq : pc + 1 = q) (k : hg_W p l e R s m args below meth c Q D lo C0 nL kr nr G q (L) (.null :: st)) : hg_W p l e R s m args below meth c Q D lo C0 nL kr nr G pc (L) (st) := by
  subst hq
  exact fun ls H locs k0 n0 hl hP hS hE hk hn => lv_null X.x X.b d (k ls H locs k0 n0 hl hP hS hE hk hn)
theorem hr_ldc {ix : Nat} {v : Int32} (X : hg_X p l s m args meth c D lo own cc nL) (d : decode cc pc = .ok (.ldc ix, 2)) (hq : pc + 2 = q) (hc : Cond.constant own ix v ∈ lw_all) (k : hg_W p l e R s m args below meth c Q D lo C0 nL kr nr G q (L) (.int v :: st)) : hg_W p l e R s m args below meth c Q D lo C0 nL kr nr G pc (L) (st) := by
  subst hq
  exact fun ls H locs k0 n0 hl hP hS hE hk hn => lv_ldc X.x X.b X.o (X.w _ hc) d (k ls H locs k0 n0 hl hP hS hE hk hn)
theorem hr_ldcw {ix : Nat} {v : Int32} (X : hg_X p l s m args meth c D lo own cc nL) (d : decode cc pc = .ok (.ldc_w ix, 3)) (hq : pc + 3 = q) (hc : Cond.constant own ix v ∈ lw_all) (k : hg_W p l e R s m args below meth c Q D lo C0 nL kr nr G q (L) (.int v :: st)) : hg_W p l e R s m args below meth c Q D lo C0 nL kr nr G pc (L) (st) := by
  subst hq
  exact fun ls H locs k0 n0 hl hP hS hE hk hn => lv_ldcw X.x X.b X.o (X.w _ hc) d (k ls H locs k0 n0 hl hP hS hE hk hn)
theorem hr_ldc2 {ix : Nat} {v : Int64} (X : hg_X p l s m args meth c D lo own cc nL) (d : decode cc pc = .ok (.ldc2_w ix, 3)) (hq : pc + 3 = q) (hc : Cond.constantLong own ix v ∈ lw_all) (k : hg_W p l e R s m args below meth c Q D lo C0 nL kr nr G q (L) (.long v :: st)) : hg_W p l e R s m args below meth c Q D lo C0 nL kr nr G pc (L) (st) := by
  subst hq
  exact fun ls H locs k0 n0 hl hP hS hE hk hn => lv_ldc2 X.x X.b X.o (X.w _ hc) d (k ls H locs k0 n0 hl hP hS hE hk hn)
theorem hr_if_eq {x : Int32} (X : hg_X p l s m args meth c D lo own cc nL) {off : Int} {tgt : Nat} (d : decode cc pc = .ok (.ifCond .eq off, 3)) (hq : pc + 3 = q) (ht : (pc : Int) + off = (tgt : Int)) (kt : x = 0 → hg_W p l e R s m args below meth c Q D lo C0 nL kr nr G tgt (L) (st)) (kf : ¬ (x = 0) → hg_W p l e R s m args below meth c Q D lo C0 nL kr nr G q (L) (st)) : hg_W p l e R s m args below meth c Q D lo C0 nL kr nr G pc (L) (.int x :: st) := by
  subst hq
  exact fun ls H locs k0 n0 hl hP hS hE hk hn => lv_if_eq X.x X.b d ht (fun z => kt z ls H locs k0 n0 hl hP hS hE hk hn) (fun z => kf z ls H locs k0 n0 hl hP hS hE hk hn)
theorem hr_icmp_eq {x y : Int32} (X : hg_X p l s m args meth c D lo own cc nL) {off : Int} {tgt : Nat} (d : decode cc pc = .ok (.if_icmp .eq off, 3)) (hq : pc + 3 = q) (ht : (pc : Int) + off = (tgt : Int)) (kt : x = y → hg_W p l e R s m args below meth c Q D lo C0 nL kr nr G tgt (L) (st)) (kf : ¬ (x = y) → hg_W p l e R s m args below meth c Q D lo C0 nL kr nr G q (L) (st)) : hg_W p l e R s m args below meth c Q D lo C0 nL kr nr G pc (L) (.int y :: .int x :: st) := by
  subst hq
  exact fun ls H locs k0 n0 hl hP hS hE hk hn => lv_icmp_eq X.x X.b d ht (fun z => kt z ls H locs k0 n0 hl hP hS hE hk hn) (fun z => kf z ls H locs k0 n0 hl hP hS hE hk hn)
theorem hr_if_ne {x : Int32} (X : hg_X p l s m args meth c D lo own cc nL) {off : Int} {tgt : Nat} (d : decode cc pc = .ok (.ifCond .ne off, 3)) (hq : pc + 3 = q) (ht : (pc : Int) + off = (tgt : Int)) (kt : ¬ x = 0 → hg_W p l e R s m args below meth c Q D lo C0 nL kr nr G tgt (L) (st)) (kf : x = 0 → hg_W p l e R s m args below meth c Q D lo C0 nL kr nr G q (L) (st)) : hg_W p l e R s m args below meth c Q D lo C0 nL kr nr G pc (L) (.int x :: st) := by
  subst hq
  exact fun ls H locs k0 n0 hl hP hS hE hk hn => lv_if_ne X.x X.b d ht (fun z => kt z ls H locs k0 n0 hl hP hS hE hk hn) (fun z => kf z ls H locs k0 n0 hl hP hS hE hk hn)
theorem hr_icmp_ne {x y : Int32} (X : hg_X p l s m args meth c D lo own cc nL) {off : Int} {tgt : Nat} (d : decode cc pc = .ok (.if_icmp .ne off, 3)) (hq : pc + 3 = q) (ht : (pc : Int) + off = (tgt : Int)) (kt : ¬ x = y → hg_W p l e R s m args below meth c Q D lo C0 nL kr nr G tgt (L) (st)) (kf : x = y → hg_W p l e R s m args below meth c Q D lo C0 nL kr nr G q (L) (st)) : hg_W p l e R s m args below meth c Q D lo C0 nL kr nr G pc (L) (.int y :: .int x :: st) := by
  subst hq
  exact fun ls H locs k0 n0 hl hP hS hE hk hn => lv_icmp_ne X.x X.b d ht (fun z => kt z ls H locs k0 n0 hl hP hS hE hk hn) (fun z => kf z ls H locs k0 n0 hl hP hS hE hk hn)
theorem hr_if_lt {x : Int32} (X : hg_X p l s m args meth c D lo own cc nL) {off : Int} {tgt : Nat} (d : decode cc pc = .ok (.ifCond .lt off, 3)) (hq : pc + 3 = q) (ht : (pc : Int) + off = (tgt : Int)) (kt : x < 0 → hg_W p l e R s m args below meth c Q D lo C0 nL kr nr G tgt (L) (st)) (kf : ¬ (x < 0) → hg_W p l e R s m args below meth c Q D lo C0 nL kr nr G q (L) (st)) : hg_W p l e R s m args below meth c Q D lo C0 nL kr nr G pc (L) (.int x :: st) := by
  subst hq
  exact fun ls H locs k0 n0 hl hP hS hE hk hn => lv_if_lt X.x X.b d ht (fun z => kt z ls H locs k0 n0 hl hP hS hE hk hn) (fun z => kf z ls H locs k0 n0 hl hP hS hE hk hn)
theorem hr_icmp_lt {x y : Int32} (X : hg_X p l s m args meth c D lo own cc nL) {off : Int} {tgt : Nat} (d : decode cc pc = .ok (.if_icmp .lt off, 3)) (hq : pc + 3 = q) (ht : (pc : Int) + off = (tgt : Int)) (kt : x < y → hg_W p l e R s m args below meth c Q D lo C0 nL kr nr G tgt (L) (st)) (kf : ¬ (x < y) → hg_W p l e R s m args below meth c Q D lo C0 nL kr nr G q (L) (st)) : hg_W p l e R s m args below meth c Q D lo C0 nL kr nr G pc (L) (.int y :: .int x :: st) := by
  subst hq
  exact fun ls H locs k0 n0 hl hP hS hE hk hn => lv_icmp_lt X.x X.b d ht (fun z => kt z ls H locs k0 n0 hl hP hS hE hk hn) (fun z => kf z ls H locs k0 n0 hl hP hS hE hk hn)
theorem hr_if_ge {x : Int32} (X : hg_X p l s m args meth c D lo own cc nL) {off : Int} {tgt : Nat} (d : decode cc pc = .ok (.ifCond .ge off, 3)) (hq : pc + 3 = q) (ht : (pc : Int) + off = (tgt : Int)) (kt : 0 ≤ x → hg_W p l e R s m args below meth c Q D lo C0 nL kr nr G tgt (L) (st)) (kf : ¬ (0 ≤ x) → hg_W p l e R s m args below meth c Q D lo C0 nL kr nr G q (L) (st)) : hg_W p l e R s m args below meth c Q D lo C0 nL kr nr G pc (L) (.int x :: st) := by
  subst hq
  exact fun ls H locs k0 n0 hl hP hS hE hk hn => lv_if_ge X.x X.b d ht (fun z => kt z ls H locs k0 n0 hl hP hS hE hk hn) (fun z => kf z ls H locs k0 n0 hl hP hS hE hk hn)
theorem hr_icmp_ge {x y : Int32} (X : hg_X p l s m args meth c D lo own cc nL) {off : Int} {tgt : Nat} (d : decode cc pc = .ok (.if_icmp .ge off, 3)) (hq : pc + 3 = q) (ht : (pc : Int) + off = (tgt : Int)) (kt : y ≤ x → hg_W p l e R s m args below meth c Q D lo C0 nL kr nr G tgt (L) (st)) (kf : ¬ (y ≤ x) → hg_W p l e R s m args below meth c Q D lo C0 nL kr nr G q (L) (st)) : hg_W p l e R s m args below meth c Q D lo C0 nL kr nr G pc (L) (.int y :: .int x :: st) := by
  subst hq
  exact fun ls H locs k0 n0 hl hP hS hE hk hn => lv_icmp_ge X.x X.b d ht (fun z => kt z ls H locs k0 n0 hl hP hS hE hk hn) (fun z => kf z ls H locs k0 n0 hl hP hS hE hk hn)
theorem hr_if_gt {x : Int32} (X : hg_X p l s m args meth c D lo own cc nL) {off : Int} {tgt : Nat} (d : decode cc pc = .ok (.ifCond .gt off, 3)) (hq : pc + 3 = q) (ht : (pc : Int) + off = (tgt : Int)) (kt : 0 < x → hg_W p l e R s m args below meth c Q D lo C0 nL kr nr G tgt (L) (st)) (kf : ¬ (0 < x) → hg_W p l e R s m args below meth c Q D lo C0 nL kr nr G q (L) (st)) : hg_W p l e R s m args below meth c Q D lo C0 nL kr nr G pc (L) (.int x :: st) := by
  subst hq
  exact fun ls H locs k0 n0 hl hP hS hE hk hn => lv_if_gt X.x X.b d ht (fun z => kt z ls H locs k0 n0 hl hP hS hE hk hn) (fun z => kf z ls H locs k0 n0 hl hP hS hE hk hn)
theorem hr_icmp_gt {x y : Int32} (X : hg_X p l s m args meth c D lo own cc nL) {off : Int} {tgt : Nat} (d : decode cc pc = .ok (.if_icmp .gt off, 3)) (hq : pc + 3 = q) (ht : (pc : Int) + off = (tgt : Int)) (kt : y < x → hg_W p l e R s m args below meth c Q D lo C0 nL kr nr G tgt (L) (st)) (kf : ¬ (y < x) → hg_W p l e R s m args below meth c Q D lo C0 nL kr nr G q (L) (st)) : hg_W p l e R s m args below meth c Q D lo C0 nL kr nr G pc (L) (.int y :: .int x :: st) := by
  subst hq
  exact fun ls H locs k0 n0 hl hP hS hE hk hn => lv_icmp_gt X.x X.b d ht (fun z => kt z ls H locs k0 n0 hl hP hS hE hk hn) (fun z => kf z ls H locs k0 n0 hl hP hS hE hk hn)
theorem hr_if_le {x : Int32} (X : hg_X p l s m args meth c D lo own cc nL) {off : Int} {tgt : Nat} (d : decode cc pc = .ok (.ifCond .le off, 3)) (hq : pc + 3 = q) (ht : (pc : Int) + off = (tgt : Int)) (kt : x ≤ 0 → hg_W p l e R s m args below meth c Q D lo C0 nL kr nr G tgt (L) (st)) (kf : ¬ (x ≤ 0) → hg_W p l e R s m args below meth c Q D lo C0 nL kr nr G q (L) (st)) : hg_W p l e R s m args below meth c Q D lo C0 nL kr nr G pc (L) (.int x :: st) := by
  subst hq
  exact fun ls H locs k0 n0 hl hP hS hE hk hn => lv_if_le X.x X.b d ht (fun z => kt z ls H locs k0 n0 hl hP hS hE hk hn) (fun z => kf z ls H locs k0 n0 hl hP hS hE hk hn)
theorem hr_icmp_le {x y : Int32} (X : hg_X p l s m args meth c D lo own cc nL) {off : Int} {tgt : Nat} (d : decode cc pc = .ok (.if_icmp .le off, 3)) (hq : pc + 3 = q) (ht : (pc : Int) + off = (tgt : Int)) (kt : x ≤ y → hg_W p l e R s m args below meth c Q D lo C0 nL kr nr G tgt (L) (st)) (kf : ¬ (x ≤ y) → hg_W p l e R s m args below meth c Q D lo C0 nL kr nr G q (L) (st)) : hg_W p l e R s m args below meth c Q D lo C0 nL kr nr G pc (L) (.int y :: .int x :: st) := by
  subst hq
  exact fun ls H locs k0 n0 hl hP hS hE hk hn => lv_icmp_le X.x X.b d ht (fun z => kt z ls H locs k0 n0 hl hP hS hE hk hn) (fun z => kf z ls H locs k0 n0 hl hP hS hE hk hn)
theorem hr_icmpN_eq {a b : Nat} (X : hg_X p l s m args meth c D lo own cc nL) {off : Int} {tgt : Nat} (d : decode cc pc = .ok (.if_icmp .eq off, 3)) (hq : pc + 3 = q) (ht : (pc : Int) + off = (tgt : Int)) (ha : a < 2 ^ 31) (hb : b < 2 ^ 31) (kt : a = b → hg_W p l e R s m args below meth c Q D lo C0 nL kr nr G tgt (L) (st)) (kf : ¬ a = b → hg_W p l e R s m args below meth c Q D lo C0 nL kr nr G q (L) (st)) : hg_W p l e R s m args below meth c Q D lo C0 nL kr nr G pc (L) (.int (nI b) :: .int (nI a) :: st) := hr_icmp_eq X d hq ht (fun z => kt ((nI_eq ha hb).mp z)) (fun z => kf (fun y => z ((nI_eq ha hb).mpr y)))
theorem hr_icmpN_ne {a b : Nat} (X : hg_X p l s m args meth c D lo own cc nL) {off : Int} {tgt : Nat} (d : decode cc pc = .ok (.if_icmp .ne off, 3)) (hq : pc + 3 = q) (ht : (pc : Int) + off = (tgt : Int)) (ha : a < 2 ^ 31) (hb : b < 2 ^ 31) (kt : ¬ a = b → hg_W p l e R s m args below meth c Q D lo C0 nL kr nr G tgt (L) (st)) (kf : a = b → hg_W p l e R s m args below meth c Q D lo C0 nL kr nr G q (L) (st)) : hg_W p l e R s m args below meth c Q D lo C0 nL kr nr G pc (L) (.int (nI b) :: .int (nI a) :: st) := hr_icmp_ne X d hq ht (fun z => kt (fun y => z ((nI_eq ha hb).mpr y))) (fun z => kf ((nI_eq ha hb).mp z))
theorem hr_icmpN_lt {a b : Nat} (X : hg_X p l s m args meth c D lo own cc nL) {off : Int} {tgt : Nat} (d : decode cc pc = .ok (.if_icmp .lt off, 3)) (hq : pc + 3 = q) (ht : (pc : Int) + off = (tgt : Int)) (ha : a < 2 ^ 31) (hb : b < 2 ^ 31) (kt : a < b → hg_W p l e R s m args below meth c Q D lo C0 nL kr nr G tgt (L) (st)) (kf : b ≤ a → hg_W p l e R s m args below meth c Q D lo C0 nL kr nr G q (L) (st)) : hg_W p l e R s m args below meth c Q D lo C0 nL kr nr G pc (L) (.int (nI b) :: .int (nI a) :: st) := hr_icmp_lt X d hq ht (fun z => kt ((nI_ltI ha hb).mp z)) (fun z => kf (Nat.not_lt.mp fun y => z ((nI_ltI ha hb).mpr y)))
theorem hr_icmpN_ge {a b : Nat} (X : hg_X p l s m args meth c D lo own cc nL) {off : Int} {tgt : Nat} (d : decode cc pc = .ok (.if_icmp .ge off, 3)) (hq : pc + 3 = q) (ht : (pc : Int) + off = (tgt : Int)) (ha : a < 2 ^ 31) (hb : b < 2 ^ 31) (kt : b ≤ a → hg_W p l e R s m args below meth c Q D lo C0 nL kr nr G tgt (L) (st)) (kf : a < b → hg_W p l e R s m args below meth c Q D lo C0 nL kr nr G q (L) (st)) : hg_W p l e R s m args below meth c Q D lo C0 nL kr nr G pc (L) (.int (nI b) :: .int (nI a) :: st) := hr_icmp_ge X d hq ht (fun z => kt ((nI_leI hb ha).mp z)) (fun z => kf (Nat.not_le.mp fun y => z ((nI_leI hb ha).mpr y)))
theorem hr_icmpN_gt {a b : Nat} (X : hg_X p l s m args meth c D lo own cc nL) {off : Int} {tgt : Nat} (d : decode cc pc = .ok (.if_icmp .gt off, 3)) (hq : pc + 3 = q) (ht : (pc : Int) + off = (tgt : Int)) (ha : a < 2 ^ 31) (hb : b < 2 ^ 31) (kt : b < a → hg_W p l e R s m args below meth c Q D lo C0 nL kr nr G tgt (L) (st)) (kf : a ≤ b → hg_W p l e R s m args below meth c Q D lo C0 nL kr nr G q (L) (st)) : hg_W p l e R s m args below meth c Q D lo C0 nL kr nr G pc (L) (.int (nI b) :: .int (nI a) :: st) := hr_icmp_gt X d hq ht (fun z => kt ((nI_ltI hb ha).mp z)) (fun z => kf (Nat.not_lt.mp fun y => z ((nI_ltI hb ha).mpr y)))
theorem hr_icmpN_le {a b : Nat} (X : hg_X p l s m args meth c D lo own cc nL) {off : Int} {tgt : Nat} (d : decode cc pc = .ok (.if_icmp .le off, 3)) (hq : pc + 3 = q) (ht : (pc : Int) + off = (tgt : Int)) (ha : a < 2 ^ 31) (hb : b < 2 ^ 31) (kt : a ≤ b → hg_W p l e R s m args below meth c Q D lo C0 nL kr nr G tgt (L) (st)) (kf : b < a → hg_W p l e R s m args below meth c Q D lo C0 nL kr nr G q (L) (st)) : hg_W p l e R s m args below meth c Q D lo C0 nL kr nr G pc (L) (.int (nI b) :: .int (nI a) :: st) := hr_icmp_le X d hq ht (fun z => kt ((nI_leI ha hb).mp z)) (fun z => kf (Nat.not_le.mp fun y => z ((nI_leI ha hb).mpr y)))
theorem hr_icmpO_eq {b : Nat} (X : hg_X p l s m args meth c D lo own cc nL) {off : Int} {tgt : Nat} (d : decode cc pc = .ok (.if_icmp .eq off, 3)) (hq : pc + 3 = q) (ht : (pc : Int) + off = (tgt : Int)) (hb : b < 2 ^ 31) (kt : b = 99 → hg_W p l e R s m args below meth c Q D lo C0 nL kr nr G tgt (L) (st)) (kf : ¬ b = 99 → hg_W p l e R s m args below meth c Q D lo C0 nL kr nr G q (L) (st)) : hg_W p l e R s m args below meth c Q D lo C0 nL kr nr G pc (L) (.int (-1) :: .int (oI b) :: st) := hr_icmp_eq X d hq ht (fun z => kt ((oI_m1 hb).mp z)) (fun z => kf (fun y => z ((oI_m1 hb).mpr y)))
theorem hr_icmpM_eq {a b : Nat} (X : hg_X p l s m args meth c D lo own cc nL) {off : Int} {tgt : Nat} (d : decode cc pc = .ok (.if_icmp .eq off, 3)) (hq : pc + 3 = q) (ht : (pc : Int) + off = (tgt : Int)) (ha : a < 99) (hb : b < 2 ^ 31) (kt : a = b → hg_W p l e R s m args below meth c Q D lo C0 nL kr nr G tgt (L) (st)) (kf : ¬ a = b → hg_W p l e R s m args below meth c Q D lo C0 nL kr nr G q (L) (st)) : hg_W p l e R s m args below meth c Q D lo C0 nL kr nr G pc (L) (.int (oI b) :: .int (nI a) :: st) := hr_icmp_eq X d hq ht (fun z => kt ((oI_nI hb ha).mp z)) (fun z => kf (fun y => z ((oI_nI hb ha).mpr y)))
theorem hr_icmpO_ne {b : Nat} (X : hg_X p l s m args meth c D lo own cc nL) {off : Int} {tgt : Nat} (d : decode cc pc = .ok (.if_icmp .ne off, 3)) (hq : pc + 3 = q) (ht : (pc : Int) + off = (tgt : Int)) (hb : b < 2 ^ 31) (kt : ¬ b = 99 → hg_W p l e R s m args below meth c Q D lo C0 nL kr nr G tgt (L) (st)) (kf : b = 99 → hg_W p l e R s m args below meth c Q D lo C0 nL kr nr G q (L) (st)) : hg_W p l e R s m args below meth c Q D lo C0 nL kr nr G pc (L) (.int (-1) :: .int (oI b) :: st) := hr_icmp_ne X d hq ht (fun z => kt (fun y => z ((oI_m1 hb).mpr y))) (fun z => kf ((oI_m1 hb).mp z))
theorem hr_icmpM_ne {a b : Nat} (X : hg_X p l s m args meth c D lo own cc nL) {off : Int} {tgt : Nat} (d : decode cc pc = .ok (.if_icmp .ne off, 3)) (hq : pc + 3 = q) (ht : (pc : Int) + off = (tgt : Int)) (ha : a < 99) (hb : b < 2 ^ 31) (kt : ¬ a = b → hg_W p l e R s m args below meth c Q D lo C0 nL kr nr G tgt (L) (st)) (kf : a = b → hg_W p l e R s m args below meth c Q D lo C0 nL kr nr G q (L) (st)) : hg_W p l e R s m args below meth c Q D lo C0 nL kr nr G pc (L) (.int (oI b) :: .int (nI a) :: st) := hr_icmp_ne X d hq ht (fun z => kt (fun y => z ((oI_nI hb ha).mpr y))) (fun z => kf ((oI_nI hb ha).mp z))
theorem hr_ifB_eq {b : Bool} (X : hg_X p l s m args meth c D lo own cc nL) {off : Int} {tgt : Nat} (d : decode cc pc = .ok (.ifCond .eq off, 3)) (hq : pc + 3 = q) (ht : (pc : Int) + off = (tgt : Int)) (kt : b = false → hg_W p l e R s m args below meth c Q D lo C0 nL kr nr G tgt (L) (st)) (kf : b = true → hg_W p l e R s m args below meth c Q D lo C0 nL kr nr G q (L) (st)) : hg_W p l e R s m args below meth c Q D lo C0 nL kr nr G pc (L) (.int (bI b) :: st) := hr_if_eq X d hq ht (fun z => kt (bI_0.mp z)) (fun z => kf (bI_1.mp z))
theorem hr_ifB_ne {b : Bool} (X : hg_X p l s m args meth c D lo own cc nL) {off : Int} {tgt : Nat} (d : decode cc pc = .ok (.ifCond .ne off, 3)) (hq : pc + 3 = q) (ht : (pc : Int) + off = (tgt : Int)) (kt : b = true → hg_W p l e R s m args below meth c Q D lo C0 nL kr nr G tgt (L) (st)) (kf : b = false → hg_W p l e R s m args below meth c Q D lo C0 nL kr nr G q (L) (st)) : hg_W p l e R s m args below meth c Q D lo C0 nL kr nr G pc (L) (.int (bI b) :: st) := hr_if_ne X d hq ht (fun z => kt (bI_1.mp z)) (fun z => kf (bI_0.mp z))
theorem hr_ifN_eq {a : Nat} (X : hg_X p l s m args meth c D lo own cc nL) {off : Int} {tgt : Nat} (d : decode cc pc = .ok (.ifCond .eq off, 3)) (hq : pc + 3 = q) (ht : (pc : Int) + off = (tgt : Int)) (ha : a < 2 ^ 31) (kt : a = 0 → hg_W p l e R s m args below meth c Q D lo C0 nL kr nr G tgt (L) (st)) (kf : 0 < a → hg_W p l e R s m args below meth c Q D lo C0 nL kr nr G q (L) (st)) : hg_W p l e R s m args below meth c Q D lo C0 nL kr nr G pc (L) (.int (nI a) :: st) := hr_if_eq X d hq ht (fun z => kt ((nI_z ha).mp z)) (fun z => kf (Nat.pos_of_ne_zero fun y => z ((nI_z ha).mpr y)))
theorem hr_ifN_ne {a : Nat} (X : hg_X p l s m args meth c D lo own cc nL) {off : Int} {tgt : Nat} (d : decode cc pc = .ok (.ifCond .ne off, 3)) (hq : pc + 3 = q) (ht : (pc : Int) + off = (tgt : Int)) (ha : a < 2 ^ 31) (kt : 0 < a → hg_W p l e R s m args below meth c Q D lo C0 nL kr nr G tgt (L) (st)) (kf : a = 0 → hg_W p l e R s m args below meth c Q D lo C0 nL kr nr G q (L) (st)) : hg_W p l e R s m args below meth c Q D lo C0 nL kr nr G pc (L) (.int (nI a) :: st) := hr_if_ne X d hq ht (fun z => kt (Nat.pos_of_ne_zero fun y => z ((nI_z ha).mpr y))) (fun z => kf ((nI_z ha).mp z))
theorem hr_ifN_le {a : Nat} (X : hg_X p l s m args meth c D lo own cc nL) {off : Int} {tgt : Nat} (d : decode cc pc = .ok (.ifCond .le off, 3)) (hq : pc + 3 = q) (ht : (pc : Int) + off = (tgt : Int)) (ha : a < 2 ^ 31) (kt : a = 0 → hg_W p l e R s m args below meth c Q D lo C0 nL kr nr G tgt (L) (st)) (kf : 0 < a → hg_W p l e R s m args below meth c Q D lo C0 nL kr nr G q (L) (st)) : hg_W p l e R s m args below meth c Q D lo C0 nL kr nr G pc (L) (.int (nI a) :: st) := hr_if_le X d hq ht (fun z => kt ((nI_lez ha).mp z)) (fun z => kf (Nat.pos_of_ne_zero fun y => z ((nI_lez ha).mpr y)))
theorem hr_ifN_gt {a : Nat} (X : hg_X p l s m args meth c D lo own cc nL) {off : Int} {tgt : Nat} (d : decode cc pc = .ok (.ifCond .gt off, 3)) (hq : pc + 3 = q) (ht : (pc : Int) + off = (tgt : Int)) (ha : a < 2 ^ 31) (kt : 0 < a → hg_W p l e R s m args below meth c Q D lo C0 nL kr nr G tgt (L) (st)) (kf : a = 0 → hg_W p l e R s m args below meth c Q D lo C0 nL kr nr G q (L) (st)) : hg_W p l e R s m args below meth c Q D lo C0 nL kr nr G pc (L) (.int (nI a) :: st) := hr_if_gt X d hq ht (fun z => kt (Nat.pos_of_ne_zero fun y => (nI_gtz ha).mp z y)) (fun z => kf (Classical.byContradiction fun y => z ((nI_gtz ha).mpr y)))
theorem hr_ifN_lt {a : Nat} (X : hg_X p l s m args meth c D lo own cc nL) {off : Int} {tgt : Nat} (d : decode cc pc = .ok (.ifCond .lt off, 3)) (hq : pc + 3 = q) (ht : (pc : Int) + off = (tgt : Int)) (ha : a < 2 ^ 31) (k : hg_W p l e R s m args below meth c Q D lo C0 nL kr nr G q (L) (st)) : hg_W p l e R s m args below meth c Q D lo C0 nL kr nr G pc (L) (.int (nI a) :: st) := hr_if_lt X d hq ht (fun z => absurd z (nI_pos ha)) (fun _ => k)
theorem hr_ifN_ge {a : Nat} (X : hg_X p l s m args meth c D lo own cc nL) {off : Int} {tgt : Nat} (d : decode cc pc = .ok (.ifCond .ge off, 3)) (hq : pc + 3 = q) (ht : (pc : Int) + off = (tgt : Int)) (ha : a < 2 ^ 31) (k : hg_W p l e R s m args below meth c Q D lo C0 nL kr nr G tgt (L) (st)) : hg_W p l e R s m args below meth c Q D lo C0 nL kr nr G pc (L) (.int (nI a) :: st) := hr_if_ge X d hq ht (fun _ => k) (fun z => absurd (nI_pos' ha) z)
theorem hr_goto (X : hg_X p l s m args meth c D lo own cc nL) {off : Int} {tgt : Nat} (d : decode cc pc = .ok (.goto off, 3)) (ht : (pc : Int) + off = (tgt : Int)) (k : hg_W p l e R s m args below meth c Q D lo C0 nL kr nr G tgt (L) (st)) : hg_W p l e R s m args below meth c Q D lo C0 nL kr nr G pc (L) (st) := fun ls H locs k0 n0 hl hP hS hE hk hn => lv_goto X.x X.b d ht (k ls H locs k0 n0 hl hP hS hE hk hn)
theorem hr_ifnull (X : hg_X p l s m args meth c D lo own cc nL) {off : Int} {tgt : Nat} {o : Option Nat} (d : decode cc pc = .ok (.ifnull off, 3)) (hq : pc + 3 = q) (ht : (pc : Int) + off = (tgt : Int)) (kt : o = none → hg_W p l e R s m args below meth c Q D lo C0 nL kr nr G tgt (L) (st)) (kf : ∀ a : Nat, o = some a → hg_W p l e R s m args below meth c Q D lo C0 nL kr nr G q (L) (st)) : hg_W p l e R s m args below meth c Q D lo C0 nL kr nr G pc (L) (va_rf o :: st) := by
  subst hq
  intro ls H locs k0 n0 hl hP hS hE hk hn
  cases o with
  | none => exact lv_ifnullN X.x X.b d ht (kt rfl ls H locs k0 n0 hl hP hS hE hk hn)
  | some a => exact lv_ifnull X.x X.b d (kf a rfl ls H locs k0 n0 hl hP hS hE hk hn)
theorem hr_ifnonnull (X : hg_X p l s m args meth c D lo own cc nL) {off : Int} {tgt : Nat} {o : Option Nat} (d : decode cc pc = .ok (.ifnonnull off, 3)) (hq : pc + 3 = q) (ht : (pc : Int) + off = (tgt : Int)) (kt : ∀ a : Nat, o = some a → hg_W p l e R s m args below meth c Q D lo C0 nL kr nr G tgt (L) (st)) (kf : o = none → hg_W p l e R s m args below meth c Q D lo C0 nL kr nr G q (L) (st)) : hg_W p l e R s m args below meth c Q D lo C0 nL kr nr G pc (L) (va_rf o :: st) := by
  subst hq
  intro ls H locs k0 n0 hl hP hS hE hk hn
  cases o with
  | none => exact lv_ifnonnullN X.x X.b d (kf rfl ls H locs k0 n0 hl hP hS hE hk hn)
  | some a => exact lv_ifnonnull X.x X.b d ht (kt a rfl ls H locs k0 n0 hl hP hS hE hk hn)
theorem hr_ifnullN (X : hg_X p l s m args meth c D lo own cc nL) {off : Int} {tgt : Nat} (d : decode cc pc = .ok (.ifnull off, 3)) (hq : pc + 3 = q) (ht : (pc : Int) + off = (tgt : Int)) (k : hg_W p l e R s m args below meth c Q D lo C0 nL kr nr G tgt (L) (st)) : hg_W p l e R s m args below meth c Q D lo C0 nL kr nr G pc (L) (.null :: st) := by
  subst hq
  exact fun ls H locs k0 n0 hl hP hS hE hk hn => lv_ifnullN X.x X.b d ht (k ls H locs k0 n0 hl hP hS hE hk hn)
theorem hr_ifnullS (X : hg_X p l s m args meth c D lo own cc nL) {off : Int} {tgt : Nat} {a : Nat} (d : decode cc pc = .ok (.ifnull off, 3)) (hq : pc + 3 = q) (ht : (pc : Int) + off = (tgt : Int)) (k : hg_W p l e R s m args below meth c Q D lo C0 nL kr nr G q (L) (st)) : hg_W p l e R s m args below meth c Q D lo C0 nL kr nr G pc (L) (.ref a :: st) := by
  subst hq
  exact fun ls H locs k0 n0 hl hP hS hE hk hn => lv_ifnull X.x X.b d (k ls H locs k0 n0 hl hP hS hE hk hn)
theorem hr_ifnonnullN (X : hg_X p l s m args meth c D lo own cc nL) {off : Int} {tgt : Nat} (d : decode cc pc = .ok (.ifnonnull off, 3)) (hq : pc + 3 = q) (ht : (pc : Int) + off = (tgt : Int)) (k : hg_W p l e R s m args below meth c Q D lo C0 nL kr nr G q (L) (st)) : hg_W p l e R s m args below meth c Q D lo C0 nL kr nr G pc (L) (.null :: st) := by
  subst hq
  exact fun ls H locs k0 n0 hl hP hS hE hk hn => lv_ifnonnullN X.x X.b d (k ls H locs k0 n0 hl hP hS hE hk hn)
theorem hr_ifnonnullS (X : hg_X p l s m args meth c D lo own cc nL) {off : Int} {tgt : Nat} {a : Nat} (d : decode cc pc = .ok (.ifnonnull off, 3)) (hq : pc + 3 = q) (ht : (pc : Int) + off = (tgt : Int)) (k : hg_W p l e R s m args below meth c Q D lo C0 nL kr nr G tgt (L) (st)) : hg_W p l e R s m args below meth c Q D lo C0 nL kr nr G pc (L) (.ref a :: st) := by
  subst hq
  exact fun ls H locs k0 n0 hl hP hS hE hk hn => lv_ifnonnull X.x X.b d ht (k ls H locs k0 n0 hl hP hS hE hk hn)
theorem hr_tableIn (X : hg_X p l s m args meth c D lo own cc nL) {dflt lo1 hi1 : Int} {offs : Array Int} {len : Nat} {x : Int32} {off : Int} {tgt : Nat} (d : decode cc pc = .ok (.tableswitch dflt lo1 hi1 offs, len)) (h1 : ¬ x.toInt < lo1) (h2 : ¬ hi1 < x.toInt) (ho : offs[(x.toInt - lo1).toNat]? = some off) (ht : (pc : Int) + off = (tgt : Int)) (k : hg_W p l e R s m args below meth c Q D lo C0 nL kr nr G tgt (L) (st)) : hg_W p l e R s m args below meth c Q D lo C0 nL kr nr G pc (L) (.int x :: st) := fun ls H locs k0 n0 hl hP hS hE hk hn => lv_tableIn X.x X.b d h1 h2 ho ht (k ls H locs k0 n0 hl hP hS hE hk hn)
theorem hr_tableOut (X : hg_X p l s m args meth c D lo own cc nL) {dflt lo1 hi1 : Int} {offs : Array Int} {len : Nat} {x : Int32} {tgt : Nat} (d : decode cc pc = .ok (.tableswitch dflt lo1 hi1 offs, len)) (h : x.toInt < lo1 ∨ hi1 < x.toInt) (ht : (pc : Int) + dflt = (tgt : Int)) (k : hg_W p l e R s m args below meth c Q D lo C0 nL kr nr G tgt (L) (st)) : hg_W p l e R s m args below meth c Q D lo C0 nL kr nr G pc (L) (.int x :: st) := fun ls H locs k0 n0 hl hP hS hE hk hn => lv_tableOut X.x X.b d h ht (k ls H locs k0 n0 hl hP hS hE hk hn)
theorem hr_iloadG {i : Nat} {x : Int32} (X : hg_X p l s m args meth c D lo own cc nL) (d : (∃ k : Fin 4, (k : Nat) = i ∧ decode cc pc = .ok (.iload_n k, 1) ∧ pc + 1 = q) ∨ (decode cc pc = .ok (.iload i, 2) ∧ pc + 2 = q)) (hl0 : L[i]? = some (some (.int x))) (k : hg_W p l e R s m args below meth c Q D lo C0 nL kr nr G q (L) (.int x :: st)) : hg_W p l e R s m args below meth c Q D lo C0 nL kr nr G pc (L) (st) := by
  intro ls H locs k0 n0 hl hP hS hE hk hn
  rcases d with ⟨k9, h1, d, rfl⟩ | ⟨d, rfl⟩
  · exact lv_iload_n X.x X.b d h1 (hg_Lat hl hl0) (k ls H locs k0 n0 hl hP hS hE hk hn)
  · exact lv_iload X.x X.b d (hg_Lat hl hl0) (k ls H locs k0 n0 hl hP hS hE hk hn)
theorem hr_lloadG {i : Nat} {x : Int64} (X : hg_X p l s m args meth c D lo own cc nL) (d : (∃ k : Fin 4, (k : Nat) = i ∧ decode cc pc = .ok (.lload_n k, 1) ∧ pc + 1 = q) ∨ (decode cc pc = .ok (.lload i, 2) ∧ pc + 2 = q)) (hl0 : L[i]? = some (some (.long x))) (k : hg_W p l e R s m args below meth c Q D lo C0 nL kr nr G q (L) (.long x :: st)) : hg_W p l e R s m args below meth c Q D lo C0 nL kr nr G pc (L) (st) := by
  intro ls H locs k0 n0 hl hP hS hE hk hn
  rcases d with ⟨k9, h1, d, rfl⟩ | ⟨d, rfl⟩
  · exact lv_lload_n X.x X.b d h1 (hg_Lat hl hl0) (k ls H locs k0 n0 hl hP hS hE hk hn)
  · exact lv_lload X.x X.b d (hg_Lat hl hl0) (k ls H locs k0 n0 hl hP hS hE hk hn)
theorem hr_aloadG {i : Nat} {o : Option Nat} (X : hg_X p l s m args meth c D lo own cc nL) (d : (∃ k : Fin 4, (k : Nat) = i ∧ decode cc pc = .ok (.aload_n k, 1) ∧ pc + 1 = q) ∨ (decode cc pc = .ok (.aload i, 2) ∧ pc + 2 = q)) (hl0 : L[i]? = some (some (va_rf o))) (k : hg_W p l e R s m args below meth c Q D lo C0 nL kr nr G q (L) (va_rf o :: st)) : hg_W p l e R s m args below meth c Q D lo C0 nL kr nr G pc (L) (st) := by
  intro ls H locs k0 n0 hl hP hS hE hk hn
  cases o with
  | none =>
    rcases d with ⟨k9, h1, d, rfl⟩ | ⟨d, rfl⟩
    · exact lv_aload_nN X.x X.b d h1 (hg_Lat hl hl0) (k ls H locs k0 n0 hl hP hS hE hk hn)
    · exact lv_aloadN X.x X.b d (hg_Lat hl hl0) (k ls H locs k0 n0 hl hP hS hE hk hn)
  | some a =>
    rcases d with ⟨k9, h1, d, rfl⟩ | ⟨d, rfl⟩
    · exact lv_aload_n X.x X.b d h1 (hg_Lat hl hl0) (k ls H locs k0 n0 hl hP hS hE hk hn)
    · exact lv_aload X.x X.b d (hg_Lat hl hl0) (k ls H locs k0 n0 hl hP hS hE hk hn)
theorem hr_istoreG {i : Nat} {x : Int32} (X : hg_X p l s m args meth c D lo own cc nL) (d : (∃ k : Fin 4, (k : Nat) = i ∧ decode cc pc = .ok (.istore_n k, 1) ∧ pc + 1 = q) ∨ (decode cc pc = .ok (.istore i, 2) ∧ pc + 2 = q)) (hp : hg_pv L i = true) (hi : i < nL) (k : hg_W p l e R s m args below meth c Q D lo C0 nL kr nr G q (L.set i (some (.int x))) (st)) : hg_W p l e R s m args below meth c Q D lo C0 nL kr nr G pc (L) (.int x :: st) := by
  intro ls H locs k0 n0 hl hP hS hE hk hn
  rcases d with ⟨k9, h1, d, rfl⟩ | ⟨d, rfl⟩
  · exact lv_istore_n X.x X.b d h1 hl hi rfl (fun ls hl => (k ls H locs k0 n0 (hg_set1 hp hl) hP hS hE hk hn))
  · exact lv_istore X.x X.b d hl hi rfl (fun ls hl => (k ls H locs k0 n0 (hg_set1 hp hl) hP hS hE hk hn))
theorem hr_lstoreG {i : Nat} {x : Int64} (X : hg_X p l s m args meth c D lo own cc nL) (d : (∃ k : Fin 4, (k : Nat) = i ∧ decode cc pc = .ok (.lstore_n k, 1) ∧ pc + 1 = q) ∨ (decode cc pc = .ok (.lstore i, 2) ∧ pc + 2 = q)) (hp : hg_pv L i = true) (hi : i + 1 < nL) (k : hg_W p l e R s m args below meth c Q D lo C0 nL kr nr G q ((L.set i (some (.long x))).set (i + 1) none) (st)) : hg_W p l e R s m args below meth c Q D lo C0 nL kr nr G pc (L) (.long x :: st) := by
  intro ls H locs k0 n0 hl hP hS hE hk hn
  rcases d with ⟨k9, h1, d, rfl⟩ | ⟨d, rfl⟩
  · exact lv_lstore_n X.x X.b d h1 hl hi rfl (fun ls hl => (k ls H locs k0 n0 (hg_set2 hp hl) hP hS hE hk hn))
  · exact lv_lstore X.x X.b d hl hi rfl (fun ls hl => (k ls H locs k0 n0 (hg_set2 hp hl) hP hS hE hk hn))
theorem hr_astoreG {i : Nat} {o : Option Nat} (X : hg_X p l s m args meth c D lo own cc nL) (d : (∃ k : Fin 4, (k : Nat) = i ∧ decode cc pc = .ok (.astore_n k, 1) ∧ pc + 1 = q) ∨ (decode cc pc = .ok (.astore i, 2) ∧ pc + 2 = q)) (hp : hg_pv L i = true) (hi : i < nL) (k : hg_W p l e R s m args below meth c Q D lo C0 nL kr nr G q (L.set i (some (va_rf o))) (st)) : hg_W p l e R s m args below meth c Q D lo C0 nL kr nr G pc (L) (va_rf o :: st) := by
  intro ls H locs k0 n0 hl hP hS hE hk hn
  cases o with
  | none =>
    rcases d with ⟨k9, h1, d, rfl⟩ | ⟨d, rfl⟩
    · exact lv_astore_nN X.x X.b d h1 hl hi rfl (fun ls hl => (k ls H locs k0 n0 (hg_set1 hp hl) hP hS hE hk hn))
    · exact lv_astoreN X.x X.b d hl hi rfl (fun ls hl => (k ls H locs k0 n0 (hg_set1 hp hl) hP hS hE hk hn))
  | some a =>
    rcases d with ⟨k9, h1, d, rfl⟩ | ⟨d, rfl⟩
    · exact lv_astore_n X.x X.b d h1 hl hi rfl (fun ls hl => (k ls H locs k0 n0 (hg_set1 hp hl) hP hS hE hk hn))
    · exact lv_astore X.x X.b d hl hi rfl (fun ls hl => (k ls H locs k0 n0 (hg_set1 hp hl) hP hS hE hk hn))
theorem hr_iincG {i : Nat} {n : Int} {x v : Int32} (X : hg_X p l s m args meth c D lo own cc nL) (d : decode cc pc = .ok (.iinc i n, 3)) (hq : pc + 3 = q) (hl0 : L[i]? = some (some (.int x))) (hv : x + Int32.ofInt n = v) (hp : hg_pv L i = true) (hi : i < nL) (k : hg_W p l e R s m args below meth c Q D lo C0 nL kr nr G q (L.set i (some (.int v))) (st)) : hg_W p l e R s m args below meth c Q D lo C0 nL kr nr G pc (L) (st) := by
  subst hq
  intro ls H locs k0 n0 hl hP hS hE hk hn
  obtain ⟨j, hj⟩ := List.getElem?_of_mem (hg_Lm.mpr hl0)
  exact lv_iinc X.x X.b d hl hj hv hi rfl (fun ls hl => (k ls H locs k0 n0 (hg_set1 hp hl) hP hS hE hk hn))
theorem hr_weak {L' : List (Option Value)} (h : ∀ (i : Nat) (v : Value), L'[i]? = some (some v) → L[i]? = some (some v)) (k : hg_W p l e R s m args below meth c Q D lo C0 nL kr nr G pc (L') (st)) : hg_W p l e R s m args below meth c Q D lo C0 nL kr nr G pc (L) (st) := fun ls H locs k0 n0 hl hP hS hE hk hn => k ls H locs k0 n0 (hg_Lsub hl fun i v hi => hg_Lm.mpr (h i v hi)) hP hS hE hk hn
theorem hr_iload0 {x : Int32} (X : hg_X p l s m args meth c D lo own cc nL) (d : decode cc pc = .ok (.iload_n 0, 1)) (hq : pc + 1 = q) (k : hg_W p l e R s m args below meth c Q D lo C0 nL kr nr G q (some (.int x) :: tl) (.int x :: st)) : hg_W p l e R s m args below meth c Q D lo C0 nL kr nr G pc (some (.int x) :: tl) (st) := hr_iloadG (i := 0) (L := some (.int x) :: tl) X (Or.inl ⟨0, rfl, d, hq⟩) rfl k
theorem hr_lload0 {x : Int64} (X : hg_X p l s m args meth c D lo own cc nL) (d : decode cc pc = .ok (.lload_n 0, 1)) (hq : pc + 1 = q) (k : hg_W p l e R s m args below meth c Q D lo C0 nL kr nr G q (some (.long x) :: tl) (.long x :: st)) : hg_W p l e R s m args below meth c Q D lo C0 nL kr nr G pc (some (.long x) :: tl) (st) := hr_lloadG (i := 0) (L := some (.long x) :: tl) X (Or.inl ⟨0, rfl, d, hq⟩) rfl k
theorem hr_aloadq0 {o : Option Nat} (X : hg_X p l s m args meth c D lo own cc nL) (d : decode cc pc = .ok (.aload_n 0, 1)) (hq : pc + 1 = q) (k : hg_W p l e R s m args below meth c Q D lo C0 nL kr nr G q (some (va_rf o) :: tl) (va_rf o :: st)) : hg_W p l e R s m args below meth c Q D lo C0 nL kr nr G pc (some (va_rf o) :: tl) (st) := hr_aloadG (i := 0) (o := o) (L := some (va_rf o) :: tl) X (Or.inl ⟨0, rfl, d, hq⟩) rfl k
theorem hr_aload0 {o : Nat} (X : hg_X p l s m args meth c D lo own cc nL) (d : decode cc pc = .ok (.aload_n 0, 1)) (hq : pc + 1 = q) (k : hg_W p l e R s m args below meth c Q D lo C0 nL kr nr G q (some (.ref o) :: tl) (.ref o :: st)) : hg_W p l e R s m args below meth c Q D lo C0 nL kr nr G pc (some (.ref o) :: tl) (st) := hr_aloadG (i := 0) (o := some o) (L := some (.ref o) :: tl) X (Or.inl ⟨0, rfl, d, hq⟩) rfl k
theorem hr_aloadN0  (X : hg_X p l s m args meth c D lo own cc nL) (d : decode cc pc = .ok (.aload_n 0, 1)) (hq : pc + 1 = q) (k : hg_W p l e R s m args below meth c Q D lo C0 nL kr nr G q (some (.null) :: tl) (.null :: st)) : hg_W p l e R s m args below meth c Q D lo C0 nL kr nr G pc (some (.null) :: tl) (st) := hr_aloadG (i := 0) (o := none) (L := some (.null) :: tl) X (Or.inl ⟨0, rfl, d, hq⟩) rfl k
theorem hr_istore0 {z : Option Value} {x : Int32} (X : hg_X p l s m args meth c D lo own cc nL) (d : decode cc pc = .ok (.istore_n 0, 1)) (hq : pc + 1 = q) (hi : 0 < nL) (k : hg_W p l e R s m args below meth c Q D lo C0 nL kr nr G q (some (.int x) :: tl) (st)) : hg_W p l e R s m args below meth c Q D lo C0 nL kr nr G pc (z :: tl) (.int x :: st) := hr_istoreG (i := 0) (L := z :: tl) X (Or.inl ⟨0, rfl, d, hq⟩) rfl hi k
theorem hr_astoreq0 {z : Option Value} {o : Option Nat} (X : hg_X p l s m args meth c D lo own cc nL) (d : decode cc pc = .ok (.astore_n 0, 1)) (hq : pc + 1 = q) (hi : 0 < nL) (k : hg_W p l e R s m args below meth c Q D lo C0 nL kr nr G q (some (va_rf o) :: tl) (st)) : hg_W p l e R s m args below meth c Q D lo C0 nL kr nr G pc (z :: tl) (va_rf o :: st) := hr_astoreG (i := 0) (o := o) (L := z :: tl) X (Or.inl ⟨0, rfl, d, hq⟩) rfl hi k
theorem hr_astore0 {z : Option Value} {o : Nat} (X : hg_X p l s m args meth c D lo own cc nL) (d : decode cc pc = .ok (.astore_n 0, 1)) (hq : pc + 1 = q) (hi : 0 < nL) (k : hg_W p l e R s m args below meth c Q D lo C0 nL kr nr G q (some (.ref o) :: tl) (st)) : hg_W p l e R s m args below meth c Q D lo C0 nL kr nr G pc (z :: tl) (.ref o :: st) := hr_astoreG (i := 0) (o := some o) (L := z :: tl) X (Or.inl ⟨0, rfl, d, hq⟩) rfl hi k
theorem hr_astoreN0 {z : Option Value}  (X : hg_X p l s m args meth c D lo own cc nL) (d : decode cc pc = .ok (.astore_n 0, 1)) (hq : pc + 1 = q) (hi : 0 < nL) (k : hg_W p l e R s m args below meth c Q D lo C0 nL kr nr G q (some (.null) :: tl) (st)) : hg_W p l e R s m args below meth c Q D lo C0 nL kr nr G pc (z :: tl) (.null :: st) := hr_astoreG (i := 0) (o := none) (L := z :: tl) X (Or.inl ⟨0, rfl, d, hq⟩) rfl hi k
theorem hr_lstore0 {z z1 : Option Value} {x : Int64} (X : hg_X p l s m args meth c D lo own cc nL) (d : decode cc pc = .ok (.lstore_n 0, 1)) (hq : pc + 1 = q) (hi : 0 + 1 < nL) (k : hg_W p l e R s m args below meth c Q D lo C0 nL kr nr G q (some (.long x) :: none :: tl) (st)) : hg_W p l e R s m args below meth c Q D lo C0 nL kr nr G pc (z :: z1 :: tl) (.long x :: st) := hr_lstoreG (i := 0) X (Or.inl ⟨0, rfl, d, hq⟩) rfl hi k
theorem hr_iinc0 {n : Int} {x v : Int32} (X : hg_X p l s m args meth c D lo own cc nL) (d : decode cc pc = .ok (.iinc 0 n, 3)) (hq : pc + 3 = q) (hv : x + Int32.ofInt n = v) (hi : 0 < nL) (k : hg_W p l e R s m args below meth c Q D lo C0 nL kr nr G q (some (.int v) :: tl) (st)) : hg_W p l e R s m args below meth c Q D lo C0 nL kr nr G pc (some (.int x) :: tl) (st) := hr_iincG (i := 0) X d hq rfl hv rfl hi k
theorem hr_fg0 {z : Option Value} (k : hg_W p l e R s m args below meth c Q D lo C0 nL kr nr G pc (none :: tl) (st)) : hg_W p l e R s m args below meth c Q D lo C0 nL kr nr G pc (z :: tl) (st) := hr_weak (fun j v h => by
  rcases hg_fg (L := z :: tl) (i := 0) h with ⟨h1, h2⟩
  exact h2) k
theorem hr_iload1 {a0 : Option Value} {x : Int32} (X : hg_X p l s m args meth c D lo own cc nL) (d : decode cc pc = .ok (.iload_n 1, 1)) (hq : pc + 1 = q) (k : hg_W p l e R s m args below meth c Q D lo C0 nL kr nr G q (a0 :: some (.int x) :: tl) (.int x :: st)) : hg_W p l e R s m args below meth c Q D lo C0 nL kr nr G pc (a0 :: some (.int x) :: tl) (st) := hr_iloadG (i := 1) (L := a0 :: some (.int x) :: tl) X (Or.inl ⟨1, rfl, d, hq⟩) rfl k
theorem hr_lload1 {a0 : Option Value} {x : Int64} (X : hg_X p l s m args meth c D lo own cc nL) (d : decode cc pc = .ok (.lload_n 1, 1)) (hq : pc + 1 = q) (k : hg_W p l e R s m args below meth c Q D lo C0 nL kr nr G q (a0 :: some (.long x) :: tl) (.long x :: st)) : hg_W p l e R s m args below meth c Q D lo C0 nL kr nr G pc (a0 :: some (.long x) :: tl) (st) := hr_lloadG (i := 1) (L := a0 :: some (.long x) :: tl) X (Or.inl ⟨1, rfl, d, hq⟩) rfl k
theorem hr_aloadq1 {a0 : Option Value} {o : Option Nat} (X : hg_X p l s m args meth c D lo own cc nL) (d : decode cc pc = .ok (.aload_n 1, 1)) (hq : pc + 1 = q) (k : hg_W p l e R s m args below meth c Q D lo C0 nL kr nr G q (a0 :: some (va_rf o) :: tl) (va_rf o :: st)) : hg_W p l e R s m args below meth c Q D lo C0 nL kr nr G pc (a0 :: some (va_rf o) :: tl) (st) := hr_aloadG (i := 1) (o := o) (L := a0 :: some (va_rf o) :: tl) X (Or.inl ⟨1, rfl, d, hq⟩) rfl k
theorem hr_aload1 {a0 : Option Value} {o : Nat} (X : hg_X p l s m args meth c D lo own cc nL) (d : decode cc pc = .ok (.aload_n 1, 1)) (hq : pc + 1 = q) (k : hg_W p l e R s m args below meth c Q D lo C0 nL kr nr G q (a0 :: some (.ref o) :: tl) (.ref o :: st)) : hg_W p l e R s m args below meth c Q D lo C0 nL kr nr G pc (a0 :: some (.ref o) :: tl) (st) := hr_aloadG (i := 1) (o := some o) (L := a0 :: some (.ref o) :: tl) X (Or.inl ⟨1, rfl, d, hq⟩) rfl k
theorem hr_aloadN1 {a0 : Option Value}  (X : hg_X p l s m args meth c D lo own cc nL) (d : decode cc pc = .ok (.aload_n 1, 1)) (hq : pc + 1 = q) (k : hg_W p l e R s m args below meth c Q D lo C0 nL kr nr G q (a0 :: some (.null) :: tl) (.null :: st)) : hg_W p l e R s m args below meth c Q D lo C0 nL kr nr G pc (a0 :: some (.null) :: tl) (st) := hr_aloadG (i := 1) (o := none) (L := a0 :: some (.null) :: tl) X (Or.inl ⟨1, rfl, d, hq⟩) rfl k
theorem hr_istore1 {a0 : Option Value} {z : Option Value} {x : Int32} (X : hg_X p l s m args meth c D lo own cc nL) (d : decode cc pc = .ok (.istore_n 1, 1)) (hq : pc + 1 = q) (hp : hg_nl a0 = true) (hi : 1 < nL) (k : hg_W p l e R s m args below meth c Q D lo C0 nL kr nr G q (a0 :: some (.int x) :: tl) (st)) : hg_W p l e R s m args below meth c Q D lo C0 nL kr nr G pc (a0 :: z :: tl) (.int x :: st) := hr_istoreG (i := 1) (L := a0 :: z :: tl) X (Or.inl ⟨1, rfl, d, hq⟩) hp hi k
theorem hr_astoreq1 {a0 : Option Value} {z : Option Value} {o : Option Nat} (X : hg_X p l s m args meth c D lo own cc nL) (d : decode cc pc = .ok (.astore_n 1, 1)) (hq : pc + 1 = q) (hp : hg_nl a0 = true) (hi : 1 < nL) (k : hg_W p l e R s m args below meth c Q D lo C0 nL kr nr G q (a0 :: some (va_rf o) :: tl) (st)) : hg_W p l e R s m args below meth c Q D lo C0 nL kr nr G pc (a0 :: z :: tl) (va_rf o :: st) := hr_astoreG (i := 1) (o := o) (L := a0 :: z :: tl) X (Or.inl ⟨1, rfl, d, hq⟩) hp hi k
theorem hr_astore1 {a0 : Option Value} {z : Option Value} {o : Nat} (X : hg_X p l s m args meth c D lo own cc nL) (d : decode cc pc = .ok (.astore_n 1, 1)) (hq : pc + 1 = q) (hp : hg_nl a0 = true) (hi : 1 < nL) (k : hg_W p l e R s m args below meth c Q D lo C0 nL kr nr G q (a0 :: some (.ref o) :: tl) (st)) : hg_W p l e R s m args below meth c Q D lo C0 nL kr nr G pc (a0 :: z :: tl) (.ref o :: st) := hr_astoreG (i := 1) (o := some o) (L := a0 :: z :: tl) X (Or.inl ⟨1, rfl, d, hq⟩) hp hi k
theorem hr_astoreN1 {a0 : Option Value} {z : Option Value}  (X : hg_X p l s m args meth c D lo own cc nL) (d : decode cc pc = .ok (.astore_n 1, 1)) (hq : pc + 1 = q) (hp : hg_nl a0 = true) (hi : 1 < nL) (k : hg_W p l e R s m args below meth c Q D lo C0 nL kr nr G q (a0 :: some (.null) :: tl) (st)) : hg_W p l e R s m args below meth c Q D lo C0 nL kr nr G pc (a0 :: z :: tl) (.null :: st) := hr_astoreG (i := 1) (o := none) (L := a0 :: z :: tl) X (Or.inl ⟨1, rfl, d, hq⟩) hp hi k
theorem hr_lstore1 {a0 : Option Value} {z z1 : Option Value} {x : Int64} (X : hg_X p l s m args meth c D lo own cc nL) (d : decode cc pc = .ok (.lstore_n 1, 1)) (hq : pc + 1 = q) (hp : hg_nl a0 = true) (hi : 1 + 1 < nL) (k : hg_W p l e R s m args below meth c Q D lo C0 nL kr nr G q (a0 :: some (.long x) :: none :: tl) (st)) : hg_W p l e R s m args below meth c Q D lo C0 nL kr nr G pc (a0 :: z :: z1 :: tl) (.long x :: st) := hr_lstoreG (i := 1) X (Or.inl ⟨1, rfl, d, hq⟩) hp hi k
theorem hr_iinc1 {a0 : Option Value} {n : Int} {x v : Int32} (X : hg_X p l s m args meth c D lo own cc nL) (d : decode cc pc = .ok (.iinc 1 n, 3)) (hq : pc + 3 = q) (hv : x + Int32.ofInt n = v) (hp : hg_nl a0 = true) (hi : 1 < nL) (k : hg_W p l e R s m args below meth c Q D lo C0 nL kr nr G q (a0 :: some (.int v) :: tl) (st)) : hg_W p l e R s m args below meth c Q D lo C0 nL kr nr G pc (a0 :: some (.int x) :: tl) (st) := hr_iincG (i := 1) X d hq rfl hv hp hi k
theorem hr_fg1 {a0 : Option Value} {z : Option Value} (k : hg_W p l e R s m args below meth c Q D lo C0 nL kr nr G pc (a0 :: none :: tl) (st)) : hg_W p l e R s m args below meth c Q D lo C0 nL kr nr G pc (a0 :: z :: tl) (st) := hr_weak (fun j v h => by
  rcases hg_fg (L := a0 :: z :: tl) (i := 1) h with ⟨h1, h2⟩
  exact h2) k
theorem hr_iload2 {a0 a1 : Option Value} {x : Int32} (X : hg_X p l s m args meth c D lo own cc nL) (d : decode cc pc = .ok (.iload_n 2, 1)) (hq : pc + 1 = q) (k : hg_W p l e R s m args below meth c Q D lo C0 nL kr nr G q (a0 :: a1 :: some (.int x) :: tl) (.int x :: st)) : hg_W p l e R s m args below meth c Q D lo C0 nL kr nr G pc (a0 :: a1 :: some (.int x) :: tl) (st) := hr_iloadG (i := 2) (L := a0 :: a1 :: some (.int x) :: tl) X (Or.inl ⟨2, rfl, d, hq⟩) rfl k
theorem hr_lload2 {a0 a1 : Option Value} {x : Int64} (X : hg_X p l s m args meth c D lo own cc nL) (d : decode cc pc = .ok (.lload_n 2, 1)) (hq : pc + 1 = q) (k : hg_W p l e R s m args below meth c Q D lo C0 nL kr nr G q (a0 :: a1 :: some (.long x) :: tl) (.long x :: st)) : hg_W p l e R s m args below meth c Q D lo C0 nL kr nr G pc (a0 :: a1 :: some (.long x) :: tl) (st) := hr_lloadG (i := 2) (L := a0 :: a1 :: some (.long x) :: tl) X (Or.inl ⟨2, rfl, d, hq⟩) rfl k
theorem hr_aloadq2 {a0 a1 : Option Value} {o : Option Nat} (X : hg_X p l s m args meth c D lo own cc nL) (d : decode cc pc = .ok (.aload_n 2, 1)) (hq : pc + 1 = q) (k : hg_W p l e R s m args below meth c Q D lo C0 nL kr nr G q (a0 :: a1 :: some (va_rf o) :: tl) (va_rf o :: st)) : hg_W p l e R s m args below meth c Q D lo C0 nL kr nr G pc (a0 :: a1 :: some (va_rf o) :: tl) (st) := hr_aloadG (i := 2) (o := o) (L := a0 :: a1 :: some (va_rf o) :: tl) X (Or.inl ⟨2, rfl, d, hq⟩) rfl k
theorem hr_aload2 {a0 a1 : Option Value} {o : Nat} (X : hg_X p l s m args meth c D lo own cc nL) (d : decode cc pc = .ok (.aload_n 2, 1)) (hq : pc + 1 = q) (k : hg_W p l e R s m args below meth c Q D lo C0 nL kr nr G q (a0 :: a1 :: some (.ref o) :: tl) (.ref o :: st)) : hg_W p l e R s m args below meth c Q D lo C0 nL kr nr G pc (a0 :: a1 :: some (.ref o) :: tl) (st) := hr_aloadG (i := 2) (o := some o) (L := a0 :: a1 :: some (.ref o) :: tl) X (Or.inl ⟨2, rfl, d, hq⟩) rfl k
theorem hr_aloadN2 {a0 a1 : Option Value}  (X : hg_X p l s m args meth c D lo own cc nL) (d : decode cc pc = .ok (.aload_n 2, 1)) (hq : pc + 1 = q) (k : hg_W p l e R s m args below meth c Q D lo C0 nL kr nr G q (a0 :: a1 :: some (.null) :: tl) (.null :: st)) : hg_W p l e R s m args below meth c Q D lo C0 nL kr nr G pc (a0 :: a1 :: some (.null) :: tl) (st) := hr_aloadG (i := 2) (o := none) (L := a0 :: a1 :: some (.null) :: tl) X (Or.inl ⟨2, rfl, d, hq⟩) rfl k
theorem hr_istore2 {a0 a1 : Option Value} {z : Option Value} {x : Int32} (X : hg_X p l s m args meth c D lo own cc nL) (d : decode cc pc = .ok (.istore_n 2, 1)) (hq : pc + 1 = q) (hp : hg_nl a1 = true) (hi : 2 < nL) (k : hg_W p l e R s m args below meth c Q D lo C0 nL kr nr G q (a0 :: a1 :: some (.int x) :: tl) (st)) : hg_W p l e R s m args below meth c Q D lo C0 nL kr nr G pc (a0 :: a1 :: z :: tl) (.int x :: st) := hr_istoreG (i := 2) (L := a0 :: a1 :: z :: tl) X (Or.inl ⟨2, rfl, d, hq⟩) hp hi k
theorem hr_astoreq2 {a0 a1 : Option Value} {z : Option Value} {o : Option Nat} (X : hg_X p l s m args meth c D lo own cc nL) (d : decode cc pc = .ok (.astore_n 2, 1)) (hq : pc + 1 = q) (hp : hg_nl a1 = true) (hi : 2 < nL) (k : hg_W p l e R s m args below meth c Q D lo C0 nL kr nr G q (a0 :: a1 :: some (va_rf o) :: tl) (st)) : hg_W p l e R s m args below meth c Q D lo C0 nL kr nr G pc (a0 :: a1 :: z :: tl) (va_rf o :: st) := hr_astoreG (i := 2) (o := o) (L := a0 :: a1 :: z :: tl) X (Or.inl ⟨2, rfl, d, hq⟩) hp hi k
theorem hr_astore2 {a0 a1 : Option Value} {z : Option Value} {o : Nat} (X : hg_X p l s m args meth c D lo own cc nL) (d : decode cc pc = .ok (.astore_n 2, 1)) (hq : pc + 1 = q) (hp : hg_nl a1 = true) (hi : 2 < nL) (k : hg_W p l e R s m args below meth c Q D lo C0 nL kr nr G q (a0 :: a1 :: some (.ref o) :: tl) (st)) : hg_W p l e R s m args below meth c Q D lo C0 nL kr nr G pc (a0 :: a1 :: z :: tl) (.ref o :: st) := hr_astoreG (i := 2) (o := some o) (L := a0 :: a1 :: z :: tl) X (Or.inl ⟨2, rfl, d, hq⟩) hp hi k
theorem hr_astoreN2 {a0 a1 : Option Value} {z : Option Value}  (X : hg_X p l s m args meth c D lo own cc nL) (d : decode cc pc = .ok (.astore_n 2, 1)) (hq : pc + 1 = q) (hp : hg_nl a1 = true) (hi : 2 < nL) (k : hg_W p l e R s m args below meth c Q D lo C0 nL kr nr G q (a0 :: a1 :: some (.null) :: tl) (st)) : hg_W p l e R s m args below meth c Q D lo C0 nL kr nr G pc (a0 :: a1 :: z :: tl) (.null :: st) := hr_astoreG (i := 2) (o := none) (L := a0 :: a1 :: z :: tl) X (Or.inl ⟨2, rfl, d, hq⟩) hp hi k
theorem hr_lstore2 {a0 a1 : Option Value} {z z1 : Option Value} {x : Int64} (X : hg_X p l s m args meth c D lo own cc nL) (d : decode cc pc = .ok (.lstore_n 2, 1)) (hq : pc + 1 = q) (hp : hg_nl a1 = true) (hi : 2 + 1 < nL) (k : hg_W p l e R s m args below meth c Q D lo C0 nL kr nr G q (a0 :: a1 :: some (.long x) :: none :: tl) (st)) : hg_W p l e R s m args below meth c Q D lo C0 nL kr nr G pc (a0 :: a1 :: z :: z1 :: tl) (.long x :: st) := hr_lstoreG (i := 2) X (Or.inl ⟨2, rfl, d, hq⟩) hp hi k
theorem hr_iinc2 {a0 a1 : Option Value} {n : Int} {x v : Int32} (X : hg_X p l s m args meth c D lo own cc nL) (d : decode cc pc = .ok (.iinc 2 n, 3)) (hq : pc + 3 = q) (hv : x + Int32.ofInt n = v) (hp : hg_nl a1 = true) (hi : 2 < nL) (k : hg_W p l e R s m args below meth c Q D lo C0 nL kr nr G q (a0 :: a1 :: some (.int v) :: tl) (st)) : hg_W p l e R s m args below meth c Q D lo C0 nL kr nr G pc (a0 :: a1 :: some (.int x) :: tl) (st) := hr_iincG (i := 2) X d hq rfl hv hp hi k
theorem hr_fg2 {a0 a1 : Option Value} {z : Option Value} (k : hg_W p l e R s m args below meth c Q D lo C0 nL kr nr G pc (a0 :: a1 :: none :: tl) (st)) : hg_W p l e R s m args below meth c Q D lo C0 nL kr nr G pc (a0 :: a1 :: z :: tl) (st) := hr_weak (fun j v h => by
  rcases hg_fg (L := a0 :: a1 :: z :: tl) (i := 2) h with ⟨h1, h2⟩
  exact h2) k
theorem hr_iload3 {a0 a1 a2 : Option Value} {x : Int32} (X : hg_X p l s m args meth c D lo own cc nL) (d : decode cc pc = .ok (.iload_n 3, 1)) (hq : pc + 1 = q) (k : hg_W p l e R s m args below meth c Q D lo C0 nL kr nr G q (a0 :: a1 :: a2 :: some (.int x) :: tl) (.int x :: st)) : hg_W p l e R s m args below meth c Q D lo C0 nL kr nr G pc (a0 :: a1 :: a2 :: some (.int x) :: tl) (st) := hr_iloadG (i := 3) (L := a0 :: a1 :: a2 :: some (.int x) :: tl) X (Or.inl ⟨3, rfl, d, hq⟩) rfl k
theorem hr_lload3 {a0 a1 a2 : Option Value} {x : Int64} (X : hg_X p l s m args meth c D lo own cc nL) (d : decode cc pc = .ok (.lload_n 3, 1)) (hq : pc + 1 = q) (k : hg_W p l e R s m args below meth c Q D lo C0 nL kr nr G q (a0 :: a1 :: a2 :: some (.long x) :: tl) (.long x :: st)) : hg_W p l e R s m args below meth c Q D lo C0 nL kr nr G pc (a0 :: a1 :: a2 :: some (.long x) :: tl) (st) := hr_lloadG (i := 3) (L := a0 :: a1 :: a2 :: some (.long x) :: tl) X (Or.inl ⟨3, rfl, d, hq⟩) rfl k
theorem hr_aloadq3 {a0 a1 a2 : Option Value} {o : Option Nat} (X : hg_X p l s m args meth c D lo own cc nL) (d : decode cc pc = .ok (.aload_n 3, 1)) (hq : pc + 1 = q) (k : hg_W p l e R s m args below meth c Q D lo C0 nL kr nr G q (a0 :: a1 :: a2 :: some (va_rf o) :: tl) (va_rf o :: st)) : hg_W p l e R s m args below meth c Q D lo C0 nL kr nr G pc (a0 :: a1 :: a2 :: some (va_rf o) :: tl) (st) := hr_aloadG (i := 3) (o := o) (L := a0 :: a1 :: a2 :: some (va_rf o) :: tl) X (Or.inl ⟨3, rfl, d, hq⟩) rfl k
theorem hr_aload3 {a0 a1 a2 : Option Value} {o : Nat} (X : hg_X p l s m args meth c D lo own cc nL) (d : decode cc pc = .ok (.aload_n 3, 1)) (hq : pc + 1 = q) (k : hg_W p l e R s m args below meth c Q D lo C0 nL kr nr G q (a0 :: a1 :: a2 :: some (.ref o) :: tl) (.ref o :: st)) : hg_W p l e R s m args below meth c Q D lo C0 nL kr nr G pc (a0 :: a1 :: a2 :: some (.ref o) :: tl) (st) := hr_aloadG (i := 3) (o := some o) (L := a0 :: a1 :: a2 :: some (.ref o) :: tl) X (Or.inl ⟨3, rfl, d, hq⟩) rfl k
theorem hr_aloadN3 {a0 a1 a2 : Option Value}  (X : hg_X p l s m args meth c D lo own cc nL) (d : decode cc pc = .ok (.aload_n 3, 1)) (hq : pc + 1 = q) (k : hg_W p l e R s m args below meth c Q D lo C0 nL kr nr G q (a0 :: a1 :: a2 :: some (.null) :: tl) (.null :: st)) : hg_W p l e R s m args below meth c Q D lo C0 nL kr nr G pc (a0 :: a1 :: a2 :: some (.null) :: tl) (st) := hr_aloadG (i := 3) (o := none) (L := a0 :: a1 :: a2 :: some (.null) :: tl) X (Or.inl ⟨3, rfl, d, hq⟩) rfl k
theorem hr_istore3 {a0 a1 a2 : Option Value} {z : Option Value} {x : Int32} (X : hg_X p l s m args meth c D lo own cc nL) (d : decode cc pc = .ok (.istore_n 3, 1)) (hq : pc + 1 = q) (hp : hg_nl a2 = true) (hi : 3 < nL) (k : hg_W p l e R s m args below meth c Q D lo C0 nL kr nr G q (a0 :: a1 :: a2 :: some (.int x) :: tl) (st)) : hg_W p l e R s m args below meth c Q D lo C0 nL kr nr G pc (a0 :: a1 :: a2 :: z :: tl) (.int x :: st) := hr_istoreG (i := 3) (L := a0 :: a1 :: a2 :: z :: tl) X (Or.inl ⟨3, rfl, d, hq⟩) hp hi k
theorem hr_astoreq3 {a0 a1 a2 : Option Value} {z : Option Value} {o : Option Nat} (X : hg_X p l s m args meth c D lo own cc nL) (d : decode cc pc = .ok (.astore_n 3, 1)) (hq : pc + 1 = q) (hp : hg_nl a2 = true) (hi : 3 < nL) (k : hg_W p l e R s m args below meth c Q D lo C0 nL kr nr G q (a0 :: a1 :: a2 :: some (va_rf o) :: tl) (st)) : hg_W p l e R s m args below meth c Q D lo C0 nL kr nr G pc (a0 :: a1 :: a2 :: z :: tl) (va_rf o :: st) := hr_astoreG (i := 3) (o := o) (L := a0 :: a1 :: a2 :: z :: tl) X (Or.inl ⟨3, rfl, d, hq⟩) hp hi k
theorem hr_astore3 {a0 a1 a2 : Option Value} {z : Option Value} {o : Nat} (X : hg_X p l s m args meth c D lo own cc nL) (d : decode cc pc = .ok (.astore_n 3, 1)) (hq : pc + 1 = q) (hp : hg_nl a2 = true) (hi : 3 < nL) (k : hg_W p l e R s m args below meth c Q D lo C0 nL kr nr G q (a0 :: a1 :: a2 :: some (.ref o) :: tl) (st)) : hg_W p l e R s m args below meth c Q D lo C0 nL kr nr G pc (a0 :: a1 :: a2 :: z :: tl) (.ref o :: st) := hr_astoreG (i := 3) (o := some o) (L := a0 :: a1 :: a2 :: z :: tl) X (Or.inl ⟨3, rfl, d, hq⟩) hp hi k
theorem hr_astoreN3 {a0 a1 a2 : Option Value} {z : Option Value}  (X : hg_X p l s m args meth c D lo own cc nL) (d : decode cc pc = .ok (.astore_n 3, 1)) (hq : pc + 1 = q) (hp : hg_nl a2 = true) (hi : 3 < nL) (k : hg_W p l e R s m args below meth c Q D lo C0 nL kr nr G q (a0 :: a1 :: a2 :: some (.null) :: tl) (st)) : hg_W p l e R s m args below meth c Q D lo C0 nL kr nr G pc (a0 :: a1 :: a2 :: z :: tl) (.null :: st) := hr_astoreG (i := 3) (o := none) (L := a0 :: a1 :: a2 :: z :: tl) X (Or.inl ⟨3, rfl, d, hq⟩) hp hi k
theorem hr_lstore3 {a0 a1 a2 : Option Value} {z z1 : Option Value} {x : Int64} (X : hg_X p l s m args meth c D lo own cc nL) (d : decode cc pc = .ok (.lstore_n 3, 1)) (hq : pc + 1 = q) (hp : hg_nl a2 = true) (hi : 3 + 1 < nL) (k : hg_W p l e R s m args below meth c Q D lo C0 nL kr nr G q (a0 :: a1 :: a2 :: some (.long x) :: none :: tl) (st)) : hg_W p l e R s m args below meth c Q D lo C0 nL kr nr G pc (a0 :: a1 :: a2 :: z :: z1 :: tl) (.long x :: st) := hr_lstoreG (i := 3) X (Or.inl ⟨3, rfl, d, hq⟩) hp hi k
theorem hr_iinc3 {a0 a1 a2 : Option Value} {n : Int} {x v : Int32} (X : hg_X p l s m args meth c D lo own cc nL) (d : decode cc pc = .ok (.iinc 3 n, 3)) (hq : pc + 3 = q) (hv : x + Int32.ofInt n = v) (hp : hg_nl a2 = true) (hi : 3 < nL) (k : hg_W p l e R s m args below meth c Q D lo C0 nL kr nr G q (a0 :: a1 :: a2 :: some (.int v) :: tl) (st)) : hg_W p l e R s m args below meth c Q D lo C0 nL kr nr G pc (a0 :: a1 :: a2 :: some (.int x) :: tl) (st) := hr_iincG (i := 3) X d hq rfl hv hp hi k
theorem hr_fg3 {a0 a1 a2 : Option Value} {z : Option Value} (k : hg_W p l e R s m args below meth c Q D lo C0 nL kr nr G pc (a0 :: a1 :: a2 :: none :: tl) (st)) : hg_W p l e R s m args below meth c Q D lo C0 nL kr nr G pc (a0 :: a1 :: a2 :: z :: tl) (st) := hr_weak (fun j v h => by
  rcases hg_fg (L := a0 :: a1 :: a2 :: z :: tl) (i := 3) h with ⟨h1, h2⟩
  exact h2) k
theorem hr_iload4 {a0 a1 a2 a3 : Option Value} {x : Int32} (X : hg_X p l s m args meth c D lo own cc nL) (d : decode cc pc = .ok (.iload 4, 2)) (hq : pc + 2 = q) (k : hg_W p l e R s m args below meth c Q D lo C0 nL kr nr G q (a0 :: a1 :: a2 :: a3 :: some (.int x) :: tl) (.int x :: st)) : hg_W p l e R s m args below meth c Q D lo C0 nL kr nr G pc (a0 :: a1 :: a2 :: a3 :: some (.int x) :: tl) (st) := hr_iloadG (i := 4) (L := a0 :: a1 :: a2 :: a3 :: some (.int x) :: tl) X (Or.inr ⟨d, hq⟩) rfl k
theorem hr_lload4 {a0 a1 a2 a3 : Option Value} {x : Int64} (X : hg_X p l s m args meth c D lo own cc nL) (d : decode cc pc = .ok (.lload 4, 2)) (hq : pc + 2 = q) (k : hg_W p l e R s m args below meth c Q D lo C0 nL kr nr G q (a0 :: a1 :: a2 :: a3 :: some (.long x) :: tl) (.long x :: st)) : hg_W p l e R s m args below meth c Q D lo C0 nL kr nr G pc (a0 :: a1 :: a2 :: a3 :: some (.long x) :: tl) (st) := hr_lloadG (i := 4) (L := a0 :: a1 :: a2 :: a3 :: some (.long x) :: tl) X (Or.inr ⟨d, hq⟩) rfl k
theorem hr_aloadq4 {a0 a1 a2 a3 : Option Value} {o : Option Nat} (X : hg_X p l s m args meth c D lo own cc nL) (d : decode cc pc = .ok (.aload 4, 2)) (hq : pc + 2 = q) (k : hg_W p l e R s m args below meth c Q D lo C0 nL kr nr G q (a0 :: a1 :: a2 :: a3 :: some (va_rf o) :: tl) (va_rf o :: st)) : hg_W p l e R s m args below meth c Q D lo C0 nL kr nr G pc (a0 :: a1 :: a2 :: a3 :: some (va_rf o) :: tl) (st) := hr_aloadG (i := 4) (o := o) (L := a0 :: a1 :: a2 :: a3 :: some (va_rf o) :: tl) X (Or.inr ⟨d, hq⟩) rfl k
theorem hr_aload4 {a0 a1 a2 a3 : Option Value} {o : Nat} (X : hg_X p l s m args meth c D lo own cc nL) (d : decode cc pc = .ok (.aload 4, 2)) (hq : pc + 2 = q) (k : hg_W p l e R s m args below meth c Q D lo C0 nL kr nr G q (a0 :: a1 :: a2 :: a3 :: some (.ref o) :: tl) (.ref o :: st)) : hg_W p l e R s m args below meth c Q D lo C0 nL kr nr G pc (a0 :: a1 :: a2 :: a3 :: some (.ref o) :: tl) (st) := hr_aloadG (i := 4) (o := some o) (L := a0 :: a1 :: a2 :: a3 :: some (.ref o) :: tl) X (Or.inr ⟨d, hq⟩) rfl k
theorem hr_aloadN4 {a0 a1 a2 a3 : Option Value}  (X : hg_X p l s m args meth c D lo own cc nL) (d : decode cc pc = .ok (.aload 4, 2)) (hq : pc + 2 = q) (k : hg_W p l e R s m args below meth c Q D lo C0 nL kr nr G q (a0 :: a1 :: a2 :: a3 :: some (.null) :: tl) (.null :: st)) : hg_W p l e R s m args below meth c Q D lo C0 nL kr nr G pc (a0 :: a1 :: a2 :: a3 :: some (.null) :: tl) (st) := hr_aloadG (i := 4) (o := none) (L := a0 :: a1 :: a2 :: a3 :: some (.null) :: tl) X (Or.inr ⟨d, hq⟩) rfl k
theorem hr_istore4 {a0 a1 a2 a3 : Option Value} {z : Option Value} {x : Int32} (X : hg_X p l s m args meth c D lo own cc nL) (d : decode cc pc = .ok (.istore 4, 2)) (hq : pc + 2 = q) (hp : hg_nl a3 = true) (hi : 4 < nL) (k : hg_W p l e R s m args below meth c Q D lo C0 nL kr nr G q (a0 :: a1 :: a2 :: a3 :: some (.int x) :: tl) (st)) : hg_W p l e R s m args below meth c Q D lo C0 nL kr nr G pc (a0 :: a1 :: a2 :: a3 :: z :: tl) (.int x :: st) := hr_istoreG (i := 4) (L := a0 :: a1 :: a2 :: a3 :: z :: tl) X (Or.inr ⟨d, hq⟩) hp hi k
theorem hr_astoreq4 {a0 a1 a2 a3 : Option Value} {z : Option Value} {o : Option Nat} (X : hg_X p l s m args meth c D lo own cc nL) (d : decode cc pc = .ok (.astore 4, 2)) (hq : pc + 2 = q) (hp : hg_nl a3 = true) (hi : 4 < nL) (k : hg_W p l e R s m args below meth c Q D lo C0 nL kr nr G q (a0 :: a1 :: a2 :: a3 :: some (va_rf o) :: tl) (st)) : hg_W p l e R s m args below meth c Q D lo C0 nL kr nr G pc (a0 :: a1 :: a2 :: a3 :: z :: tl) (va_rf o :: st) := hr_astoreG (i := 4) (o := o) (L := a0 :: a1 :: a2 :: a3 :: z :: tl) X (Or.inr ⟨d, hq⟩) hp hi k
theorem hr_astore4 {a0 a1 a2 a3 : Option Value} {z : Option Value} {o : Nat} (X : hg_X p l s m args meth c D lo own cc nL) (d : decode cc pc = .ok (.astore 4, 2)) (hq : pc + 2 = q) (hp : hg_nl a3 = true) (hi : 4 < nL) (k : hg_W p l e R s m args below meth c Q D lo C0 nL kr nr G q (a0 :: a1 :: a2 :: a3 :: some (.ref o) :: tl) (st)) : hg_W p l e R s m args below meth c Q D lo C0 nL kr nr G pc (a0 :: a1 :: a2 :: a3 :: z :: tl) (.ref o :: st) := hr_astoreG (i := 4) (o := some o) (L := a0 :: a1 :: a2 :: a3 :: z :: tl) X (Or.inr ⟨d, hq⟩) hp hi k
theorem hr_astoreN4 {a0 a1 a2 a3 : Option Value} {z : Option Value}  (X : hg_X p l s m args meth c D lo own cc nL) (d : decode cc pc = .ok (.astore 4, 2)) (hq : pc + 2 = q) (hp : hg_nl a3 = true) (hi : 4 < nL) (k : hg_W p l e R s m args below meth c Q D lo C0 nL kr nr G q (a0 :: a1 :: a2 :: a3 :: some (.null) :: tl) (st)) : hg_W p l e R s m args below meth c Q D lo C0 nL kr nr G pc (a0 :: a1 :: a2 :: a3 :: z :: tl) (.null :: st) := hr_astoreG (i := 4) (o := none) (L := a0 :: a1 :: a2 :: a3 :: z :: tl) X (Or.inr ⟨d, hq⟩) hp hi k
theorem hr_lstore4 {a0 a1 a2 a3 : Option Value} {z z1 : Option Value} {x : Int64} (X : hg_X p l s m args meth c D lo own cc nL) (d : decode cc pc = .ok (.lstore 4, 2)) (hq : pc + 2 = q) (hp : hg_nl a3 = true) (hi : 4 + 1 < nL) (k : hg_W p l e R s m args below meth c Q D lo C0 nL kr nr G q (a0 :: a1 :: a2 :: a3 :: some (.long x) :: none :: tl) (st)) : hg_W p l e R s m args below meth c Q D lo C0 nL kr nr G pc (a0 :: a1 :: a2 :: a3 :: z :: z1 :: tl) (.long x :: st) := hr_lstoreG (i := 4) X (Or.inr ⟨d, hq⟩) hp hi k
theorem hr_iinc4 {a0 a1 a2 a3 : Option Value} {n : Int} {x v : Int32} (X : hg_X p l s m args meth c D lo own cc nL) (d : decode cc pc = .ok (.iinc 4 n, 3)) (hq : pc + 3 = q) (hv : x + Int32.ofInt n = v) (hp : hg_nl a3 = true) (hi : 4 < nL) (k : hg_W p l e R s m args below meth c Q D lo C0 nL kr nr G q (a0 :: a1 :: a2 :: a3 :: some (.int v) :: tl) (st)) : hg_W p l e R s m args below meth c Q D lo C0 nL kr nr G pc (a0 :: a1 :: a2 :: a3 :: some (.int x) :: tl) (st) := hr_iincG (i := 4) X d hq rfl hv hp hi k
theorem hr_fg4 {a0 a1 a2 a3 : Option Value} {z : Option Value} (k : hg_W p l e R s m args below meth c Q D lo C0 nL kr nr G pc (a0 :: a1 :: a2 :: a3 :: none :: tl) (st)) : hg_W p l e R s m args below meth c Q D lo C0 nL kr nr G pc (a0 :: a1 :: a2 :: a3 :: z :: tl) (st) := hr_weak (fun j v h => by
  rcases hg_fg (L := a0 :: a1 :: a2 :: a3 :: z :: tl) (i := 4) h with ⟨h1, h2⟩
  exact h2) k
theorem hr_iload5 {a0 a1 a2 a3 a4 : Option Value} {x : Int32} (X : hg_X p l s m args meth c D lo own cc nL) (d : decode cc pc = .ok (.iload 5, 2)) (hq : pc + 2 = q) (k : hg_W p l e R s m args below meth c Q D lo C0 nL kr nr G q (a0 :: a1 :: a2 :: a3 :: a4 :: some (.int x) :: tl) (.int x :: st)) : hg_W p l e R s m args below meth c Q D lo C0 nL kr nr G pc (a0 :: a1 :: a2 :: a3 :: a4 :: some (.int x) :: tl) (st) := hr_iloadG (i := 5) (L := a0 :: a1 :: a2 :: a3 :: a4 :: some (.int x) :: tl) X (Or.inr ⟨d, hq⟩) rfl k
theorem hr_lload5 {a0 a1 a2 a3 a4 : Option Value} {x : Int64} (X : hg_X p l s m args meth c D lo own cc nL) (d : decode cc pc = .ok (.lload 5, 2)) (hq : pc + 2 = q) (k : hg_W p l e R s m args below meth c Q D lo C0 nL kr nr G q (a0 :: a1 :: a2 :: a3 :: a4 :: some (.long x) :: tl) (.long x :: st)) : hg_W p l e R s m args below meth c Q D lo C0 nL kr nr G pc (a0 :: a1 :: a2 :: a3 :: a4 :: some (.long x) :: tl) (st) := hr_lloadG (i := 5) (L := a0 :: a1 :: a2 :: a3 :: a4 :: some (.long x) :: tl) X (Or.inr ⟨d, hq⟩) rfl k
theorem hr_aloadq5 {a0 a1 a2 a3 a4 : Option Value} {o : Option Nat} (X : hg_X p l s m args meth c D lo own cc nL) (d : decode cc pc = .ok (.aload 5, 2)) (hq : pc + 2 = q) (k : hg_W p l e R s m args below meth c Q D lo C0 nL kr nr G q (a0 :: a1 :: a2 :: a3 :: a4 :: some (va_rf o) :: tl) (va_rf o :: st)) : hg_W p l e R s m args below meth c Q D lo C0 nL kr nr G pc (a0 :: a1 :: a2 :: a3 :: a4 :: some (va_rf o) :: tl) (st) := hr_aloadG (i := 5) (o := o) (L := a0 :: a1 :: a2 :: a3 :: a4 :: some (va_rf o) :: tl) X (Or.inr ⟨d, hq⟩) rfl k
theorem hr_aload5 {a0 a1 a2 a3 a4 : Option Value} {o : Nat} (X : hg_X p l s m args meth c D lo own cc nL) (d : decode cc pc = .ok (.aload 5, 2)) (hq : pc + 2 = q) (k : hg_W p l e R s m args below meth c Q D lo C0 nL kr nr G q (a0 :: a1 :: a2 :: a3 :: a4 :: some (.ref o) :: tl) (.ref o :: st)) : hg_W p l e R s m args below meth c Q D lo C0 nL kr nr G pc (a0 :: a1 :: a2 :: a3 :: a4 :: some (.ref o) :: tl) (st) := hr_aloadG (i := 5) (o := some o) (L := a0 :: a1 :: a2 :: a3 :: a4 :: some (.ref o) :: tl) X (Or.inr ⟨d, hq⟩) rfl k
theorem hr_aloadN5 {a0 a1 a2 a3 a4 : Option Value}  (X : hg_X p l s m args meth c D lo own cc nL) (d : decode cc pc = .ok (.aload 5, 2)) (hq : pc + 2 = q) (k : hg_W p l e R s m args below meth c Q D lo C0 nL kr nr G q (a0 :: a1 :: a2 :: a3 :: a4 :: some (.null) :: tl) (.null :: st)) : hg_W p l e R s m args below meth c Q D lo C0 nL kr nr G pc (a0 :: a1 :: a2 :: a3 :: a4 :: some (.null) :: tl) (st) := hr_aloadG (i := 5) (o := none) (L := a0 :: a1 :: a2 :: a3 :: a4 :: some (.null) :: tl) X (Or.inr ⟨d, hq⟩) rfl k
theorem hr_istore5 {a0 a1 a2 a3 a4 : Option Value} {z : Option Value} {x : Int32} (X : hg_X p l s m args meth c D lo own cc nL) (d : decode cc pc = .ok (.istore 5, 2)) (hq : pc + 2 = q) (hp : hg_nl a4 = true) (hi : 5 < nL) (k : hg_W p l e R s m args below meth c Q D lo C0 nL kr nr G q (a0 :: a1 :: a2 :: a3 :: a4 :: some (.int x) :: tl) (st)) : hg_W p l e R s m args below meth c Q D lo C0 nL kr nr G pc (a0 :: a1 :: a2 :: a3 :: a4 :: z :: tl) (.int x :: st) := hr_istoreG (i := 5) (L := a0 :: a1 :: a2 :: a3 :: a4 :: z :: tl) X (Or.inr ⟨d, hq⟩) hp hi k
theorem hr_astoreq5 {a0 a1 a2 a3 a4 : Option Value} {z : Option Value} {o : Option Nat} (X : hg_X p l s m args meth c D lo own cc nL) (d : decode cc pc = .ok (.astore 5, 2)) (hq : pc + 2 = q) (hp : hg_nl a4 = true) (hi : 5 < nL) (k : hg_W p l e R s m args below meth c Q D lo C0 nL kr nr G q (a0 :: a1 :: a2 :: a3 :: a4 :: some (va_rf o) :: tl) (st)) : hg_W p l e R s m args below meth c Q D lo C0 nL kr nr G pc (a0 :: a1 :: a2 :: a3 :: a4 :: z :: tl) (va_rf o :: st) := hr_astoreG (i := 5) (o := o) (L := a0 :: a1 :: a2 :: a3 :: a4 :: z :: tl) X (Or.inr ⟨d, hq⟩) hp hi k
theorem hr_astore5 {a0 a1 a2 a3 a4 : Option Value} {z : Option Value} {o : Nat} (X : hg_X p l s m args meth c D lo own cc nL) (d : decode cc pc = .ok (.astore 5, 2)) (hq : pc + 2 = q) (hp : hg_nl a4 = true) (hi : 5 < nL) (k : hg_W p l e R s m args below meth c Q D lo C0 nL kr nr G q (a0 :: a1 :: a2 :: a3 :: a4 :: some (.ref o) :: tl) (st)) : hg_W p l e R s m args below meth c Q D lo C0 nL kr nr G pc (a0 :: a1 :: a2 :: a3 :: a4 :: z :: tl) (.ref o :: st) := hr_astoreG (i := 5) (o := some o) (L := a0 :: a1 :: a2 :: a3 :: a4 :: z :: tl) X (Or.inr ⟨d, hq⟩) hp hi k
theorem hr_astoreN5 {a0 a1 a2 a3 a4 : Option Value} {z : Option Value}  (X : hg_X p l s m args meth c D lo own cc nL) (d : decode cc pc = .ok (.astore 5, 2)) (hq : pc + 2 = q) (hp : hg_nl a4 = true) (hi : 5 < nL) (k : hg_W p l e R s m args below meth c Q D lo C0 nL kr nr G q (a0 :: a1 :: a2 :: a3 :: a4 :: some (.null) :: tl) (st)) : hg_W p l e R s m args below meth c Q D lo C0 nL kr nr G pc (a0 :: a1 :: a2 :: a3 :: a4 :: z :: tl) (.null :: st) := hr_astoreG (i := 5) (o := none) (L := a0 :: a1 :: a2 :: a3 :: a4 :: z :: tl) X (Or.inr ⟨d, hq⟩) hp hi k
theorem hr_lstore5 {a0 a1 a2 a3 a4 : Option Value} {z z1 : Option Value} {x : Int64} (X : hg_X p l s m args meth c D lo own cc nL) (d : decode cc pc = .ok (.lstore 5, 2)) (hq : pc + 2 = q) (hp : hg_nl a4 = true) (hi : 5 + 1 < nL) (k : hg_W p l e R s m args below meth c Q D lo C0 nL kr nr G q (a0 :: a1 :: a2 :: a3 :: a4 :: some (.long x) :: none :: tl) (st)) : hg_W p l e R s m args below meth c Q D lo C0 nL kr nr G pc (a0 :: a1 :: a2 :: a3 :: a4 :: z :: z1 :: tl) (.long x :: st) := hr_lstoreG (i := 5) X (Or.inr ⟨d, hq⟩) hp hi k
theorem hr_iinc5 {a0 a1 a2 a3 a4 : Option Value} {n : Int} {x v : Int32} (X : hg_X p l s m args meth c D lo own cc nL) (d : decode cc pc = .ok (.iinc 5 n, 3)) (hq : pc + 3 = q) (hv : x + Int32.ofInt n = v) (hp : hg_nl a4 = true) (hi : 5 < nL) (k : hg_W p l e R s m args below meth c Q D lo C0 nL kr nr G q (a0 :: a1 :: a2 :: a3 :: a4 :: some (.int v) :: tl) (st)) : hg_W p l e R s m args below meth c Q D lo C0 nL kr nr G pc (a0 :: a1 :: a2 :: a3 :: a4 :: some (.int x) :: tl) (st) := hr_iincG (i := 5) X d hq rfl hv hp hi k
theorem hr_fg5 {a0 a1 a2 a3 a4 : Option Value} {z : Option Value} (k : hg_W p l e R s m args below meth c Q D lo C0 nL kr nr G pc (a0 :: a1 :: a2 :: a3 :: a4 :: none :: tl) (st)) : hg_W p l e R s m args below meth c Q D lo C0 nL kr nr G pc (a0 :: a1 :: a2 :: a3 :: a4 :: z :: tl) (st) := hr_weak (fun j v h => by
  rcases hg_fg (L := a0 :: a1 :: a2 :: a3 :: a4 :: z :: tl) (i := 5) h with ⟨h1, h2⟩
  exact h2) k
theorem hr_iload6 {a0 a1 a2 a3 a4 a5 : Option Value} {x : Int32} (X : hg_X p l s m args meth c D lo own cc nL) (d : decode cc pc = .ok (.iload 6, 2)) (hq : pc + 2 = q) (k : hg_W p l e R s m args below meth c Q D lo C0 nL kr nr G q (a0 :: a1 :: a2 :: a3 :: a4 :: a5 :: some (.int x) :: tl) (.int x :: st)) : hg_W p l e R s m args below meth c Q D lo C0 nL kr nr G pc (a0 :: a1 :: a2 :: a3 :: a4 :: a5 :: some (.int x) :: tl) (st) := hr_iloadG (i := 6) (L := a0 :: a1 :: a2 :: a3 :: a4 :: a5 :: some (.int x) :: tl) X (Or.inr ⟨d, hq⟩) rfl k
theorem hr_lload6 {a0 a1 a2 a3 a4 a5 : Option Value} {x : Int64} (X : hg_X p l s m args meth c D lo own cc nL) (d : decode cc pc = .ok (.lload 6, 2)) (hq : pc + 2 = q) (k : hg_W p l e R s m args below meth c Q D lo C0 nL kr nr G q (a0 :: a1 :: a2 :: a3 :: a4 :: a5 :: some (.long x) :: tl) (.long x :: st)) : hg_W p l e R s m args below meth c Q D lo C0 nL kr nr G pc (a0 :: a1 :: a2 :: a3 :: a4 :: a5 :: some (.long x) :: tl) (st) := hr_lloadG (i := 6) (L := a0 :: a1 :: a2 :: a3 :: a4 :: a5 :: some (.long x) :: tl) X (Or.inr ⟨d, hq⟩) rfl k
theorem hr_aloadq6 {a0 a1 a2 a3 a4 a5 : Option Value} {o : Option Nat} (X : hg_X p l s m args meth c D lo own cc nL) (d : decode cc pc = .ok (.aload 6, 2)) (hq : pc + 2 = q) (k : hg_W p l e R s m args below meth c Q D lo C0 nL kr nr G q (a0 :: a1 :: a2 :: a3 :: a4 :: a5 :: some (va_rf o) :: tl) (va_rf o :: st)) : hg_W p l e R s m args below meth c Q D lo C0 nL kr nr G pc (a0 :: a1 :: a2 :: a3 :: a4 :: a5 :: some (va_rf o) :: tl) (st) := hr_aloadG (i := 6) (o := o) (L := a0 :: a1 :: a2 :: a3 :: a4 :: a5 :: some (va_rf o) :: tl) X (Or.inr ⟨d, hq⟩) rfl k
theorem hr_aload6 {a0 a1 a2 a3 a4 a5 : Option Value} {o : Nat} (X : hg_X p l s m args meth c D lo own cc nL) (d : decode cc pc = .ok (.aload 6, 2)) (hq : pc + 2 = q) (k : hg_W p l e R s m args below meth c Q D lo C0 nL kr nr G q (a0 :: a1 :: a2 :: a3 :: a4 :: a5 :: some (.ref o) :: tl) (.ref o :: st)) : hg_W p l e R s m args below meth c Q D lo C0 nL kr nr G pc (a0 :: a1 :: a2 :: a3 :: a4 :: a5 :: some (.ref o) :: tl) (st) := hr_aloadG (i := 6) (o := some o) (L := a0 :: a1 :: a2 :: a3 :: a4 :: a5 :: some (.ref o) :: tl) X (Or.inr ⟨d, hq⟩) rfl k
theorem hr_aloadN6 {a0 a1 a2 a3 a4 a5 : Option Value}  (X : hg_X p l s m args meth c D lo own cc nL) (d : decode cc pc = .ok (.aload 6, 2)) (hq : pc + 2 = q) (k : hg_W p l e R s m args below meth c Q D lo C0 nL kr nr G q (a0 :: a1 :: a2 :: a3 :: a4 :: a5 :: some (.null) :: tl) (.null :: st)) : hg_W p l e R s m args below meth c Q D lo C0 nL kr nr G pc (a0 :: a1 :: a2 :: a3 :: a4 :: a5 :: some (.null) :: tl) (st) := hr_aloadG (i := 6) (o := none) (L := a0 :: a1 :: a2 :: a3 :: a4 :: a5 :: some (.null) :: tl) X (Or.inr ⟨d, hq⟩) rfl k
theorem hr_istore6 {a0 a1 a2 a3 a4 a5 : Option Value} {z : Option Value} {x : Int32} (X : hg_X p l s m args meth c D lo own cc nL) (d : decode cc pc = .ok (.istore 6, 2)) (hq : pc + 2 = q) (hp : hg_nl a5 = true) (hi : 6 < nL) (k : hg_W p l e R s m args below meth c Q D lo C0 nL kr nr G q (a0 :: a1 :: a2 :: a3 :: a4 :: a5 :: some (.int x) :: tl) (st)) : hg_W p l e R s m args below meth c Q D lo C0 nL kr nr G pc (a0 :: a1 :: a2 :: a3 :: a4 :: a5 :: z :: tl) (.int x :: st) := hr_istoreG (i := 6) (L := a0 :: a1 :: a2 :: a3 :: a4 :: a5 :: z :: tl) X (Or.inr ⟨d, hq⟩) hp hi k
theorem hr_astoreq6 {a0 a1 a2 a3 a4 a5 : Option Value} {z : Option Value} {o : Option Nat} (X : hg_X p l s m args meth c D lo own cc nL) (d : decode cc pc = .ok (.astore 6, 2)) (hq : pc + 2 = q) (hp : hg_nl a5 = true) (hi : 6 < nL) (k : hg_W p l e R s m args below meth c Q D lo C0 nL kr nr G q (a0 :: a1 :: a2 :: a3 :: a4 :: a5 :: some (va_rf o) :: tl) (st)) : hg_W p l e R s m args below meth c Q D lo C0 nL kr nr G pc (a0 :: a1 :: a2 :: a3 :: a4 :: a5 :: z :: tl) (va_rf o :: st) := hr_astoreG (i := 6) (o := o) (L := a0 :: a1 :: a2 :: a3 :: a4 :: a5 :: z :: tl) X (Or.inr ⟨d, hq⟩) hp hi k
theorem hr_astore6 {a0 a1 a2 a3 a4 a5 : Option Value} {z : Option Value} {o : Nat} (X : hg_X p l s m args meth c D lo own cc nL) (d : decode cc pc = .ok (.astore 6, 2)) (hq : pc + 2 = q) (hp : hg_nl a5 = true) (hi : 6 < nL) (k : hg_W p l e R s m args below meth c Q D lo C0 nL kr nr G q (a0 :: a1 :: a2 :: a3 :: a4 :: a5 :: some (.ref o) :: tl) (st)) : hg_W p l e R s m args below meth c Q D lo C0 nL kr nr G pc (a0 :: a1 :: a2 :: a3 :: a4 :: a5 :: z :: tl) (.ref o :: st) := hr_astoreG (i := 6) (o := some o) (L := a0 :: a1 :: a2 :: a3 :: a4 :: a5 :: z :: tl) X (Or.inr ⟨d, hq⟩) hp hi k
theorem hr_astoreN6 {a0 a1 a2 a3 a4 a5 : Option Value} {z : Option Value}  (X : hg_X p l s m args meth c D lo own cc nL) (d : decode cc pc = .ok (.astore 6, 2)) (hq : pc + 2 = q) (hp : hg_nl a5 = true) (hi : 6 < nL) (k : hg_W p l e R s m args below meth c Q D lo C0 nL kr nr G q (a0 :: a1 :: a2 :: a3 :: a4 :: a5 :: some (.null) :: tl) (st)) : hg_W p l e R s m args below meth c Q D lo C0 nL kr nr G pc (a0 :: a1 :: a2 :: a3 :: a4 :: a5 :: z :: tl) (.null :: st) := hr_astoreG (i := 6) (o := none) (L := a0 :: a1 :: a2 :: a3 :: a4 :: a5 :: z :: tl) X (Or.inr ⟨d, hq⟩) hp hi k
theorem hr_lstore6 {a0 a1 a2 a3 a4 a5 : Option Value} {z z1 : Option Value} {x : Int64} (X : hg_X p l s m args meth c D lo own cc nL) (d : decode cc pc = .ok (.lstore 6, 2)) (hq : pc + 2 = q) (hp : hg_nl a5 = true) (hi : 6 + 1 < nL) (k : hg_W p l e R s m args below meth c Q D lo C0 nL kr nr G q (a0 :: a1 :: a2 :: a3 :: a4 :: a5 :: some (.long x) :: none :: tl) (st)) : hg_W p l e R s m args below meth c Q D lo C0 nL kr nr G pc (a0 :: a1 :: a2 :: a3 :: a4 :: a5 :: z :: z1 :: tl) (.long x :: st) := hr_lstoreG (i := 6) X (Or.inr ⟨d, hq⟩) hp hi k
theorem hr_iinc6 {a0 a1 a2 a3 a4 a5 : Option Value} {n : Int} {x v : Int32} (X : hg_X p l s m args meth c D lo own cc nL) (d : decode cc pc = .ok (.iinc 6 n, 3)) (hq : pc + 3 = q) (hv : x + Int32.ofInt n = v) (hp : hg_nl a5 = true) (hi : 6 < nL) (k : hg_W p l e R s m args below meth c Q D lo C0 nL kr nr G q (a0 :: a1 :: a2 :: a3 :: a4 :: a5 :: some (.int v) :: tl) (st)) : hg_W p l e R s m args below meth c Q D lo C0 nL kr nr G pc (a0 :: a1 :: a2 :: a3 :: a4 :: a5 :: some (.int x) :: tl) (st) := hr_iincG (i := 6) X d hq rfl hv hp hi k
theorem hr_fg6 {a0 a1 a2 a3 a4 a5 : Option Value} {z : Option Value} (k : hg_W p l e R s m args below meth c Q D lo C0 nL kr nr G pc (a0 :: a1 :: a2 :: a3 :: a4 :: a5 :: none :: tl) (st)) : hg_W p l e R s m args below meth c Q D lo C0 nL kr nr G pc (a0 :: a1 :: a2 :: a3 :: a4 :: a5 :: z :: tl) (st) := hr_weak (fun j v h => by
  rcases hg_fg (L := a0 :: a1 :: a2 :: a3 :: a4 :: a5 :: z :: tl) (i := 6) h with ⟨h1, h2⟩
  exact h2) k
theorem hr_iload7 {a0 a1 a2 a3 a4 a5 a6 : Option Value} {x : Int32} (X : hg_X p l s m args meth c D lo own cc nL) (d : decode cc pc = .ok (.iload 7, 2)) (hq : pc + 2 = q) (k : hg_W p l e R s m args below meth c Q D lo C0 nL kr nr G q (a0 :: a1 :: a2 :: a3 :: a4 :: a5 :: a6 :: some (.int x) :: tl) (.int x :: st)) : hg_W p l e R s m args below meth c Q D lo C0 nL kr nr G pc (a0 :: a1 :: a2 :: a3 :: a4 :: a5 :: a6 :: some (.int x) :: tl) (st) := hr_iloadG (i := 7) (L := a0 :: a1 :: a2 :: a3 :: a4 :: a5 :: a6 :: some (.int x) :: tl) X (Or.inr ⟨d, hq⟩) rfl k
theorem hr_lload7 {a0 a1 a2 a3 a4 a5 a6 : Option Value} {x : Int64} (X : hg_X p l s m args meth c D lo own cc nL) (d : decode cc pc = .ok (.lload 7, 2)) (hq : pc + 2 = q) (k : hg_W p l e R s m args below meth c Q D lo C0 nL kr nr G q (a0 :: a1 :: a2 :: a3 :: a4 :: a5 :: a6 :: some (.long x) :: tl) (.long x :: st)) : hg_W p l e R s m args below meth c Q D lo C0 nL kr nr G pc (a0 :: a1 :: a2 :: a3 :: a4 :: a5 :: a6 :: some (.long x) :: tl) (st) := hr_lloadG (i := 7) (L := a0 :: a1 :: a2 :: a3 :: a4 :: a5 :: a6 :: some (.long x) :: tl) X (Or.inr ⟨d, hq⟩) rfl k
theorem hr_aloadq7 {a0 a1 a2 a3 a4 a5 a6 : Option Value} {o : Option Nat} (X : hg_X p l s m args meth c D lo own cc nL) (d : decode cc pc = .ok (.aload 7, 2)) (hq : pc + 2 = q) (k : hg_W p l e R s m args below meth c Q D lo C0 nL kr nr G q (a0 :: a1 :: a2 :: a3 :: a4 :: a5 :: a6 :: some (va_rf o) :: tl) (va_rf o :: st)) : hg_W p l e R s m args below meth c Q D lo C0 nL kr nr G pc (a0 :: a1 :: a2 :: a3 :: a4 :: a5 :: a6 :: some (va_rf o) :: tl) (st) := hr_aloadG (i := 7) (o := o) (L := a0 :: a1 :: a2 :: a3 :: a4 :: a5 :: a6 :: some (va_rf o) :: tl) X (Or.inr ⟨d, hq⟩) rfl k
theorem hr_aload7 {a0 a1 a2 a3 a4 a5 a6 : Option Value} {o : Nat} (X : hg_X p l s m args meth c D lo own cc nL) (d : decode cc pc = .ok (.aload 7, 2)) (hq : pc + 2 = q) (k : hg_W p l e R s m args below meth c Q D lo C0 nL kr nr G q (a0 :: a1 :: a2 :: a3 :: a4 :: a5 :: a6 :: some (.ref o) :: tl) (.ref o :: st)) : hg_W p l e R s m args below meth c Q D lo C0 nL kr nr G pc (a0 :: a1 :: a2 :: a3 :: a4 :: a5 :: a6 :: some (.ref o) :: tl) (st) := hr_aloadG (i := 7) (o := some o) (L := a0 :: a1 :: a2 :: a3 :: a4 :: a5 :: a6 :: some (.ref o) :: tl) X (Or.inr ⟨d, hq⟩) rfl k
theorem hr_aloadN7 {a0 a1 a2 a3 a4 a5 a6 : Option Value}  (X : hg_X p l s m args meth c D lo own cc nL) (d : decode cc pc = .ok (.aload 7, 2)) (hq : pc + 2 = q) (k : hg_W p l e R s m args below meth c Q D lo C0 nL kr nr G q (a0 :: a1 :: a2 :: a3 :: a4 :: a5 :: a6 :: some (.null) :: tl) (.null :: st)) : hg_W p l e R s m args below meth c Q D lo C0 nL kr nr G pc (a0 :: a1 :: a2 :: a3 :: a4 :: a5 :: a6 :: some (.null) :: tl) (st) := hr_aloadG (i := 7) (o := none) (L := a0 :: a1 :: a2 :: a3 :: a4 :: a5 :: a6 :: some (.null) :: tl) X (Or.inr ⟨d, hq⟩) rfl k
theorem hr_istore7 {a0 a1 a2 a3 a4 a5 a6 : Option Value} {z : Option Value} {x : Int32} (X : hg_X p l s m args meth c D lo own cc nL) (d : decode cc pc = .ok (.istore 7, 2)) (hq : pc + 2 = q) (hp : hg_nl a6 = true) (hi : 7 < nL) (k : hg_W p l e R s m args below meth c Q D lo C0 nL kr nr G q (a0 :: a1 :: a2 :: a3 :: a4 :: a5 :: a6 :: some (.int x) :: tl) (st)) : hg_W p l e R s m args below meth c Q D lo C0 nL kr nr G pc (a0 :: a1 :: a2 :: a3 :: a4 :: a5 :: a6 :: z :: tl) (.int x :: st) := hr_istoreG (i := 7) (L := a0 :: a1 :: a2 :: a3 :: a4 :: a5 :: a6 :: z :: tl) X (Or.inr ⟨d, hq⟩) hp hi k
theorem hr_astoreq7 {a0 a1 a2 a3 a4 a5 a6 : Option Value} {z : Option Value} {o : Option Nat} (X : hg_X p l s m args meth c D lo own cc nL) (d : decode cc pc = .ok (.astore 7, 2)) (hq : pc + 2 = q) (hp : hg_nl a6 = true) (hi : 7 < nL) (k : hg_W p l e R s m args below meth c Q D lo C0 nL kr nr G q (a0 :: a1 :: a2 :: a3 :: a4 :: a5 :: a6 :: some (va_rf o) :: tl) (st)) : hg_W p l e R s m args below meth c Q D lo C0 nL kr nr G pc (a0 :: a1 :: a2 :: a3 :: a4 :: a5 :: a6 :: z :: tl) (va_rf o :: st) := hr_astoreG (i := 7) (o := o) (L := a0 :: a1 :: a2 :: a3 :: a4 :: a5 :: a6 :: z :: tl) X (Or.inr ⟨d, hq⟩) hp hi k
theorem hr_astore7 {a0 a1 a2 a3 a4 a5 a6 : Option Value} {z : Option Value} {o : Nat} (X : hg_X p l s m args meth c D lo own cc nL) (d : decode cc pc = .ok (.astore 7, 2)) (hq : pc + 2 = q) (hp : hg_nl a6 = true) (hi : 7 < nL) (k : hg_W p l e R s m args below meth c Q D lo C0 nL kr nr G q (a0 :: a1 :: a2 :: a3 :: a4 :: a5 :: a6 :: some (.ref o) :: tl) (st)) : hg_W p l e R s m args below meth c Q D lo C0 nL kr nr G pc (a0 :: a1 :: a2 :: a3 :: a4 :: a5 :: a6 :: z :: tl) (.ref o :: st) := hr_astoreG (i := 7) (o := some o) (L := a0 :: a1 :: a2 :: a3 :: a4 :: a5 :: a6 :: z :: tl) X (Or.inr ⟨d, hq⟩) hp hi k
theorem hr_astoreN7 {a0 a1 a2 a3 a4 a5 a6 : Option Value} {z : Option Value}  (X : hg_X p l s m args meth c D lo own cc nL) (d : decode cc pc = .ok (.astore 7, 2)) (hq : pc + 2 = q) (hp : hg_nl a6 = true) (hi : 7 < nL) (k : hg_W p l e R s m args below meth c Q D lo C0 nL kr nr G q (a0 :: a1 :: a2 :: a3 :: a4 :: a5 :: a6 :: some (.null) :: tl) (st)) : hg_W p l e R s m args below meth c Q D lo C0 nL kr nr G pc (a0 :: a1 :: a2 :: a3 :: a4 :: a5 :: a6 :: z :: tl) (.null :: st) := hr_astoreG (i := 7) (o := none) (L := a0 :: a1 :: a2 :: a3 :: a4 :: a5 :: a6 :: z :: tl) X (Or.inr ⟨d, hq⟩) hp hi k
theorem hr_lstore7 {a0 a1 a2 a3 a4 a5 a6 : Option Value} {z z1 : Option Value} {x : Int64} (X : hg_X p l s m args meth c D lo own cc nL) (d : decode cc pc = .ok (.lstore 7, 2)) (hq : pc + 2 = q) (hp : hg_nl a6 = true) (hi : 7 + 1 < nL) (k : hg_W p l e R s m args below meth c Q D lo C0 nL kr nr G q (a0 :: a1 :: a2 :: a3 :: a4 :: a5 :: a6 :: some (.long x) :: none :: tl) (st)) : hg_W p l e R s m args below meth c Q D lo C0 nL kr nr G pc (a0 :: a1 :: a2 :: a3 :: a4 :: a5 :: a6 :: z :: z1 :: tl) (.long x :: st) := hr_lstoreG (i := 7) X (Or.inr ⟨d, hq⟩) hp hi k
theorem hr_iinc7 {a0 a1 a2 a3 a4 a5 a6 : Option Value} {n : Int} {x v : Int32} (X : hg_X p l s m args meth c D lo own cc nL) (d : decode cc pc = .ok (.iinc 7 n, 3)) (hq : pc + 3 = q) (hv : x + Int32.ofInt n = v) (hp : hg_nl a6 = true) (hi : 7 < nL) (k : hg_W p l e R s m args below meth c Q D lo C0 nL kr nr G q (a0 :: a1 :: a2 :: a3 :: a4 :: a5 :: a6 :: some (.int v) :: tl) (st)) : hg_W p l e R s m args below meth c Q D lo C0 nL kr nr G pc (a0 :: a1 :: a2 :: a3 :: a4 :: a5 :: a6 :: some (.int x) :: tl) (st) := hr_iincG (i := 7) X d hq rfl hv hp hi k
theorem hr_fg7 {a0 a1 a2 a3 a4 a5 a6 : Option Value} {z : Option Value} (k : hg_W p l e R s m args below meth c Q D lo C0 nL kr nr G pc (a0 :: a1 :: a2 :: a3 :: a4 :: a5 :: a6 :: none :: tl) (st)) : hg_W p l e R s m args below meth c Q D lo C0 nL kr nr G pc (a0 :: a1 :: a2 :: a3 :: a4 :: a5 :: a6 :: z :: tl) (st) := hr_weak (fun j v h => by
  rcases hg_fg (L := a0 :: a1 :: a2 :: a3 :: a4 :: a5 :: a6 :: z :: tl) (i := 7) h with ⟨h1, h2⟩
  exact h2) k
theorem hr_iload8 {a0 a1 a2 a3 a4 a5 a6 a7 : Option Value} {x : Int32} (X : hg_X p l s m args meth c D lo own cc nL) (d : decode cc pc = .ok (.iload 8, 2)) (hq : pc + 2 = q) (k : hg_W p l e R s m args below meth c Q D lo C0 nL kr nr G q (a0 :: a1 :: a2 :: a3 :: a4 :: a5 :: a6 :: a7 :: some (.int x) :: tl) (.int x :: st)) : hg_W p l e R s m args below meth c Q D lo C0 nL kr nr G pc (a0 :: a1 :: a2 :: a3 :: a4 :: a5 :: a6 :: a7 :: some (.int x) :: tl) (st) := hr_iloadG (i := 8) (L := a0 :: a1 :: a2 :: a3 :: a4 :: a5 :: a6 :: a7 :: some (.int x) :: tl) X (Or.inr ⟨d, hq⟩) rfl k
theorem hr_lload8 {a0 a1 a2 a3 a4 a5 a6 a7 : Option Value} {x : Int64} (X : hg_X p l s m args meth c D lo own cc nL) (d : decode cc pc = .ok (.lload 8, 2)) (hq : pc + 2 = q) (k : hg_W p l e R s m args below meth c Q D lo C0 nL kr nr G q (a0 :: a1 :: a2 :: a3 :: a4 :: a5 :: a6 :: a7 :: some (.long x) :: tl) (.long x :: st)) : hg_W p l e R s m args below meth c Q D lo C0 nL kr nr G pc (a0 :: a1 :: a2 :: a3 :: a4 :: a5 :: a6 :: a7 :: some (.long x) :: tl) (st) := hr_lloadG (i := 8) (L := a0 :: a1 :: a2 :: a3 :: a4 :: a5 :: a6 :: a7 :: some (.long x) :: tl) X (Or.inr ⟨d, hq⟩) rfl k
theorem hr_aloadq8 {a0 a1 a2 a3 a4 a5 a6 a7 : Option Value} {o : Option Nat} (X : hg_X p l s m args meth c D lo own cc nL) (d : decode cc pc = .ok (.aload 8, 2)) (hq : pc + 2 = q) (k : hg_W p l e R s m args below meth c Q D lo C0 nL kr nr G q (a0 :: a1 :: a2 :: a3 :: a4 :: a5 :: a6 :: a7 :: some (va_rf o) :: tl) (va_rf o :: st)) : hg_W p l e R s m args below meth c Q D lo C0 nL kr nr G pc (a0 :: a1 :: a2 :: a3 :: a4 :: a5 :: a6 :: a7 :: some (va_rf o) :: tl) (st) := hr_aloadG (i := 8) (o := o) (L := a0 :: a1 :: a2 :: a3 :: a4 :: a5 :: a6 :: a7 :: some (va_rf o) :: tl) X (Or.inr ⟨d, hq⟩) rfl k
theorem hr_aload8 {a0 a1 a2 a3 a4 a5 a6 a7 : Option Value} {o : Nat} (X : hg_X p l s m args meth c D lo own cc nL) (d : decode cc pc = .ok (.aload 8, 2)) (hq : pc + 2 = q) (k : hg_W p l e R s m args below meth c Q D lo C0 nL kr nr G q (a0 :: a1 :: a2 :: a3 :: a4 :: a5 :: a6 :: a7 :: some (.ref o) :: tl) (.ref o :: st)) : hg_W p l e R s m args below meth c Q D lo C0 nL kr nr G pc (a0 :: a1 :: a2 :: a3 :: a4 :: a5 :: a6 :: a7 :: some (.ref o) :: tl) (st) := hr_aloadG (i := 8) (o := some o) (L := a0 :: a1 :: a2 :: a3 :: a4 :: a5 :: a6 :: a7 :: some (.ref o) :: tl) X (Or.inr ⟨d, hq⟩) rfl k
theorem hr_aloadN8 {a0 a1 a2 a3 a4 a5 a6 a7 : Option Value}  (X : hg_X p l s m args meth c D lo own cc nL) (d : decode cc pc = .ok (.aload 8, 2)) (hq : pc + 2 = q) (k : hg_W p l e R s m args below meth c Q D lo C0 nL kr nr G q (a0 :: a1 :: a2 :: a3 :: a4 :: a5 :: a6 :: a7 :: some (.null) :: tl) (.null :: st)) : hg_W p l e R s m args below meth c Q D lo C0 nL kr nr G pc (a0 :: a1 :: a2 :: a3 :: a4 :: a5 :: a6 :: a7 :: some (.null) :: tl) (st) := hr_aloadG (i := 8) (o := none) (L := a0 :: a1 :: a2 :: a3 :: a4 :: a5 :: a6 :: a7 :: some (.null) :: tl) X (Or.inr ⟨d, hq⟩) rfl k
theorem hr_istore8 {a0 a1 a2 a3 a4 a5 a6 a7 : Option Value} {z : Option Value} {x : Int32} (X : hg_X p l s m args meth c D lo own cc nL) (d : decode cc pc = .ok (.istore 8, 2)) (hq : pc + 2 = q) (hp : hg_nl a7 = true) (hi : 8 < nL) (k : hg_W p l e R s m args below meth c Q D lo C0 nL kr nr G q (a0 :: a1 :: a2 :: a3 :: a4 :: a5 :: a6 :: a7 :: some (.int x) :: tl) (st)) : hg_W p l e R s m args below meth c Q D lo C0 nL kr nr G pc (a0 :: a1 :: a2 :: a3 :: a4 :: a5 :: a6 :: a7 :: z :: tl) (.int x :: st) := hr_istoreG (i := 8) (L := a0 :: a1 :: a2 :: a3 :: a4 :: a5 :: a6 :: a7 :: z :: tl) X (Or.inr ⟨d, hq⟩) hp hi k
theorem hr_astoreq8 {a0 a1 a2 a3 a4 a5 a6 a7 : Option Value} {z : Option Value} {o : Option Nat} (X : hg_X p l s m args meth c D lo own cc nL) (d : decode cc pc = .ok (.astore 8, 2)) (hq : pc + 2 = q) (hp : hg_nl a7 = true) (hi : 8 < nL) (k : hg_W p l e R s m args below meth c Q D lo C0 nL kr nr G q (a0 :: a1 :: a2 :: a3 :: a4 :: a5 :: a6 :: a7 :: some (va_rf o) :: tl) (st)) : hg_W p l e R s m args below meth c Q D lo C0 nL kr nr G pc (a0 :: a1 :: a2 :: a3 :: a4 :: a5 :: a6 :: a7 :: z :: tl) (va_rf o :: st) := hr_astoreG (i := 8) (o := o) (L := a0 :: a1 :: a2 :: a3 :: a4 :: a5 :: a6 :: a7 :: z :: tl) X (Or.inr ⟨d, hq⟩) hp hi k
theorem hr_astore8 {a0 a1 a2 a3 a4 a5 a6 a7 : Option Value} {z : Option Value} {o : Nat} (X : hg_X p l s m args meth c D lo own cc nL) (d : decode cc pc = .ok (.astore 8, 2)) (hq : pc + 2 = q) (hp : hg_nl a7 = true) (hi : 8 < nL) (k : hg_W p l e R s m args below meth c Q D lo C0 nL kr nr G q (a0 :: a1 :: a2 :: a3 :: a4 :: a5 :: a6 :: a7 :: some (.ref o) :: tl) (st)) : hg_W p l e R s m args below meth c Q D lo C0 nL kr nr G pc (a0 :: a1 :: a2 :: a3 :: a4 :: a5 :: a6 :: a7 :: z :: tl) (.ref o :: st) := hr_astoreG (i := 8) (o := some o) (L := a0 :: a1 :: a2 :: a3 :: a4 :: a5 :: a6 :: a7 :: z :: tl) X (Or.inr ⟨d, hq⟩) hp hi k
theorem hr_astoreN8 {a0 a1 a2 a3 a4 a5 a6 a7 : Option Value} {z : Option Value}  (X : hg_X p l s m args meth c D lo own cc nL) (d : decode cc pc = .ok (.astore 8, 2)) (hq : pc + 2 = q) (hp : hg_nl a7 = true) (hi : 8 < nL) (k : hg_W p l e R s m args below meth c Q D lo C0 nL kr nr G q (a0 :: a1 :: a2 :: a3 :: a4 :: a5 :: a6 :: a7 :: some (.null) :: tl) (st)) : hg_W p l e R s m args below meth c Q D lo C0 nL kr nr G pc (a0 :: a1 :: a2 :: a3 :: a4 :: a5 :: a6 :: a7 :: z :: tl) (.null :: st) := hr_astoreG (i := 8) (o := none) (L := a0 :: a1 :: a2 :: a3 :: a4 :: a5 :: a6 :: a7 :: z :: tl) X (Or.inr ⟨d, hq⟩) hp hi k
theorem hr_lstore8 {a0 a1 a2 a3 a4 a5 a6 a7 : Option Value} {z z1 : Option Value} {x : Int64} (X : hg_X p l s m args meth c D lo own cc nL) (d : decode cc pc = .ok (.lstore 8, 2)) (hq : pc + 2 = q) (hp : hg_nl a7 = true) (hi : 8 + 1 < nL) (k : hg_W p l e R s m args below meth c Q D lo C0 nL kr nr G q (a0 :: a1 :: a2 :: a3 :: a4 :: a5 :: a6 :: a7 :: some (.long x) :: none :: tl) (st)) : hg_W p l e R s m args below meth c Q D lo C0 nL kr nr G pc (a0 :: a1 :: a2 :: a3 :: a4 :: a5 :: a6 :: a7 :: z :: z1 :: tl) (.long x :: st) := hr_lstoreG (i := 8) X (Or.inr ⟨d, hq⟩) hp hi k
theorem hr_iinc8 {a0 a1 a2 a3 a4 a5 a6 a7 : Option Value} {n : Int} {x v : Int32} (X : hg_X p l s m args meth c D lo own cc nL) (d : decode cc pc = .ok (.iinc 8 n, 3)) (hq : pc + 3 = q) (hv : x + Int32.ofInt n = v) (hp : hg_nl a7 = true) (hi : 8 < nL) (k : hg_W p l e R s m args below meth c Q D lo C0 nL kr nr G q (a0 :: a1 :: a2 :: a3 :: a4 :: a5 :: a6 :: a7 :: some (.int v) :: tl) (st)) : hg_W p l e R s m args below meth c Q D lo C0 nL kr nr G pc (a0 :: a1 :: a2 :: a3 :: a4 :: a5 :: a6 :: a7 :: some (.int x) :: tl) (st) := hr_iincG (i := 8) X d hq rfl hv hp hi k
theorem hr_fg8 {a0 a1 a2 a3 a4 a5 a6 a7 : Option Value} {z : Option Value} (k : hg_W p l e R s m args below meth c Q D lo C0 nL kr nr G pc (a0 :: a1 :: a2 :: a3 :: a4 :: a5 :: a6 :: a7 :: none :: tl) (st)) : hg_W p l e R s m args below meth c Q D lo C0 nL kr nr G pc (a0 :: a1 :: a2 :: a3 :: a4 :: a5 :: a6 :: a7 :: z :: tl) (st) := hr_weak (fun j v h => by
  rcases hg_fg (L := a0 :: a1 :: a2 :: a3 :: a4 :: a5 :: a6 :: a7 :: z :: tl) (i := 8) h with ⟨h1, h2⟩
  exact h2) k
theorem hr_iload9 {a0 a1 a2 a3 a4 a5 a6 a7 a8 : Option Value} {x : Int32} (X : hg_X p l s m args meth c D lo own cc nL) (d : decode cc pc = .ok (.iload 9, 2)) (hq : pc + 2 = q) (k : hg_W p l e R s m args below meth c Q D lo C0 nL kr nr G q (a0 :: a1 :: a2 :: a3 :: a4 :: a5 :: a6 :: a7 :: a8 :: some (.int x) :: tl) (.int x :: st)) : hg_W p l e R s m args below meth c Q D lo C0 nL kr nr G pc (a0 :: a1 :: a2 :: a3 :: a4 :: a5 :: a6 :: a7 :: a8 :: some (.int x) :: tl) (st) := hr_iloadG (i := 9) (L := a0 :: a1 :: a2 :: a3 :: a4 :: a5 :: a6 :: a7 :: a8 :: some (.int x) :: tl) X (Or.inr ⟨d, hq⟩) rfl k
theorem hr_lload9 {a0 a1 a2 a3 a4 a5 a6 a7 a8 : Option Value} {x : Int64} (X : hg_X p l s m args meth c D lo own cc nL) (d : decode cc pc = .ok (.lload 9, 2)) (hq : pc + 2 = q) (k : hg_W p l e R s m args below meth c Q D lo C0 nL kr nr G q (a0 :: a1 :: a2 :: a3 :: a4 :: a5 :: a6 :: a7 :: a8 :: some (.long x) :: tl) (.long x :: st)) : hg_W p l e R s m args below meth c Q D lo C0 nL kr nr G pc (a0 :: a1 :: a2 :: a3 :: a4 :: a5 :: a6 :: a7 :: a8 :: some (.long x) :: tl) (st) := hr_lloadG (i := 9) (L := a0 :: a1 :: a2 :: a3 :: a4 :: a5 :: a6 :: a7 :: a8 :: some (.long x) :: tl) X (Or.inr ⟨d, hq⟩) rfl k
theorem hr_aloadq9 {a0 a1 a2 a3 a4 a5 a6 a7 a8 : Option Value} {o : Option Nat} (X : hg_X p l s m args meth c D lo own cc nL) (d : decode cc pc = .ok (.aload 9, 2)) (hq : pc + 2 = q) (k : hg_W p l e R s m args below meth c Q D lo C0 nL kr nr G q (a0 :: a1 :: a2 :: a3 :: a4 :: a5 :: a6 :: a7 :: a8 :: some (va_rf o) :: tl) (va_rf o :: st)) : hg_W p l e R s m args below meth c Q D lo C0 nL kr nr G pc (a0 :: a1 :: a2 :: a3 :: a4 :: a5 :: a6 :: a7 :: a8 :: some (va_rf o) :: tl) (st) := hr_aloadG (i := 9) (o := o) (L := a0 :: a1 :: a2 :: a3 :: a4 :: a5 :: a6 :: a7 :: a8 :: some (va_rf o) :: tl) X (Or.inr ⟨d, hq⟩) rfl k
theorem hr_aload9 {a0 a1 a2 a3 a4 a5 a6 a7 a8 : Option Value} {o : Nat} (X : hg_X p l s m args meth c D lo own cc nL) (d : decode cc pc = .ok (.aload 9, 2)) (hq : pc + 2 = q) (k : hg_W p l e R s m args below meth c Q D lo C0 nL kr nr G q (a0 :: a1 :: a2 :: a3 :: a4 :: a5 :: a6 :: a7 :: a8 :: some (.ref o) :: tl) (.ref o :: st)) : hg_W p l e R s m args below meth c Q D lo C0 nL kr nr G pc (a0 :: a1 :: a2 :: a3 :: a4 :: a5 :: a6 :: a7 :: a8 :: some (.ref o) :: tl) (st) := hr_aloadG (i := 9) (o := some o) (L := a0 :: a1 :: a2 :: a3 :: a4 :: a5 :: a6 :: a7 :: a8 :: some (.ref o) :: tl) X (Or.inr ⟨d, hq⟩) rfl k
theorem hr_aloadN9 {a0 a1 a2 a3 a4 a5 a6 a7 a8 : Option Value}  (X : hg_X p l s m args meth c D lo own cc nL) (d : decode cc pc = .ok (.aload 9, 2)) (hq : pc + 2 = q) (k : hg_W p l e R s m args below meth c Q D lo C0 nL kr nr G q (a0 :: a1 :: a2 :: a3 :: a4 :: a5 :: a6 :: a7 :: a8 :: some (.null) :: tl) (.null :: st)) : hg_W p l e R s m args below meth c Q D lo C0 nL kr nr G pc (a0 :: a1 :: a2 :: a3 :: a4 :: a5 :: a6 :: a7 :: a8 :: some (.null) :: tl) (st) := hr_aloadG (i := 9) (o := none) (L := a0 :: a1 :: a2 :: a3 :: a4 :: a5 :: a6 :: a7 :: a8 :: some (.null) :: tl) X (Or.inr ⟨d, hq⟩) rfl k
theorem hr_istore9 {a0 a1 a2 a3 a4 a5 a6 a7 a8 : Option Value} {z : Option Value} {x : Int32} (X : hg_X p l s m args meth c D lo own cc nL) (d : decode cc pc = .ok (.istore 9, 2)) (hq : pc + 2 = q) (hp : hg_nl a8 = true) (hi : 9 < nL) (k : hg_W p l e R s m args below meth c Q D lo C0 nL kr nr G q (a0 :: a1 :: a2 :: a3 :: a4 :: a5 :: a6 :: a7 :: a8 :: some (.int x) :: tl) (st)) : hg_W p l e R s m args below meth c Q D lo C0 nL kr nr G pc (a0 :: a1 :: a2 :: a3 :: a4 :: a5 :: a6 :: a7 :: a8 :: z :: tl) (.int x :: st) := hr_istoreG (i := 9) (L := a0 :: a1 :: a2 :: a3 :: a4 :: a5 :: a6 :: a7 :: a8 :: z :: tl) X (Or.inr ⟨d, hq⟩) hp hi k
theorem hr_astoreq9 {a0 a1 a2 a3 a4 a5 a6 a7 a8 : Option Value} {z : Option Value} {o : Option Nat} (X : hg_X p l s m args meth c D lo own cc nL) (d : decode cc pc = .ok (.astore 9, 2)) (hq : pc + 2 = q) (hp : hg_nl a8 = true) (hi : 9 < nL) (k : hg_W p l e R s m args below meth c Q D lo C0 nL kr nr G q (a0 :: a1 :: a2 :: a3 :: a4 :: a5 :: a6 :: a7 :: a8 :: some (va_rf o) :: tl) (st)) : hg_W p l e R s m args below meth c Q D lo C0 nL kr nr G pc (a0 :: a1 :: a2 :: a3 :: a4 :: a5 :: a6 :: a7 :: a8 :: z :: tl) (va_rf o :: st) := hr_astoreG (i := 9) (o := o) (L := a0 :: a1 :: a2 :: a3 :: a4 :: a5 :: a6 :: a7 :: a8 :: z :: tl) X (Or.inr ⟨d, hq⟩) hp hi k
theorem hr_astore9 {a0 a1 a2 a3 a4 a5 a6 a7 a8 : Option Value} {z : Option Value} {o : Nat} (X : hg_X p l s m args meth c D lo own cc nL) (d : decode cc pc = .ok (.astore 9, 2)) (hq : pc + 2 = q) (hp : hg_nl a8 = true) (hi : 9 < nL) (k : hg_W p l e R s m args below meth c Q D lo C0 nL kr nr G q (a0 :: a1 :: a2 :: a3 :: a4 :: a5 :: a6 :: a7 :: a8 :: some (.ref o) :: tl) (st)) : hg_W p l e R s m args below meth c Q D lo C0 nL kr nr G pc (a0 :: a1 :: a2 :: a3 :: a4 :: a5 :: a6 :: a7 :: a8 :: z :: tl) (.ref o :: st) := hr_astoreG (i := 9) (o := some o) (L := a0 :: a1 :: a2 :: a3 :: a4 :: a5 :: a6 :: a7 :: a8 :: z :: tl) X (Or.inr ⟨d, hq⟩) hp hi k
theorem hr_astoreN9 {a0 a1 a2 a3 a4 a5 a6 a7 a8 : Option Value} {z : Option Value}  (X : hg_X p l s m args meth c D lo own cc nL) (d : decode cc pc = .ok (.astore 9, 2)) (hq : pc + 2 = q) (hp : hg_nl a8 = true) (hi : 9 < nL) (k : hg_W p l e R s m args below meth c Q D lo C0 nL kr nr G q (a0 :: a1 :: a2 :: a3 :: a4 :: a5 :: a6 :: a7 :: a8 :: some (.null) :: tl) (st)) : hg_W p l e R s m args below meth c Q D lo C0 nL kr nr G pc (a0 :: a1 :: a2 :: a3 :: a4 :: a5 :: a6 :: a7 :: a8 :: z :: tl) (.null :: st) := hr_astoreG (i := 9) (o := none) (L := a0 :: a1 :: a2 :: a3 :: a4 :: a5 :: a6 :: a7 :: a8 :: z :: tl) X (Or.inr ⟨d, hq⟩) hp hi k
theorem hr_lstore9 {a0 a1 a2 a3 a4 a5 a6 a7 a8 : Option Value} {z z1 : Option Value} {x : Int64} (X : hg_X p l s m args meth c D lo own cc nL) (d : decode cc pc = .ok (.lstore 9, 2)) (hq : pc + 2 = q) (hp : hg_nl a8 = true) (hi : 9 + 1 < nL) (k : hg_W p l e R s m args below meth c Q D lo C0 nL kr nr G q (a0 :: a1 :: a2 :: a3 :: a4 :: a5 :: a6 :: a7 :: a8 :: some (.long x) :: none :: tl) (st)) : hg_W p l e R s m args below meth c Q D lo C0 nL kr nr G pc (a0 :: a1 :: a2 :: a3 :: a4 :: a5 :: a6 :: a7 :: a8 :: z :: z1 :: tl) (.long x :: st) := hr_lstoreG (i := 9) X (Or.inr ⟨d, hq⟩) hp hi k
theorem hr_iinc9 {a0 a1 a2 a3 a4 a5 a6 a7 a8 : Option Value} {n : Int} {x v : Int32} (X : hg_X p l s m args meth c D lo own cc nL) (d : decode cc pc = .ok (.iinc 9 n, 3)) (hq : pc + 3 = q) (hv : x + Int32.ofInt n = v) (hp : hg_nl a8 = true) (hi : 9 < nL) (k : hg_W p l e R s m args below meth c Q D lo C0 nL kr nr G q (a0 :: a1 :: a2 :: a3 :: a4 :: a5 :: a6 :: a7 :: a8 :: some (.int v) :: tl) (st)) : hg_W p l e R s m args below meth c Q D lo C0 nL kr nr G pc (a0 :: a1 :: a2 :: a3 :: a4 :: a5 :: a6 :: a7 :: a8 :: some (.int x) :: tl) (st) := hr_iincG (i := 9) X d hq rfl hv hp hi k
theorem hr_fg9 {a0 a1 a2 a3 a4 a5 a6 a7 a8 : Option Value} {z : Option Value} (k : hg_W p l e R s m args below meth c Q D lo C0 nL kr nr G pc (a0 :: a1 :: a2 :: a3 :: a4 :: a5 :: a6 :: a7 :: a8 :: none :: tl) (st)) : hg_W p l e R s m args below meth c Q D lo C0 nL kr nr G pc (a0 :: a1 :: a2 :: a3 :: a4 :: a5 :: a6 :: a7 :: a8 :: z :: tl) (st) := hr_weak (fun j v h => by
  rcases hg_fg (L := a0 :: a1 :: a2 :: a3 :: a4 :: a5 :: a6 :: a7 :: a8 :: z :: tl) (i := 9) h with ⟨h1, h2⟩
  exact h2) k
theorem hr_iload10 {a0 a1 a2 a3 a4 a5 a6 a7 a8 a9 : Option Value} {x : Int32} (X : hg_X p l s m args meth c D lo own cc nL) (d : decode cc pc = .ok (.iload 10, 2)) (hq : pc + 2 = q) (k : hg_W p l e R s m args below meth c Q D lo C0 nL kr nr G q (a0 :: a1 :: a2 :: a3 :: a4 :: a5 :: a6 :: a7 :: a8 :: a9 :: some (.int x) :: tl) (.int x :: st)) : hg_W p l e R s m args below meth c Q D lo C0 nL kr nr G pc (a0 :: a1 :: a2 :: a3 :: a4 :: a5 :: a6 :: a7 :: a8 :: a9 :: some (.int x) :: tl) (st) := hr_iloadG (i := 10) (L := a0 :: a1 :: a2 :: a3 :: a4 :: a5 :: a6 :: a7 :: a8 :: a9 :: some (.int x) :: tl) X (Or.inr ⟨d, hq⟩) rfl k
theorem hr_lload10 {a0 a1 a2 a3 a4 a5 a6 a7 a8 a9 : Option Value} {x : Int64} (X : hg_X p l s m args meth c D lo own cc nL) (d : decode cc pc = .ok (.lload 10, 2)) (hq : pc + 2 = q) (k : hg_W p l e R s m args below meth c Q D lo C0 nL kr nr G q (a0 :: a1 :: a2 :: a3 :: a4 :: a5 :: a6 :: a7 :: a8 :: a9 :: some (.long x) :: tl) (.long x :: st)) : hg_W p l e R s m args below meth c Q D lo C0 nL kr nr G pc (a0 :: a1 :: a2 :: a3 :: a4 :: a5 :: a6 :: a7 :: a8 :: a9 :: some (.long x) :: tl) (st) := hr_lloadG (i := 10) (L := a0 :: a1 :: a2 :: a3 :: a4 :: a5 :: a6 :: a7 :: a8 :: a9 :: some (.long x) :: tl) X (Or.inr ⟨d, hq⟩) rfl k
theorem hr_aloadq10 {a0 a1 a2 a3 a4 a5 a6 a7 a8 a9 : Option Value} {o : Option Nat} (X : hg_X p l s m args meth c D lo own cc nL) (d : decode cc pc = .ok (.aload 10, 2)) (hq : pc + 2 = q) (k : hg_W p l e R s m args below meth c Q D lo C0 nL kr nr G q (a0 :: a1 :: a2 :: a3 :: a4 :: a5 :: a6 :: a7 :: a8 :: a9 :: some (va_rf o) :: tl) (va_rf o :: st)) : hg_W p l e R s m args below meth c Q D lo C0 nL kr nr G pc (a0 :: a1 :: a2 :: a3 :: a4 :: a5 :: a6 :: a7 :: a8 :: a9 :: some (va_rf o) :: tl) (st) := hr_aloadG (i := 10) (o := o) (L := a0 :: a1 :: a2 :: a3 :: a4 :: a5 :: a6 :: a7 :: a8 :: a9 :: some (va_rf o) :: tl) X (Or.inr ⟨d, hq⟩) rfl k
theorem hr_aload10 {a0 a1 a2 a3 a4 a5 a6 a7 a8 a9 : Option Value} {o : Nat} (X : hg_X p l s m args meth c D lo own cc nL) (d : decode cc pc = .ok (.aload 10, 2)) (hq : pc + 2 = q) (k : hg_W p l e R s m args below meth c Q D lo C0 nL kr nr G q (a0 :: a1 :: a2 :: a3 :: a4 :: a5 :: a6 :: a7 :: a8 :: a9 :: some (.ref o) :: tl) (.ref o :: st)) : hg_W p l e R s m args below meth c Q D lo C0 nL kr nr G pc (a0 :: a1 :: a2 :: a3 :: a4 :: a5 :: a6 :: a7 :: a8 :: a9 :: some (.ref o) :: tl) (st) := hr_aloadG (i := 10) (o := some o) (L := a0 :: a1 :: a2 :: a3 :: a4 :: a5 :: a6 :: a7 :: a8 :: a9 :: some (.ref o) :: tl) X (Or.inr ⟨d, hq⟩) rfl k
theorem hr_aloadN10 {a0 a1 a2 a3 a4 a5 a6 a7 a8 a9 : Option Value}  (X : hg_X p l s m args meth c D lo own cc nL) (d : decode cc pc = .ok (.aload 10, 2)) (hq : pc + 2 = q) (k : hg_W p l e R s m args below meth c Q D lo C0 nL kr nr G q (a0 :: a1 :: a2 :: a3 :: a4 :: a5 :: a6 :: a7 :: a8 :: a9 :: some (.null) :: tl) (.null :: st)) : hg_W p l e R s m args below meth c Q D lo C0 nL kr nr G pc (a0 :: a1 :: a2 :: a3 :: a4 :: a5 :: a6 :: a7 :: a8 :: a9 :: some (.null) :: tl) (st) := hr_aloadG (i := 10) (o := none) (L := a0 :: a1 :: a2 :: a3 :: a4 :: a5 :: a6 :: a7 :: a8 :: a9 :: some (.null) :: tl) X (Or.inr ⟨d, hq⟩) rfl k
theorem hr_istore10 {a0 a1 a2 a3 a4 a5 a6 a7 a8 a9 : Option Value} {z : Option Value} {x : Int32} (X : hg_X p l s m args meth c D lo own cc nL) (d : decode cc pc = .ok (.istore 10, 2)) (hq : pc + 2 = q) (hp : hg_nl a9 = true) (hi : 10 < nL) (k : hg_W p l e R s m args below meth c Q D lo C0 nL kr nr G q (a0 :: a1 :: a2 :: a3 :: a4 :: a5 :: a6 :: a7 :: a8 :: a9 :: some (.int x) :: tl) (st)) : hg_W p l e R s m args below meth c Q D lo C0 nL kr nr G pc (a0 :: a1 :: a2 :: a3 :: a4 :: a5 :: a6 :: a7 :: a8 :: a9 :: z :: tl) (.int x :: st) := hr_istoreG (i := 10) (L := a0 :: a1 :: a2 :: a3 :: a4 :: a5 :: a6 :: a7 :: a8 :: a9 :: z :: tl) X (Or.inr ⟨d, hq⟩) hp hi k
theorem hr_astoreq10 {a0 a1 a2 a3 a4 a5 a6 a7 a8 a9 : Option Value} {z : Option Value} {o : Option Nat} (X : hg_X p l s m args meth c D lo own cc nL) (d : decode cc pc = .ok (.astore 10, 2)) (hq : pc + 2 = q) (hp : hg_nl a9 = true) (hi : 10 < nL) (k : hg_W p l e R s m args below meth c Q D lo C0 nL kr nr G q (a0 :: a1 :: a2 :: a3 :: a4 :: a5 :: a6 :: a7 :: a8 :: a9 :: some (va_rf o) :: tl) (st)) : hg_W p l e R s m args below meth c Q D lo C0 nL kr nr G pc (a0 :: a1 :: a2 :: a3 :: a4 :: a5 :: a6 :: a7 :: a8 :: a9 :: z :: tl) (va_rf o :: st) := hr_astoreG (i := 10) (o := o) (L := a0 :: a1 :: a2 :: a3 :: a4 :: a5 :: a6 :: a7 :: a8 :: a9 :: z :: tl) X (Or.inr ⟨d, hq⟩) hp hi k
theorem hr_astore10 {a0 a1 a2 a3 a4 a5 a6 a7 a8 a9 : Option Value} {z : Option Value} {o : Nat} (X : hg_X p l s m args meth c D lo own cc nL) (d : decode cc pc = .ok (.astore 10, 2)) (hq : pc + 2 = q) (hp : hg_nl a9 = true) (hi : 10 < nL) (k : hg_W p l e R s m args below meth c Q D lo C0 nL kr nr G q (a0 :: a1 :: a2 :: a3 :: a4 :: a5 :: a6 :: a7 :: a8 :: a9 :: some (.ref o) :: tl) (st)) : hg_W p l e R s m args below meth c Q D lo C0 nL kr nr G pc (a0 :: a1 :: a2 :: a3 :: a4 :: a5 :: a6 :: a7 :: a8 :: a9 :: z :: tl) (.ref o :: st) := hr_astoreG (i := 10) (o := some o) (L := a0 :: a1 :: a2 :: a3 :: a4 :: a5 :: a6 :: a7 :: a8 :: a9 :: z :: tl) X (Or.inr ⟨d, hq⟩) hp hi k
theorem hr_astoreN10 {a0 a1 a2 a3 a4 a5 a6 a7 a8 a9 : Option Value} {z : Option Value}  (X : hg_X p l s m args meth c D lo own cc nL) (d : decode cc pc = .ok (.astore 10, 2)) (hq : pc + 2 = q) (hp : hg_nl a9 = true) (hi : 10 < nL) (k : hg_W p l e R s m args below meth c Q D lo C0 nL kr nr G q (a0 :: a1 :: a2 :: a3 :: a4 :: a5 :: a6 :: a7 :: a8 :: a9 :: some (.null) :: tl) (st)) : hg_W p l e R s m args below meth c Q D lo C0 nL kr nr G pc (a0 :: a1 :: a2 :: a3 :: a4 :: a5 :: a6 :: a7 :: a8 :: a9 :: z :: tl) (.null :: st) := hr_astoreG (i := 10) (o := none) (L := a0 :: a1 :: a2 :: a3 :: a4 :: a5 :: a6 :: a7 :: a8 :: a9 :: z :: tl) X (Or.inr ⟨d, hq⟩) hp hi k
theorem hr_lstore10 {a0 a1 a2 a3 a4 a5 a6 a7 a8 a9 : Option Value} {z z1 : Option Value} {x : Int64} (X : hg_X p l s m args meth c D lo own cc nL) (d : decode cc pc = .ok (.lstore 10, 2)) (hq : pc + 2 = q) (hp : hg_nl a9 = true) (hi : 10 + 1 < nL) (k : hg_W p l e R s m args below meth c Q D lo C0 nL kr nr G q (a0 :: a1 :: a2 :: a3 :: a4 :: a5 :: a6 :: a7 :: a8 :: a9 :: some (.long x) :: none :: tl) (st)) : hg_W p l e R s m args below meth c Q D lo C0 nL kr nr G pc (a0 :: a1 :: a2 :: a3 :: a4 :: a5 :: a6 :: a7 :: a8 :: a9 :: z :: z1 :: tl) (.long x :: st) := hr_lstoreG (i := 10) X (Or.inr ⟨d, hq⟩) hp hi k
theorem hr_iinc10 {a0 a1 a2 a3 a4 a5 a6 a7 a8 a9 : Option Value} {n : Int} {x v : Int32} (X : hg_X p l s m args meth c D lo own cc nL) (d : decode cc pc = .ok (.iinc 10 n, 3)) (hq : pc + 3 = q) (hv : x + Int32.ofInt n = v) (hp : hg_nl a9 = true) (hi : 10 < nL) (k : hg_W p l e R s m args below meth c Q D lo C0 nL kr nr G q (a0 :: a1 :: a2 :: a3 :: a4 :: a5 :: a6 :: a7 :: a8 :: a9 :: some (.int v) :: tl) (st)) : hg_W p l e R s m args below meth c Q D lo C0 nL kr nr G pc (a0 :: a1 :: a2 :: a3 :: a4 :: a5 :: a6 :: a7 :: a8 :: a9 :: some (.int x) :: tl) (st) := hr_iincG (i := 10) X d hq rfl hv hp hi k
theorem hr_fg10 {a0 a1 a2 a3 a4 a5 a6 a7 a8 a9 : Option Value} {z : Option Value} (k : hg_W p l e R s m args below meth c Q D lo C0 nL kr nr G pc (a0 :: a1 :: a2 :: a3 :: a4 :: a5 :: a6 :: a7 :: a8 :: a9 :: none :: tl) (st)) : hg_W p l e R s m args below meth c Q D lo C0 nL kr nr G pc (a0 :: a1 :: a2 :: a3 :: a4 :: a5 :: a6 :: a7 :: a8 :: a9 :: z :: tl) (st) := hr_weak (fun j v h => by
  rcases hg_fg (L := a0 :: a1 :: a2 :: a3 :: a4 :: a5 :: a6 :: a7 :: a8 :: a9 :: z :: tl) (i := 10) h with ⟨h1, h2⟩
  exact h2) k
end HGR
