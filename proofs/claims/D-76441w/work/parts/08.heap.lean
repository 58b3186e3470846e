/-! fields: what a link asks, once for each -/
def hg_Fd (own : String) (ix ci k : Nat) : Prop := ∃ (C : String) (T : u_T) (N : Nat) (ref : String), hg_cl[ci]? = some (C, T, N) ∧ (∀ w ∈ u_ws C T N, w ∈ lw_all) ∧ k < N ∧ Cond.fieldLink own ix ref (T k).2.1 (T k).2.2.1 ∈ lw_all ∧ (ref = (T k).1 ∨ Cond.sameField ref (T k).1 (T k).2.1 (T k).2.2.1 ∈ lw_all)
theorem hg_Fd.of {own : String} {ix ci k : Nat} {C : String} {T : u_T} {N : Nat} {ref n d : String} (h1 : hg_cl[ci]? = some (C, T, N)) (h2 : ∀ w ∈ u_ws C T N, w ∈ lw_all) (h3 : k < N) (hn : (T k).2.1 = n) (hd : (T k).2.2.1 = d) (h4 : Cond.fieldLink own ix ref n d ∈ lw_all) (h5 : ref = (T k).1 ∨ Cond.sameField ref (T k).1 n d ∈ lw_all) : hg_Fd own ix ci k := by
  subst hn; subst hd
  exact ⟨C, T, N, ref, h1, h2, h3, h4, h5⟩
def hg_Fw (own : String) (ix ci k : Nat) (fin : Bool) (ty : FieldType) : Prop := ∃ (C : String) (T : u_T) (N : Nat) (ref : String) (ty0 : Nat → FieldType), hg_cl[ci]? = some (C, T, N) ∧ (∀ w ∈ u_ws C T N, w ∈ lw_all) ∧ k < N ∧ Cond.fieldLink own ix ref (T k).2.1 (T k).2.2.1 ∈ lw_all ∧ (ref = (T k).1 ∨ Cond.sameField ref (T k).1 (T k).2.1 (T k).2.2.1 ∈ lw_all) ∧
  (T k).2.2.2 = fin ∧ (fin = true → (T k).1 = own) ∧ (∀ j, j < N → parseFieldDescriptor (T j).2.2.1 = some (ty0 j)) ∧ (∀ a, a < N → ∀ b, b < N → a ≠ b → (T a).2.1 ≠ (T b).2.1) ∧ ty0 k = ty ∧ hg_ro 0 ci = false
theorem hg_Fw.of {own : String} {ix ci k : Nat} {fin : Bool} {ty : FieldType} {C : String} {T : u_T} {N : Nat} {ref n d : String} {ty0 : Nat → FieldType} (h1 : hg_cl[ci]? = some (C, T, N)) (h2 : ∀ w ∈ u_ws C T N, w ∈ lw_all) (h3 : k < N) (hn : (T k).2.1 = n) (hd : (T k).2.2.1 = d) (h4 : Cond.fieldLink own ix ref n d ∈ lw_all) (h5 : ref = (T k).1 ∨ Cond.sameField ref (T k).1 n d ∈ lw_all)
    (h6 : (T k).2.2.2 = fin) (h7 : fin = true → (T k).1 = own) (h8 : ∀ j, j < N → parseFieldDescriptor (T j).2.2.1 = some (ty0 j)) (h9 : ∀ a, a < N → ∀ b, b < N → a ≠ b → (T a).2.1 ≠ (T b).2.1) (h10 : ty0 k = ty) (h11 : hg_ro 0 ci = false) : hg_Fw own ix ci k fin ty := by
  subst hn; subst hd
  exact ⟨C, T, N, ref, ty0, h1, h2, h3, h4, h5, h6, h7, h8, h9, h10, h11⟩
theorem hg_Fw.ro {own : String} {ix ci k : Nat} {fin : Bool} {ty : FieldType} (f : hg_Fw own ix ci k fin ty) : hg_ro 0 ci = false := by
  obtain ⟨C, T, N, ref, ty0, -, -, -, -, -, -, -, -, -, -, h⟩ := f
  exact h
section HGF
variable {p : Program} {l : Launch} {e : Env} {R : Room} {s : State} {m : MethodId} {args : Array Value} {below : List Frame} {meth : Method} {c : Code} {Q : State → Prop} {D : hg_D} {lo : Nat} {C0 : hg_K} {nL kr nr : Nat} {G : hg_G} {own : String} {cc : ByteArray} {pc q : Nat} {L : List (Option Value)} {st : List Value}
theorem hg_same {s : State} {args : Array Value} {ref o n d : String} (hw : ∀ w ∈ lw_all, w.before args s = true) (h : ref = o ∨ Cond.sameField ref o n d ∈ lw_all) (x : ClassId × Class × Nat × Field) (hx : s.fieldFound? o n d = some x) : s.fieldFound? ref n d = some x := by
  rcases h with h | h
  · rw [h]; exact hx
  · exact u_same (hw _ h) x hx
theorem hr_getA {ix ci k a : Nat} (X : hg_X p l s m args meth c D lo own cc nL) (d : decode cc pc = .ok (.getfield ix, 3)) (hq : pc + 3 = q) (f : hg_Fd own ix ci k) (ha : G.1 a = some (0, ci)) (kk : hg_W p l e R s m args below meth c Q D lo C0 nL kr nr G q L (hg_vF G ci a k :: st)) : hg_W p l e R s m args below meth c Q D lo C0 nL kr nr G pc L (.ref a :: st) := by
  subst hq
  intro ls H locs k0 n0 hl hP hS hE hk hn
  obtain ⟨C, T, N, ref, hc, hin, hkN, hlink, hsame⟩ := f
  have hat := (hP.1 a 0 ci ha).g
  obtain ⟨r, h1, cell, q1, q2, q3, q4⟩ := hat
  have hr : r = (C, T, N) := Option.some.inj (h1.symm.trans hc)
  subst hr
  obtain ⟨hS', hfc, kC, hkC, hkind⟩ := X.kn.1 ci _ hc
  obtain ⟨cf, kf, fi, fd, hi, hsl⟩ := hS' k hkN
  refine W.getf X.x X.b X.o (X.w _ hlink) (hg_same X.w hsame _ hi) (u_facts hfc hkC (u_lays X.w hin hkN) hi).1 q1 q3.1 (v := hg_vF G ci a k) ?_ rfl rfl d (kk ls H locs k0 n0 hl hP hS hE hk hn)
  rw [hsl]
  exact q4 k hkN
theorem hr_getI {ix ci k a : Nat} {v : Int32} (X : hg_X p l s m args meth c D lo own cc nL) (d : decode cc pc = .ok (.getfield ix, 3)) (hq : pc + 3 = q) (f : hg_Fd own ix ci k) (ht : hg_ft ci k = 0) (ha : G.1 a = some (0, ci)) (hv : G.2.1 a k = v) (kk : hg_W p l e R s m args below meth c Q D lo C0 nL kr nr G q L (.int v :: st)) : hg_W p l e R s m args below meth c Q D lo C0 nL kr nr G pc L (.ref a :: st) := by
  refine hr_getA X d hq f ha ?_
  have e1 : hg_vF G ci a k = .int v := by unfold hg_vF; rw [ht]; exact congrArg Value.int hv
  rw [e1]
  exact kk
theorem hr_getJ {ix ci k a : Nat} {v : Int64} (X : hg_X p l s m args meth c D lo own cc nL) (d : decode cc pc = .ok (.getfield ix, 3)) (hq : pc + 3 = q) (f : hg_Fd own ix ci k) (ht : hg_ft ci k = 1) (ha : G.1 a = some (0, ci)) (hv : G.2.2.1 a k = v) (kk : hg_W p l e R s m args below meth c Q D lo C0 nL kr nr G q L (.long v :: st)) : hg_W p l e R s m args below meth c Q D lo C0 nL kr nr G pc L (.ref a :: st) := by
  refine hr_getA X d hq f ha ?_
  have e1 : hg_vF G ci a k = .long v := by unfold hg_vF; rw [ht]; exact congrArg Value.long hv
  rw [e1]
  exact kk
theorem hr_getQ {ix ci k a : Nat} {v : Option Nat} (X : hg_X p l s m args meth c D lo own cc nL) (d : decode cc pc = .ok (.getfield ix, 3)) (hq : pc + 3 = q) (f : hg_Fd own ix ci k) (ht : hg_ft ci k = 2) (ha : G.1 a = some (0, ci)) (hv : G.2.2.2 a k = v) (kk : hg_W p l e R s m args below meth c Q D lo C0 nL kr nr G q L (va_rf v :: st)) : hg_W p l e R s m args below meth c Q D lo C0 nL kr nr G pc L (.ref a :: st) := by
  refine hr_getA X d hq f ha ?_
  have e1 : hg_vF G ci a k = va_rf v := by unfold hg_vF; rw [ht]; exact congrArg va_rf hv
  rw [e1]
  exact kk
theorem hr_getR {ix ci k a v : Nat} (X : hg_X p l s m args meth c D lo own cc nL) (d : decode cc pc = .ok (.getfield ix, 3)) (hq : pc + 3 = q) (f : hg_Fd own ix ci k) (ht : hg_ft ci k = 2) (ha : G.1 a = some (0, ci)) (hv : G.2.2.2 a k = some v) (kk : hg_W p l e R s m args below meth c Q D lo C0 nL kr nr G q L (.ref v :: st)) : hg_W p l e R s m args below meth c Q D lo C0 nL kr nr G pc L (.ref a :: st) := hr_getQ X d hq f ht ha hv kk
/-- a field written -/
theorem hg_put {ix ci k a : Nat} {fin : Bool} {ty : FieldType} {v : Value} {H : Heap} {locs : List Loc} {k0 n0 : Nat} {ls : Array Slot} (X : hg_X p l s m args meth c D lo own cc nL) (d : decode cc pc = .ok (.putfield ix, 3)) (f : hg_Fw own ix ci k fin ty) (hfin : fin = true → meth.name = "<init>") (ha : G.1 a = some (0, ci)) (hP : hg_P D lo G H) (hnar : narrow ty v = v) (hfit : fits ty v = true)
    (kk : ∀ (H' : Heap) (r : vw_C) (z : Nat), hg_cl[ci]? = some r → t_OB a (D.1.1 ci) r.2.2 (D.1.2 ci) H' (updV (hg_vF G ci a) k v) → (∀ q : Nat, q ≠ a → H'[q]? = H[q]?) → H'.size = H.size → lo ≤ a → W p l e R s m args below meth c H' (locs ++ [⟨a, z⟩]) k0 n0 Q (F0 m (pc + 3) ls st)) : W p l e R s m args below meth c H locs k0 n0 Q (F0 m pc ls (v :: .ref a :: st)) := by
  obtain ⟨C, T, N, ref, ty0, hc, hin, hkN, hlink, hsame, hfl, hown, hty, hnm, hk0, hro⟩ := f
  have hat : ∃ r : vw_C, hg_cl[ci]? = some r ∧ t_OB a (D.1.1 ci) r.2.2 (D.1.2 ci) H (hg_vF G ci a) := (hP.1 a 0 ci ha).1 hro
  have hlo : lo ≤ a := hP.2 a 0 ci ha hro
  obtain ⟨r, h1, cell, q1, q2, q3, q4⟩ := hat
  have hr : r = (C, T, N) := Option.some.inj (h1.symm.trans hc)
  subst hr
  have hd : parseFieldDescriptor (T k).2.2.1 = some ty := by rw [hty k hkN, hk0]
  have hap : ∀ x y, x < N → y < N → x ≠ y → (D.1.2 ci) x ≠ (D.1.2 ci) y := by
    intro x y hx hy hne
    obtain ⟨hS, -⟩ := X.kn.1 ci _ hc
    obtain ⟨_, _, _, fa, hia, ea⟩ := hS x hx
    obtain ⟨_, _, _, fb, hib, eb⟩ := hS y hy
    rw [← ea, ← eb]
    refine u_apart (u_lays X.w hin hx) (u_lays X.w hin hy) hia hib ?_
    rw [(State.fieldFound?_type hia (hty x hx)).1, (State.fieldFound?_type hib (hty y hy)).1]
    exact hnm x hx y hy hne
  obtain ⟨hS', hfc, kC, hkC, hkind⟩ := X.kn.1 ci _ hc
  obtain ⟨cf, kf, fi, fd, hi, hsl⟩ := hS' k hkN
  have hlay := X.w _ (hin _ (u_in_lay hkN))
  unfold u_lay at hlay
  have hst := (u_facts hfc hkC (u_lays X.w hin hkN) hi).1
  have fin9 : ∀ H' : Heap, H'[a]? = some (cell.setSlot fd.slot v) → H'.size = H.size → (∀ q, q ≠ a → H'[q]? = H[q]?) → W p l e R s m args below meth c H' (locs ++ [⟨a, fd.slot⟩]) k0 n0 Q (F0 m (pc + 3) ls st) := by
    intro H' e1 e2 e3
    rw [hsl] at e1
    refine kk H' (C, T, N) _ hc ?_ e3 e2 hlo
    exact ⟨_, e1, q2, q3, t_set q4 hap hkN v⟩
  cases fin with
  | false =>
    rw [if_neg (by rw [hfl]; decide)] at hlay
    have h6 := u_store hfc hkC hkind hlay hi hd hnar hfit
    exact W.putK X.x X.b (f := fd) ⟨X.o, X.w _ hlink, ⟨_, _, _, hg_same X.w hsame _ hi⟩, hst⟩ (by rw [q2]; exact h6) q1 q3 (by rw [hsl]; exact k2_hasslot (q4 k hkN)) rfl rfl d fin9
  | true =>
    rw [if_pos hfl] at hlay
    have hcf : m.cls = cf := by
      obtain ⟨_, _, c', _, _, _, -, -, hf', -, -, -, hown2, -⟩ := Cond.laysFinal_spec hlay
      have e1 : c' = cf := by have := hi.symm.trans hf'; simp at this; exact this.1.symm
      rw [hown rfl] at hown2
      rw [← e1]; exact Option.some.inj (X.o.symm.trans hown2)
    have h6 := u_fits hfc hkC hkind (Or.inr hlay) hi hd hnar hfit
    exact W.putFinK X.x X.b X.o (X.w _ hlink) (hg_same X.w hsame _ hi) hst hcf (hfin rfl) (by rw [q2]; exact h6) q1 q3 (by rw [hsl]; exact k2_hasslot (q4 k hkN)) rfl rfl d fin9
theorem hg_Sput {H H' : Heap} {locs : List Loc} {a z : Nat} {s : State} {v : Nat × Nat} (hS : va_S (hg_A lo C0 s.heap.size) s.heap H locs) (hE : hg_E C0 G.1 s.heap.size) (ha : G.1 a = some v) (hlo : lo ≤ a) (hz : H'.size = H.size) (oq : ∀ q : Nat, q ≠ a → H'[q]? = H[q]?) : va_S (hg_A lo C0 s.heap.size) s.heap H' (locs ++ [⟨a, z⟩]) := hS.put hz oq (hg_A.of hE hlo ha)
theorem hr_putI {ix ci k a : Nat} {fin : Bool} {ty : FieldType} {v : Int32} (X : hg_X p l s m args meth c D lo own cc nL) (d : decode cc pc = .ok (.putfield ix, 3)) (hq : pc + 3 = q) (f : hg_Fw own ix ci k fin ty) (hfin : fin = true → meth.name = "<init>") (ht : hg_ft ci k = 0) (hnar : narrow ty (.int v) = .int v) (hfit : fits ty (.int v) = true) (ha : G.1 a = some (0, ci))
    (kk : hg_W p l e R s m args below meth c Q D lo C0 nL kr nr (hs_I G a k v) q L st) : hg_W p l e R s m args below meth c Q D lo C0 nL kr nr G pc L (.int v :: .ref a :: st) := by
  subst hq
  intro ls H locs k0 n0 hl hP hS hE hk hn
  refine hg_put X d f hfin ha hP hnar hfit (fun H' r z hc ho oq hz hlo => ?_)
  exact kk ls H' _ k0 n0 hl ⟨hP.1.putI ha f.ro hc ht ho oq, hP.2⟩ (hg_Sput hS hE ha hlo hz oq) hE hk hn
theorem hr_putJ {ix ci k a : Nat} {fin : Bool} {v : Int64} (X : hg_X p l s m args meth c D lo own cc nL) (d : decode cc pc = .ok (.putfield ix, 3)) (hq : pc + 3 = q) (f : hg_Fw own ix ci k fin .long) (hfin : fin = true → meth.name = "<init>") (ht : hg_ft ci k = 1) (ha : G.1 a = some (0, ci))
    (kk : hg_W p l e R s m args below meth c Q D lo C0 nL kr nr (hs_J G a k v) q L st) : hg_W p l e R s m args below meth c Q D lo C0 nL kr nr G pc L (.long v :: .ref a :: st) := by
  subst hq
  intro ls H locs k0 n0 hl hP hS hE hk hn
  refine hg_put X d f hfin ha hP rfl rfl (fun H' r z hc ho oq hz hlo => ?_)
  exact kk ls H' _ k0 n0 hl ⟨hP.1.putJ ha f.ro hc ht ho oq, hP.2⟩ (hg_Sput hS hE ha hlo hz oq) hE hk hn
def hg_rt (ty : FieldType) : Bool := match ty with
  | .object _ => true
  | .array _ => true
  | _ => false
theorem hg_rfit {ty : FieldType} (h : hg_rt ty = true) (o : Option Nat) : narrow ty (va_rf o) = va_rf o ∧ fits ty (va_rf o) = true := by
  cases ty <;> cases o <;> first | exact ⟨rfl, rfl⟩ | cases h
theorem hr_putQ {ix ci k a : Nat} {fin : Bool} {ty : FieldType} {v : Option Nat} (X : hg_X p l s m args meth c D lo own cc nL) (d : decode cc pc = .ok (.putfield ix, 3)) (hq : pc + 3 = q) (f : hg_Fw own ix ci k fin ty) (hfin : fin = true → meth.name = "<init>") (ht : hg_ft ci k = 2) (hty : hg_rt ty = true) (ha : G.1 a = some (0, ci))
    (kk : hg_W p l e R s m args below meth c Q D lo C0 nL kr nr (hs_R G a k v) q L st) : hg_W p l e R s m args below meth c Q D lo C0 nL kr nr G pc L (va_rf v :: .ref a :: st) := by
  subst hq
  intro ls H locs k0 n0 hl hP hS hE hk hn
  refine hg_put X d f hfin ha hP (hg_rfit hty v).1 (hg_rfit hty v).2 (fun H' r z hc ho oq hz hlo => ?_)
  exact kk ls H' _ k0 n0 hl ⟨hP.1.putR ha f.ro hc ht ho oq, hP.2⟩ (hg_Sput hS hE ha hlo hz oq) hE hk hn
theorem hr_putR {ix ci k a v : Nat} {fin : Bool} {ty : FieldType} (X : hg_X p l s m args meth c D lo own cc nL) (d : decode cc pc = .ok (.putfield ix, 3)) (hq : pc + 3 = q) (f : hg_Fw own ix ci k fin ty) (hfin : fin = true → meth.name = "<init>") (ht : hg_ft ci k = 2) (hty : hg_rt ty = true) (ha : G.1 a = some (0, ci))
    (kk : hg_W p l e R s m args below meth c Q D lo C0 nL kr nr (hs_R G a k (some v)) q L st) : hg_W p l e R s m args below meth c Q D lo C0 nL kr nr G pc L (.ref v :: .ref a :: st) := hr_putQ (v := some v) X d hq f hfin ht hty ha kk
theorem hr_putN {ix ci k a : Nat} {fin : Bool} {ty : FieldType} (X : hg_X p l s m args meth c D lo own cc nL) (d : decode cc pc = .ok (.putfield ix, 3)) (hq : pc + 3 = q) (f : hg_Fw own ix ci k fin ty) (hfin : fin = true → meth.name = "<init>") (ht : hg_ft ci k = 2) (hty : hg_rt ty = true) (ha : G.1 a = some (0, ci))
    (kk : hg_W p l e R s m args below meth c Q D lo C0 nL kr nr (hs_R G a k none) q L st) : hg_W p l e R s m args below meth c Q D lo C0 nL kr nr G pc L (.null :: .ref a :: st) := hr_putQ (v := none) X d hq f hfin ht hty ha kk
/-! arrays -/
theorem hg_arr {H : Heap} {t n a : Nat} (hP : hg_P D lo G H) (ha : G.1 a = some (t + 1, n)) (ht : t < 6 := by omega) : H[a]? = some (arrV (D.2.1 t) n (hg_vA G t a)) := (hP.1 a (t + 1) n ha).1 (by
  have : t = 0 ∨ t = 1 ∨ t = 2 ∨ t = 3 ∨ t = 4 ∨ t = 5 := by omega
  rcases this with rfl | rfl | rfl | rfl | rfl | rfl <;> rfl)
/-- of any array -/
theorem hg_arrW {H : Heap} {t n a : Nat} (hKn : hg_Kn D s) (hP : hg_P D lo G H) (ha : G.1 a = some (t + 1, n)) (ht : t < 8) : ∃ cell : Cell, H[a]? = some cell ∧ s.isArrayOf cell (hg_ty t) ∧ cell.vm ≠ .unknown ∧ cell.slots.size = n ∧ ∀ j, j < n → cell.slots[j]? = some (hg_vA G t a j) := by
  by_cases h6 : t < 6
  · exact ⟨_, hg_arr hP ha h6, (hKn.2.1 t (by omega)).1 n _, fun q => (by cases q), arrV_size .., fun j hj => arrV_read _ _ hj⟩
  · have hr : hg_ro (t + 1) n = true := by
      have : t = 6 ∨ t = 7 := by omega
      rcases this with rfl | rfl <;> rfl
    obtain ⟨cell, g1, g2, g3, ⟨u, g4, g5, g6⟩, g7, g8⟩ := (hP.1 a (t + 1) n ha).2 hr
    obtain ⟨-, k, e1, e2⟩ := (hKn.2.1 u g4).1 0 (fun _ => .null)
    refine ⟨cell, g1, ⟨g2, k, ?_, ?_⟩, g3, g7, g8⟩
    · rw [g6]; exact e1
    · rw [← g5]; exact e2
theorem hg_inI {i : Int32} {j n : Nat} (hi : i = nI j) (hj : j < n) (hn : n < 2 ^ 31) : vp_in i n ∧ i.toNatClampNeg = j := by
  subst hi
  exact ⟨vp_in_nI hj hn, nI_clamp (by omega)⟩
theorem hg_lt {i : Int32} {n : Nat} (hin : vp_in i n) : i.toNatClampNeg < n := Nat.not_le.mp fun q => hin (Or.inr q)
theorem hg_inA {i : Int32} {n : Nat} {cA : ClassId} {f : Nat → Value} (hin : vp_in i n) : ¬ (i < 0 ∨ (arrV cA n f).slots.size ≤ i.toNatClampNeg) := by rw [arrV_size]; exact hin
theorem hr_iald {a n t : Nat} {i v : Int32} (X : hg_X p l s m args meth c D lo own cc nL) (d : decode cc pc = .ok (.iaload, 1)) (hq : pc + 1 = q) (ha : G.1 a = some (t + 1, n)) (ht : t = 0 ∨ t = 7) (hin : vp_in i n) (hv : G.2.1 a i.toNatClampNeg = v) (kk : hg_W p l e R s m args below meth c Q D lo C0 nL kr nr G q L (.int v :: st)) : hg_W p l e R s m args below meth c Q D lo C0 nL kr nr G pc L (.int i :: .ref a :: st) := by
  subst hq; subst hv
  intro ls H locs k0 n0 hl hP hS hE hk hn
  obtain ⟨cell, g1, g2, g3, g4, g5⟩ := hg_arrW X.kn hP ha (by omega)
  rcases ht with rfl | rfl <;>
  exact W.iald (v := .int (G.2.1 a i.toNatClampNeg)) X.x X.b g1 g2 g3 (by rw [g4]; exact hin) (g5 _ (hg_lt hin)) rfl rfl d (kk ls H locs k0 n0 hl hP hS hE hk hn)
theorem hr_bald {a n t : Nat} {i v : Int32} (X : hg_X p l s m args meth c D lo own cc nL) (d : decode cc pc = .ok (.baload, 1)) (hq : pc + 1 = q) (ha : G.1 a = some (t + 1, n)) (ht : t = 2 ∨ t = 6) (hin : vp_in i n) (hv : G.2.1 a i.toNatClampNeg = v) (kk : hg_W p l e R s m args below meth c Q D lo C0 nL kr nr G q L (.int v :: st)) : hg_W p l e R s m args below meth c Q D lo C0 nL kr nr G pc L (.int i :: .ref a :: st) := by
  subst hq; subst hv
  intro ls H locs k0 n0 hl hP hS hE hk hn
  obtain ⟨cell, g1, g2, g3, g4, g5⟩ := hg_arrW X.kn hP ha (by omega)
  rcases ht with rfl | rfl <;>
  exact W.bald (v := .int (G.2.1 a i.toNatClampNeg)) X.x X.b g1 g2 g3 (by rw [g4]; exact hin) (g5 _ (hg_lt hin)) rfl rfl d (kk ls H locs k0 n0 hl hP hS hE hk hn)
theorem hr_sald {a n : Nat} {i v : Int32} (X : hg_X p l s m args meth c D lo own cc nL) (d : decode cc pc = .ok (.saload, 1)) (hq : pc + 1 = q) (ha : G.1 a = some (4, n)) (hin : vp_in i n) (hv : G.2.1 a i.toNatClampNeg = v) (kk : hg_W p l e R s m args below meth c Q D lo C0 nL kr nr G q L (.int v :: st)) : hg_W p l e R s m args below meth c Q D lo C0 nL kr nr G pc L (.int i :: .ref a :: st) := by
  subst hq; subst hv
  intro ls H locs k0 n0 hl hP hS hE hk hn
  exact W.sald (v := .int (G.2.1 a i.toNatClampNeg)) X.x X.b (hg_arr (t := 3) hP ha) ((X.kn.2.1 3 (by decide)).1 n _) (fun q => by cases q) (hg_inA hin) (by rw [arrV_read _ _ (hg_lt hin)]; rfl) rfl rfl d (kk ls H locs k0 n0 hl hP hS hE hk hn)
theorem hr_lald {a n : Nat} {i : Int32} {v : Int64} (X : hg_X p l s m args meth c D lo own cc nL) (d : decode cc pc = .ok (.laload, 1)) (hq : pc + 1 = q) (ha : G.1 a = some (2, n)) (hin : vp_in i n) (hv : G.2.2.1 a i.toNatClampNeg = v) (kk : hg_W p l e R s m args below meth c Q D lo C0 nL kr nr G q L (.long v :: st)) : hg_W p l e R s m args below meth c Q D lo C0 nL kr nr G pc L (.int i :: .ref a :: st) := by
  subst hq; subst hv
  intro ls H locs k0 n0 hl hP hS hE hk hn
  exact W.lald (v := .long (G.2.2.1 a i.toNatClampNeg)) X.x X.b (hg_arr (t := 1) hP ha) ((X.kn.2.1 1 (by decide)).1 n _) (fun q => by cases q) (hg_inA hin) (by rw [arrV_read _ _ (hg_lt hin)]; rfl) rfl rfl d (kk ls H locs k0 n0 hl hP hS hE hk hn)
theorem hr_aaldQ {a n t : Nat} {i : Int32} {v : Option Nat} (X : hg_X p l s m args meth c D lo own cc nL) (d : decode cc pc = .ok (.aaload, 1)) (hq : pc + 1 = q) (ha : G.1 a = some (t + 1, n)) (ht : t = 4 ∨ t = 5) (hin : vp_in i n) (hv : G.2.2.2 a i.toNatClampNeg = v) (kk : hg_W p l e R s m args below meth c Q D lo C0 nL kr nr G q L (va_rf v :: st)) : hg_W p l e R s m args below meth c Q D lo C0 nL kr nr G pc L (.int i :: .ref a :: st) := by
  subst hq; subst hv
  intro ls H locs k0 n0 hl hP hS hE hk hn
  have hA := hg_arr hP ha
  rcases ht with rfl | rfl
  · exact W.aald (v := va_rf (G.2.2.2 a i.toNatClampNeg)) (ty := hg_ty 4) X.x X.b hA ((X.kn.2.1 4 (by decide)).1 n _) rfl (fun q => by cases q) (hg_inA hin) (by rw [arrV_read _ _ (hg_lt hin)]; rfl) rfl rfl d (kk ls H locs k0 n0 hl hP hS hE hk hn)
  · exact W.aald (v := va_rf (G.2.2.2 a i.toNatClampNeg)) (ty := hg_ty 5) X.x X.b hA ((X.kn.2.1 5 (by decide)).1 n _) rfl (fun q => by cases q) (hg_inA hin) (by rw [arrV_read _ _ (hg_lt hin)]; rfl) rfl rfl d (kk ls H locs k0 n0 hl hP hS hE hk hn)
theorem hr_aald {a n t v : Nat} {i : Int32} (X : hg_X p l s m args meth c D lo own cc nL) (d : decode cc pc = .ok (.aaload, 1)) (hq : pc + 1 = q) (ha : G.1 a = some (t + 1, n)) (ht : t = 4 ∨ t = 5) (hin : vp_in i n) (hv : G.2.2.2 a i.toNatClampNeg = some v) (kk : hg_W p l e R s m args below meth c Q D lo C0 nL kr nr G q L (.ref v :: st)) : hg_W p l e R s m args below meth c Q D lo C0 nL kr nr G pc L (.int i :: .ref a :: st) := hr_aaldQ X d hq ha ht hin hv kk
theorem hr_alen {a n t : Nat} {v : Int32} (X : hg_X p l s m args meth c D lo own cc nL) (d : decode cc pc = .ok (.arraylength, 1)) (hq : pc + 1 = q) (ha : G.1 a = some (t + 1, n)) (ht : t < 8) (hv : nI n = v) (kk : hg_W p l e R s m args below meth c Q D lo C0 nL kr nr G q L (.int v :: st)) : hg_W p l e R s m args below meth c Q D lo C0 nL kr nr G pc L (.ref a :: st) := by
  subst hq; subst hv
  intro ls H locs k0 n0 hl hP hS hE hk hn
  obtain ⟨cell, g1, g2, g3, g4, g5⟩ := hg_arrW X.kn hP ha ht
  exact W.alen (n := nI n) X.x X.b g1 g2 (by rw [g4]; rfl) rfl rfl d (kk ls H locs k0 n0 hl hP hS hE hk hn)
theorem hr_iast {a n : Nat} {i x : Int32} (X : hg_X p l s m args meth c D lo own cc nL) (d : decode cc pc = .ok (.iastore, 1)) (hq : pc + 1 = q) (ha : G.1 a = some (1, n)) (hin : vp_in i n) (kk : hg_W p l e R s m args below meth c Q D lo C0 nL kr nr (hs_I G a i.toNatClampNeg x) q L st) : hg_W p l e R s m args below meth c Q D lo C0 nL kr nr G pc L (.int x :: .int i :: .ref a :: st) := by
  subst hq
  intro ls H locs k0 n0 hl hP hS hE hk hn
  have hA := hg_arr (t := 0) hP ha
  refine W.iast X.x X.b hA ((X.kn.2.1 0 (by decide)).1 n _) (fun q => by cases q) (hg_inA hin) rfl rfl d fun H1 e1 z oq => ?_
  exact kk ls H1 _ k0 n0 hl ⟨hP.1.stI ha (Or.inl rfl) (by rw [e1, arrV_store]) oq, hP.2⟩ (hg_Sput hS hE ha (hP.2 _ _ _ ha rfl) z oq) hE hk hn
theorem hr_bast {a n : Nat} {i x : Int32} (X : hg_X p l s m args meth c D lo own cc nL) (d : decode cc pc = .ok (.bastore, 1)) (hq : pc + 1 = q) (ha : G.1 a = some (3, n)) (hin : vp_in i n) (kk : hg_W p l e R s m args below meth c Q D lo C0 nL kr nr (hs_I G a i.toNatClampNeg x.toInt8.toInt32) q L st) : hg_W p l e R s m args below meth c Q D lo C0 nL kr nr G pc L (.int x :: .int i :: .ref a :: st) := by
  subst hq
  intro ls H locs k0 n0 hl hP hS hE hk hn
  have hA := hg_arr (t := 2) hP ha
  refine W.bast X.x X.b hA ((X.kn.2.1 2 (by decide)).1 n _) (fun q => by cases q) (hg_inA hin) rfl rfl d fun H1 e1 z oq => ?_
  exact kk ls H1 _ k0 n0 hl ⟨hP.1.stI ha (Or.inr (Or.inl rfl)) (by rw [e1, arrV_store]; rfl) oq, hP.2⟩ (hg_Sput hS hE ha (hP.2 _ _ _ ha rfl) z oq) hE hk hn
theorem hr_sast {a n : Nat} {i x : Int32} (X : hg_X p l s m args meth c D lo own cc nL) (d : decode cc pc = .ok (.sastore, 1)) (hq : pc + 1 = q) (ha : G.1 a = some (4, n)) (hin : vp_in i n) (kk : hg_W p l e R s m args below meth c Q D lo C0 nL kr nr (hs_I G a i.toNatClampNeg x.toInt16.toInt32) q L st) : hg_W p l e R s m args below meth c Q D lo C0 nL kr nr G pc L (.int x :: .int i :: .ref a :: st) := by
  subst hq
  intro ls H locs k0 n0 hl hP hS hE hk hn
  have hA := hg_arr (t := 3) hP ha
  refine W.sast X.x X.b hA ((X.kn.2.1 3 (by decide)).1 n _) (fun q => by cases q) (hg_inA hin) rfl rfl d fun H1 e1 z oq => ?_
  exact kk ls H1 _ k0 n0 hl ⟨hP.1.stI ha (Or.inr (Or.inr rfl)) (by rw [e1, arrV_store]; rfl) oq, hP.2⟩ (hg_Sput hS hE ha (hP.2 _ _ _ ha rfl) z oq) hE hk hn
theorem hr_last {a n : Nat} {i : Int32} {x : Int64} (X : hg_X p l s m args meth c D lo own cc nL) (d : decode cc pc = .ok (.lastore, 1)) (hq : pc + 1 = q) (ha : G.1 a = some (2, n)) (hin : vp_in i n) (kk : hg_W p l e R s m args below meth c Q D lo C0 nL kr nr (hs_J G a i.toNatClampNeg x) q L st) : hg_W p l e R s m args below meth c Q D lo C0 nL kr nr G pc L (.long x :: .int i :: .ref a :: st) := by
  subst hq
  intro ls H locs k0 n0 hl hP hS hE hk hn
  have hA := hg_arr (t := 1) hP ha
  refine W.last X.x X.b hA ((X.kn.2.1 1 (by decide)).1 n _) (fun q => by cases q) (hg_inA hin) rfl rfl d fun H1 e1 z oq => ?_
  exact kk ls H1 _ k0 n0 hl ⟨hP.1.stJ ha (by rw [e1, arrV_store]) oq, hP.2⟩ (hg_Sput hS hE ha (hP.2 _ _ _ ha rfl) z oq) hE hk hn
/-- .. at a place that is known as a number -/
theorem hr_ialdN {a n t j : Nat} {v : Int32} (X : hg_X p l s m args meth c D lo own cc nL) (d : decode cc pc = .ok (.iaload, 1)) (hq : pc + 1 = q) (ha : G.1 a = some (t + 1, n)) (ht : t = 0 ∨ t = 7) (hj : j < n) (hn : n < 2 ^ 31) (hv : G.2.1 a j = v) (kk : hg_W p l e R s m args below meth c Q D lo C0 nL kr nr G q L (.int v :: st)) : hg_W p l e R s m args below meth c Q D lo C0 nL kr nr G pc L (.int (nI j) :: .ref a :: st) := hr_iald X d hq ha ht (vp_in_nI hj hn) (by rw [nI_clamp (by omega)]; exact hv) kk
theorem hr_laldN {a n j : Nat} {v : Int64} (X : hg_X p l s m args meth c D lo own cc nL) (d : decode cc pc = .ok (.laload, 1)) (hq : pc + 1 = q) (ha : G.1 a = some (2, n)) (hj : j < n) (hn : n < 2 ^ 31) (hv : G.2.2.1 a j = v) (kk : hg_W p l e R s m args below meth c Q D lo C0 nL kr nr G q L (.long v :: st)) : hg_W p l e R s m args below meth c Q D lo C0 nL kr nr G pc L (.int (nI j) :: .ref a :: st) := hr_lald X d hq ha (vp_in_nI hj hn) (by rw [nI_clamp (by omega)]; exact hv) kk
theorem hr_aaldN {a n t v j : Nat} (X : hg_X p l s m args meth c D lo own cc nL) (d : decode cc pc = .ok (.aaload, 1)) (hq : pc + 1 = q) (ha : G.1 a = some (t + 1, n)) (ht : t = 4 ∨ t = 5) (hj : j < n) (hn : n < 2 ^ 31) (hv : G.2.2.2 a j = some v) (kk : hg_W p l e R s m args below meth c Q D lo C0 nL kr nr G q L (.ref v :: st)) : hg_W p l e R s m args below meth c Q D lo C0 nL kr nr G pc L (.int (nI j) :: .ref a :: st) := hr_aald X d hq ha ht (vp_in_nI hj hn) (by rw [nI_clamp (by omega)]; exact hv) kk
theorem hr_iastN {a n j : Nat} {x : Int32} (X : hg_X p l s m args meth c D lo own cc nL) (d : decode cc pc = .ok (.iastore, 1)) (hq : pc + 1 = q) (ha : G.1 a = some (1, n)) (hj : j < n) (hn : n < 2 ^ 31) (kk : hg_W p l e R s m args below meth c Q D lo C0 nL kr nr (hs_I G a j x) q L st) : hg_W p l e R s m args below meth c Q D lo C0 nL kr nr G pc L (.int x :: .int (nI j) :: .ref a :: st) := hr_iast X d hq ha (vp_in_nI hj hn) (by rw [nI_clamp (by omega)]; exact kk)
theorem hr_lastN {a n j : Nat} {x : Int64} (X : hg_X p l s m args meth c D lo own cc nL) (d : decode cc pc = .ok (.lastore, 1)) (hq : pc + 1 = q) (ha : G.1 a = some (2, n)) (hj : j < n) (hn : n < 2 ^ 31) (kk : hg_W p l e R s m args below meth c Q D lo C0 nL kr nr (hs_J G a j x) q L st) : hg_W p l e R s m args below meth c Q D lo C0 nL kr nr G pc L (.long x :: .int (nI j) :: .ref a :: st) := hr_last X d hq ha (vp_in_nI hj hn) (by rw [nI_clamp (by omega)]; exact kk)
end HGF
section HGN
variable {p : Program} {l : Launch} {e : Env} {R : Room} {s : State} {m : MethodId} {args : Array Value} {below : List Frame} {meth : Method} {c : Code} {Q : State → Prop} {D : hg_D} {lo : Nat} {C0 : hg_K} {nL kr nr : Nat} {G : hg_G} {own : String} {cc : ByteArray} {pc q : Nat} {L : List (Option Value)} {st : List Value}
theorem hg_recv {H : Heap} {a ci : Nat} {r : vw_C} (hKn : hg_Kn D s) (hP : hg_P D lo G H) (ha : G.1 a = some (0, ci)) (hc : hg_cl[ci]? = some r) : ∃ cell : Cell, H[a]? = some cell ∧ cell.vm.isStatics = false ∧ s.vm.findClass r.1 = some cell.cls := by
  have hat := (hP.1 a 0 ci ha).g
  obtain ⟨r', h1, cell, q1, q2, q3, -⟩ := hat
  exact ⟨cell, q1, q3.2, by rw [q2]; exact (hKn.1 ci r hc).2.1⟩
def hg_el (t : Nat) : String := if t = 4 then "TaxOnLooks$Shelf" else "TaxOnLooks$Person"
theorem hr_aast {a n t v ci : Nat} {r : vw_C} {i : Int32} (X : hg_X p l s m args meth c D lo own cc nL) (d : decode cc pc = .ok (.aastore, 1)) (hq : pc + 1 = q) (ha : G.1 a = some (t + 1, n)) (ht : t = 4 ∨ t = 5) (hin : vp_in i n) (hv : G.1 v = some (0, ci)) (hc : hg_cl[ci]? = some r) (hca : r.1 = hg_el t ∨ (r.1, hg_el t) ∈ hg_cs)
    (kk : hg_W p l e R s m args below meth c Q D lo C0 nL kr nr (hs_R G a i.toNatClampNeg (some v)) q L st) : hg_W p l e R s m args below meth c Q D lo C0 nL kr nr G pc L (.ref v :: .int i :: .ref a :: st) := by
  subst hq
  intro ls H locs k0 n0 hl hP hS hE hk hn
  have hA := hg_arr hP ha
  have hat := (hP.1 v 0 ci hv).g
  obtain ⟨r', hr', cellV, g1, g2, g3, -⟩ := hat
  have hcls := (X.kn.1 ci r hc).2
  have hRA : ∃ (kA : Class) (comp : ClassId), s.vm.classes[D.2.1 t]? = some kA ∧ kA.kind = .array comp (.object (hg_el t)) ∧ s.vm.findClass (hg_el t) = some comp := by
    rcases ht with rfl | rfl
    · obtain ⟨kA, comp, k1, k2, k3, -⟩ := ((X.kn.2.1 4 (by decide)).2 (by decide))
      exact ⟨kA, comp, k1, k2, k3⟩
    · obtain ⟨kA, comp, k1, k2, k3, -⟩ := ((X.kn.2.1 5 (by decide)).2 (by decide))
      exact ⟨kA, comp, k1, k2, k3⟩
  obtain ⟨kA, comp, k1, k2, k3⟩ := hRA
  obtain ⟨kE, hkE, -⟩ := Vm.findClass_spec k3
  obtain ⟨kC, hkC, -⟩ := hcls.2
  have hasg : s.vm.assignable (D.1.1 ci) comp = true := by
    rcases hca with h | h
    · have e1 : comp = D.1.1 ci := Option.some.inj (k3.symm.trans (by rw [← h]; exact hcls.1))
      rw [e1]
      exact va_assign hcls
    · obtain ⟨c0, t1, f1, f2, f3⟩ := Cond.castable_spec (va_Nw.use (A := args) rfl (X.kn.2.2.1 _ h))
      cases hcls.1.symm.trans f1
      cases k3.symm.trans f2
      exact f3
  refine W.aast X.x X.b hA (fun q h => by cases h) (fun h => by cases h) k1 k2 rfl hkE ⟨fun q => hin (Or.inl q), by rw [arrV_size]; exact hg_lt hin⟩ g1 (fun q h => by have z := g3.2; rw [h] at z; cases z) (by rw [g2]; exact hkC) (by rw [g2]; exact hasg) rfl rfl d fun H1 e1 z oq => ?_
  exact kk ls H1 _ k0 n0 hl ⟨hP.1.stR ha ht (by rw [e1, arrV_store]; rfl) oq, hP.2⟩ (hg_Sput hS hE ha (hP.2 _ _ _ ha (by rcases ht with rfl | rfl <;> rfl)) z oq) hE hk hn
/-! making -/
def hg_dk (ty : FieldType) : Nat := match ty with
  | .long => 1
  | .object _ => 2
  | .array _ => 2
  | .float => 9
  | .double => 9
  | _ => 0
theorem hg_dkv {G : hg_G} {ci a j : Nat} {ty : FieldType} {kd : Nat × Nat} (h : hg_dk ty = hg_ft ci j) (h9 : hg_dk ty ≠ 9) : defaultValue ty = hg_vF (hs_N G a kd) ci a j := by
  unfold hg_vF
  rw [← h]
  cases ty <;> first | exact absurd rfl h9 | simp [hg_dk, defaultValue, hs_N, va_rf]
theorem hr_new {ix ci N : Nat} {C : String} {T : u_T} {ty : Nat → FieldType} (X : hg_X p l s m args meth c D lo own cc nL) (d : decode cc pc = .ok (.new ix, 3)) (hq : pc + 3 = q) (hcl : Cond.classLink own ix C ∈ lw_all) (hinst : Cond.instantiable C N ∈ lw_all) (hini : Cond.initialized C ∈ lw_all) (hc : hg_cl[ci]? = some (C, T, N)) (hin : ∀ w ∈ u_ws C T N, w ∈ lw_all) (hty : ∀ k, k < N → parseFieldDescriptor (T k).2.2.1 = some (ty k)) (hdk : (List.range N).all (fun j => hg_dk (ty j) == hg_ft ci j && hg_dk (ty j) != 9) = true)
    (kk : ∀ a : Nat, lo ≤ a → G.1 a = none → hg_W p l e R s m args below meth c Q D lo C0 nL kr nr (hs_N G a (0, ci)) q L (.ref a :: st)) (hro : hg_ro 0 ci = false := by rfl) : hg_W p l e R s m args below meth c Q D lo C0 nL (kr + 1) (nr + N) G pc L st := by
  subst hq
  intro ls H locs k0 n0 hl hP hS hE hk hn
  have hKn := X.kn.1 ci _ hc
  have hlo : lo ≤ H.size := Nat.le_trans X.hlo hS.1
  refine W.newcK X.x X.b X.o (X.w _ hcl) (X.w _ hinst) (X.w _ hini) rfl d (by omega) (by omega) hKn.2.1 rfl fun H1 kC hkC e1 z1 o1 => ?_
  refine kk H.size hlo (hP.1.none (Nat.le_refl _)) ls H1 locs (k0 + 1) (n0 + N) hl (hP.new hlo ?_ o1) ⟨Nat.le_trans hS.1 (by omega), fun x h1 h2 => (o1 x (Nat.lt_of_lt_of_le h1 hS.1)).trans (hS.2.1 x h1 h2), hS.2.2⟩ (hE.new hS.1 (hP.1.none (Nat.le_refl _))) (by omega) (by omega)
  refine hg_at.mk' ⟨(C, T, N), hc, (u_born ty X.w hin hKn hkC e1 hty).to (fun j hj => ?_)⟩ hro
  have h1 := List.all_eq_true.mp hdk j (List.mem_range.mpr hj)
  simp only [Bool.and_eq_true, beq_iff_eq, bne_iff_ne] at h1
  exact hg_dkv h1.1 h1.2
theorem hr_newarr {t N : Nat} {atype : ArrayType} {n : Int32} (X : hg_X p l s m args meth c D lo own cc nL) (d : decode cc pc = .ok (.newarray atype, 2)) (hq : pc + 2 = q) (ht : (t = 0 ∧ atype = .int) ∨ (t = 1 ∧ atype = .long) ∨ (t = 2 ∧ atype = .byte) ∨ (t = 3 ∧ atype = .short)) (harr : Cond.arrayClass (newarray.typeOf atype) ∈ lw_all) (hn9 : n = nI N) (hN : N ≤ 60000)
    (kk : ∀ a : Nat, lo ≤ a → G.1 a = none → hg_W p l e R s m args below meth c Q D lo C0 nL kr nr (hs_N G a (t + 1, N)) q L (.ref a :: st)) : hg_W p l e R s m args below meth c Q D lo C0 nL (kr + 1) (nr + N) G pc L (.int n :: st) := by
  subst hq; subst hn9
  intro ls H locs k0 n0 hl hP hS hE hk hn
  have hlo : lo ≤ H.size := Nat.le_trans X.hlo hS.1
  refine va_newaK (N := N) X.x X.b (X.w _ harr) rfl d rfl (nI_pos (by omega)) (nI_clamp (by omega)) ?_ (by omega) (by omega) rfl fun H1 cA e1 z1 o1 hAr hNm => ?_
  · rcases ht with ⟨-, rfl⟩ | ⟨-, rfl⟩ | ⟨-, rfl⟩ | ⟨-, rfl⟩ <;> simp only [componentBytes, newarray.typeOf] <;> omega
  refine kk H.size hlo (hP.1.none (Nat.le_refl _)) ls H1 locs (k0 + 1) (n0 + N) hl (hP.new hlo ?_ o1) ⟨Nat.le_trans hS.1 (by omega), fun x h1 h2 => (o1 x (Nat.lt_of_lt_of_le h1 hS.1)).trans (hS.2.1 x h1 h2), hS.2.2⟩ (hE.new hS.1 (hP.1.none (Nat.le_refl _))) (by omega) (by omega)
  have hcA : cA = D.2.1 t := by
    rcases ht with ⟨rfl, rfl⟩ | ⟨rfl, rfl⟩ | ⟨rfl, rfl⟩ | ⟨rfl, rfl⟩
    · exact Option.some.inj (hNm.symm.trans ((X.kn.2.1 0 (by decide)).2 (by decide)))
    · exact Option.some.inj (hNm.symm.trans ((X.kn.2.1 1 (by decide)).2 (by decide)))
    · exact Option.some.inj (hNm.symm.trans ((X.kn.2.1 2 (by decide)).2 (by decide)))
    · exact Option.some.inj (hNm.symm.trans ((X.kn.2.1 3 (by decide)).2 (by decide)))
  subst hcA
  refine hg_at.mk' ?_ (by rcases ht with ⟨rfl, rfl⟩ | ⟨rfl, rfl⟩ | ⟨rfl, rfl⟩ | ⟨rfl, rfl⟩ <;> rfl)
  show H1[H.size]? = some (arrV (D.2.1 t) N _)
  rw [e1]
  congr 2
  funext j
  rcases ht with ⟨rfl, rfl⟩ | ⟨rfl, rfl⟩ | ⟨rfl, rfl⟩ | ⟨rfl, rfl⟩ <;> simp [hg_vA, hs_N, newarray.typeOf, defaultValue]
theorem hr_newq {ix t N : Nat} {n : Int32} (X : hg_X p l s m args meth c D lo own cc nL) (d : decode cc pc = .ok (.anewarray ix, 3)) (hq : pc + 3 = q) (ht : t = 4 ∨ t = 5) (hcl : Cond.classLink own ix (hg_el t) ∈ lw_all) (hn9 : n = nI N) (hN : N ≤ 60000)
    (kk : ∀ a : Nat, lo ≤ a → G.1 a = none → hg_W p l e R s m args below meth c Q D lo C0 nL kr nr (hs_N G a (t + 1, N)) q L (.ref a :: st)) : hg_W p l e R s m args below meth c Q D lo C0 nL (kr + 1) (nr + N) G pc L (.int n :: st) := by
  subst hq; subst hn9
  intro ls H locs k0 n0 hl hP hS hE hk hn
  have hlo : lo ≤ H.size := Nat.le_trans X.hlo hS.1
  have hover : va_AO (hg_el t) s := by
    rcases ht with rfl | rfl
    · exact X.kn.2.2.2.2.2.1
    · exact X.kn.2.2.2.2.2.2.1
  have hNN : (nI N).toNatClampNeg = N := nI_clamp (by omega)
  refine W.anew (n := nI N) X.x X.b X.o (X.w _ hcl) (va_AO.use hover) rfl d rfl (nI_pos (by omega)) (by rw [hNN]; omega) (by omega) (by rw [hNN]; omega) fun cA kA comp f1 f2 f3 f4 => ?_
  rw [hNN] at *
  generalize hH1 : H.push ({ cls := cA, slots := Array.replicate N .null, vm := .none } : Cell) = H1
  have z1 : H1.size = H.size + 1 := by rw [← hH1, Array.size_push]
  have e1 : H1[H.size]? = some (arrV cA N (fun _ => .null)) := by rw [← hH1, Array.getElem?_push_size, ← arrV_new]
  have o1 : ∀ q : Nat, q < H.size → H1[q]? = H[q]? := fun q hq => by rw [← hH1, Array.getElem?_push, if_neg (Nat.ne_of_lt hq)]
  refine kk H.size hlo (hP.1.none (Nat.le_refl _)) ls H1 locs (k0 + 1) (n0 + N) hl (hP.new hlo ?_ o1) ⟨Nat.le_trans hS.1 (by omega), fun x h1 h2 => (o1 x (Nat.lt_of_lt_of_le h1 hS.1)).trans (hS.2.1 x h1 h2), hS.2.2⟩ (hE.new hS.1 (hP.1.none (Nat.le_refl _))) (by omega) (by omega)
  have hcA : cA = D.2.1 t := by
    rcases ht with rfl | rfl
    · obtain ⟨kA', comp', k1, k2, k3, k4⟩ := ((X.kn.2.1 4 (by decide)).2 (by decide))
      exact Option.some.inj (f1.symm.trans k4)
    · obtain ⟨kA', comp', k1, k2, k3, k4⟩ := ((X.kn.2.1 5 (by decide)).2 (by decide))
      exact Option.some.inj (f1.symm.trans k4)
  subst hcA
  refine hg_at.mk' ?_ (by rcases ht with rfl | rfl <;> rfl)
  show H1[H.size]? = some (arrV (D.2.1 t) N _)
  rw [e1]
  congr 2
  funext j
  rcases ht with rfl | rfl <;> simp [hg_vA, hs_N, va_rf]
/-! casts -/
theorem hr_castN {ix : Nat} (X : hg_X p l s m args meth c D lo own cc nL) (d : decode cc pc = .ok (.checkcast ix, 3)) (hq : pc + 3 = q) (kk : hg_W p l e R s m args below meth c Q D lo C0 nL kr nr G q L (.null :: st)) : hg_W p l e R s m args below meth c Q D lo C0 nL kr nr G pc L (.null :: st) := by
  subst hq
  exact fun ls H locs k0 n0 hl hP hS hE hk hn => lv_castN X.x X.b d (kk ls H locs k0 n0 hl hP hS hE hk hn)
theorem hr_castY {ix a ci : Nat} {r : vw_C} {nm : String} (X : hg_X p l s m args meth c D lo own cc nL) (d : decode cc pc = .ok (.checkcast ix, 3)) (hq : pc + 3 = q) (hcl : Cond.classLink own ix nm ∈ lw_all) (ha : G.1 a = some (0, ci)) (hc : hg_cl[ci]? = some r) (hca : r.1 = nm ∨ (r.1, nm) ∈ hg_cs) (kk : hg_W p l e R s m args below meth c Q D lo C0 nL kr nr G q L (.ref a :: st)) : hg_W p l e R s m args below meth c Q D lo C0 nL kr nr G pc L (.ref a :: st) := by
  subst hq
  intro ls H locs k0 n0 hl hP hS hE hk hn
  have hr := hg_recv X.kn hP ha hc
  rcases hca with h | h
  · subst h
    exact va_castE X.x X.b X.o (X.w _ hcl) hr d (kk ls H locs k0 n0 hl hP hS hE hk hn)
  · exact va_castY X.x X.b X.o (X.w _ hcl) (X.kn.2.2.1 _ h) hr d (kk ls H locs k0 n0 hl hP hS hE hk hn)
theorem hr_instN {ix : Nat} (X : hg_X p l s m args meth c D lo own cc nL) (d : decode cc pc = .ok (.instanceof ix, 3)) (hq : pc + 3 = q) (kk : hg_W p l e R s m args below meth c Q D lo C0 nL kr nr G q L (.int 0 :: st)) : hg_W p l e R s m args below meth c Q D lo C0 nL kr nr G pc L (.null :: st) := by
  subst hq
  exact fun ls H locs k0 n0 hl hP hS hE hk hn => lv_instN X.x X.b d (kk ls H locs k0 n0 hl hP hS hE hk hn)
theorem hr_instY {ix a ci : Nat} {r : vw_C} {nm : String} (X : hg_X p l s m args meth c D lo own cc nL) (d : decode cc pc = .ok (.instanceof ix, 3)) (hq : pc + 3 = q) (hcl : Cond.classLink own ix nm ∈ lw_all) (ha : G.1 a = some (0, ci)) (hc : hg_cl[ci]? = some r) (hca : r.1 = nm ∨ (r.1, nm) ∈ hg_cs) (kk : hg_W p l e R s m args below meth c Q D lo C0 nL kr nr G q L (.int 1 :: st)) : hg_W p l e R s m args below meth c Q D lo C0 nL kr nr G pc L (.ref a :: st) := by
  subst hq
  intro ls H locs k0 n0 hl hP hS hE hk hn
  have hr := hg_recv X.kn hP ha hc
  rcases hca with h | h
  · subst h
    exact va_instE X.x X.b X.o (X.w _ hcl) hr d (kk ls H locs k0 n0 hl hP hS hE hk hn)
  · exact va_instY X.x X.b X.o (X.w _ hcl) (X.kn.2.2.1 _ h) hr d (kk ls H locs k0 n0 hl hP hS hE hk hn)
theorem hr_instZ {ix a ci : Nat} {r : vw_C} {nm : String} (X : hg_X p l s m args meth c D lo own cc nL) (d : decode cc pc = .ok (.instanceof ix, 3)) (hq : pc + 3 = q) (hcl : Cond.classLink own ix nm ∈ lw_all) (ha : G.1 a = some (0, ci)) (hc : hg_cl[ci]? = some r) (hca : (r.1, nm) ∈ hg_nc) (kk : hg_W p l e R s m args below meth c Q D lo C0 nL kr nr G q L (.int 0 :: st)) : hg_W p l e R s m args below meth c Q D lo C0 nL kr nr G pc L (.ref a :: st) := by
  subst hq
  intro ls H locs k0 n0 hl hP hS hE hk hn
  exact va_instNo X.x X.b X.o (X.w _ hcl) (X.kn.2.2.2.1 _ hca) (hg_recv X.kn hP ha hc) d (kk ls H locs k0 n0 hl hP hS hE hk hn)
/-! texts, statics -/
theorem hr_ldcS {ix n : Nat} {tx : String} (X : hg_X p l s m args meth c D lo "TaxOnLooks$Reader" cc nL) (d : decode cc pc = .ok (.ldc ix, 2)) (hq : pc + 2 = q) (ht : (ix, tx, n) ∈ hg_tx) (kk : hg_W p l e R s m args below meth c Q D lo C0 nL kr nr G q L (.ref (D.2.2 n) :: st)) : hg_W p l e R s m args below meth c Q D lo C0 nL kr nr G pc L st := by
  subst hq
  exact fun ls H locs k0 n0 hl hP hS hE hk hn => va_ldcS X.x X.b X.o (X.kn.2.2.2.2.2.2.2.2 _ ht) d (kk ls H locs k0 n0 hl hP hS hE hk hn)
theorem hg_Anar {sz : Nat} : ∀ q, hg_A lo C0 sz q → (fun q => lo ≤ q) q := fun _ h => h.1
theorem hr_gets {ix : Nat} {C n1 d1 : String} {v : Value} (X : hg_X p l s m args meth c D lo own cc nL) (d : decode cc pc = .ok (.getstatic ix, 3)) (hq : pc + 3 = q) (hZ : va_Z C n1 d1 v (fun q => lo ≤ q) s s.heap) (hlink : Cond.fieldLink own ix C n1 d1 ∈ lw_all) (kk : hg_W p l e R s m args below meth c Q D lo C0 nL kr nr G q L (v :: st)) : hg_W p l e R s m args below meth c Q D lo C0 nL kr nr G pc L st := by
  subst hq
  exact fun ls H locs k0 n0 hl hP hS hE hk hn => va_gets X.x X.b (hZ.narrow hg_Anar) hS X.o (X.w _ hlink) (fun _ h => h) d (kk ls H locs k0 n0 hl hP hS hE hk hn)
theorem hr_getsq {ix : Nat} {C n1 d1 : String} (X : hg_X p l s m args meth c D lo own cc nL) (d : decode cc pc = .ok (.getstatic ix, 3)) (hq : pc + 3 = q) (hZ : va_Zq C n1 d1 (fun q => lo ≤ q) s s.heap) (hlink : Cond.fieldLink own ix C n1 d1 ∈ lw_all) (kk : ∀ o : Option Nat, hg_W p l e R s m args below meth c Q D lo C0 nL kr nr G q L (va_rf o :: st)) : hg_W p l e R s m args below meth c Q D lo C0 nL kr nr G pc L st := by
  rcases hZ with h | ⟨t, h⟩
  · exact hr_gets X d hq h hlink (kk none)
  · exact hr_gets X d hq h hlink (kk (some t))
/-! java.lang.Object's constructor -/
theorem hr_objInit {ix a : Nat} (X : hg_X p l s m args meth c D lo own cc nL) (d : decode cc pc = .ok (.invokespecial ix, 3)) (hq : pc + 3 = q) (hlink : Cond.methodLink own ix Lib.objectInit ∈ lw_all) (hfr : 1 ≤ R.frames) (hlc : (st.map fun v => v.category).sum + 12 ≤ R.locals) (kk : hg_W p l e R s m args below meth c Q D lo C0 nL kr nr G q L st) : hg_W p l e R s m args below meth c Q D lo C0 nL kr nr G pc L (.ref a :: st) := by
  subst hq
  intro ls H locs k0 n0 hl hP hS hE hk hn
  exact W.objInit X.x X.b X.o (X.w _ hlink) (X.w _ q124) (X.w _ q125) rfl (by rw [X.ml]; exact hl.1) rfl d hfr (by show 2 * 0 + _ + 12 ≤ _; omega) (kk ls H locs k0 n0 hl hP hS hE hk hn)
/-! ends -/
section
variable {rm : Room} {G0 : hg_G} {Post : hg_Po}
theorem hg_end {H : Heap} {locs : List Loc} {k0 n0 : Nat} {g : JFrame} {r : Option Value} (hP : hg_P D lo G H) (hS : va_S (hg_A lo G0.1 s.heap.size) s.heap H locs) (hE : hg_E G0.1 G.1 s.heap.size) (hk : k0 + kr ≤ rm.cells) (hn : n0 + nr ≤ rm.slots) (h : Post (.inl r) G)
    (w : (∀ t : State, t.heap = H → s.WarmedH t.vm → hg_Qc D lo G0 s.heap.size Post args s (.returned r) t) → (∀ q ∈ locs, hg_A lo G0.1 s.heap.size q.base) → W p l e rm s m args below meth c H locs rm.cells rm.slots (MQ below (hg_Qc D lo G0 s.heap.size Post) args s rm.cells rm.slots (hg_A lo G0.1 s.heap.size)) g) : W p l e rm s m args below meth c H locs k0 n0 (hg_Q below D lo args s rm G0 Post) g := by
  refine vx_ret (W.widen (k := rm.cells) (n := rm.slots) (by omega) (by omega) ?_)
  exact w (fun t ht _ => ⟨⟨r, G, rfl, h, hE, by rw [ht]; exact hP⟩, hS.F ht⟩) hS.2.2
theorem hr_iret {v : Int32} (X : hg_X p l s m args meth c D lo own cc nL) (hr : meth.sig.returnType = some .int) (d : decode cc pc = .ok (.ireturn, 1)) (h : Post (.inl (some (.int v))) G) : hg_W p l e rm s m args below meth c (hg_Q below D lo args s rm G0 Post) D lo G0.1 nL kr nr G pc L [.int v] :=
  fun ls H locs k0 n0 hl hP hS hE hk hn => hg_end hP hS hE hk hn h (fun hq hf => W.iret X.x X.b hr hq hf d X.lk)
theorem hr_zret {v : Int32} {ty : FieldType} (X : hg_X p l s m args meth c D lo own cc nL) (hr : meth.sig.returnType = some ty) (hnar : narrow ty (.int v) = .int v) (d : decode cc pc = .ok (.ireturn, 1)) (h : Post (.inl (some (.int v))) G) : hg_W p l e rm s m args below meth c (hg_Q below D lo args s rm G0 Post) D lo G0.1 nL kr nr G pc L [.int v] :=
  fun ls H locs k0 n0 hl hP hS hE hk hn => hg_end hP hS hE hk hn h (fun hq hf => W.zret X.x X.b hr hnar hq hf d X.lk)
theorem hr_lret {v : Int64} (X : hg_X p l s m args meth c D lo own cc nL) (hr : meth.sig.returnType = some .long) (d : decode cc pc = .ok (.lreturn, 1)) (h : Post (.inl (some (.long v))) G) : hg_W p l e rm s m args below meth c (hg_Q below D lo args s rm G0 Post) D lo G0.1 nL kr nr G pc L [.long v] :=
  fun ls H locs k0 n0 hl hP hS hE hk hn => hg_end hP hS hE hk hn h (fun hq hf => W.lret X.x X.b hr hq hf d X.lk)
theorem hr_vret (X : hg_X p l s m args meth c D lo own cc nL) (hr : meth.sig.returnType = none) (d : decode cc pc = .ok (.return_, 1)) (h : Post (.inl none) G) : hg_W p l e rm s m args below meth c (hg_Q below D lo args s rm G0 Post) D lo G0.1 nL kr nr G pc L [] :=
  fun ls H locs k0 n0 hl hP hS hE hk hn => hg_end hP hS hE hk hn h (fun hq hf => W.vret X.x X.b hr hq hf d X.lk)
theorem hr_aretQ {o : Option Nat} {ty : FieldType} (X : hg_X p l s m args meth c D lo own cc nL) (hr : meth.sig.returnType = some ty) (hty : hg_rt ty = true) (d : decode cc pc = .ok (.areturn, 1)) (h : Post (.inl (some (va_rf o))) G) : hg_W p l e rm s m args below meth c (hg_Q below D lo args s rm G0 Post) D lo G0.1 nL kr nr G pc L [va_rf o] :=
  fun ls H locs k0 n0 hl hP hS hE hk hn => hg_end hP hS hE hk hn h (fun hq hf => W.aret X.x X.b hr (by cases ty <;> first | exact Or.inl ⟨_, rfl⟩ | exact Or.inr ⟨_, rfl⟩ | cases hty) (by cases o with | none => exact Or.inl rfl | some a => exact Or.inr ⟨a, rfl⟩) hq hf d X.lk)
theorem hr_aret {a : Nat} {ty : FieldType} (X : hg_X p l s m args meth c D lo own cc nL) (hr : meth.sig.returnType = some ty) (hty : hg_rt ty = true) (d : decode cc pc = .ok (.areturn, 1)) (h : Post (.inl (some (.ref a))) G) : hg_W p l e rm s m args below meth c (hg_Q below D lo args s rm G0 Post) D lo G0.1 nL kr nr G pc L [.ref a] := hr_aretQ (o := some a) X hr hty d h
/-! exceptions: thrown, caught here, gone on to the caller -/
theorem hr_athrow {a : Nat} {E : String} {ci : Nat} {r : vw_C} (X : hg_X p l s m args meth c D lo own cc nL) (d : decode cc pc = .ok (.athrow, 1)) (ha : G.1 a = some (0, ci)) (hc : hg_cl[ci]? = some r) (hr : r.1 = E) (k : hg_XW p l e R s m args below meth c Q D lo C0 nL kr nr G pc L st a E) (hro : hg_ro 0 ci = false := by rfl) : hg_W p l e R s m args below meth c Q D lo C0 nL kr nr G pc L (.ref a :: st) := by
  subst hr
  intro ls H locs k0 n0 hl hP hS hE hk hn
  have hat : ∃ r : vw_C, hg_cl[ci]? = some r ∧ t_OB a (D.1.1 ci) r.2.2 (D.1.2 ci) H (hg_vF G ci a) := (hP.1 a 0 ci ha).1 hro
  obtain ⟨r', h1, cell, q1, q2, q3, -⟩ := hat
  exact vx_athrow X.x X.b d (k ls H locs k0 n0 hl hP hS hE hk hn ⟨cell, q1, q3, by rw [q2]; exact (X.kn.1 ci r hc).2.1⟩)
theorem hx_catch {qx : Nat} {E name : String} (X : hg_X p l s m args meth c D lo own cc nL) (pre : List ExceptionTableEntry) (x : ExceptionTableEntry) (suf : List ExceptionTableEntry) (ht : c.exceptionTable.toList = pre ++ x :: suf)
    (hpass : ∀ z ∈ pre, covers z pc = false ∨ (z.catchType ≠ 0 ∧ ∃ nm : String, Cond.classLink own z.catchType nm ∈ lw_all ∧ (E, nm) ∈ hg_nc)) (hx : covers x pc = true) (h0 : x.catchType ≠ 0) (hlink : Cond.classLink own x.catchType name ∈ lw_all) (hcast : (E, name) ∈ hg_cs)
    (kk : hg_W p l e R s m args below meth c Q D lo C0 nL kr nr G x.handlerPc L [.ref qx]) : hg_XW p l e R s m args below meth c Q D lo C0 nL kr nr G pc L st qx E := by
  intro ls H locs k0 n0 hl hP hS hE hk hn hce
  obtain ⟨ce, h1, h2, h3⟩ := hce
  exact vx_catch X.o pre x suf ht (fun z hz => by
    rcases hpass z hz with h | ⟨h, nm, g1, g2⟩
    · exact Or.inl h
    · exact Or.inr ⟨h, nm, X.w _ g1, X.kn.2.2.2.1 _ g2⟩) hx h0 (X.w _ hlink) (va_Nw.use rfl (X.kn.2.2.1 _ hcast)) h1 h2 h3 (kk ls H locs k0 n0 hl hP hS hE hk hn)
theorem hx_out {qx : Nat} {E : String} (X : hg_X p l s m args meth c D lo own cc nL) (hpass : ∀ z ∈ c.exceptionTable.toList, covers z pc = false ∨ (z.catchType ≠ 0 ∧ ∃ nm : String, Cond.classLink own z.catchType nm ∈ lw_all ∧ (E, nm) ∈ hg_nc))
    (h : Post (.inr (qx, E)) G) : hg_XW p l e rm s m args below meth c (hg_Q below D lo args s rm G0 Post) D lo G0.1 nL kr nr G pc L st qx E := by
  intro ls H locs k0 n0 hl hP hS hE hk hn hce
  obtain ⟨ce, h1, h2, h3⟩ := hce
  refine vx_outP X.o X.lk (fun z hz => ?_) h1 h2 h3 (fun t ht _ => ⟨⟨G, h, hE, by rw [ht]; exact hP⟩, hS.F ht⟩) hS.2.2 (by omega) (by omega)
  rcases hpass z hz with h | ⟨h, nm, g1, g2⟩
  · exact Or.inl h
  · exact Or.inr ⟨h, nm, X.w _ g1, X.kn.2.2.2.1 _ g2⟩
end
end HGN
