/-! the machine's own exceptions, in pictures: an index out of range -/
section HXR
variable {p : Program} {l : Launch} {e : Env} {R : Room} {s : State} {m : MethodId} {args : Array Value} {below : List Frame} {meth : Method} {c : Code} {Q : State → Prop} {D : hg_D} {lo : Nat} {C0 : hg_K} {nL kr nr : Nat} {G : hg_G} {own : String} {cc : ByteArray} {pc q : Nat} {L : List (Option Value)} {st : List Value}
theorem hg_P.grown {H H1 : Heap} (h : hg_P D lo G H) (oq : ∀ q : Nat, q < H.size → H1[q]? = H[q]?) : hg_P D lo G H1 :=
  ⟨fun a k n ha => (h.1 a k n ha).kept (oq a (h.1 a k n ha).lt) (fun _ => rfl) (fun _ => rfl) (fun _ => rfl), h.2⟩
def hg_vmUp : List String := ["java/lang/IndexOutOfBoundsException", "java/lang/RuntimeException", "java/lang/Exception"]
/-- a message that the machine throws, of a class whose words are there -/
def hg_vmC (cls : String) (names : List String) : Prop := Bundle.fit cls = true ∧ (∀ n ∈ names, Bundle.fit n = true) ∧ (cls == "java/lang/StackOverflowError") = false ∧ (cls == "java/lang/OutOfMemoryError") = false ∧ (∀ w ∈ vx_atM cls names, w ∈ lw_all ∨ (∃ q ∈ hg_cs, w = .castable q.1 q.2) ∨ ∃ x ∈ hg_ds, w = .declares x) ∧ (∀ w ∈ vx_atM cls names, vx_ot w = true) ∧ names.length ≤ 3
theorem hg_vmA : hg_vmC "java/lang/ArrayIndexOutOfBoundsException" hg_vmUp := ⟨by decide, by decide, by decide, by decide, by decide +kernel, by decide +kernel, by decide⟩
theorem hg_vmCC : hg_vmC "java/lang/ClassCastException" ["java/lang/RuntimeException", "java/lang/Exception"] := ⟨by decide, by decide, by decide, by decide, by decide +kernel, by decide +kernel, by decide⟩
/-- kr, nr: what is left behind the throw -/
theorem hg_note {cls text : String} {names : List String} {nb kr' nr' : Nat} (X : hg_X p l s m args meth c D lo own cc nL) (hc : hg_vmC cls names) (htext : (text == notModelled) = false) (hnb : (stringBytes (stringToUtf16 text)).size ≤ nb) (hnb1 : nb ≤ 1000)
    (hRf : 7 < R.frames) (hRl : (st.map fun v => v.category).sum + 10240 ≤ R.locals) (hk3 : kr' + 3 ≤ kr) (hn3 : nr' + (nb + 10) ≤ nr)
    {ls : Array Slot} {H : Heap} {locs : List Loc} {k0 n0 : Nat} (hl : lv_has ls nL (hg_L 0 L)) (hP : hg_P D lo G H) (hS : va_S (hg_A lo C0 s.heap.size) s.heap H locs) (hE : hg_E C0 G.1 s.heap.size) (hk : k0 + kr ≤ R.cells) (hn : n0 + nr ≤ R.slots)
    (k : ∀ q9, hg_XW p l e R s m args below meth c Q D lo C0 nL kr' nr' G pc L st q9 cls) : vx_Note p l e R s m args below meth c H locs k0 n0 Q (F0 m pc ls st) cls text := by
  obtain ⟨h1, h2, h3, h4, h5, h6, h7⟩ := hc
  have hAA : ∀ q, hg_A lo C0 s.heap.size q → (fun q => lo ≤ q) q := fun q h => h.1
  refine vx_vm (A := hg_A lo C0 s.heap.size) (nb := nb) X.x X.tr h1 h2 h3 h4 (fun w hw => by
    rcases h5 w hw with h | ⟨q, h, rfl⟩ | ⟨x, h, rfl⟩
    · exact X.w w h
    · exact (X.kn.2.2.1 q h).use rfl
    · exact (X.kn.2.2.2.2.1 x h).use rfl) h6 (X.old.1.narrow hAA) (X.old.2.1.narrow hAA) hS (hl.1.trans X.ml.symm) htext hnb hnb1 (by omega) hRl (by omega) (by omega) (by omega) X.lk (fun H1 q9 ce e1 e2 e3 e4 e5 e6 => ?_)
  exact k q9 ls H1 locs (k0 + 3) (n0 + (nb + 10)) hl (hP.grown e2) e3 hE (by omega) (by omega) ⟨ce, e4, e5, e6⟩
theorem hr_ialdX {a n : Nat} {i : Int32} (X : hg_X p l s m args meth c D lo own cc nL) (d : decode cc pc = .ok (.iaload, 1)) (ha : G.1 a = some (1, n)) (hout : ¬ vp_in i n) (hn2 : n < 2 ^ 31) (hRf : 7 < R.frames) (hRl : (st.map fun v => v.category).sum + 10240 ≤ R.locals)
    (k : ∀ q9, hg_XW p l e R s m args below meth c Q D lo C0 nL kr nr G pc L st q9 "java/lang/ArrayIndexOutOfBoundsException") : hg_W p l e R s m args below meth c Q D lo C0 nL (kr + 3) (nr + 222) G pc L (.int i :: .ref a :: st) := by
  intro ls H locs k0 n0 hl hP hS hE hk hn T hT X1
  obtain ⟨z, e1, e2⟩ := hg_note (kr := kr + 3) (nr := nr + 222) X hg_vmA (index_text_modelled i n) (index_text_bytes i hn2) (by decide) hRf hRl (Nat.le_refl _) (Nat.le_refl _) hl hP hS hE hk hn k T hT X1
  refine ⟨z, ?_, e2⟩
  have hA := hg_arr (t := 0) hP ha
  have hO : i < 0 ∨ (arrV (D.2.1 0) n (hg_vA G 0 a)).slots.size ≤ i.toNatClampNeg := by rw [arrV_size]; exact Classical.byContradiction hout
  have h1 := X1.ialoadOut X.x (by rw [hT]; exact hA) ((X.kn.2.1 _ (by decide)).1 n _) hO (g := F0 m pc ls (.int i :: .ref a :: st)) rfl (rest := st) rfl (by rw [X.b]; exact d) z
  simp only [arrV_size] at h1
  exact h1 e1
theorem hr_baldX {a n : Nat} {i : Int32} (X : hg_X p l s m args meth c D lo own cc nL) (d : decode cc pc = .ok (.baload, 1)) (ha : G.1 a = some (3, n)) (hout : ¬ vp_in i n) (hn2 : n < 2 ^ 31) (hRf : 7 < R.frames) (hRl : (st.map fun v => v.category).sum + 10240 ≤ R.locals)
    (k : ∀ q9, hg_XW p l e R s m args below meth c Q D lo C0 nL kr nr G pc L st q9 "java/lang/ArrayIndexOutOfBoundsException") : hg_W p l e R s m args below meth c Q D lo C0 nL (kr + 3) (nr + 222) G pc L (.int i :: .ref a :: st) := by
  intro ls H locs k0 n0 hl hP hS hE hk hn T hT X1
  obtain ⟨z, e1, e2⟩ := hg_note (kr := kr + 3) (nr := nr + 222) X hg_vmA (index_text_modelled i n) (index_text_bytes i hn2) (by decide) hRf hRl (Nat.le_refl _) (Nat.le_refl _) hl hP hS hE hk hn k T hT X1
  refine ⟨z, ?_, e2⟩
  have hA := hg_arr (t := 2) hP ha
  have hO : i < 0 ∨ (arrV (D.2.1 2) n (hg_vA G 2 a)).slots.size ≤ i.toNatClampNeg := by rw [arrV_size]; exact Classical.byContradiction hout
  have h1 := X1.baloadOut X.x (by rw [hT]; exact hA) ((X.kn.2.1 _ (by decide)).1 n _) hO (g := F0 m pc ls (.int i :: .ref a :: st)) rfl (rest := st) rfl (by rw [X.b]; exact d) z
  simp only [arrV_size] at h1
  exact h1 e1
theorem hr_saldX {a n : Nat} {i : Int32} (X : hg_X p l s m args meth c D lo own cc nL) (d : decode cc pc = .ok (.saload, 1)) (ha : G.1 a = some (4, n)) (hout : ¬ vp_in i n) (hn2 : n < 2 ^ 31) (hRf : 7 < R.frames) (hRl : (st.map fun v => v.category).sum + 10240 ≤ R.locals)
    (k : ∀ q9, hg_XW p l e R s m args below meth c Q D lo C0 nL kr nr G pc L st q9 "java/lang/ArrayIndexOutOfBoundsException") : hg_W p l e R s m args below meth c Q D lo C0 nL (kr + 3) (nr + 222) G pc L (.int i :: .ref a :: st) := by
  intro ls H locs k0 n0 hl hP hS hE hk hn T hT X1
  obtain ⟨z, e1, e2⟩ := hg_note (kr := kr + 3) (nr := nr + 222) X hg_vmA (index_text_modelled i n) (index_text_bytes i hn2) (by decide) hRf hRl (Nat.le_refl _) (Nat.le_refl _) hl hP hS hE hk hn k T hT X1
  refine ⟨z, ?_, e2⟩
  have hA := hg_arr (t := 3) hP ha
  have hO : i < 0 ∨ (arrV (D.2.1 3) n (hg_vA G 3 a)).slots.size ≤ i.toNatClampNeg := by rw [arrV_size]; exact Classical.byContradiction hout
  have h1 := X1.saloadOut X.x (by rw [hT]; exact hA) ((X.kn.2.1 _ (by decide)).1 n _) hO (g := F0 m pc ls (.int i :: .ref a :: st)) rfl (rest := st) rfl (by rw [X.b]; exact d) z
  simp only [arrV_size] at h1
  exact h1 e1
theorem hr_laldX {a n : Nat} {i : Int32} (X : hg_X p l s m args meth c D lo own cc nL) (d : decode cc pc = .ok (.laload, 1)) (ha : G.1 a = some (2, n)) (hout : ¬ vp_in i n) (hn2 : n < 2 ^ 31) (hRf : 7 < R.frames) (hRl : (st.map fun v => v.category).sum + 10240 ≤ R.locals)
    (k : ∀ q9, hg_XW p l e R s m args below meth c Q D lo C0 nL kr nr G pc L st q9 "java/lang/ArrayIndexOutOfBoundsException") : hg_W p l e R s m args below meth c Q D lo C0 nL (kr + 3) (nr + 222) G pc L (.int i :: .ref a :: st) := by
  intro ls H locs k0 n0 hl hP hS hE hk hn T hT X1
  obtain ⟨z, e1, e2⟩ := hg_note (kr := kr + 3) (nr := nr + 222) X hg_vmA (index_text_modelled i n) (index_text_bytes i hn2) (by decide) hRf hRl (Nat.le_refl _) (Nat.le_refl _) hl hP hS hE hk hn k T hT X1
  refine ⟨z, ?_, e2⟩
  have hA := hg_arr (t := 1) hP ha
  have hO : i < 0 ∨ (arrV (D.2.1 1) n (hg_vA G 1 a)).slots.size ≤ i.toNatClampNeg := by rw [arrV_size]; exact Classical.byContradiction hout
  have h1 := X1.laloadOut X.x (by rw [hT]; exact hA) ((X.kn.2.1 _ (by decide)).1 n _) hO (g := F0 m pc ls (.int i :: .ref a :: st)) rfl (rest := st) rfl (by rw [X.b]; exact d) z
  simp only [arrV_size] at h1
  exact h1 e1
theorem hr_aaldX {a n t : Nat} {i : Int32} (X : hg_X p l s m args meth c D lo own cc nL) (d : decode cc pc = .ok (.aaload, 1)) (ha : G.1 a = some (t + 1, n)) (ht : t = 4 ∨ t = 5) (hout : ¬ vp_in i n) (hn2 : n < 2 ^ 31) (hRf : 7 < R.frames) (hRl : (st.map fun v => v.category).sum + 10240 ≤ R.locals)
    (k : ∀ q9, hg_XW p l e R s m args below meth c Q D lo C0 nL kr nr G pc L st q9 "java/lang/ArrayIndexOutOfBoundsException") : hg_W p l e R s m args below meth c Q D lo C0 nL (kr + 3) (nr + 222) G pc L (.int i :: .ref a :: st) := by
  intro ls H locs k0 n0 hl hP hS hE hk hn T hT X1
  obtain ⟨z, e1, e2⟩ := hg_note (kr := kr + 3) (nr := nr + 222) X hg_vmA (index_text_modelled i n) (index_text_bytes i hn2) (by decide) hRf hRl (Nat.le_refl _) (Nat.le_refl _) hl hP hS hE hk hn k T hT X1
  refine ⟨z, ?_, e2⟩
  have hA := hg_arr (t := t) hP ha
  have hO : i < 0 ∨ (arrV (D.2.1 t) n (hg_vA G t a)).slots.size ≤ i.toNatClampNeg := by rw [arrV_size]; exact Classical.byContradiction hout
  rcases ht with rfl | rfl
  all_goals
    have h1 := X1.aaloadOut X.x (by rw [hT]; exact hA) ((X.kn.2.1 _ (by decide)).1 n _) hO (g := F0 m pc ls (.int i :: .ref a :: st)) rfl (rest := st) rfl (by rw [X.b]; exact d) z
    simp only [arrV_size] at h1
    exact h1 e1
theorem hr_iastX {a n : Nat} {i : Int32} {x : Int32} (X : hg_X p l s m args meth c D lo own cc nL) (d : decode cc pc = .ok (.iastore, 1)) (ha : G.1 a = some (1, n)) (hout : ¬ vp_in i n) (hn2 : n < 2 ^ 31) (hRf : 7 < R.frames) (hRl : (st.map fun v => v.category).sum + 10240 ≤ R.locals)
    (k : ∀ q9, hg_XW p l e R s m args below meth c Q D lo C0 nL kr nr G pc L st q9 "java/lang/ArrayIndexOutOfBoundsException") : hg_W p l e R s m args below meth c Q D lo C0 nL (kr + 3) (nr + 222) G pc L (.int x :: .int i :: .ref a :: st) := by
  intro ls H locs k0 n0 hl hP hS hE hk hn T hT X1
  obtain ⟨z, e1, e2⟩ := hg_note (kr := kr + 3) (nr := nr + 222) X hg_vmA (index_text_modelled i n) (index_text_bytes i hn2) (by decide) hRf hRl (Nat.le_refl _) (Nat.le_refl _) hl hP hS hE hk hn k T hT X1
  refine ⟨z, ?_, e2⟩
  have hA := hg_arr (t := 0) hP ha
  have hO : i < 0 ∨ (arrV (D.2.1 0) n (hg_vA G 0 a)).slots.size ≤ i.toNatClampNeg := by rw [arrV_size]; exact Classical.byContradiction hout
  have h1 := X1.iastoreOut X.x (by rw [hT]; exact hA) ((X.kn.2.1 _ (by decide)).1 n _) hO (g := F0 m pc ls (.int x :: .int i :: .ref a :: st)) rfl (rest := st) rfl (by rw [X.b]; exact d) z
  simp only [arrV_size] at h1
  exact h1 e1
theorem hr_bastX {a n : Nat} {i : Int32} {x : Int32} (X : hg_X p l s m args meth c D lo own cc nL) (d : decode cc pc = .ok (.bastore, 1)) (ha : G.1 a = some (3, n)) (hout : ¬ vp_in i n) (hn2 : n < 2 ^ 31) (hRf : 7 < R.frames) (hRl : (st.map fun v => v.category).sum + 10240 ≤ R.locals)
    (k : ∀ q9, hg_XW p l e R s m args below meth c Q D lo C0 nL kr nr G pc L st q9 "java/lang/ArrayIndexOutOfBoundsException") : hg_W p l e R s m args below meth c Q D lo C0 nL (kr + 3) (nr + 222) G pc L (.int x :: .int i :: .ref a :: st) := by
  intro ls H locs k0 n0 hl hP hS hE hk hn T hT X1
  obtain ⟨z, e1, e2⟩ := hg_note (kr := kr + 3) (nr := nr + 222) X hg_vmA (index_text_modelled i n) (index_text_bytes i hn2) (by decide) hRf hRl (Nat.le_refl _) (Nat.le_refl _) hl hP hS hE hk hn k T hT X1
  refine ⟨z, ?_, e2⟩
  have hA := hg_arr (t := 2) hP ha
  have hO : i < 0 ∨ (arrV (D.2.1 2) n (hg_vA G 2 a)).slots.size ≤ i.toNatClampNeg := by rw [arrV_size]; exact Classical.byContradiction hout
  have h1 := X1.bastoreOut X.x (by rw [hT]; exact hA) ((X.kn.2.1 _ (by decide)).1 n _) hO (g := F0 m pc ls (.int x :: .int i :: .ref a :: st)) rfl (rest := st) rfl (by rw [X.b]; exact d) z
  simp only [arrV_size] at h1
  exact h1 e1
theorem hr_sastX {a n : Nat} {i : Int32} {x : Int32} (X : hg_X p l s m args meth c D lo own cc nL) (d : decode cc pc = .ok (.sastore, 1)) (ha : G.1 a = some (4, n)) (hout : ¬ vp_in i n) (hn2 : n < 2 ^ 31) (hRf : 7 < R.frames) (hRl : (st.map fun v => v.category).sum + 10240 ≤ R.locals)
    (k : ∀ q9, hg_XW p l e R s m args below meth c Q D lo C0 nL kr nr G pc L st q9 "java/lang/ArrayIndexOutOfBoundsException") : hg_W p l e R s m args below meth c Q D lo C0 nL (kr + 3) (nr + 222) G pc L (.int x :: .int i :: .ref a :: st) := by
  intro ls H locs k0 n0 hl hP hS hE hk hn T hT X1
  obtain ⟨z, e1, e2⟩ := hg_note (kr := kr + 3) (nr := nr + 222) X hg_vmA (index_text_modelled i n) (index_text_bytes i hn2) (by decide) hRf hRl (Nat.le_refl _) (Nat.le_refl _) hl hP hS hE hk hn k T hT X1
  refine ⟨z, ?_, e2⟩
  have hA := hg_arr (t := 3) hP ha
  have hO : i < 0 ∨ (arrV (D.2.1 3) n (hg_vA G 3 a)).slots.size ≤ i.toNatClampNeg := by rw [arrV_size]; exact Classical.byContradiction hout
  have h1 := X1.sastoreOut X.x (by rw [hT]; exact hA) ((X.kn.2.1 _ (by decide)).1 n _) hO (g := F0 m pc ls (.int x :: .int i :: .ref a :: st)) rfl (rest := st) rfl (by rw [X.b]; exact d) z
  simp only [arrV_size] at h1
  exact h1 e1
theorem hr_lastX {a n : Nat} {i : Int32} {x : Int64} (X : hg_X p l s m args meth c D lo own cc nL) (d : decode cc pc = .ok (.lastore, 1)) (ha : G.1 a = some (2, n)) (hout : ¬ vp_in i n) (hn2 : n < 2 ^ 31) (hRf : 7 < R.frames) (hRl : (st.map fun v => v.category).sum + 10240 ≤ R.locals)
    (k : ∀ q9, hg_XW p l e R s m args below meth c Q D lo C0 nL kr nr G pc L st q9 "java/lang/ArrayIndexOutOfBoundsException") : hg_W p l e R s m args below meth c Q D lo C0 nL (kr + 3) (nr + 222) G pc L (.long x :: .int i :: .ref a :: st) := by
  intro ls H locs k0 n0 hl hP hS hE hk hn T hT X1
  obtain ⟨z, e1, e2⟩ := hg_note (kr := kr + 3) (nr := nr + 222) X hg_vmA (index_text_modelled i n) (index_text_bytes i hn2) (by decide) hRf hRl (Nat.le_refl _) (Nat.le_refl _) hl hP hS hE hk hn k T hT X1
  refine ⟨z, ?_, e2⟩
  have hA := hg_arr (t := 1) hP ha
  have hO : i < 0 ∨ (arrV (D.2.1 1) n (hg_vA G 1 a)).slots.size ≤ i.toNatClampNeg := by rw [arrV_size]; exact Classical.byContradiction hout
  have h1 := X1.lastoreOut X.x (by rw [hT]; exact hA) ((X.kn.2.1 _ (by decide)).1 n _) hO (g := F0 m pc ls (.long x :: .int i :: .ref a :: st)) rfl (rest := st) rfl (by rw [X.b]; exact d) z
  simp only [arrV_size] at h1
  exact h1 e1
end HXR
