/-! System.arraycopy, in pictures -/
def hs_CI (G : hg_G) (b a sp dp n : Nat) : hg_G := (G.1, (fun x j => if x = b then va_cpy (G.2.1 a) (G.2.1 b) sp dp n j else G.2.1 x j), G.2.2)
def hs_CJ (G : hg_G) (b a sp dp n : Nat) : hg_G := (G.1, G.2.1, (fun x j => if x = b then va_cpy (G.2.2.1 a) (G.2.2.1 b) sp dp n j else G.2.2.1 x j), G.2.2.2)
def hs_CR (G : hg_G) (b a sp dp n : Nat) : hg_G := (G.1, G.2.1, G.2.2.1, (fun x j => if x = b then va_cpy (G.2.2.2 a) (G.2.2.2 b) sp dp n j else G.2.2.2 x j))
section HCY
variable {p : Program} {l : Launch} {e : Env} {R : Room} {s : State} {m : MethodId} {args : Array Value} {below : List Frame} {meth : Method} {c : Code} {Q : State → Prop} {D : hg_D} {lo : Nat} {C0 : hg_K} {nL kr nr : Nat} {G : hg_G} {own : String} {cc : ByteArray} {pc q : Nat} {L : List (Option Value)} {st : List Value}
/-- the copying, once: mk lays the picture's values as the machine's -/
theorem hg_copy {α : Type} {mk : α → Value} {f g : Nat → α} {t n0 n1 a b ix sp dp n : Nat} {G1 : hg_G} (X : hg_X p l s m args meth c D lo own cc nL) (d : decode cc pc = .ok (.invokestatic ix, 3)) (hlink : Cond.methodLink own ix arraycopyName ∈ lw_all)
    (hnat : Cond.native arraycopyName ∈ lw_all) (hstat : Cond.static arraycopyName ∈ lw_all) (hini : Cond.initialized "java/lang/System" ∈ lw_all) (ht8 : t < 8) (ha : G.1 a = some (t + 1, n0)) (hb : G.1 b = some (t + 1, n1)) (hro : hg_ro (t + 1) n1 = false)
    (hf : hg_vA G t a = fun j => mk (f j)) (hg : hg_vA G t b = fun j => mk (g j)) (h4 : sp + n ≤ n0) (h5 : dp + n ≤ n1) (hn0 : n0 < 2 ^ 31) (hn1 : n1 < 2 ^ 31)
    (hvals : ∀ (H : Heap) (T : State), T.heap = H → hg_P D lo G H → ∀ (kd : Class) (dComp : ClassId) (dType : FieldType), s.vm.classes[D.2.1 t]? = some kd → kd.kind = .array dComp dType → ∀ vm', s.vm.Alike vm' → ∀ i, i < n → fits dType (mk (f (sp + i))) = true ∧ (T.setVm vm').takes dComp (mk (f (sp + i))))
    (hfr : 1 ≤ R.frames) (hlc : (st.map fun v => v.category).sum + (nativeFrameWords "java/lang/System" "arraycopy" 5 + 11) ≤ R.locals)
    (hG1 : ∀ H H' : Heap, hg_P D lo G H → H'[b]? = some (arrV (D.2.1 t) n1 (fun j => mk (va_cpy f g sp dp n j))) → (∀ q : Nat, q ≠ b → H'[q]? = H[q]?) → hg_P0 D G1 H') (hk1 : G1.1 = G.1)
    (kk : hg_W p l e R s m args below meth c Q D lo C0 nL kr nr G1 (pc + 3) L st) : hg_W p l e R s m args below meth c Q D lo C0 nL kr nr G pc L (.int (nI n) :: .int (nI dp) :: .ref b :: .int (nI sp) :: .ref a :: st) := by
  intro ls H locs k0 n9 hl hP hS hE hk hn
  have h6 : t < 6 := by
    have : t < 6 ∨ t = 6 ∨ t = 7 := by omega
    rcases this with h | rfl | rfl
    · exact h
    · cases hro
    · cases hro
  have hA : H[a]? = some (arrV (D.2.1 t) n0 (fun j => mk (f j))) := by rw [← hf]; exact hg_arr hP ha
  have hB : H[b]? = some (arrV (D.2.1 t) n1 (fun j => mk (g j))) := by rw [← hg]; exact hg_arr hP hb
  have hlo : lo ≤ b := hP.2 _ _ _ hb hro
  have cn : (nI n).toNatClampNeg = n := nI_clamp (by omega)
  have cs : (nI sp).toNatClampNeg = sp := nI_clamp (by omega)
  have cd : (nI dp).toNatClampNeg = dp := nI_clamp (by omega)
  intro T hT X1
  obtain ⟨-, k0', hk0', cm0, hkk0⟩ := (X.kn.2.1 t (by omega)).1 n0 (fun j => mk (f j))
  obtain ⟨-, k1', hk1', cm1, hkk1⟩ := (X.kn.2.1 t (by omega)).1 n1 (fun j => mk (g j))
  obtain ⟨vm', X', step⟩ := X1.arraycopy X.x X.o (X.w _ hlink) (X.w _ hnat) (X.w _ hstat) (X.w _ hini) (src := a) (dst := b) (cs := arrV (D.2.1 t) n0 (fun j => mk (f j))) (cd := arrV (D.2.1 t) n1 (fun j => mk (g j))) (srcPos := nI sp) (destPos := nI dp) (n := nI n) (by rw [hT]; exact hA) (by rw [hT]; exact hB)
    (fun _ h => by cases h) (fun _ h => by cases h) (fun h => by cases h) (fun h => by cases h) hk0' hk1' hkk0 hkk1 (by simp) (nI_pos (by omega)) (nI_pos (by omega)) (nI_pos (by omega))
    (by rw [nI_toInt (by omega), nI_toInt (by omega), arrV_size]; omega) (by rw [nI_toInt (by omega), nI_toInt (by omega), arrV_size]; omega)
    (fun vm₁ hal i hi => by
      rw [cn] at hi
      have e1 : (arrV (D.2.1 t) n0 (fun j => mk (f j))).slots.getD ((nI sp).toNatClampNeg + i) .null = mk (f (sp + i)) := by
        rw [cs, Array.getD_eq_getD_getElem?, arrV_read _ _ (by omega)]
        rfl
      rw [e1]
      exact hvals H T hT hP k1' cm1 _ hk1' hkk1 vm₁ hal i hi)
    (g := F0 m pc ls (.int (nI n) :: .int (nI dp) :: .ref b :: .int (nI sp) :: .ref a :: st)) rfl (by rw [X.ml]; exact hl.1) (rest := st) rfl (by rw [X.b]; exact d) hfr (by show 2 * 0 + _ + _ ≤ _; omega)
  have e1 : copied (arrV (D.2.1 t) n0 (fun j => mk (f j))) (arrV (D.2.1 t) n1 (fun j => mk (g j))) (nI sp) (nI dp) (nI n) = arrV (D.2.1 t) n1 (fun j => mk (va_cpy f g sp dp n j)) := by
    unfold copied
    rw [cs, cd, cn]
    exact va_copied mk (D.2.1 t) (D.2.1 t) f g h4
  rw [e1] at X' step
  have hl9 : b < H.size := (Array.getElem?_eq_some_iff.mp hB).1
  have hheap : ((T.setVm vm').setCell b (arrV (D.2.1 t) n1 (fun j => mk (va_cpy f g sp dp n j)))).heap = H.setIfInBounds b (arrV (D.2.1 t) n1 (fun j => mk (va_cpy f g sp dp n j))) := by rw [← hT]; rfl
  have oq : ∀ q : Nat, q ≠ b → (H.setIfInBounds b (arrV (D.2.1 t) n1 (fun j => mk (va_cpy f g sp dp n j))))[q]? = H[q]? := fun q hq => by simp [Array.getElem?_setIfInBounds, Ne.symm hq]
  have hAb : hg_A lo C0 s.heap.size b := hg_A.of hE hlo hb
  obtain ⟨t9, a1, b1⟩ := kk ls (H.setIfInBounds b (arrV (D.2.1 t) n1 (fun j => mk (va_cpy f g sp dp n j)))) _ k0 n9 hl ⟨hG1 H _ hP (by simp [Array.getElem?_setIfInBounds, hl9]) oq, fun a9 k9 n9 h9 => hP.2 a9 k9 n9 (by rw [← hk1]; exact h9)⟩ ⟨by simp; exact hS.1, fun q g1 g2 => by
      rw [oq q (fun e9 => g2 (by rw [e9]; exact hAb))]
      exact hS.2.1 q g1 g2, fun q hq => by
      rcases List.mem_append.mp hq with h | h
      · exact hS.2.2 q h
      · obtain ⟨z, -, hz⟩ := List.mem_map.mp h
        rw [← hz]
        exact hAb⟩ (by rw [hk1]; exact hE) hk hn _ hheap X'
  exact ⟨t9, step t9 a1, b1⟩
theorem hg_P0.cI {H H' : Heap} {a b t n sp dp k : Nat} (h : hg_P0 D G H) (hb : G.1 b = some (t + 1, n)) (ht : t = 0 ∨ t = 2 ∨ t = 3) (ho : H'[b]? = some (arrV (D.2.1 t) n (fun j => .int (va_cpy (G.2.1 a) (G.2.1 b) sp dp k j)))) (oq : ∀ q : Nat, q ≠ b → H'[q]? = H[q]?) : hg_P0 D (hs_CI G b a sp dp k) H' := by
  intro x kk m hx
  have hx : G.1 x = some (kk, m) := hx
  by_cases e : x = b
  · subst e
    cases hx.symm.trans hb
    refine hg_at.mk' ?_ (by rcases ht with rfl | rfl | rfl <;> rfl)
    show H'[x]? = _
    rw [ho]
    congr 2
    funext j
    rcases ht with rfl | rfl | rfl <;> simp [hg_vA, hs_CI]
  · exact (h x kk m hx).kept (oq x e) (fun j => by simp [hs_CI, e]) (fun j => rfl) (fun j => rfl)
theorem hg_P0.cJ {H H' : Heap} {a b n sp dp k : Nat} (h : hg_P0 D G H) (hb : G.1 b = some (2, n)) (ho : H'[b]? = some (arrV (D.2.1 1) n (fun j => .long (va_cpy (G.2.2.1 a) (G.2.2.1 b) sp dp k j)))) (oq : ∀ q : Nat, q ≠ b → H'[q]? = H[q]?) : hg_P0 D (hs_CJ G b a sp dp k) H' := by
  intro x kk m hx
  have hx : G.1 x = some (kk, m) := hx
  by_cases e : x = b
  · subst e
    cases hx.symm.trans hb
    refine hg_at.mk' ?_ rfl
    show H'[x]? = _
    rw [ho]
    congr 2
    funext j
    simp [hg_vA, hs_CJ]
  · exact (h x kk m hx).kept (oq x e) (fun j => rfl) (fun j => by simp [hs_CJ, e]) (fun j => rfl)
theorem hg_P0.cR {H H' : Heap} {a b n sp dp k : Nat} (h : hg_P0 D G H) (hb : G.1 b = some (6, n)) (ho : H'[b]? = some (arrV (D.2.1 5) n (fun j => va_rf (va_cpy (G.2.2.2 a) (G.2.2.2 b) sp dp k j)))) (oq : ∀ q : Nat, q ≠ b → H'[q]? = H[q]?) : hg_P0 D (hs_CR G b a sp dp k) H' := by
  intro x kk m hx
  have hx : G.1 x = some (kk, m) := hx
  by_cases e : x = b
  · subst e
    cases hx.symm.trans hb
    refine hg_at.mk' ?_ rfl
    show H'[x]? = _
    rw [ho]
    congr 2
    funext j
    simp [hg_vA, hs_CR]
  · exact (h x kk m hx).kept (oq x e) (fun j => rfl) (fun j => rfl) (fun j => by simp [hs_CR, e])
theorem hg_elty {t : Nat} (X : hg_X p l s m args meth c D lo own cc nL) (ht : t < 8) {kd : Class} {dc : ClassId} {dt : FieldType} (h1 : s.vm.classes[D.2.1 t]? = some kd) (h2 : kd.kind = .array dc dt) : dt = hg_ty t := by
  obtain ⟨-, k, g1, cm, g2⟩ := (X.kn.2.1 t (by omega)).1 0 (fun _ => .null)
  cases h1.symm.trans g1
  cases h2.symm.trans g2
  rfl
theorem hr_copyI {t n0 n1 a b ix sp dp n : Nat} (X : hg_X p l s m args meth c D lo own cc nL) (d : decode cc pc = .ok (.invokestatic ix, 3)) (hq : pc + 3 = q) (hlink : Cond.methodLink own ix arraycopyName ∈ lw_all) (hnat : Cond.native arraycopyName ∈ lw_all) (hstat : Cond.static arraycopyName ∈ lw_all) (hini : Cond.initialized "java/lang/System" ∈ lw_all)
    (ht : t = 0 ∨ t = 2 ∨ t = 3) (ha : G.1 a = some (t + 1, n0)) (hb : G.1 b = some (t + 1, n1)) (h4 : sp + n ≤ n0) (h5 : dp + n ≤ n1) (hn0 : n0 < 2 ^ 31) (hn1 : n1 < 2 ^ 31) (hfit : ∀ i, i < n → fits (hg_ty t) (.int (G.2.1 a (sp + i))) = true)
    (hfr : 1 ≤ R.frames) (hlc : (st.map fun v => v.category).sum + (nativeFrameWords "java/lang/System" "arraycopy" 5 + 11) ≤ R.locals)
    (kk : hg_W p l e R s m args below meth c Q D lo C0 nL kr nr (hs_CI G b a sp dp n) q L st) : hg_W p l e R s m args below meth c Q D lo C0 nL kr nr G pc L (.int (nI n) :: .int (nI dp) :: .ref b :: .int (nI sp) :: .ref a :: st) := by
  subst hq
  refine hg_copy (mk := Value.int) (f := G.2.1 a) (g := G.2.1 b) X d hlink hnat hstat hini (by omega) ha hb (by rcases ht with rfl | rfl | rfl <;> rfl) (by rcases ht with rfl | rfl | rfl <;> rfl) (by rcases ht with rfl | rfl | rfl <;> rfl) h4 h5 hn0 hn1 (fun H T hT hP kd dc dt h1 h2 vm' hal i hi => ?_) hfr hlc (fun H H' hP ho oq => hP.1.cI hb ht ho oq) rfl kk
  rw [hg_elty X (by omega) h1 h2]
  exact ⟨hfit i hi, trivial⟩
theorem hr_copyJ {n0 n1 a b ix sp dp n : Nat} (X : hg_X p l s m args meth c D lo own cc nL) (d : decode cc pc = .ok (.invokestatic ix, 3)) (hq : pc + 3 = q) (hlink : Cond.methodLink own ix arraycopyName ∈ lw_all) (hnat : Cond.native arraycopyName ∈ lw_all) (hstat : Cond.static arraycopyName ∈ lw_all) (hini : Cond.initialized "java/lang/System" ∈ lw_all)
    (ha : G.1 a = some (2, n0)) (hb : G.1 b = some (2, n1)) (h4 : sp + n ≤ n0) (h5 : dp + n ≤ n1) (hn0 : n0 < 2 ^ 31) (hn1 : n1 < 2 ^ 31)
    (hfr : 1 ≤ R.frames) (hlc : (st.map fun v => v.category).sum + (nativeFrameWords "java/lang/System" "arraycopy" 5 + 11) ≤ R.locals)
    (kk : hg_W p l e R s m args below meth c Q D lo C0 nL kr nr (hs_CJ G b a sp dp n) q L st) : hg_W p l e R s m args below meth c Q D lo C0 nL kr nr G pc L (.int (nI n) :: .int (nI dp) :: .ref b :: .int (nI sp) :: .ref a :: st) := by
  subst hq
  refine hg_copy (t := 1) (mk := Value.long) (f := G.2.2.1 a) (g := G.2.2.1 b) X d hlink hnat hstat hini (by decide) ha hb rfl rfl rfl h4 h5 hn0 hn1 (fun H T hT hP kd dc dt h1 h2 vm' hal i hi => ?_) hfr hlc (fun H H' hP ho oq => hP.1.cJ hb ho oq) rfl kk
  rw [hg_elty X (by decide) h1 h2]
  exact ⟨rfl, trivial⟩
theorem hr_copyQ {n0 n1 a b ix sp dp n : Nat} (X : hg_X p l s m args meth c D lo own cc nL) (d : decode cc pc = .ok (.invokestatic ix, 3)) (hq : pc + 3 = q) (hlink : Cond.methodLink own ix arraycopyName ∈ lw_all) (hnat : Cond.native arraycopyName ∈ lw_all) (hstat : Cond.static arraycopyName ∈ lw_all) (hini : Cond.initialized "java/lang/System" ∈ lw_all)
    (ha : G.1 a = some (6, n0)) (hb : G.1 b = some (6, n1)) (h4 : sp + n ≤ n0) (h5 : dp + n ≤ n1) (hn0 : n0 < 2 ^ 31) (hn1 : n1 < 2 ^ 31) (hel : ∀ i, i < n → ∀ y, G.2.2.2 a (sp + i) = some y → ∃ (ci : Nat) (r : vw_C), G.1 y = some (0, ci) ∧ hg_cl[ci]? = some r ∧ (r.1 = "TaxOnLooks$Person" ∨ (r.1, "TaxOnLooks$Person") ∈ hg_cs))
    (hfr : 1 ≤ R.frames) (hlc : (st.map fun v => v.category).sum + (nativeFrameWords "java/lang/System" "arraycopy" 5 + 11) ≤ R.locals)
    (kk : hg_W p l e R s m args below meth c Q D lo C0 nL kr nr (hs_CR G b a sp dp n) q L st) : hg_W p l e R s m args below meth c Q D lo C0 nL kr nr G pc L (.int (nI n) :: .int (nI dp) :: .ref b :: .int (nI sp) :: .ref a :: st) := by
  subst hq
  refine hg_copy (t := 5) (mk := va_rf) (f := G.2.2.2 a) (g := G.2.2.2 b) X d hlink hnat hstat hini (by decide) ha hb rfl rfl rfl h4 h5 hn0 hn1 (fun H T hT hP kd dc dt h1 h2 vm' hal i hi => ?_) hfr hlc (fun H H' hP ho oq => hP.1.cR hb ho oq) rfl kk
  cases hy : G.2.2.2 a (sp + i) with
  | none => rw [hg_elty X (by decide) h1 h2]; exact ⟨rfl, trivial⟩
  | some y =>
    obtain ⟨ci, r, hv, hc, hca⟩ := hel i hi y hy
    have hat := (hP.1 y 0 ci hv).g
    obtain ⟨r', hr', cellV, g1, g2, g3, -⟩ := hat
    have hcls := (X.kn.1 ci r hc).2
    obtain ⟨kA, comp, k1, k2, k3, -⟩ := ((X.kn.2.1 5 (by decide)).2 (by decide))
    cases h1.symm.trans k1
    cases h2.symm.trans k2
    obtain ⟨kE, hkE, -⟩ := Vm.findClass_spec k3
    obtain ⟨kC, hkC, -⟩ := hcls.2
    have hasg : s.vm.assignable (D.1.1 ci) dc = true := by
      rcases hca with h | h
      · have e1 : dc = D.1.1 ci := Option.some.inj (k3.symm.trans (by rw [← h]; exact hcls.1))
        rw [e1]
        exact va_assign hcls
      · obtain ⟨c0, t1, f1, f2, f3⟩ := Cond.castable_spec (va_Nw.use (A := args) rfl (X.kn.2.2.1 _ h))
        cases hcls.1.symm.trans f1
        cases k3.symm.trans f2
        exact f3
    obtain ⟨kC', hkC', -⟩ := hal.2.2 _ _ hkC
    obtain ⟨kE', hkE', -⟩ := hal.2.2 _ _ hkE
    refine ⟨rfl, cellV, (show T.heap[y]? = some cellV by rw [hT]; exact g1), (fun q h => by have z := g3.2; rw [h] at z; cases z), ⟨kC', by rw [g2]; exact hkC'⟩, ⟨kE', hkE'⟩, ?_⟩
    show vm'.assignable _ _ = true
    rw [hal.assignable, g2]
    exact hasg
end HCY
