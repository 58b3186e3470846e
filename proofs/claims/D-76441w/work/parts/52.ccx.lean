/-! a cast that fails -/
/-- a class whose words are short and whose package is the unnamed one -/
def hg_tw (C : String) : Prop := packageOf C = "" ∧ (dotted C).toList.length ≤ 20
theorem hg_fc {vm : Vm} {C : String} {c : ClassId} {k : Class} (h : vm.findClass C = some c) (hk : vm.classes[c]? = some k) : k.name = C ∧ k.hidden = none ∧ k.loader = none := by
  obtain ⟨hlt, hp, -⟩ := Array.findIdx?_eq_some_iff_getElem.mp h
  have e : vm.classes[c]? = some vm.classes[c] := by simp [hlt]
  rw [e] at hk
  cases hk
  simp only [Bool.and_eq_true, beq_iff_eq, Option.isNone_iff_eq_none] at hp
  exact ⟨hp.1.1.1, hp.1.1.2, hp.2⟩
theorem hg_shown {vm : Vm} {C : String} {c : ClassId} {k : Class} (h : vm.findClass C = some c) (hk : vm.classes[c]? = some k) : k.shown = dotted C := by
  obtain ⟨h1, h2, -⟩ := hg_fc h hk
  unfold Class.shown
  rw [h2, h1]
theorem hg_home {U : State} (hm : modulesRight_1 U = true) {C : String} {c : ClassId} {k : Class} (h : U.vm.findClass C = some c) (hk : U.vm.classes[c]? = some k) (hC : packageOf C = "") : (U.vm.home k).toList.length ≤ 45 := by
  obtain ⟨h1, -, h3⟩ := hg_fc h hk
  have hl : U.vm.loaderName k.loader = "'bootstrap'" := by rw [h3]; rfl
  have key : ∀ m, U.vm.moduleOf k = some m → m.name = "java.base" := fun m e => by
    unfold Vm.moduleOf at e
    split at e
    · have := List.find?_some e
      simpa using this
    · have e1 := List.find?_some e
      have e2 := List.mem_of_find?_eq_some e
      unfold modulesRight_1 at hm
      have e3 := List.all_eq_true.mp hm m e2
      rw [h1, hC, h3] at e1
      simp only [Bool.and_eq_true, beq_iff_eq] at e1
      simp only [Bool.or_eq_true, beq_iff_eq, e1.1, castPackages_1, List.any_cons, e1.2] at e3
      simpa using e3
  unfold Vm.home
  rw [hl]
  cases e : U.vm.moduleOf k with
  | none =>
    simp only [String.toList_append, List.length_append]
    decide
  | some m =>
    simp only [key m e, String.toList_append, List.length_append]
    decide
theorem hg_ccText {U : State} (hm : modulesRight_1 U = true) {C T : String} {c t : ClassId} {k kt : Class} (h : U.vm.findClass C = some c) (hk : U.vm.classes[c]? = some k) (ht : U.vm.findClass T = some t) (hkt : U.vm.classes[t]? = some kt) (hC : hg_tw C) (hT : hg_tw T) :
    ((Op.checkcast.message U.vm k kt) == notModelled) = false ∧ (stringBytes (stringToUtf16 (Op.checkcast.message U.vm k kt))).size ≤ 1000 := by
  have s1 := hg_shown h hk
  have s2 := hg_shown ht hkt
  have l1 := hg_home hm h hk hC.1
  have l2 := hg_home hm ht hkt hT.1
  have n1 := hC.2
  have n2 := hT.2
  have hh : (U.vm.homes k kt).toList.length ≤ 155 := by
    unfold Vm.homes
    rw [s1, s2]
    split
    · show (toString (dotted C) ++ toString " and " ++ toString (dotted T) ++ toString " are in " ++ toString (U.vm.home k)).toList.length ≤ _
      simp only [String.toList_append, List.length_append]
      have a1 : (toString " and ").toList.length = 5 := by decide
      have a2 : (toString " are in ").toList.length = 8 := by decide
      have a3 : (toString (dotted C)) = dotted C := rfl
      have a4 : (toString (dotted T)) = dotted T := rfl
      have a5 : (toString (U.vm.home k)) = U.vm.home k := rfl
      rw [a1, a2, a3, a4, a5]
      omega
    · show (toString (dotted C) ++ toString " is in " ++ toString (U.vm.home k) ++ toString "; " ++ toString (dotted T) ++ toString " is in " ++ toString (U.vm.home kt)).toList.length ≤ _
      simp only [String.toList_append, List.length_append]
      have a1 : (toString " is in ").toList.length = 7 := by decide
      have a2 : (toString "; ").toList.length = 2 := by decide
      have a3 : (toString (dotted C)) = dotted C := rfl
      have a4 : (toString (dotted T)) = dotted T := rfl
      have a5 : (toString (U.vm.home k)) = U.vm.home k := rfl
      have a6 : (toString (U.vm.home kt)) = U.vm.home kt := rfl
      rw [a1, a2, a3, a4, a5, a6]
      omega
  have e : Op.checkcast.message U.vm k kt = (toString "class " ++ toString (dotted C) ++ toString " cannot be cast to class " ++ toString (dotted T) ++ toString " (" ++ toString (U.vm.homes k kt) ++ toString ")") := by
    unfold Op.checkcast.message
    rw [s1, s2]
  constructor
  · rw [beq_eq_false_iff_ne]
    intro h9
    have h2 := congrArg String.toList h9
    have h3 : (Op.checkcast.message U.vm k kt).toList = 'c' :: ("lass ".toList ++ (dotted C).toList ++ " cannot be cast to class ".toList ++ (dotted T).toList ++ " (".toList ++ (U.vm.homes k kt).toList ++ ")".toList) := by
      rw [e]
      simp only [String.toList_append]
      rfl
    rw [h3] at h2
    have h4 : notModelled.toList = '\u0000' :: " a message that is not modelled".toList := by decide
    rw [h4] at h2
    simp at h2
  · have b1 := stringBytes_size_le (stringToUtf16 (Op.checkcast.message U.vm k kt))
    have b2 := utf16_size_le (Op.checkcast.message U.vm k kt)
    have b3 : (Op.checkcast.message U.vm k kt).toList.length ≤ 250 := by
      rw [e]
      simp only [String.toList_append, List.length_append]
      have a1 : (toString "class ").toList.length = 6 := by decide
      have a2 : (toString " cannot be cast to class ").toList.length = 25 := by decide
      have a3 : (toString (dotted C)) = dotted C := rfl
      have a4 : (toString (dotted T)) = dotted T := rfl
      have a5 : (toString (U.vm.homes k kt)) = U.vm.homes k kt := rfl
      have a6 : (toString " (").toList.length = 2 := by decide
      have a7 : (toString ")").toList.length = 1 := by decide
      rw [a1, a2, a3, a4, a5, a6, a7]
      omega
    omega
section HCC
variable {p : Program} {l : Launch} {e : Env} {R : Room} {s : State} {m : MethodId} {args : Array Value} {below : List Frame} {meth : Method} {c : Code} {Q : State → Prop} {D : hg_D} {lo : Nat} {C0 : hg_K} {nL kr nr : Nat} {G : hg_G} {own : String} {cc : ByteArray} {pc q : Nat} {L : List (Option Value)} {st : List Value}
theorem hg_castNo {T : State} {locs : List Loc} {cells slots : Nat} (X : Stand p l e R s m args below meth c T locs cells slots) (hexec : p.tables.exec = Jvm.exec)
    {own name : String} {index : Nat} (hown : s.vm.findClass own = some m.cls) (hlink : (Cond.classLink own index name).before args s = true)
    {a : Addr} {cell : Cell} {cT : ClassId} {ks : Class} (hcell : T.heap[a]? = some cell) (hobj : cell.vm.isStatics = false) (hks : s.vm.classes[cell.cls]? = some ks) (hcT : s.vm.findClass name = some cT) (hasg : s.vm.assignable cell.cls cT = false)
    {g : JFrame} (hg : g.method = m) {rest : List Value} (hstack : g.stack = .ref a :: rest) (hdg : decode c.code g.pc = .ok (.checkcast index, 3)) :
    ∃ (vm' : Vm) (ks' kt' : Class), Stand p l e R s m args below meth c (T.setVm vm') locs cells slots ∧ s.WarmedH vm' ∧ vm'.classes[cell.cls]? = some ks' ∧ vm'.classes[cT]? = some kt' ∧
      ∀ target, Steps p.tables e below (((T.setVm vm').setTop g).pushFrame (.throwNew "java/lang/ClassCastException" (some (Op.checkcast.message vm' ks' kt')) none)) target → Steps p.tables e below (T.setTop g) target := by
  have hpl : e.platform.magicAccessors = ({} : Platform).magicAccessors := by rw [X.admits.platform]
  obtain ⟨c', hc', hcl⟩ := Cond.classLink_spec hown hlink e.platform hpl
  cases hcT.symm.trans hc'
  obtain ⟨dk, _, _, kt, hd, _, _, _, _, hkt, _, hopen⟩ := hcl.here
  have hcl₀ := X.warmed.classLinks hcl
  have hW' : s.WarmedH (T.vm.noted m.cls index (.cls cT)) := X.warmed.noted hd hopen (State.rightAt_cls hcl)
  obtain ⟨ks', hks', -⟩ := hW'.alike.2.2 _ _ hks
  obtain ⟨kt', hkt', -⟩ := hW'.alike.2.2 _ _ hkt
  refine ⟨_, ks', kt', X.noted hW', hW', hks', hkt', fun target hrest => ?_⟩
  subst hg
  jvm_step X.here [hexec, hdg, Op.checkcast.wp_cold (e := e) (s := T) (f := g) X.here.top hstack (resolveClass_links e.toSetting hcl₀) hcl₀.ready,
    Op.checkcast.wp_ready (e := e) (s := T.setVm (T.vm.noted g.method.cls index (.cls cT))) (f := g) X.here.top hcl₀.ready hstack]
  refine ⟨cell, hcell, VmData.noStatics_of hobj, ks', hks', kt', hkt', ?_⟩
  rw [if_neg (by rw [hW'.alike.assignable, hasg]; decide)]
  exact hrest
theorem hr_castX {ix a ci : Nat} {r : vw_C} {nm : String} (X : hg_X p l s m args meth c D lo own cc nL) (d : decode cc pc = .ok (.checkcast ix, 3)) (hcl : Cond.classLink own ix nm ∈ lw_all) (ha : G.1 a = some (0, ci)) (hc : hg_cl[ci]? = some r) (hno : (r.1, nm) ∈ hg_nc) (h1 : hg_tw r.1) (h2 : hg_tw nm)
    (hRf : 7 < R.frames) (hRl : ((Value.ref a :: st).map fun v => v.category).sum + 10240 ≤ R.locals) (k : ∀ q9, hg_XW p l e R s m args below meth c Q D lo C0 nL kr nr G pc L (.ref a :: st) q9 "java/lang/ClassCastException") : hg_W p l e R s m args below meth c Q D lo C0 nL (kr + 3) (nr + 1010) G pc L (.ref a :: st) := by
  intro ls H locs k0 n0 hl hP hS hE hk hn T hT X1
  obtain ⟨cell, q1, q2, q3⟩ := hg_recv X.kn hP ha hc
  obtain ⟨c0, t0, f1, f2, f3⟩ := X.kn.2.2.2.1 _ hno
  cases q3.symm.trans f1
  obtain ⟨ks, hks, -⟩ := Vm.findClass_spec q3
  obtain ⟨vm', ks', kt', X', hW, g1, g2, g3⟩ := hg_castNo X1 X.x X.o (X.w _ hcl) (by rw [hT]; exact q1) q2 hks f2 f3 (g := F0 m pc ls (.ref a :: st)) rfl rfl (by rw [X.b]; exact d)
  have hm : modulesRight_1 (T.setVm vm') = true := hg_mod (U := T.setVm vm') hW.alike X.kn.2.2.2.2.2.2.2.1
  have w1 : (T.setVm vm').vm.findClass r.1 = some cell.cls := by show vm'.findClass r.1 = _; rw [hW.alike.findClass]; exact q3
  have w2 : (T.setVm vm').vm.findClass nm = some t0 := by show vm'.findClass nm = _; rw [hW.alike.findClass]; exact f2
  obtain ⟨y1, y2⟩ := hg_ccText hm w1 g1 w2 g2 h1 h2
  obtain ⟨z, e1, e2⟩ := hg_note (kr := kr + 3) (nr := nr + 1010) X hg_vmCC y1 y2 (by decide) hRf hRl (Nat.le_refl _) (Nat.le_refl _) hl hP hS hE hk hn k (T.setVm vm') hT X'
  exact ⟨z, g3 z e1, e2⟩
end HCC
