/-! calls -/
def hg_cv_ (y : MethodName) (code : Cond) (C : String) (n : Nat) : Prop := Cond.instanceMethod y ∈ lw_all ∧ Cond.selects C y y ∈ lw_all ∧ Cond.initialized C ∈ lw_all ∧ code ∈ lw_all ∧ y.cls = C ∧ y.cls ≠ "java/lang/invoke/MethodHandle" ∧ y.cls ≠ "java/lang/invoke/VarHandle" ∧ (parseMethodDescriptor y.desc).map (fun d => d.parameters.length) = some n
def hg_cs_ (y : MethodName) (code : Cond) (n : Nat) : Prop := Cond.static y ∈ lw_all ∧ Cond.initialized y.cls ∈ lw_all ∧ code ∈ lw_all ∧ y.cls ≠ "java/lang/invoke/MethodHandle" ∧ y.cls ≠ "java/lang/invoke/VarHandle" ∧ (parseMethodDescriptor y.desc).map (fun d => d.parameters.length) = some n
def hg_ci_ (y : MethodName) (code : Cond) (n : Nat) : Prop := Cond.instanceMethod y ∈ lw_all ∧ Cond.initialized y.cls ∈ lw_all ∧ code ∈ lw_all ∧ y.name = "<init>" ∧ y.cls ≠ "java/lang/invoke/MethodHandle" ∧ y.cls ≠ "java/lang/invoke/VarHandle" ∧ (parseMethodDescriptor y.desc).map (fun d => d.parameters.length) = some n
def hg_Call (p : Program) (l : Launch) (e : Env) (R : Room) (s : State) (m : MethodId) (args : Array Value) (below : List Frame) (meth : Method) (c : Code) (D : hg_D) (lo : Nat) (C0 : hg_K) (nL : Nat) (G : hg_G) (pc : Nat) (L : List (Option Value)) (st0 rest : List Value) (mc ms : Nat) (Post : hg_Po) : Prop :=
  ∀ (Q : State → Prop) (kr nr : Nat),
    (∀ (r : Option Value) (G' : hg_G), Post (.inl r) G' → (∀ a v, G.1 a = some v → G'.1 a = some v) → hg_W p l e R s m args below meth c Q D lo C0 nL kr nr G' (pc + 3) L (r.toList ++ rest)) →
    (∀ (q : Nat) (E : String) (G' : hg_G), Post (.inr (q, E)) G' → (∀ a v, G.1 a = some v → G'.1 a = some v) → hg_XW p l e R s m args below meth c Q D lo C0 nL kr nr G' pc L rest q E) →
    hg_W p l e R s m args below meth c Q D lo C0 nL (kr + mc) (nr + ms) G pc L st0
section HGC
variable {p : Program} {l : Launch} {e : Env} {R : Room} {s : State} {m : MethodId} {args : Array Value} {below : List Frame} {meth : Method} {c : Code} {D : hg_D} {lo : Nat} {C0 : hg_K} {nL : Nat} {G : hg_G} {own : String} {cc : ByteArray} {pc : Nat} {L : List (Option Value)} {st0 rest : List Value} {Post : hg_Po}
theorem hg_fb {as : List Value} {sz : Nat} : FrameBlind (hg_Pc D lo as G sz) := by
  intro a U g mk h
  obtain ⟨h1, h2, h3, h4, h5⟩ := h
  exact ⟨h1, h2, h3.same rfl, h4.moved (Vm.Alike.refl U.vm), h5⟩
theorem hg_pre {as : List Value} {H : Heap} {locs : List Loc} (X : hg_X p l s m args meth c D lo own cc nL) (hP : hg_P D lo G H) (hS : va_S (hg_A lo C0 s.heap.size) s.heap H locs) (U : State) (hU : U.heap = H) (hW : s.WarmedH U.vm) : hg_Pc D lo as G H.size as.toArray U := by
  refine ⟨rfl, by rw [hU], X.kn.warm hW, ?_, by rw [hU]; exact hP⟩
  rw [hU]
  refine hg_Old.moved hW.alike (X.old.kept fun a h1 h2 => hS.2.1 a h1 fun h => ?_)
  have := h.1
  omega
theorem hg_callOf {mc ms : Nat} (hrun : ∀ (ls : Array Slot) (H : Heap) (locs : List Loc) (k n : Nat), lv_has ls nL (hg_L 0 L) → hg_P D lo G H → va_S (hg_A lo C0 s.heap.size) s.heap H locs → k + mc ≤ R.cells → n + ms ≤ R.slots →
      ∃ a : Array Value, vx_Run p l e R s m args below meth c H locs k n mc ms (F0 m pc ls st0) rest (hg_Qc D lo G H.size Post a) (hg_Xc D lo G H.size Post) (hg_A lo G.1 H.size)) :
    hg_Call p l e R s m args below meth c D lo C0 nL G pc L st0 rest mc ms Post := by
  intro Q kr nr k1 k2 ls H locs k n hl hP hS hE hk hn
  obtain ⟨a, hr⟩ := hrun ls H locs k n hl hP hS (by omega) (by omega)
  have hA : ∀ q : Nat, q < H.size → hg_A lo G.1 H.size q → hg_A lo C0 s.heap.size q := fun q _ h => h.up hE hS.1
  have hf : ∀ q : Nat, hg_A lo G.1 H.size q → hg_A lo C0 s.heap.size q := fun q h => h.up hE hS.1
  intro T hT X0
  rcases hr T hT X0 with ⟨v, st₀, t, T', L9, h0, X', hL, e1, e2, ⟨⟨r, G', hv, hp, hE', hP'⟩, hF⟩, st⟩ | ⟨q, st₀, t, T', L9, E, ce, h0, X', hL, e1, e2, ⟨⟨G', hp, hE', hP'⟩, hF⟩, hce, hcv, hcl, st⟩
  · cases hv
    obtain ⟨j1, j2, j3⟩ := vx_keep h0 e1 hS hA hf hL hF
    rw [← e1] at hP'
    obtain ⟨t2, a1, b1⟩ := k1 _ G' hp hE'.1 ls T'.heap (locs ++ L9) (k + mc) (n + ms) hl hP' j3 (hE.tr hE' hS.1) (by omega) (by omega) T' rfl X'
    exact ⟨t2, st t2 a1, b1⟩
  · obtain ⟨j1, j2, j3⟩ := vx_keep h0 e1 hS hA hf hL hF
    rw [← e1] at hP' hce
    obtain ⟨t2, a1, b1⟩ := k2 q E G' hp hE'.1 ls T'.heap (locs ++ L9) (k + mc) (n + ms) hl hP' j3 (hE.tr hE' hS.1) (by omega) (by omega) ⟨ce, hce, hcv, hcl⟩ T' rfl X'
    exact ⟨t2, st.trans a1, b1⟩
theorem hg_fix (X : hg_X p l s m args meth c D lo own cc nL) : CallFix p m c cc nL s args lw_all own := ⟨X.x, X.b, X.ml, X.o, X.w⟩
def hg_rm (rm R : Room) (maxL : Nat) : Prop := rm.frames + 1 ≤ R.frames ∧ 8 + (maxL + 11) + rm.locals ≤ R.locals
/-- a call through an object of the class that declares the method -/
theorem hc_V {y : MethodName} {bytes : ByteArray} {maxL index n b ci : Nat} {ret : Option FieldType} {rm : Room} {As : List Value} {r : vw_C} {C : String} (X : hg_X p l s m args meth c D lo own cc nL) (d : decode cc pc = .ok (.invokevirtual index, 3)) (hst : st0 = As.reverse ++ .ref b :: rest) (hM : hg_M l D lo y (ws_ y bytes maxL ret) rm (.ref b :: As) G Post)
    (h1 : Cond.methodLink own index y ∈ lw_all) (cf : hg_cv_ y (Cond.code y bytes maxL ret) C n) (hR : hg_rm rm R maxL) (hn : As.length = n) (hrest : (rest.map fun v => v.category).sum ≤ 8) (ha : G.1 b = some (0, ci)) (hc : hg_cl[ci]? = some r) (hrC : r.1 = C) :
    hg_Call p l e R s m args below meth c D lo C0 nL G pc L st0 rest rm.cells rm.slots Post := by
  subst hrC
  obtain ⟨h2, h3, h4, h5, hd⟩ := cf
  refine hg_callOf fun ls H locs k n0 hl hP hS hk hns => ⟨_, vx_runV (As := As) (b := b) (hg_fix X) (hM H.size (Nat.le_trans X.hlo hS.1)) (cwV n X.w (lw_V h1 h2 h3 h4 h5) rfl rfl rfl hd hR) ⟨hg_fb, hg_recv X.kn hP ha hc, fun U hU hW => hg_pre X hP hS U hU hW⟩ rfl hn hl.1 hst (lv_room hrest) d ⟨hk, hns⟩⟩
theorem hc_VX {y : MethodName} {bytes : ByteArray} {maxL index n b ci : Nat} {ret : Option FieldType} {hh : List (Nat × Nat × Nat × Nat)} {rm : Room} {As : List Value} {r : vw_C} {C : String} (X : hg_X p l s m args meth c D lo own cc nL) (d : decode cc pc = .ok (.invokevirtual index, 3)) (hst : st0 = As.reverse ++ .ref b :: rest) (hM : hg_M l D lo y (wsW_ y bytes maxL ret hh) rm (.ref b :: As) G Post)
    (h1 : Cond.methodLink own index y ∈ lw_all) (cf : hg_cv_ y (Cond.codeWith y bytes maxL ret hh) C n) (hR : hg_rm rm R maxL) (hn : As.length = n) (hrest : (rest.map fun v => v.category).sum ≤ 8) (ha : G.1 b = some (0, ci)) (hc : hg_cl[ci]? = some r) (hrC : r.1 = C) :
    hg_Call p l e R s m args below meth c D lo C0 nL G pc L st0 rest rm.cells rm.slots Post := by
  subst hrC
  obtain ⟨h2, h3, h4, h5, hd⟩ := cf
  refine hg_callOf fun ls H locs k n0 hl hP hS hk hns => ⟨_, vx_runVX (As := As) (b := b) (hg_fix X) (hM H.size (Nat.le_trans X.hlo hS.1)) (vx_cwVW n X.w (lw_VW h1 h2 h3 h4 h5) rfl rfl rfl hd hR) ⟨hg_fb, hg_recv X.kn hP ha hc, fun U hU hW => hg_pre X hP hS U hU hW⟩ rfl hn hl.1 hst (lv_room hrest) d ⟨hk, hns⟩⟩
theorem hc_S {y : MethodName} {bytes : ByteArray} {maxL index n : Nat} {ret : Option FieldType} {rm : Room} {As : List Value} (X : hg_X p l s m args meth c D lo own cc nL) (d : decode cc pc = .ok (.invokestatic index, 3)) (hst : st0 = As.reverse ++ rest) (hM : hg_M l D lo y (ws_ y bytes maxL ret) rm As G Post)
    (h1 : Cond.methodLink own index y ∈ lw_all) (cf : hg_cs_ y (Cond.code y bytes maxL ret) n) (hR : hg_rm rm R maxL) (hn : As.length = n) (hrest : (rest.map fun v => v.category).sum ≤ 8) :
    hg_Call p l e R s m args below meth c D lo C0 nL G pc L st0 rest rm.cells rm.slots Post := by
  obtain ⟨h2, h3, h4, hd⟩ := cf
  refine hg_callOf fun ls H locs k n0 hl hP hS hk hns => ⟨_, vx_runS (As := As) (hg_fix X) (hM H.size (Nat.le_trans X.hlo hS.1)) (va_cwS n X.w (lw_S h1 h2 h3 h4) rfl rfl rfl hd hR) ⟨hg_fb, fun U hU hW => hg_pre X hP hS U hU hW⟩ rfl hn hl.1 hst (lv_room hrest) d ⟨hk, hns⟩⟩
theorem hc_SX {y : MethodName} {bytes : ByteArray} {maxL index n : Nat} {ret : Option FieldType} {hh : List (Nat × Nat × Nat × Nat)} {rm : Room} {As : List Value} (X : hg_X p l s m args meth c D lo own cc nL) (d : decode cc pc = .ok (.invokestatic index, 3)) (hst : st0 = As.reverse ++ rest) (hM : hg_M l D lo y (wsW_ y bytes maxL ret hh) rm As G Post)
    (h1 : Cond.methodLink own index y ∈ lw_all) (cf : hg_cs_ y (Cond.codeWith y bytes maxL ret hh) n) (hR : hg_rm rm R maxL) (hn : As.length = n) (hrest : (rest.map fun v => v.category).sum ≤ 8) :
    hg_Call p l e R s m args below meth c D lo C0 nL G pc L st0 rest rm.cells rm.slots Post := by
  obtain ⟨h2, h3, h4, hd⟩ := cf
  refine hg_callOf fun ls H locs k n0 hl hP hS hk hns => ⟨_, vx_runSX (As := As) (hg_fix X) (hM H.size (Nat.le_trans X.hlo hS.1)) (vx_cwSW n X.w (lw_SW h1 h2 h3 h4) rfl rfl rfl hd hR) ⟨hg_fb, fun U hU hW => hg_pre X hP hS U hU hW⟩ rfl hn hl.1 hst (lv_room hrest) d ⟨hk, hns⟩⟩
theorem hc_I {y : MethodName} {bytes : ByteArray} {maxL index n b : Nat} {rm : Room} {As : List Value} (X : hg_X p l s m args meth c D lo own cc nL) (d : decode cc pc = .ok (.invokespecial index, 3)) (hst : st0 = As.reverse ++ .ref b :: rest) (hM : hg_M l D lo y (ws_ y bytes maxL none) rm (.ref b :: As) G Post)
    (h1 : Cond.methodLink own index y ∈ lw_all) (cf : hg_ci_ y (Cond.code y bytes maxL none) n) (hR : hg_rm rm R maxL) (hn : As.length = n) (hrest : (rest.map fun v => v.category).sum ≤ 8) :
    hg_Call p l e R s m args below meth c D lo C0 nL G pc L st0 rest rm.cells rm.slots Post := by
  obtain ⟨h2, h4, h5, hy1, hd⟩ := cf
  refine hg_callOf fun ls H locs k n0 hl hP hS hk hns => ⟨_, vx_runI (As := As) (b := b) (hg_fix X) (hM H.size (Nat.le_trans X.hlo hS.1)) (cwI n X.w (lw_meth h5) rfl rfl rfl (X.w _ h4) (X.w _ h1) (X.w _ h2) hy1 hd hR) ⟨hg_fb, fun U hU hW => hg_pre X hP hS U hU hW⟩ rfl hn hl.1 hst (lv_room hrest) d ⟨hk, hns⟩⟩
/-- through an object of a class known: the method that its class selects (its own, or one above) -/
theorem hc_U {x y : MethodName} {bytes : ByteArray} {maxL index n b ci : Nat} {ret : Option FieldType} {rm : Room} {As : List Value} {r : vw_C} {C owner : String} (X : hg_X p l s m args meth c D lo own cc nL) (d : decode cc pc = .ok (.invokevirtual index, 3)) (hst : st0 = As.reverse ++ .ref b :: rest) (hM : hg_M l D lo y (ws_ y bytes maxL ret) rm (.ref b :: As) G Post)
    (h1 : Cond.methodLink own index x ∈ lw_all) (h2 : Cond.sameMethod x.cls owner x.name x.desc ∈ lw_all) (h3 : Cond.selects C x y ∈ lw_all) (h4 : Cond.instanceMethod y ∈ lw_all) (h6 : Cond.initialized y.cls ∈ lw_all) (h5 : Cond.code y bytes maxL ret ∈ lw_all) (hde : (⟨owner, x.name, x.desc⟩ : MethodName) ∈ hg_ds ∨ ∃ b0 m0 r0, Cond.instanceMethod ⟨owner, x.name, x.desc⟩ ∈ lw_all ∧ Cond.code ⟨owner, x.name, x.desc⟩ b0 m0 r0 ∈ lw_all)
    (hd : owner ≠ "java/lang/invoke/MethodHandle" ∧ owner ≠ "java/lang/invoke/VarHandle" ∧ (parseMethodDescriptor x.desc).map (fun d => d.parameters.length) = some n) (hR : hg_rm rm R maxL) (hn : As.length = n) (hrest : (rest.map fun v => v.category).sum ≤ 8) (ha : G.1 b = some (0, ci)) (hc : hg_cl[ci]? = some r) (hrC : r.1 = C) :
    hg_Call p l e R s m args below meth c D lo C0 nL G pc L st0 rest rm.cells rm.slots Post := by
  subst hrC
  have hG : GoodIn lw_all (ws_ y bytes maxL ret) := lw_meth h5
  have hdecl : va_Decl s ⟨owner, x.name, x.desc⟩ := by
    rcases hde with h | ⟨b0, m0, r0, g1, g2⟩
    · exact va_Decl.abs (X.kn.2.2.2.2.1 _ h)
    · exact va_Decl.of (X.w _ g1) (X.w _ g2)
  have hlen : ∀ sig, parseMethodDescriptor x.desc = some sig → n = sig.parameters.length := by
    intro sig h
    have h2 := hd.2.2
    rw [h] at h2
    exact (Option.some.inj h2).symm
  refine hg_callOf fun ls H locs k n0 hl hP hS hk hns => ⟨_, vx_runU (As := As) (b := b) (hg_fix X) (hM H.size (Nat.le_trans X.hlo hS.1)) ⟨⟨rfl, rfl, hR.1, hR.2, pay_in X.w hG, List.mem_cons_self⟩, X.w _ h5, X.w _ h6, ⟨hd.1, hd.2.1⟩, hlen, X.w _ h1, X.w _ h2, hdecl, X.w _ h3, X.w _ h4⟩ ⟨hg_fb, hg_recv X.kn hP ha hc, fun U hU hW => hg_pre X hP hS U hU hW⟩ rfl hn hl.1 hst (lv_room hrest) d ⟨hk, hns⟩⟩
/-- super.m(..), the class above declaring m -/
theorem hc_SU {y : MethodName} {bytes : ByteArray} {maxL index n b ci : Nat} {ret : Option FieldType} {rm : Room} {As : List Value} {r : vw_C} (X : hg_X p l s m args meth c D lo own cc nL) (d : decode cc pc = .ok (.invokespecial index, 3)) (hst : st0 = As.reverse ++ .ref b :: rest) (hM : hg_M l D lo y (ws_ y bytes maxL ret) rm (.ref b :: As) G Post)
    (h1 : Cond.methodLink own index y ∈ lw_all) (h2 : Cond.sameMethod y.cls y.cls y.name y.desc ∈ lw_all) (h3 : Cond.superclass own y.cls ∈ lw_all) (h4 : Cond.instanceMethod y ∈ lw_all) (h6 : Cond.initialized y.cls ∈ lw_all) (h5 : Cond.code y bytes maxL ret ∈ lw_all)
    (hd : y.name ≠ "<init>" ∧ (parseMethodDescriptor y.desc).map (fun d => d.parameters.length) = some n) (hR : hg_rm rm R maxL) (hn : As.length = n) (hrest : (rest.map fun v => v.category).sum ≤ 8) (ha : G.1 b = some (0, ci)) (hc : hg_cl[ci]? = some r) :
    hg_Call p l e R s m args below meth c D lo C0 nL G pc L st0 rest rm.cells rm.slots Post := by
  have hG : GoodIn lw_all (ws_ y bytes maxL ret) := lw_meth h5
  have hlen : ∀ sig, parseMethodDescriptor y.desc = some sig → n = sig.parameters.length := by
    intro sig h
    have h2 := hd.2
    rw [h] at h2
    exact (Option.some.inj h2).symm
  refine hg_callOf fun ls H locs k n0 hl hP hS hk hns => ⟨_, vx_runSU (As := As) (b := b) (X.kn.1 ci r hc).2 (hg_fix X) (hM H.size (Nat.le_trans X.hlo hS.1)) ⟨⟨rfl, rfl, hR.1, hR.2, pay_in X.w hG, List.mem_cons_self⟩, X.w _ h1, X.w _ h2, X.w _ h3, X.w _ h4, X.w _ h6, X.w _ h5, hd.1, hlen⟩ ⟨hg_fb, hg_recv X.kn hP ha hc, fun U hU hW => hg_pre X hP hS U hU hW⟩ rfl hn hl.1 hst (lv_room hrest) d ⟨hk, hns⟩⟩
/-! what comes of a call, in the walk -/
variable {Q : State → Prop} {kr nr mc ms q : Nat}
theorem hr_call (h : hg_Call p l e R s m args below meth c D lo C0 nL G pc L st0 rest mc ms Post) (hq : pc + 3 = q)
    (k2 : ∀ (qx : Nat) (E : String) (G' : hg_G), Post (.inr (qx, E)) G' → (∀ a v, G.1 a = some v → G'.1 a = some v) → hg_XW p l e R s m args below meth c Q D lo C0 nL kr nr G' pc L rest qx E)
    (k1 : ∀ (r : Option Value) (G' : hg_G), Post (.inl r) G' → (∀ a v, G.1 a = some v → G'.1 a = some v) → hg_W p l e R s m args below meth c Q D lo C0 nL kr nr G' q L (r.toList ++ rest)) :
    hg_W p l e R s m args below meth c Q D lo C0 nL (kr + mc) (nr + ms) G pc L st0 := by
  subst hq
  exact h Q kr nr k1 k2
/-- a method that returns v and changes nothing -/
def hg_Pv (G : hg_G) (v : Value) : hg_Po := fun r G' => r = .inl (some v) ∧ G' = G
theorem hr_callP {v : Value} (h : hg_Call p l e R s m args below meth c D lo C0 nL G pc L st0 rest 0 0 (hg_Pv G v)) (hq : pc + 3 = q)
    (k : hg_W p l e R s m args below meth c Q D lo C0 nL kr nr G q L (v :: rest)) : hg_W p l e R s m args below meth c Q D lo C0 nL kr nr G pc L st0 := by
  subst hq
  exact h Q kr nr (fun r G' hp _ => by cases hp.1; rw [hp.2]; exact k) (fun qx E G' hp _ => by cases hp.1)
/-- room that isn't used -/
theorem hr_room {kr' nr' : Nat} (h1 : kr' ≤ kr) (h2 : nr' ≤ nr) (k : hg_W p l e R s m args below meth c Q D lo C0 nL kr' nr' G pc L st0) : hg_W p l e R s m args below meth c Q D lo C0 nL kr nr G pc L st0 :=
  fun ls H locs k0 n0 hl hP hS hE hk hn => k ls H locs k0 n0 hl hP hS hE (by omega) (by omega)
theorem hx_room {kr' nr' : Nat} {rest : List Value} {qx : Nat} {E : String} (h1 : kr' ≤ kr) (h2 : nr' ≤ nr) (k : hg_XW p l e R s m args below meth c Q D lo C0 nL kr' nr' G pc L rest qx E) : hg_XW p l e R s m args below meth c Q D lo C0 nL kr nr G pc L rest qx E :=
  fun ls H locs k0 n0 hl hP hS hE hk hn => k ls H locs k0 n0 hl hP hS hE (by omega) (by omega)
end HGC
