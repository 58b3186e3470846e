/-! super.m(..) of a class two above -/
section
variable {p : Program} {l : Launch} {e : Env} {R : Room} {s : State} {m : MethodId} {args : Array Value} {below : List Frame} {meth : Method} {c : Code} {H : Heap} {locs : List Loc} {cells slots : Nat}
theorem vx_callSG {T : State} {locs : List Loc} {cells slots : Nat} (X : Stand p l e R s m args below meth c T locs cells slots) (hexec : p.tables.exec = Jvm.exec) {own P : String} {index : Nat} {y : MethodName} {bytes : ByteArray} {maxL : Nat} {ret : Option FieldType}
    (hown : s.vm.findClass own = some m.cls) (hlink : (Cond.methodLink own index ⟨P, y.name, y.desc⟩).before args s = true) (hsame : (Cond.sameMethod P y.cls y.name y.desc).before args s = true) (hsup : (Cond.superclass own P).before args s = true) (hsup2 : (Cond.superclass P y.cls).before args s = true)
    (hinst : (Cond.instanceMethod y).before args s = true) (hcode : (Cond.code y bytes maxL ret).before args s = true) (hno : y.name ≠ "<init>")
    {W : Nat} {Pre : Pt → Array Value → Prop} {Post : Pt → Array Value → Option Value → Pt → Prop} {PostX : Pt → Array Value → Addr → Pt → Prop} (hK : vx_Back l R p e below s args y 3 W Pre Post PostX)
    {b : Addr} {cellB : Cell} {kB : Class} (hcell : T.heap[b]? = some cellB) (hobj : cellB.vm.isStatics = false) (hkB : s.vm.classes[cellB.cls]? = some kB)
    {g : JFrame} (hg : g.method = m) (hsize : g.locals.size = c.maxLocals) {argsL rest : List Value} (hlen : ∀ sig, parseMethodDescriptor y.desc = some sig → argsL.length = sig.parameters.length)
    (hstack : g.stack = argsL.reverse ++ .ref b :: rest) (hW : 2 * g.monitorRoom + (rest.map fun v => v.category).sum ≤ W) (hdg : decode c.code g.pc = .ok (.invokespecial index, 3))
    (hpre : ∀ vm₁, s.WarmedH vm₁ → Pre ⟨T.setVm vm₁, locs, cells, slots⟩ (Value.ref b :: argsL).toArray) :
    (∃ (v : Option Value) (vm₁ : Vm) (B : Pt), s.WarmedH vm₁ ∧ Stand p l e R s m args below meth c B.U B.locs B.cells B.slots ∧ Post ⟨T.setVm vm₁, locs, cells, slots⟩ (Value.ref b :: argsL).toArray v B ∧
      ∀ target, Steps p.tables e below (B.U.setTop { g with pc := g.pc + 3, stack := v.toList ++ rest }) target → Steps p.tables e below (T.setTop g) target) ∨
    (∃ (q : Addr) (vm₁ : Vm) (B : Pt), s.WarmedH vm₁ ∧ Stand p l e R s m args below meth c B.U B.locs B.cells B.slots ∧ PostX ⟨T.setVm vm₁, locs, cells, slots⟩ (Value.ref b :: argsL).toArray q B ∧
      Steps p.tables e below (T.setTop g) ((B.U.setTop { g with stack := rest }).pushFrame (.throwing q))) := by
  obtain ⟨mk, methM, hnamed, hmethM, hstM, habM⟩ := Cond.instanceMethod_spec hinst
  obtain ⟨methM', cM, hmethM', -, -, -, -, -, -, hsigM⟩ := Cond.code_spec hnamed hcode
  cases hmethM.symm.trans hmethM'
  obtain ⟨ps, dk, kp, hps, hdk, hkp, hsuper, -, -, hnid⟩ := Cond.superclass_spec hown hsup
  obtain ⟨ps2, dk2, kp2, hps2, hdk2, hkp2, hsuper2, -, -, -⟩ := Cond.superclass_spec hps hsup2
  have hn : s.methodNamed? ⟨y.cls, y.name, y.desc⟩ = some mk := hnamed
  have hpm : ps2 = mk.cls := Option.some.inj (hps2.symm.trans (findClass_of_methodNamed hnamed))
  have hpos : 0 < s.vm.classes.size := by
    rcases Array.getElem?_eq_some_iff.mp hdk with ⟨h, -⟩
    omega
  have hsub : s.vm.isSubclass ps mk.cls = true := by
    rw [← hpm]
    unfold Vm.isSubclass
    obtain ⟨k, hk⟩ : ∃ k, s.vm.classes.size = k + 1 := ⟨s.vm.classes.size - 1, by omega⟩
    rw [hk]
    simp [Vm.isSubclassAux, hdk2, hsuper2]
  obtain ⟨vm₁, X₁, hstep₁⟩ := X.invokespecialUp hexec hown hlink hsame hn hmethM hstM habM hno hdk hnid hps hsuper hsub (a := b) (cell := cellB) hcell
    (fun z h => by rw [h] at hobj; cases hobj) hkB (g := g) hg (argsL := argsL) (rest := rest) (hlen _ hsigM) hstack hdg
  rcases hK m meth c ⟨T.setVm vm₁, locs, cells, slots⟩ { g with stack := rest } (.invokespecial index) mk (Value.ref b :: argsL).toArray X₁ hg hsize hdg hW (X₁.named hnamed) (hpre vm₁ X₁.warmed) with ⟨v, B, X', hpost, hsteps⟩ | ⟨q, B, X', hpost, hsteps⟩
  · exact Or.inl ⟨v, vm₁, B, X₁.warmed, X', hpost, fun target h => hstep₁ _ (by rw [doInvoke_state]; exact hsteps.trans h)⟩
  · exact Or.inr ⟨q, vm₁, B, X₁.warmed, X', hpost, hstep₁ _ (by rw [doInvoke_state]; exact hsteps)⟩
theorem vx_runSG {y : MethodName} {bytes cc : ByteArray} {maxL nL mc ms n index : Nat} {ret : Option FieldType} {ws : List Cond} {rm : Room} {Pc : Array Value → State → Prop} {Qc : Array Value → State → Outcome → State → Prop} {XC : Addr → String → State → State → Prop} {free : Addr → Prop} {Ts : List Cond} {own P C : String} {cC : ClassId} {b : Addr} {As rest : List Value} {g : JFrame}
    (hat : ClassAt s C cC) (S : CallFix p m c cc nL s args Ts own) (hM : vx_Met l y ws rm Pc Qc XC mc ms free)
    (hback : rm.cells = mc ∧ rm.slots = ms ∧ rm.frames + 1 ≤ R.frames ∧ 8 + (maxL + 11) + rm.locals ≤ R.locals ∧ (∀ (w : Cond), w ∈ ws → ∀ (a' : Array Value) (U : State), s.WarmedH U.vm → w.before a' U = true) ∧ Cond.code y bytes maxL ret ∈ ws) (hl1 : (Cond.methodLink own index ⟨P, y.name, y.desc⟩).before args s = true) (hl2 : (Cond.sameMethod P y.cls y.name y.desc).before args s = true) (hl3 : (Cond.superclass own P).before args s = true) (hl4 : (Cond.superclass P y.cls).before args s = true) (hl5 : (Cond.instanceMethod y).before args s = true) (hini : (Cond.initialized y.cls).before args s = true) (hcode : (Cond.code y bytes maxL ret).before args s = true) (hno : y.name ≠ "<init>") (hlen : ∀ sig, parseMethodDescriptor y.desc = some sig → n = sig.parameters.length) (hp : PreV s H C b Pc As)
    (hg : g.method = m) (hn : As.length = n) (hsize : g.locals.size = nL) (hstack : g.stack = As.reverse ++ .ref b :: rest) (hW : 2 * g.monitorRoom + (rest.map fun v => v.category).sum ≤ 8) (hdg : decode cc g.pc = .ok (.invokespecial index, 3)) (hf : cells + mc ≤ R.cells ∧ slots + ms ≤ R.slots) :
    vx_Run p l e R s m args below meth c H locs cells slots mc ms g rest (Qc (Value.ref b :: As).toArray) XC free := by
  obtain ⟨hrc, hrs, hfr, hlo, hws, hcw⟩ := hback
  have hK : vx_Back l R p e below s args y 3 8 (PreOf R mc ms Pc) (PostOf Qc mc ms free) (vx_Post XC mc ms free) := vx_back (bytes := bytes) (maxL := maxL) (ret := ret) hM hp.1 hrc hrs hfr hlo hws hcw (fun a' U hW => word_at hW (Or.inl (by first | rfl | simp [Cond.onTables, Cond.keeps, Cond.steady])) hini)
  obtain ⟨hx, hb, hml, ho, -⟩ := S
  obtain ⟨-, ⟨cellB, hcB, hoB, hclB⟩, hPc⟩ := hp
  obtain ⟨hfc, kB, hkB, -⟩ := hat
  cases hfc.symm.trans hclB
  intro T hT X
  rcases vx_callSG X hx (bytes := bytes) (maxL := maxL) (ret := ret) ho hl1 hl2 hl3 hl4 hl5 hcode hno hK (by rw [hT]; exact hcB) hoB hkB hg (hsize.trans hml.symm) (argsL := As) (rest := rest) (fun sig h => hn.trans (hlen sig h)) hstack hW (by rw [hb]; exact hdg)
    (fun vm₁ hW₁ => ⟨hf.1, hf.2, hPc (T.setVm vm₁) hT hW₁⟩) with ⟨v, vm₁, ⟨U', l2, c2, s2⟩, hW₁, X', ⟨g', mk, t, L, e1, e2, hq, h1, hL, h2, h3⟩, st⟩ | ⟨q, vm₁, ⟨U', l2, c2, s2⟩, hW₁, X', ⟨g', mk, t, L, E, ce, e1, e2, hq, hce, hcv, hcl, h1, hL, h2, h3⟩, st⟩
  · dsimp only [Pt.U, Pt.locs, Pt.cells, Pt.slots] at X' e1 e2 h1 h2 h3 st
    subst h1; subst h2; subst h3
    exact Or.inl ⟨v, (T.setVm vm₁).calling g' mk (Value.ref b :: As).toArray, t, U', L, hT, X', hL, e1, e2, hq, st⟩
  · dsimp only [Pt.U, Pt.locs, Pt.cells, Pt.slots] at X' e1 e2 h1 h2 h3 st hcl
    subst h1; subst h2; subst h3
    exact Or.inr ⟨q, (T.setVm vm₁).calling g' mk (Value.ref b :: As).toArray, t, U', L, E, ce, hT, X', hL, e1, e2, hq, hce, hcv, vx_cls hW₁ hcl, st⟩
end
section HGG
variable {p : Program} {l : Launch} {e : Env} {R : Room} {s : State} {m : MethodId} {args : Array Value} {below : List Frame} {meth : Method} {c : Code} {D : hg_D} {lo : Nat} {C0 : hg_K} {nL : Nat} {G : hg_G} {own : String} {cc : ByteArray} {pc : Nat} {L : List (Option Value)} {st0 rest : List Value} {Post : hg_Po}
theorem hc_SG {y : MethodName} {bytes : ByteArray} {maxL index n b ci : Nat} {ret : Option FieldType} {rm : Room} {As : List Value} {r : vw_C} {P : String} (X : hg_X p l s m args meth c D lo own cc nL) (d : decode cc pc = .ok (.invokespecial index, 3)) (hst : st0 = As.reverse ++ .ref b :: rest) (hM : hg_M l D lo y (ws_ y bytes maxL ret) rm (.ref b :: As) G Post)
    (h1 : Cond.methodLink own index ⟨P, y.name, y.desc⟩ ∈ lw_all) (h2 : Cond.sameMethod P y.cls y.name y.desc ∈ lw_all) (h3 : Cond.superclass own P ∈ lw_all) (h3' : Cond.superclass P y.cls ∈ lw_all) (h4 : Cond.instanceMethod y ∈ lw_all) (h6 : Cond.initialized y.cls ∈ lw_all) (h5 : Cond.code y bytes maxL ret ∈ lw_all)
    (hd : y.name ≠ "<init>" ∧ (parseMethodDescriptor y.desc).map (fun d => d.parameters.length) = some n) (hR : hg_rm rm R maxL) (hn : As.length = n) (hrest : (rest.map fun v => v.category).sum ≤ 8) (ha : G.1 b = some (0, ci)) (hc : hg_cl[ci]? = some r) :
    hg_Call p l e R s m args below meth c D lo C0 nL G pc L st0 rest rm.cells rm.slots Post := by
  have hG : GoodIn lw_all (ws_ y bytes maxL ret) := lw_meth h5
  have hlen : ∀ sig, parseMethodDescriptor y.desc = some sig → n = sig.parameters.length := by
    intro sig h
    have h2 := hd.2
    rw [h] at h2
    exact (Option.some.inj h2).symm
  refine hg_callOf fun ls H locs k n0 hl hP hS hk hns => ⟨_, vx_runSG (As := As) (b := b) (X.kn.1 ci r hc).2 (hg_fix X) (hM H.size (Nat.le_trans X.hlo hS.1)) ⟨rfl, rfl, hR.1, hR.2, pay_in X.w hG, List.mem_cons_self⟩ (X.w _ h1) (X.w _ h2) (X.w _ h3) (X.w _ h3') (X.w _ h4) (X.w _ h6) (X.w _ h5) hd.1 hlen ⟨hg_fb, hg_recv X.kn hP ha hc, fun U hU hW => hg_pre X hP hS U hU hW⟩ rfl hn hl.1 hst (lv_room hrest) d ⟨hk, hns⟩⟩
end HGG
/-! a body of a class that has entries, of a member that has none -/
theorem vx_ofWF {l : Launch} {y : MethodName} {ws ws' : List Cond} {rm : Room} {Pc : Array Value → State → Prop} {Qc : Array Value → State → Outcome → State → Prop} {XC : Addr → String → State → State → Prop} {mc ms : Nat} {free : Addr → Prop} {cc : ByteArray} {maxL : Nat} {ret : Option FieldType}
    (hy : plainFor y = true) (hw : ws = Cond.code y cc maxL ret :: ws')
    (body : ∀ p e s m args below meth c s₁, BodyLoose p l y (headSpec ws rm) cc maxL ret e s m args below meth c s₁ → c.maxLocals = maxL → (∀ x ∈ c.exceptionTable.toList, False) → Pc args s →
      W p l e (headSpec ws rm).room s m args below meth c s.heap [] 0 0 (vx_MQ below Qc XC args s mc ms free) (entryFrame m args maxL)) : vx_Met l y ws rm Pc Qc XC mc ms free := by
  refine MetFree.of_bodySF (code := cc) (maxLocals := maxL) (ret := ret) hy ?_ ?_
  · intro args s m h hn
    obtain ⟨meth, c, h1, h2, h3, h4, h5, h6, -, -⟩ := Cond.code_spec hn (atoms_spec (ws := ws) h _ (by rw [hw]; exact List.mem_cons_self))
    exact ⟨meth, c, h1, h2, h3, h4, h5, h6⟩
  · intro p e s m args below meth c s₁ B hml hP _
    have hh0 : s₁.heap = s.heap := by rw [B.state]; rfl
    have ht : ∀ x ∈ c.exceptionTable.toList, False := by
      obtain ⟨meth9, c9, h1, h2, -, -, -, -, h7, -⟩ := Cond.code_spec B.named (atoms_spec (ws := ws) B.pre _ (by rw [hw]; exact List.mem_cons_self))
      cases Option.some.inj (h1.symm.trans B.method)
      cases Option.some.inj (h2.symm.trans (Stand.of_body B).code)
      intro x hx
      rw [Array.isEmpty_iff.mp h7] at hx
      cases hx
    obtain ⟨t, a1, o, b1, b2, b3⟩ := body p e s m args below meth c s₁ B hml ht hP s₁ hh0 (Stand.of_body B)
    exact ⟨t, o, a1, b1, b2, b3⟩
theorem hg_M.ofF {l : Launch} (htr : l.stackTraces = false) {D : hg_D} {lo : Nat} {y : MethodName} {rm : Room} {as : List Value} {G : hg_G} {Post : hg_Po} {cc : ByteArray} {nL : Nat} {ret : Option FieldType} (hy : plainFor y = true) (L0 : List (Option Value)) (hL : hg_L 0 L0 = lv_args 0 as) (hn : (lg_sl as).length ≤ nL)
    (body : ∀ (p : Program) (e : Env) (s : State) (m : MethodId) (args : Array Value) (below : List Frame) (meth : Method) (c : Code), hg_X p l s m args meth c D lo y.cls cc nL → meth.sig.returnType = ret → meth.name = y.name → (∀ x ∈ c.exceptionTable.toList, False) →
      hg_W p l e rm s m args below meth c (hg_Q below D lo args s rm G Post) D lo G.1 nL rm.cells rm.slots G 0 L0 []) : hg_M l D lo y (ws_ y cc nL ret) rm as G Post := by
  intro sz hsz
  refine vx_ofWF (cc := cc) (maxL := nL) (ret := ret) hy rfl ?_
  intro p e s m args below meth c s₁ B hml hemp hv
  obtain ⟨ha, rfl, hK, hO, hP⟩ := hv
  have hts := atoms_spec (ws := ws_ y cc nL ret) B.pre
  refine hg_start (rm := rm) L0 hL hn ha hP ?_
  exact body p e s m args below meth c ⟨B.exec, B.bytes, hml, findClass_of_methodNamed B.named, fun w h => hts w (List.mem_cons_of_mem _ h), B.notSynchronized, hK, hO, hsz, htr⟩ B.returns (name_of_methodNamed B.named B.method).1 hemp
/-! longs as bits -/
theorem lN_tn {n : Nat} (h : n < 2 ^ 64) : (lN n).toBitVec.toNat = n := Nat.mod_eq_of_lt h
theorem lN_shrB {W : Nat} (h : W < 2 ^ 63) (s : Int64) (k : Nat) (hs : (s.toBitVec.smod 64).toNat = k) : lN W >>> s = lN (W / 2 ^ k) := by
  apply Int64.toInt_inj.mp
  have h2 : W / 2 ^ k ≤ W := Nat.div_le_self _ _
  have e : (lN W >>> s).toInt = (lN W).toInt >>> k := by
    show ((lN W).toBitVec.sshiftRight (s.toBitVec.smod 64).toNat).toInt = _
    rw [hs, BitVec.toInt_sshiftRight]
    rfl
  rw [e, pk_lT h, pk_lT (by omega), Int.shiftRight_eq_div_pow]
  rfl
theorem lN_shr {W c : Nat} (h : W < 2 ^ 63) (hc : c < 36) : lN W >>> ((nI c).toInt64 &&& 63) = lN (W / 2 ^ c) := by
  refine lN_shrB h _ c ?_
  revert c
  decide +kernel
theorem lN_shl {c : Nat} (hc : c < 36) : lN 1 <<< ((nI c).toInt64 &&& 63) = lN (2 ^ c) := by
  revert c
  decide +kernel
theorem lN_and1 {n : Nat} (h : n < 2 ^ 63) : lN n &&& lN 1 = lN (n % 2) := by
  apply Int64.toBitVec_inj.mp
  apply BitVec.eq_of_toNat_eq
  rw [Int64.toBitVec_and, BitVec.toNat_and, lN_tn (by omega), lN_tn (by decide), lN_tn (by omega)]
  exact Nat.and_two_pow_sub_one_eq_mod n 1
theorem lN_cmp0 {b : Nat} (h : b ≤ 1) : lg_cmp (lN b) (lN 0) = nI b := by
  have : b = 0 ∨ b = 1 := by omega
  rcases this with rfl | rfl <;> decide
/-! sets of squares in one long -/
def sp_pk (f : Nat → Nat) (n : Nat) : Nat := sp_sum (fun c => f c * 2 ^ c) n
theorem sp_pk_lt {f : Nat → Nat} : ∀ n, (∀ c, c < n → f c ≤ 1) → sp_pk f n < 2 ^ n
  | 0, _ => by show 0 < 1; decide
  | n + 1, h => by
    have h1 := sp_pk_lt n (fun c hc => h c (by omega))
    have h2 := h n (Nat.lt_succ_self n)
    have h3 : f n * 2 ^ n ≤ 1 * 2 ^ n := Nat.mul_le_mul_right _ h2
    show sp_pk f n + f n * 2 ^ n < 2 ^ (n + 1)
    rw [Nat.pow_succ]
    omega
theorem sp_pk_bit {f : Nat → Nat} : ∀ n, (∀ c, c < n → f c ≤ 1) → ∀ c, c < n → sp_pk f n / 2 ^ c % 2 = f c
  | 0, _, c, hc => absurd hc (Nat.not_lt_zero c)
  | n + 1, h, c, hc => by
    have h1 := sp_pk_lt n (fun c hc => h c (by omega))
    have h2 := h n (Nat.lt_succ_self n)
    show (sp_pk f n + f n * 2 ^ n) / 2 ^ c % 2 = f c
    by_cases e : c = n
    · subst e
      rw [Nat.add_mul_div_right _ _ (Nat.two_pow_pos c), Nat.div_eq_of_lt h1]
      omega
    · have h3 := sp_pk_bit n (fun c hc => h c (by omega)) c (by omega)
      obtain ⟨k, rfl⟩ : ∃ k, n = c + (k + 1) := ⟨n - c - 1, by omega⟩
      rw [show f (c + (k + 1)) * 2 ^ (c + (k + 1)) = (f (c + (k + 1)) * 2 ^ k * 2) * 2 ^ c by rw [Nat.pow_add, Nat.pow_succ]; simp [Nat.mul_comm, Nat.mul_left_comm, Nat.mul_assoc], Nat.add_mul_div_right _ _ (Nat.two_pow_pos c)]
      omega
theorem sp_pk_ext {f g : Nat → Nat} : ∀ n, (∀ c, c < n → f c = g c) → sp_pk f n = sp_pk g n
  | 0, _ => rfl
  | n + 1, h => by
    show sp_pk f n + f n * 2 ^ n = sp_pk g n + g n * 2 ^ n
    rw [sp_pk_ext n (fun c hc => h c (by omega)), h n (Nat.lt_succ_self n)]
