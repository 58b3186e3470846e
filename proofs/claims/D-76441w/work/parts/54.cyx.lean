/-! System.arraycopy out of range -/
section HCYX
variable {p : Program} {l : Launch} {e : Env} {R : Room} {s : State} {m : MethodId} {args : Array Value} {below : List Frame} {meth : Method} {c : Code} {Q : State → Prop} {D : hg_D} {lo : Nat} {C0 : hg_K} {nL kr nr : Nat} {G : hg_G} {own : String} {cc : ByteArray} {pc q : Nat} {L : List (Option Value)} {st : List Value}
theorem hg_copyOut {T : State} {locs : List Loc} {cells slots : Nat} (X : Stand p l e R s m args below meth c T locs cells slots) (hexec : p.tables.exec = Jvm.exec) (htr : e.platform.stackTraces = false) {own : String} {index : Nat} (hown : s.vm.findClass own = some m.cls)
    (hlink : (Cond.methodLink own index arraycopyName).before args s = true) (hnat : (Cond.native arraycopyName).before args s = true) (hstat : (Cond.static arraycopyName).before args s = true)
    (hinit : (Cond.initialized "java/lang/System").before args s = true)
    {src dst : Addr} {srcPos destPos n : Int32} {cs cd : Cell} {ks kd : Class} {sComp dComp : ClassId} {sType dType : FieldType} {what : String}
    (hs : T.heap[src]? = some cs) (hd : T.heap[dst]? = some cd) (hsobj : ∀ k, cs.vm ≠ .statics k) (hdobj : ∀ k, cd.vm ≠ .statics k)
    (hks : s.vm.classes[cs.cls]? = some ks) (hkd : s.vm.classes[cd.cls]? = some kd) (hsk : ks.kind = .array sComp sType) (hdk : kd.kind = .array dComp dType)
    (hty : ((refKind sType != refKind dType) || (!refKind sType && sType != dType)) = false)
    (hf : copyFault sType dType cs.slots.size cd.slots.size srcPos destPos n = some what)
    {names : List String} (hcls : Bundle.fit "java/lang/ArrayIndexOutOfBoundsException" = true) (hnames : ∀ n ∈ names, Bundle.fit n = true)
    (h : ∀ a ∈ Bundle.messageArmAtoms "java/lang/ArrayIndexOutOfBoundsException" names, a.before args s = true)
    (hlocs : ∀ x ∈ locs, ∀ cell, s.heap[x.base]? = some cell → cell.vm.isStatics = false)
    (htext : (("arraycopy: " ++ what) == notModelled) = false) (hlimit : ¬ (stringBytes (stringToUtf16 ("arraycopy: " ++ what))).size > e.platform.arrayLengthLimit) (hheap : ¬ (stringBytes (stringToUtf16 ("arraycopy: " ++ what))).size * componentBytes .byte > e.platform.maxHeapBytes)
    {g : JFrame} (hg : g.method = m) (hsize : g.locals.size = c.maxLocals) {rest : List Value} (hstack : g.stack = .int n :: .int destPos :: .ref dst :: .int srcPos :: .ref src :: rest)
    (hdg : decode c.code g.pc = .ok (.invokestatic index, 3))
    (hRframes : names.length + 5 < R.frames) (hRlocals : 2 * g.monitorRoom + (rest.map fun v => v.category).sum + 10240 ≤ R.locals) (hshort : 13 * names.length + 55 ≤ 10240)
    (hRcells : cells + 3 ≤ R.cells) (hRslots : slots + ((stringBytes (stringToUtf16 ("arraycopy: " ++ what))).size + 4 + 6) ≤ R.slots) (hlocks : meth.locks = false) :
    ∃ (S : State) (q : Addr) (ce : Cell), Stand p l e R s m args below meth c S locs (cells + 3) (slots + ((stringBytes (stringToUtf16 ("arraycopy: " ++ what))).size + 4 + 6)) ∧
      (∀ target, Steps p.tables e below ((S.setTop { g with stack := rest }).pushFrame (.throwing q)) target → Steps p.tables e below (T.setTop g) target) ∧
      S.heap[q]? = some ce ∧ s.vm.findClass "java/lang/ArrayIndexOutOfBoundsException" = some ce.cls ∧ ce.vm = .none ∧ ∀ a0, a0 < T.heap.size → S.heap[a0]? = T.heap[a0]? := by
  obtain ⟨r, kS, methS, hnS, hmS, hkS, N⟩ := NativeOf.of_static hnat hstat (ps := [.object "java/lang/Object", .int, .object "java/lang/Object", .int, .int]) (ret := none) (by decide +kernel)
  have hinitS : kS.init = .initialized := Cond.initialized_spec (findClass_of_methodNamed hnS) hkS hinit
  obtain ⟨vm', X', step⟩ := X.invokestatic hexec hown hlink hnS hmS N.static hkS hinitS (by decide) hg (argsL := [.ref src, .int srcPos, .ref dst, .int destPos, .int n]) (rest := rest) (by rw [N.sig]; rfl) hstack hdg
  obtain ⟨S, q, ce, hst, XS, h1, h2, h3, hk⟩ := vx_vmNat X' hexec htr (cls := "java/lang/ArrayIndexOutOfBoundsException") (names := names) (text := "arraycopy: " ++ what) hcls hnames (by decide) (by decide) h hlocs htext hlimit hheap
    (nf := { method := r, args := #[.ref src, .int srcPos, .ref dst, .int destPos, .int n], locked := none }) rfl (g := { g with stack := rest }) hg hsize hRframes hRlocals hshort hRcells hRslots hlocks
  refine ⟨S, q, ce, XS, fun target hrest => step target fun acts => ?_, h1, h2, h3, hk⟩
  subst hg
  have hA' : s.vm.Alike vm' := X'.warmed.alike
  obtain ⟨kS', N'⟩ := N.alike hA'
  obtain ⟨ks', hks', hes⟩ := hA'.2.2 _ _ hks
  obtain ⟨kd', hkd', hed⟩ := hA'.2.2 _ _ hkd
  have hseen : seenByNative methS #[.ref src, .int srcPos, .ref dst, .int destPos, .int n] = #[.ref src, .int srcPos, .ref dst, .int destPos, .int n] := by
    simp [seenByNative, N.static, N.sig, narrow]
  obtain ⟨g₀, hfr⟩ := X'.frames_eq
  obtain ⟨g₁, hfrB⟩ := XS.frames_eq
  have hU : ((T.setVm vm').setTop { g with stack := rest }).pushFrame (.native { method := r, args := #[.ref src, .int srcPos, .ref dst, .int destPos, .int n], locked := none }) = (T.setVm vm').setFrames (.native { method := r, args := #[.ref src, .int srcPos, .ref dst, .int destPos, .int n], locked := none } :: .java { g with stack := rest } :: below) := by
    rw [State.pushFrame, State.frames_setTop _ hfr, State.setTop_of_frames _ hfr, State.setFrames_setFrames]
  have hcurT : (T.setVm vm').cur < (T.setVm vm').threads.size := State.cur_lt_of_frames hfr
  have hn9 : nativeFrameWords "java/lang/System" "arraycopy" 5 + 11 ≤ 10240 := by decide
  have hroom9 : 2 * g.monitorRoom + (rest.map fun v => v.category).sum + (nativeFrameWords "java/lang/System" "arraycopy" 5 + 11) ≤ R.locals := by omega
  refine Steps.nativeThrowsNote (g := { g with stack := rest }) (row := arraycopyRow) (cls := "java/lang/ArrayIndexOutOfBoundsException") (msg := some ("arraycopy: " ++ what)) (T := id) X'.here acts N'.cls N'.meth N'.boot N'.native N'.noCode N'.noLock
    (by rw [N'.className, N'.name, N'.desc]; exact arraycopy_row p)
    (by rw [N'.className, N'.name]; exact X'.notFull (g := { g with stack := rest }) hsize (vars := nativeFrameWords "java/lang/System" "arraycopy" 5) (by omega) hroom9) ?_ ?_
  · intro E hE
    rw [hU, hseen] at *
    rw [arraycopyRow_sem]
    exact W.arraycopy_bounds (cs := cs) (cd := cd) (ks := ks') (kd := kd') (sComp := sComp) (dComp := dComp) (sType := sType) (dType := dType) hs hd hsobj hdobj hks' hkd' (by rw [hes]; exact hsk) (by rw [hed]; exact hdk) hty hf (hE _)
  · rw [hseen, hU]
    show Steps p.tables e below (((T.setVm vm').setFrames _).pushFrame _) target
    rw [State.pushFrame, State.frames_setFrames _ hcurT, State.setFrames_setFrames]
    refine hst.trans ?_
    refine Steps.throwingLeavesNative ⟨XS.here.running, XS.here.runnable, XS.here.alone⟩ (State.cur_lt_of_frames hfrB) ⟨[.java { g with stack := rest }], rfl⟩ rfl rfl ?_
    have hV : (S.setTop { g with stack := rest }).pushFrame (.throwing q) = S.setFrames (.throwing q :: .java { g with stack := rest } :: below) := by
      rw [State.pushFrame, State.frames_setTop _ hfrB, State.setTop_of_frames _ hfrB, State.setFrames_setFrames]
    rw [← hV]
    exact hrest
theorem hg_kn (t : Nat) (h : t < 4) : (Native.java_lang_System.arraycopy.kindName (hg_ty t)).toList.length ≤ 20 := match t, h with | 0, _ => by decide | 1, _ => by decide | 2, _ => by decide | 3, _ => by decide
theorem hg_int_print {i : Int} (h0 : 0 ≤ i) (h : i < 10 ^ 10) : (toString i).toList.length ≤ 10 := by
  obtain ⟨k, rfl⟩ := Int.eq_ofNat_of_zero_le h0
  have e : toString (k : Int) = toString k := rfl
  rw [e]
  exact nat_print (by omega)
theorem hg_cfText {ty : FieldType} {n0 n1 : Nat} {sp dp n : Int32} {what : String} (hk : (Native.java_lang_System.arraycopy.kindName ty).toList.length ≤ 20) (h0 : n0 < 10 ^ 9) (h1 : n1 < 10 ^ 9) (h : copyFault ty ty n0 n1 sp dp n = some what) : what.toList.length ≤ 110 := by
  have q0 := nat_print (n := n0) (by omega)
  have q1 := nat_print (n := n1) (by omega)
  have p1 := int32_print sp
  have p2 := int32_print dp
  have p3 := int32_print n
  have m1 : ∀ v : Int32, v.toInt ≤ 2147483647 := fun v => Int32.toInt_le v
  have x1 := m1 sp; have x2 := m1 dp; have x3 := m1 n
  have a1 : (toString "source index ").toList.length = 13 := by decide
  have a2 : (toString " out of bounds for ").toList.length = 19 := by decide
  have a3 : (toString "[").toList.length = 1 := by decide
  have a4 : (toString "]").toList.length = 1 := by decide
  have a5 : (toString "destination index ").toList.length = 18 := by decide
  have a6 : (toString "length ").toList.length = 7 := by decide
  have a7 : (toString " is negative").toList.length = 12 := by decide
  have a8 : (toString "last source index ").toList.length = 18 := by decide
  have a9 : (toString "last destination index ").toList.length = 23 := by decide
  have b1 : ∀ x : String, toString x = x := fun _ => rfl
  unfold copyFault at h
  split at h
  · cases h
    show (toString "source index " ++ toString sp ++ toString " out of bounds for " ++ toString (toString (Native.java_lang_System.arraycopy.kindName ty) ++ toString "[" ++ toString n0 ++ toString "]")).toList.length ≤ _
    simp only [b1, String.toList_append, List.length_append] at *
    omega
  · split at h
    · cases h
      show (toString "destination index " ++ toString dp ++ toString " out of bounds for " ++ toString (toString (Native.java_lang_System.arraycopy.kindName ty) ++ toString "[" ++ toString n1 ++ toString "]")).toList.length ≤ _
      simp only [b1, String.toList_append, List.length_append] at *
      omega
    · split at h
      · cases h
        show (toString "length " ++ toString n ++ toString " is negative").toList.length ≤ _
        simp only [b1, String.toList_append, List.length_append] at *
        omega
      · next g1 g2 g3 =>
        have y1 : 0 ≤ sp.toInt := by have := (Int32.not_lt.mp g1); have := Int32.le_iff_toInt_le.mp this; simpa using this
        have y2 : 0 ≤ dp.toInt := by have := (Int32.not_lt.mp g2); have := Int32.le_iff_toInt_le.mp this; simpa using this
        have y3 : 0 ≤ n.toInt := by have := (Int32.not_lt.mp g3); have := Int32.le_iff_toInt_le.mp this; simpa using this
        split at h
        · cases h
          have z1 := hg_int_print (i := sp.toInt + n.toInt) (by omega) (by omega)
          show (toString "last source index " ++ toString (sp.toInt + n.toInt) ++ toString " out of bounds for " ++ toString (toString (Native.java_lang_System.arraycopy.kindName ty) ++ toString "[" ++ toString n0 ++ toString "]")).toList.length ≤ _
          simp only [b1, String.toList_append, List.length_append] at *
          omega
        · split at h
          · cases h
            have z1 := hg_int_print (i := dp.toInt + n.toInt) (by omega) (by omega)
            show (toString "last destination index " ++ toString (dp.toInt + n.toInt) ++ toString " out of bounds for " ++ toString (toString (Native.java_lang_System.arraycopy.kindName ty) ++ toString "[" ++ toString n1 ++ toString "]")).toList.length ≤ _
            simp only [b1, String.toList_append, List.length_append] at *
            omega
          · cases h
theorem hg_cfSome {ty : FieldType} {n0 n1 : Nat} {sp dp n : Int32} (h : sp < 0 ∨ dp < 0 ∨ n < 0 ∨ (n0 : Int) < sp.toInt + n.toInt ∨ (n1 : Int) < dp.toInt + n.toInt) : ∃ what, copyFault ty ty n0 n1 sp dp n = some what := by
  unfold copyFault
  by_cases e1 : sp < 0
  · exact ⟨_, if_pos e1⟩
  · rw [if_neg e1]
    by_cases e2 : dp < 0
    · exact ⟨_, if_pos e2⟩
    · rw [if_neg e2]
      by_cases e3 : n < 0
      · exact ⟨_, if_pos e3⟩
      · rw [if_neg e3]
        by_cases e4 : sp.toInt + n.toInt > n0
        · exact ⟨_, if_pos e4⟩
        · rw [if_neg e4]
          by_cases e5 : dp.toInt + n.toInt > n1
          · exact ⟨_, if_pos e5⟩
          · exfalso
            rcases h with h | h | h | h | h
            · exact e1 h
            · exact e2 h
            · exact e3 h
            · omega
            · omega
theorem hg_cfMod (what : String) : (("arraycopy: " ++ what) == notModelled) = false := by
  rw [beq_eq_false_iff_ne]
  intro h
  have h2 := congrArg String.toList h
  have h3 : ("arraycopy: " ++ what).toList = 'a' :: ("rraycopy: ".toList ++ what.toList) := by
    rw [String.toList_append]
    rfl
  rw [h3] at h2
  have h4 : notModelled.toList = '\u0000' :: " a message that is not modelled".toList := by decide
  rw [h4] at h2
  simp at h2
theorem hr_copyX {t n0 n1 a b ix : Nat} {sp dp n : Int32} (X : hg_X p l s m args meth c D lo own cc nL) (d : decode cc pc = .ok (.invokestatic ix, 3)) (hlink : Cond.methodLink own ix arraycopyName ∈ lw_all)
    (hnat : Cond.native arraycopyName ∈ lw_all) (hstat : Cond.static arraycopyName ∈ lw_all) (hini : Cond.initialized "java/lang/System" ∈ lw_all) (ht : t < 4) (ha : G.1 a = some (t + 1, n0)) (hb : G.1 b = some (t + 1, n1)) (h0 : n0 ≤ 1000) (h1 : n1 ≤ 1000)
    (hbad : sp < 0 ∨ dp < 0 ∨ n < 0 ∨ (n0 : Int) < sp.toInt + n.toInt ∨ (n1 : Int) < dp.toInt + n.toInt) (hRf : 8 < R.frames) (hRl : (st.map fun v => v.category).sum + 10240 ≤ R.locals)
    (k : ∀ q9, hg_XW p l e R s m args below meth c Q D lo C0 nL kr nr G pc L st q9 "java/lang/ArrayIndexOutOfBoundsException") : hg_W p l e R s m args below meth c Q D lo C0 nL (kr + 3) (nr + 510) G pc L (.int n :: .int dp :: .ref b :: .int sp :: .ref a :: st) := by
  intro ls H locs k0 m0 hl hP hS hE hk hn T hT X1
  obtain ⟨what, hf⟩ := hg_cfSome (ty := hg_ty t) (n0 := n0) (n1 := n1) hbad
  have hlen := hg_cfText (hg_kn t ht) (by omega) (by omega) hf
  have hsz : (stringBytes (stringToUtf16 ("arraycopy: " ++ what))).size ≤ 500 := by
    have c1 := stringBytes_size_le (stringToUtf16 ("arraycopy: " ++ what))
    have c2 := utf16_size_le ("arraycopy: " ++ what)
    have c3 : ("arraycopy: " ++ what).toList.length ≤ 121 := by
      rw [String.toList_append, List.length_append]
      have : "arraycopy: ".toList.length = 11 := by decide
      omega
    omega
  have hA := hg_arr (t := t) hP ha
  have hB := hg_arr (t := t) hP hb
  obtain ⟨-, k0', hk0', cm0, hkk0⟩ := (X.kn.2.1 t (by omega)).1 n0 (hg_vA G t a)
  obtain ⟨-, k1', hk1', cm1, hkk1⟩ := (X.kn.2.1 t (by omega)).1 n1 (hg_vA G t b)
  have htr : e.platform.stackTraces = false := (show e.platform.stackTraces = l.stackTraces by rw [X1.admits.platform]).trans X.tr
  obtain ⟨N5, hN5⟩ : ∃ N : Nat, N = 510 := ⟨_, rfl⟩
  have rk : k0 + 3 ≤ R.cells := by omega
  have rn : m0 + N5 ≤ R.slots := by omega
  have Y := vx_rebase X1 (R' := { frames := R.frames, locals := R.locals, cells := 3, slots := N5 }) (Nat.le_refl _) (Nat.le_refl _) rk rn
  have hhp : ((T.setVm s.vm).setFrames (.invoking m args :: below)).heap = H := hT
  have hW0 : s.WarmedH ((T.setVm s.vm).setFrames (.invoking m args :: below)).vm := State.WarmedH.refl s
  have hAA : ∀ q, hg_A lo C0 s.heap.size q → (fun q => lo ≤ q) q := fun q h => h.1
  have hat' : ∀ w ∈ vx_atM "java/lang/ArrayIndexOutOfBoundsException" hg_vmUp, w.before args ((T.setVm s.vm).setFrames (.invoking m args :: below)) = true := fun w hw => vx_ot_at hW0 rfl (hg_vmA.2.2.2.2.2.1 w hw) (by
    rcases hg_vmA.2.2.2.2.1 w hw with h | ⟨q, h, rfl⟩ | ⟨x, h, rfl⟩
    · exact X.w w h
    · exact (X.kn.2.2.1 q h).use rfl
    · exact (X.kn.2.2.2.2.1 x h).use rfl)
  have hU' : vx_Zq Bundle.tN "UNASSIGNED_STACK" Bundle.steD (hg_A lo C0 s.heap.size) ((T.setVm s.vm).setFrames (.invoking m args :: below)) ((T.setVm s.vm).setFrames (.invoking m args :: below)).heap := by rw [hhp]; exact vx_Zq.moved hW0.alike ((X.old.1.narrow hAA).kept hS.2.1)
  have hN' : vx_Zq Bundle.tN "SUPPRESSED_SENTINEL" Bundle.listD (hg_A lo C0 s.heap.size) ((T.setVm s.vm).setFrames (.invoking m args :: below)) ((T.setVm s.vm).setFrames (.invoking m args :: below)).heap := by rw [hhp]; exact vx_Zq.moved hW0.alike ((X.old.2.1.narrow hAA).kept hS.2.1)
  obtain ⟨S, q9, ce, Z, st9, g1, g2, g3, -⟩ := hg_copyOut Y X.x htr (own := own) (index := ix) X.o (vx_ot_at hW0 rfl rfl (X.w _ hlink)) (vx_ot_at hW0 rfl rfl (X.w _ hnat)) (vx_ot_at hW0 rfl rfl (X.w _ hstat)) (vx_ot_at hW0 rfl rfl (X.w _ hini))
    (src := a) (dst := b) (srcPos := sp) (destPos := dp) (n := n) (by rw [hT]; exact hA) (by rw [hT]; exact hB) (fun _ h => by cases h) (fun _ h => by cases h) hk0' hk1' hkk0 hkk1 (by simp) (by simp only [arrV_size]; exact hf)
    (names := hg_vmUp) hg_vmA.1 hg_vmA.2.1 (vx_own hat' (vx_isRefq hU'.1) (vx_isRefq hN'.1) hU'.2.word hN'.2.word) (fun x hx => nomatch hx) (hg_cfMod what)
    (by rw [Launch.admits_arrayLengthLimit X1.admits]; omega) (by rw [Launch.admits_maxHeapBytes X1.admits]; simp only [componentBytes]; omega)
    (g := F0 m pc ls (.int n :: .int dp :: .ref b :: .int sp :: .ref a :: st)) rfl (by rw [X.ml]; exact hl.1) (rest := st) rfl (by rw [X.b]; exact d) (by show 3 + 5 < R.frames; omega) (by show 2 * 0 + (st.map fun v => v.category).sum + 10240 ≤ R.locals; rw [Nat.mul_zero, Nat.zero_add]; exact hRl) (Nat.le_of_ble_eq_true rfl) (by show 0 + 3 ≤ 3; omega) (by show 0 + _ ≤ N5; omega) X.lk
  obtain ⟨f1, f2⟩ := vx_frame Z.same
  have f1' : H.size ≤ S.heap.size := by rw [← hT]; exact f1
  have f2' : ∀ q : Nat, q < H.size → S.heap[q]? = H[q]? := fun q hq => by
    rw [← hT]
    exact f2 q (by rw [← hT] at hq; exact hq) (fun z hz => nomatch hz)
  have X5 := vx_back9 X1 Y Z
  have X6 : Stand p l e R s m args below meth c S locs (k0 + 3) (m0 + N5) := { X5 with same := X5.same.mono (by omega) (by omega) }
  obtain ⟨t9, a1, b1⟩ := k q9 ls S.heap locs (k0 + 3) (m0 + N5) hl (hP.grown f2') ⟨Nat.le_trans hS.1 f1', fun q h1 h2 => (f2' q (Nat.lt_of_lt_of_le h1 hS.1)).trans (hS.2.1 q h1 h2), hS.2.2⟩ hE (by omega) (by omega) ⟨ce, g1, g3, g2⟩ S rfl X6
  exact ⟨t9, st9 t9 a1, b1⟩
end HCYX
