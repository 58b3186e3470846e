/-! copy: what rows hold fits their sort -/
def ab_F (A : ab_S) : Prop := ∀ i j, i < 8 → j < 160 → (A.1.1 19 i = 0 → ∃ v : Int32, A.2.2.2 (160 * i + j) = v.toInt8.toInt32.toInt64) ∧ (A.1.1 19 i = 1 → ∃ v : Int32, A.2.2.2 (160 * i + j) = v.toInt16.toInt32.toInt64)
theorem i64_inj {a b : Int32} (h : a.toInt64 = b.toInt64) : a = b := by
  have := congrArg Int64.toInt h
  rw [Int32.toInt_toInt64, Int32.toInt_toInt64] at this
  exact Int32.toInt_inj.mp this
theorem fit8 (v : Int32) : fits .byte (.int v.toInt8.toInt32) = true := by
  have h1 := Int8.le_toInt v.toInt8
  have h2 := Int8.toInt_lt v.toInt8
  have e : v.toInt8.toInt32.toInt = v.toInt8.toInt := Int8.toInt_toInt32 _
  simp only [fits]
  simp [Int32.le_iff_toInt_le, e]
  first | done | (constructor <;> simp_all <;> omega)
theorem fit16 (v : Int32) : fits .short (.int v.toInt16.toInt32) = true := by
  have h1 := Int16.le_toInt v.toInt16
  have h2 := Int16.toInt_lt v.toInt16
  have e : v.toInt16.toInt32.toInt = v.toInt16.toInt := Int16.toInt_toInt32 _
  simp only [fits]
  simp [Int32.le_iff_toInt_le, e]
  first | done | (constructor <;> simp_all <;> omega)
theorem rr_k_1 {s : Nat} (hs : s ≤ 3) : rr_k s - 1 + 1 = rr_k s ∧ rr_k s - 1 < 4 := by
  have : s = 0 ∨ s = 1 ∨ s = 2 ∨ s = 3 := by omega
  rcases this with rfl | rfl | rfl | rfl <;> decide
theorem cp_nofit {x n : Int32} {sz : Nat} (hz : sz ≤ 160) (hx : ¬ x < 0) (hn : ¬ n < 0) (h : nI sz - n < x) : (sz : Int) < x.toInt + n.toInt := by
  obtain ⟨e1, l1⟩ := sp_geN hx
  obtain ⟨e2, l2⟩ := sp_geN hn
  have h2 := Int32.lt_iff_toInt_lt.mp h
  rw [Int32.toInt_sub] at h2
  have t1 : x.toInt = (iN x : Int) := by rw [e1, nI_toInt l1, ← e1]
  have t2 : n.toInt = (iN n : Int) := by rw [e2, nI_toInt l2, ← e2]
  rw [t1, t2, nI_toInt (by omega)] at h2
  rw [Int.bmod_eq_of_le (by omega) (by omega)] at h2
  omega
section CP10
variable {G : hg_G} {ca : Nat → Nat} {A : ab_S}
theorem cp_R.hn (h : cp_R G ca A) (hW : ab_wf A) {i : Nat} (hi : i < 8) : G.2.2.2 (ca (8 + i)) 0 = none ↔ A.1.1 18 i = 0 := by
  obtain ⟨-, -, g3⟩ := h.s.2 i hi
  have b := hW.b18 hi
  rw [g3]
  unfold cp_held
  by_cases h0 : A.1.1 18 i = 0
  · rw [if_pos h0]; exact ⟨fun _ => h0, fun _ => rfl⟩
  · rw [if_neg h0]
    refine ⟨fun z => ?_, fun z => absurd z h0⟩
    by_cases h1 : A.1.1 18 i = 1
    · rw [if_pos h1] at z; cases z
    · rw [if_neg h1] at z
      obtain ⟨q, k1, -⟩ := h.w.pe (hW.b21 hi (by omega))
      cases k1.symm.trans z
theorem cp_R.fit (h : cp_R G ca A) (hF : ab_F A) {i : Nat} (hi : i < 8) (h1 : A.1.1 18 i = 1) {j : Nat} (hj : j < A.1.1 20 i) (hs : A.1.1 19 i ≠ 3) : fits (hg_ty (rr_k (A.1.1 19 i) - 1)) (.int (G.2.1 (ca (39 + i)) j)) = true := by
  obtain ⟨g1, g2⟩ := h.r i hi h1
  have g3 := g1.2.1
  have e := g2 j hj
  unfold rr_el at e
  rw [if_neg hs] at e
  have s3 := g1.1
  have : A.1.1 19 i = 0 ∨ A.1.1 19 i = 1 ∨ A.1.1 19 i = 2 := by omega
  rcases this with g | g | g
  · obtain ⟨v, hv⟩ := (hF i j hi (by omega)).1 g
    rw [hv] at e
    rw [i64_inj e, g]
    exact fit8 v
  · obtain ⟨v, hv⟩ := (hF i j hi (by omega)).2 g
    rw [hv] at e
    rw [i64_inj e, g]
    exact fit16 v
  · rw [g]; rfl
theorem cp_R.cI (h : cp_R G ca A) {i k sp dp n : Nat} (hi : i < 8) (hk : k < 8) (h1 : A.1.1 18 i = 1) (h2 : A.1.1 18 k = 1) (hs : A.1.1 19 i = A.1.1 19 k) (h3 : A.1.1 19 i ≠ 3) (h4 : sp + n ≤ A.1.1 20 i) (h5 : dp + n ≤ A.1.1 20 k) : cp_R (hs_CI G (ca (39 + k)) (ca (39 + i)) sp dp n) ca (ab_cp A i sp k dp n) := by
  obtain ⟨g1, g2⟩ := h.r i hi h1
  obtain ⟨q1, q2⟩ := h.r k hk h2
  have g3 := g1.2.1
  have q3 := q1.2.1
  refine h.elem hk h2 (hg_fr.rf.CI rfl) rfl rfl rfl rfl (fun m hm => if_neg (by omega)) (fun j hj => ?_)
  have q4 := q2 j hj
  unfold rr_el at q4 ⊢
  rw [if_neg (by rw [← hs]; exact h3)] at q4 ⊢
  show (if ca (39 + k) = ca (39 + k) then va_cpy (G.2.1 (ca (39 + i))) (G.2.1 (ca (39 + k))) sp dp n j else G.2.1 (ca (39 + k)) j).toInt64 = if 160 * k + dp ≤ 160 * k + j ∧ 160 * k + j < 160 * k + dp + n then A.2.2.2 (160 * i + sp + (160 * k + j - (160 * k + dp))) else A.2.2.2 (160 * k + j)
  rw [if_pos rfl]
  unfold va_cpy
  by_cases e : dp ≤ j ∧ j < dp + n
  · rw [if_pos e, if_pos (by omega)]
    have g4 := g2 (sp + (j - dp)) (by omega)
    unfold rr_el at g4
    rw [if_neg h3] at g4
    rw [g4, show 160 * i + sp + (160 * k + j - (160 * k + dp)) = 160 * i + (sp + (j - dp)) by omega]
  · rw [if_neg e, if_neg (by omega)]
    exact q4
theorem cp_R.cJ (h : cp_R G ca A) {i k sp dp n : Nat} (hi : i < 8) (hk : k < 8) (h1 : A.1.1 18 i = 1) (h2 : A.1.1 18 k = 1) (hs : A.1.1 19 i = A.1.1 19 k) (h3 : A.1.1 19 i = 3) (h4 : sp + n ≤ A.1.1 20 i) (h5 : dp + n ≤ A.1.1 20 k) : cp_R (hs_CJ G (ca (39 + k)) (ca (39 + i)) sp dp n) ca (ab_cp A i sp k dp n) := by
  obtain ⟨g1, g2⟩ := h.r i hi h1
  obtain ⟨q1, q2⟩ := h.r k hk h2
  have g3 := g1.2.1
  have q3 := q1.2.1
  refine h.elem hk h2 (hg_fr.rf.CJ rfl) rfl rfl rfl rfl (fun m hm => if_neg (by omega)) (fun j hj => ?_)
  have q4 := q2 j hj
  unfold rr_el at q4 ⊢
  rw [if_pos (by rw [← hs]; exact h3)] at q4 ⊢
  show (if ca (39 + k) = ca (39 + k) then va_cpy (G.2.2.1 (ca (39 + i))) (G.2.2.1 (ca (39 + k))) sp dp n j else G.2.2.1 (ca (39 + k)) j) = if 160 * k + dp ≤ 160 * k + j ∧ 160 * k + j < 160 * k + dp + n then A.2.2.2 (160 * i + sp + (160 * k + j - (160 * k + dp))) else A.2.2.2 (160 * k + j)
  rw [if_pos rfl]
  unfold va_cpy
  by_cases e : dp ≤ j ∧ j < dp + n
  · rw [if_pos e, if_pos (by omega)]
    have g4 := g2 (sp + (j - dp)) (by omega)
    unfold rr_el at g4
    rw [if_pos h3] at g4
    rw [g4, show 160 * i + sp + (160 * k + j - (160 * k + dp)) = 160 * i + (sp + (j - dp)) by omega]
  · rw [if_neg e, if_neg (by omega)]
    exact q4
end CP10
abbrev rk_X0_copy : Room := { frames := 13, cells := 60, slots := 8000, locals := 10342 }
theorem tc_copy {l : Launch} {D : hg_D} {lo : Nat} (htr : l.stackTraces = false) {G : hg_G} {ca : Nat → Nat} {A : ab_S} (h : cp_R G ca A) (hW : ab_wf A) (hF : ab_F A) {a1 a2 a3 a4 a5 : Int32} :
    hg_M l D lo yX0_copy (wsW_ yX0_copy cX0_copy 11 ((some FieldType.int)) [(114, 132, 135, 165), (0, 148, 149, 21)]) rk_X0_copy [.ref (ca 0), .int a1, .int a2, .int a3, .int a4, .int a5] G (cp_Po ca (sq_copy a1 a2 a3 a4 a5 A)) := by
  refine hg_M.ofH htr (by decide) [some (.ref (ca 0)), some (.int a1), some (.int a2), some (.int a3), some (.int a4), some (.int a5), none, none, none, none, none] rfl (Nat.le_of_ble_eq_true rfl) ?_
  intro p e s m args below meth c X hr hnm htab
  have X : hg_X p l s m args meth c D lo "TaxOnLooks" cX0_copy 11 := X
  refine hr_room (kr' := 60) (nr' := 8000) (Nat.le_of_ble_eq_true rfl) (Nat.le_of_ble_eq_true rfl) ?_
  have hw := hW.w; have w0 := hw.b0; have w1 := hw.b1; have w2 := hw.b2; have w3 := hw.b3; have w36 := hW.b36; have w43 := hW.b43
  have hpw := sp_wpk hw; have hpb := sp_bpk hw
  obtain ⟨K, hK, hKs, hKb⟩ := h.w.sk
  refine hr_aload0 (q := 1) X dX0_copy_0 rfl ?_
  refine hr_iload1 (q := 2) X dX0_copy_1 rfl ?_
  refine hr_call (kr := 56) (nr := 7771) (q := 5) (hc_VX (n := 1) (ci := 0) (As := [.int a1]) X dX0_copy_2 rfl (tc_shelf X.tr h (x := a1)) q278 cv_X0_shelf ⟨Nat.le_of_ble_eq_true rfl, Nat.le_of_ble_eq_true rfl⟩ rfl (Nat.le_of_ble_eq_true rfl) h.o.1 rfl rfl) rfl (fun qxn1 E Gxn1 hpn1 _ => ?_) (fun r Gn1 hpn1 _ => ?_)
  · obtain ⟨hgn1, hrn1, hGn1⟩ | ⟨hgn1, qn1, hrn1, htn1⟩ := hpn1
    · cases hrn1
    · cases hrn1
      have hxn1 := h.T htn1
      refine hx_catch (name := "TaxOnLooks$Refused") X [⟨114, 132, 135, 165⟩] ⟨0, 148, 149, 21⟩ [] htab (List.forall_mem_cons.mpr ⟨Or.inl (by decide), fun _ h => absurd h List.not_mem_nil⟩) (by decide) (by decide) q277 (by decide) ?_
      refine hr_astore6 (q := 151) X dX0_copy_149 rfl rfl (Nat.le_of_ble_eq_true rfl) ?_
      refine hr_aload0 (q := 152) X dX0_copy_151 rfl ?_
      refine hr_aload6 (q := 154) X dX0_copy_152 rfl ?_
      refine hr_call0 (q := 157) (hc_V (n := 1) (ci := 0) (As := [.ref qxn1]) X dX0_copy_154 rfl (tc_refused X.tr hxn1 hW (q := qxn1) htn1.2.1 htn1.2.2.1 (k := 1) (by decide) (by decide) (by decide)) q452 cv_X0_refused ⟨Nat.le_of_ble_eq_true rfl, Nat.le_of_ble_eq_true rfl⟩ rfl (Nat.le_of_ble_eq_true rfl) hxn1.o.1 rfl rfl) rfl (fun qx E G' hp => by cases hp.1) (fun r Gf2 hp _ => ?_)
      obtain ⟨hvf2, hhf2⟩ := hp
      cases hvf2
      have hq3 : sq_copy a1 a2 a3 a4 a5 A = ((-1), (sq_no (-1) A).2) := by
        simp [sq_copy, sq_noTen, sq_no_1, hgn1]
      exact hr_iret X hr dX0_copy_157 (by rw [hq3]; exact ⟨rfl, ca, rfl, hhf2⟩)
  · obtain ⟨hgn1, hrn1, hGn1⟩ | ⟨hgn1, qn1, hrn1, htn1⟩ := hpn1
    · cases hrn1
      have hGn1 := hGn1.symm
      subst hGn1
      obtain ⟨ea1, la1⟩ := sp_in_n hgn1 (by omega)
      refine hr_L (L' := [some (.ref (ca 0)), some (.int (nI (iN a1))), some (.int a2), some (.int a3), some (.int a4), some (.int a5), none, none, none, none, none]) (by rw [← ea1]) ?_
      refine hr_astore6 (q := 7) X dX0_copy_5 rfl rfl (Nat.le_of_ble_eq_true rfl) ?_
      refine hr_aload0 (q := 8) X dX0_copy_7 rfl ?_
      refine hr_iload2 (q := 9) X dX0_copy_8 rfl ?_
      refine hr_call (kr := 52) (nr := 7542) (q := 12) (hc_VX (n := 1) (ci := 0) (As := [.int a2]) X dX0_copy_9 rfl (tc_shelf X.tr h (x := a2)) q278 cv_X0_shelf ⟨Nat.le_of_ble_eq_true rfl, Nat.le_of_ble_eq_true rfl⟩ rfl (Nat.le_of_ble_eq_true rfl) h.o.1 rfl rfl) rfl (fun qxn4 E Gxn4 hpn4 _ => ?_) (fun r Gn4 hpn4 _ => ?_)
      · obtain ⟨hgn4, hrn4, hGn4⟩ | ⟨hgn4, qn4, hrn4, htn4⟩ := hpn4
        · cases hrn4
        · cases hrn4
          have hxn4 := h.T htn4
          refine hx_catch (name := "TaxOnLooks$Refused") X [⟨114, 132, 135, 165⟩] ⟨0, 148, 149, 21⟩ [] htab (List.forall_mem_cons.mpr ⟨Or.inl (by decide), fun _ h => absurd h List.not_mem_nil⟩) (by decide) (by decide) q277 (by decide) ?_
          refine hr_astore6 (q := 151) X dX0_copy_149 rfl rfl (Nat.le_of_ble_eq_true rfl) ?_
          refine hr_aload0 (q := 152) X dX0_copy_151 rfl ?_
          refine hr_aload6 (q := 154) X dX0_copy_152 rfl ?_
          refine hr_call0 (q := 157) (hc_V (n := 1) (ci := 0) (As := [.ref qxn4]) X dX0_copy_154 rfl (tc_refused X.tr hxn4 hW (q := qxn4) htn4.2.1 htn4.2.2.1 (k := 1) (by decide) (by decide) (by decide)) q452 cv_X0_refused ⟨Nat.le_of_ble_eq_true rfl, Nat.le_of_ble_eq_true rfl⟩ rfl (Nat.le_of_ble_eq_true rfl) hxn4.o.1 rfl rfl) rfl (fun qx E G' hp => by cases hp.1) (fun r Gf5 hp _ => ?_)
          obtain ⟨hvf5, hhf5⟩ := hp
          cases hvf5
          have hq6 : sq_copy a1 a2 a3 a4 a5 A = ((-1), (sq_no (-1) A).2) := by
            simp [sq_copy, sq_noTen, sq_no_1, hgn1, hgn4]
          exact hr_iret X hr dX0_copy_157 (by rw [hq6]; exact ⟨rfl, ca, rfl, hhf5⟩)
      · obtain ⟨hgn4, hrn4, hGn4⟩ | ⟨hgn4, qn4, hrn4, htn4⟩ := hpn4
        · cases hrn4
          have hGn4 := hGn4.symm
          subst hGn4
          obtain ⟨ea2, la2⟩ := sp_in_n hgn4 (by omega)
          refine hr_L (L' := [some (.ref (ca 0)), some (.int (nI (iN a1))), some (.int (nI (iN a2))), some (.int a3), some (.int a4), some (.int a5), some (.ref (ca (8 + iN a1))), none, none, none, none]) (by rw [← ea2]) ?_
          refine hr_astore7 (q := 14) X dX0_copy_12 rfl rfl (Nat.le_of_ble_eq_true rfl) ?_
          refine hr_aload6 (q := 16) X dX0_copy_14 rfl ?_
          refine hr_callP (q := 19) (hc_V (n := 0) (ci := 4) (As := []) X dX0_copy_16 rfl (tc_holdsP X.tr h hW (i := iN a1) (by omega)) q502 cv_X4_holdsPerson ⟨Nat.le_of_ble_eq_true rfl, Nat.le_of_ble_eq_true rfl⟩ rfl (Nat.le_of_ble_eq_true rfl) (h.s.2 (iN a1) (by omega)).2.1 rfl rfl) rfl ?_
          refine hr_ifB_ne (q := 22) (tgt := 34) X dX0_copy_19 rfl (by decide) (fun c19 => ?_) (fun c19 => ?_)
          · have n19 : A.1.1 18 (iN a1) = 2 := of_decide_eq_true c19
            refine hr_iconst (v := (bI false)) (q := 35) X dX0_copy_34 rfl rfl ?_
            refine hr_bipush (v := (-2)) (q := 37) X dX0_copy_35 rfl rfl ?_
            refine hr_call (kr := 51) (nr := 7535) (q := 40) (hc_S (n := 2) (As := [.int (bI false), .int (-2)]) X dX0_copy_37 rfl (tc_need X.tr (g := false) (w := (-2))) q383 cs_X0_need ⟨Nat.le_of_ble_eq_true rfl, Nat.le_of_ble_eq_true rfl⟩ rfl (Nat.le_of_ble_eq_true rfl)) rfl (fun qxn7 E Gxn7 hpn7 _ => ?_) (fun r Gn7 hpn7 _ => ?_)
            · obtain ⟨hgn7, hrn7, -⟩ | ⟨hgn7, qn7, hrn7, htn7⟩ := hpn7
              · cases hrn7
              · cases hrn7
                have hxn7 := h.T htn7
                refine hx_catch (name := "TaxOnLooks$Refused") X [⟨114, 132, 135, 165⟩] ⟨0, 148, 149, 21⟩ [] htab (List.forall_mem_cons.mpr ⟨Or.inl (by decide), fun _ h => absurd h List.not_mem_nil⟩) (by decide) (by decide) q277 (by decide) ?_
                refine hr_astore6 (q := 151) X dX0_copy_149 rfl rfl (Nat.le_of_ble_eq_true rfl) ?_
                refine hr_aload0 (q := 152) X dX0_copy_151 rfl ?_
                refine hr_aload6 (q := 154) X dX0_copy_152 rfl ?_
                refine hr_call0 (q := 157) (hc_V (n := 1) (ci := 0) (As := [.ref qxn7]) X dX0_copy_154 rfl (tc_refused X.tr hxn7 hW (q := qxn7) htn7.2.1 htn7.2.2.1 (k := 2) (by decide) (by decide) (by decide)) q452 cv_X0_refused ⟨Nat.le_of_ble_eq_true rfl, Nat.le_of_ble_eq_true rfl⟩ rfl (Nat.le_of_ble_eq_true rfl) hxn7.o.1 rfl rfl) rfl (fun qx E G' hp => by cases hp.1) (fun r Gf8 hp _ => ?_)
                obtain ⟨hvf8, hhf8⟩ := hp
                cases hvf8
                have hq9 : sq_copy a1 a2 a3 a4 a5 A = ((-2), (sq_no (-2) A).2) := by
                  simp [sq_copy, sq_noTen, sq_no_1, hgn1, hgn4, n19]
                exact hr_iret X hr dX0_copy_157 (by rw [hq9]; exact ⟨rfl, ca, rfl, hhf8⟩)
            · obtain ⟨hgn7, hrn7, hGn7⟩ | ⟨hgn7, qn7, hrn7, htn7⟩ := hpn7
              · cases hgn7
              · cases hrn7
          · have n19 : ¬ A.1.1 18 (iN a1) = 2 := of_decide_eq_false c19
            refine hr_aload7 (q := 24) X dX0_copy_22 rfl ?_
            refine hr_callP (q := 27) (hc_V (n := 0) (ci := 4) (As := []) X dX0_copy_24 rfl (tc_holdsP X.tr h hW (i := iN a2) (by omega)) q502 cv_X4_holdsPerson ⟨Nat.le_of_ble_eq_true rfl, Nat.le_of_ble_eq_true rfl⟩ rfl (Nat.le_of_ble_eq_true rfl) (h.s.2 (iN a2) (by omega)).2.1 rfl rfl) rfl ?_
            refine hr_ifB_ne (q := 30) (tgt := 34) X dX0_copy_27 rfl (by decide) (fun c27 => ?_) (fun c27 => ?_)
            · have n27 : A.1.1 18 (iN a2) = 2 := of_decide_eq_true c27
              refine hr_iconst (v := (bI false)) (q := 35) X dX0_copy_34 rfl rfl ?_
              refine hr_bipush (v := (-2)) (q := 37) X dX0_copy_35 rfl rfl ?_
              refine hr_call (kr := 51) (nr := 7535) (q := 40) (hc_S (n := 2) (As := [.int (bI false), .int (-2)]) X dX0_copy_37 rfl (tc_need X.tr (g := false) (w := (-2))) q383 cs_X0_need ⟨Nat.le_of_ble_eq_true rfl, Nat.le_of_ble_eq_true rfl⟩ rfl (Nat.le_of_ble_eq_true rfl)) rfl (fun qxn10 E Gxn10 hpn10 _ => ?_) (fun r Gn10 hpn10 _ => ?_)
              · obtain ⟨hgn10, hrn10, -⟩ | ⟨hgn10, qn10, hrn10, htn10⟩ := hpn10
                · cases hrn10
                · cases hrn10
                  have hxn10 := h.T htn10
                  refine hx_catch (name := "TaxOnLooks$Refused") X [⟨114, 132, 135, 165⟩] ⟨0, 148, 149, 21⟩ [] htab (List.forall_mem_cons.mpr ⟨Or.inl (by decide), fun _ h => absurd h List.not_mem_nil⟩) (by decide) (by decide) q277 (by decide) ?_
                  refine hr_astore6 (q := 151) X dX0_copy_149 rfl rfl (Nat.le_of_ble_eq_true rfl) ?_
                  refine hr_aload0 (q := 152) X dX0_copy_151 rfl ?_
                  refine hr_aload6 (q := 154) X dX0_copy_152 rfl ?_
                  refine hr_call0 (q := 157) (hc_V (n := 1) (ci := 0) (As := [.ref qxn10]) X dX0_copy_154 rfl (tc_refused X.tr hxn10 hW (q := qxn10) htn10.2.1 htn10.2.2.1 (k := 2) (by decide) (by decide) (by decide)) q452 cv_X0_refused ⟨Nat.le_of_ble_eq_true rfl, Nat.le_of_ble_eq_true rfl⟩ rfl (Nat.le_of_ble_eq_true rfl) hxn10.o.1 rfl rfl) rfl (fun qx E G' hp => by cases hp.1) (fun r Gf11 hp _ => ?_)
                  obtain ⟨hvf11, hhf11⟩ := hp
                  cases hvf11
                  have hq12 : sq_copy a1 a2 a3 a4 a5 A = ((-2), (sq_no (-2) A).2) := by
                    simp [sq_copy, sq_noTen, sq_no_1, hgn1, hgn4, eq_false n19, n27]
                  exact hr_iret X hr dX0_copy_157 (by rw [hq12]; exact ⟨rfl, ca, rfl, hhf11⟩)
              · obtain ⟨hgn10, hrn10, hGn10⟩ | ⟨hgn10, qn10, hrn10, htn10⟩ := hpn10
                · cases hgn10
                · cases hrn10
            · have n27 : ¬ A.1.1 18 (iN a2) = 2 := of_decide_eq_false c27
              refine hr_iconst (v := (bI true)) (q := 31) X dX0_copy_30 rfl rfl ?_
              refine hr_goto (tgt := 35) X dX0_copy_31 (by decide) ?_
              refine hr_bipush (v := (-2)) (q := 37) X dX0_copy_35 rfl rfl ?_
              refine hr_call (kr := 51) (nr := 7535) (q := 40) (hc_S (n := 2) (As := [.int (bI true), .int (-2)]) X dX0_copy_37 rfl (tc_need X.tr (g := true) (w := (-2))) q383 cs_X0_need ⟨Nat.le_of_ble_eq_true rfl, Nat.le_of_ble_eq_true rfl⟩ rfl (Nat.le_of_ble_eq_true rfl)) rfl (fun qxn13 E Gxn13 hpn13 _ => ?_) (fun r Gn13 hpn13 _ => ?_)
              · obtain ⟨hgn13, hrn13, -⟩ | ⟨hgn13, qn13, hrn13, htn13⟩ := hpn13
                · cases hrn13
                · cases hgn13
              · obtain ⟨hgn13, hrn13, hGn13⟩ | ⟨hgn13, qn13, hrn13, htn13⟩ := hpn13
                · cases hrn13
                  have hGn13 := hGn13.symm
                  subst hGn13
                  refine hr_aload6 (q := 42) X dX0_copy_40 rfl ?_
                  refine hr_getQ (v := (G.2.2.2 (ca (8 + iN a1)) 0)) (q := 45) X dX0_copy_42 rfl fr_q241_4 rfl (h.s.2 (iN a1) (by omega)).2.1 rfl ?_
                  refine hr_ifnull (q := 48) (tgt := 85) X dX0_copy_45 rfl (by decide) (fun c45 => ?_) (fun a14 c45 => ?_)
                  · have n45 : A.1.1 18 (iN a1) = 0 := (h.hn hW (by omega)).mp c45
                    refine hr_aload6 (q := 87) X dX0_copy_85 rfl ?_
                    refine hr_call (kr := 47) (nr := 6518) (q := 90) (hc_VX (n := 0) (ci := 4) (As := []) X dX0_copy_87 rfl (tc_row X.tr h hW (i := iN a1) (by omega)) q460 cv_X4_row ⟨Nat.le_of_ble_eq_true rfl, Nat.le_of_ble_eq_true rfl⟩ rfl (Nat.le_of_ble_eq_true rfl) (h.s.2 (iN a1) (by omega)).2.1 rfl rfl) rfl (fun qxn15 E Gxn15 hpn15 _ => ?_) (fun r Gn15 hpn15 _ => ?_)
                    · obtain ⟨hgn15, hrn15, hGn15⟩ | ⟨hgn15, qn15, hrn15, htn15⟩ | ⟨hgn15, qn15, hrn15, htn15⟩ := hpn15
                      · cases hrn15
                      · cases hrn15
                        exact False.elim (by omega)
                      · cases hrn15
                        have hxn15 := h.T htn15
                        refine hx_catch (name := "TaxOnLooks$Refused") X [⟨114, 132, 135, 165⟩] ⟨0, 148, 149, 21⟩ [] htab (List.forall_mem_cons.mpr ⟨Or.inl (by decide), fun _ h => absurd h List.not_mem_nil⟩) (by decide) (by decide) q277 (by decide) ?_
                        refine hr_astore6 (q := 151) X dX0_copy_149 rfl rfl (Nat.le_of_ble_eq_true rfl) ?_
                        refine hr_aload0 (q := 152) X dX0_copy_151 rfl ?_
                        refine hr_aload6 (q := 154) X dX0_copy_152 rfl ?_
                        refine hr_call0 (q := 157) (hc_V (n := 1) (ci := 0) (As := [.ref qxn15]) X dX0_copy_154 rfl (tc_refused X.tr hxn15 hW (q := qxn15) htn15.2.1 htn15.2.2.1 (k := 3) (by decide) (by decide) (by decide)) q452 cv_X0_refused ⟨Nat.le_of_ble_eq_true rfl, Nat.le_of_ble_eq_true rfl⟩ rfl (Nat.le_of_ble_eq_true rfl) hxn15.o.1 rfl rfl) rfl (fun qx E G' hp => by cases hp.1) (fun r Gf16 hp _ => ?_)
                        obtain ⟨hvf16, hhf16⟩ := hp
                        cases hvf16
                        have hq17 : sq_copy a1 a2 a3 a4 a5 A = ((-3), (sq_no (-3) A).2) := by
                          simp [sq_copy, sq_noTen, sq_no_1, hgn1, hgn4, eq_false n19, eq_false n27, n45, hgn15]
                        exact hr_iret X hr dX0_copy_157 (by rw [hq17]; exact ⟨rfl, ca, rfl, hhf16⟩)
                    · obtain ⟨hgn15, hrn15, hGn15⟩ | ⟨hgn15, qn15, hrn15, htn15⟩ | ⟨hgn15, qn15, hrn15, htn15⟩ := hpn15
                      · cases hrn15
                        have hGn15 := hGn15.symm
                        subst hGn15
                        exact False.elim (by omega)
                      · cases hrn15
                      · cases hrn15
                  · have n45 : ¬ A.1.1 18 (iN a1) = 0 := fun z => by rw [(h.hn hW (by omega)).mpr z] at c45; cases c45
                    refine hr_aload7 (q := 50) X dX0_copy_48 rfl ?_
                    refine hr_getQ (v := (G.2.2.2 (ca (8 + iN a2)) 0)) (q := 53) X dX0_copy_50 rfl fr_q241_4 rfl (h.s.2 (iN a2) (by omega)).2.1 rfl ?_
                    refine hr_ifnull (q := 56) (tgt := 85) X dX0_copy_53 rfl (by decide) (fun c53 => ?_) (fun a18 c53 => ?_)
                    · have n53 : A.1.1 18 (iN a2) = 0 := (h.hn hW (by omega)).mp c53
                      refine hr_aload6 (q := 87) X dX0_copy_85 rfl ?_
                      refine hr_call (kr := 47) (nr := 6518) (q := 90) (hc_VX (n := 0) (ci := 4) (As := []) X dX0_copy_87 rfl (tc_row X.tr h hW (i := iN a1) (by omega)) q460 cv_X4_row ⟨Nat.le_of_ble_eq_true rfl, Nat.le_of_ble_eq_true rfl⟩ rfl (Nat.le_of_ble_eq_true rfl) (h.s.2 (iN a1) (by omega)).2.1 rfl rfl) rfl (fun qxn19 E Gxn19 hpn19 _ => ?_) (fun r Gn19 hpn19 _ => ?_)
                      · obtain ⟨hgn19, hrn19, hGn19⟩ | ⟨hgn19, qn19, hrn19, htn19⟩ | ⟨hgn19, qn19, hrn19, htn19⟩ := hpn19
                        · cases hrn19
                        · cases hrn19
                          exact False.elim (by omega)
                        · cases hrn19
                          exact False.elim (by omega)
                      · obtain ⟨hgn19, hrn19, hGn19⟩ | ⟨hgn19, qn19, hrn19, htn19⟩ | ⟨hgn19, qn19, hrn19, htn19⟩ := hpn19
                        · cases hrn19
                          have hGn19 := hGn19.symm
                          subst hGn19
                          refine hr_astore8 (q := 92) X dX0_copy_90 rfl rfl (Nat.le_of_ble_eq_true rfl) ?_
                          refine hr_aload7 (q := 94) X dX0_copy_92 rfl ?_
                          refine hr_call (kr := 43) (nr := 5501) (q := 97) (hc_VX (n := 0) (ci := 4) (As := []) X dX0_copy_94 rfl (tc_row X.tr h hW (i := iN a2) (by omega)) q460 cv_X4_row ⟨Nat.le_of_ble_eq_true rfl, Nat.le_of_ble_eq_true rfl⟩ rfl (Nat.le_of_ble_eq_true rfl) (h.s.2 (iN a2) (by omega)).2.1 rfl rfl) rfl (fun qxn20 E Gxn20 hpn20 _ => ?_) (fun r Gn20 hpn20 _ => ?_)
                          · obtain ⟨hgn20, hrn20, hGn20⟩ | ⟨hgn20, qn20, hrn20, htn20⟩ | ⟨hgn20, qn20, hrn20, htn20⟩ := hpn20
                            · cases hrn20
                            · cases hrn20
                              exact False.elim (by omega)
                            · cases hrn20
                              have hxn20 := h.T htn20
                              refine hx_catch (name := "TaxOnLooks$Refused") X [⟨114, 132, 135, 165⟩] ⟨0, 148, 149, 21⟩ [] htab (List.forall_mem_cons.mpr ⟨Or.inl (by decide), fun _ h => absurd h List.not_mem_nil⟩) (by decide) (by decide) q277 (by decide) ?_
                              refine hr_astore6 (q := 151) X dX0_copy_149 rfl rfl (Nat.le_of_ble_eq_true rfl) ?_
                              refine hr_aload0 (q := 152) X dX0_copy_151 rfl ?_
                              refine hr_aload6 (q := 154) X dX0_copy_152 rfl ?_
                              refine hr_call0 (q := 157) (hc_V (n := 1) (ci := 0) (As := [.ref qxn20]) X dX0_copy_154 rfl (tc_refused X.tr hxn20 hW (q := qxn20) htn20.2.1 htn20.2.2.1 (k := 3) (by decide) (by decide) (by decide)) q452 cv_X0_refused ⟨Nat.le_of_ble_eq_true rfl, Nat.le_of_ble_eq_true rfl⟩ rfl (Nat.le_of_ble_eq_true rfl) hxn20.o.1 rfl rfl) rfl (fun qx E G' hp => by cases hp.1) (fun r Gf21 hp _ => ?_)
                              obtain ⟨hvf21, hhf21⟩ := hp
                              cases hvf21
                              have hq22 : sq_copy a1 a2 a3 a4 a5 A = ((-3), (sq_no (-3) A).2) := by
                                simp [sq_copy, sq_noTen, sq_no_1, hgn1, hgn4, eq_false n19, eq_false n27, n53, hgn19, hgn20]
                              exact hr_iret X hr dX0_copy_157 (by rw [hq22]; exact ⟨rfl, ca, rfl, hhf21⟩)
                          · obtain ⟨hgn20, hrn20, hGn20⟩ | ⟨hgn20, qn20, hrn20, htn20⟩ | ⟨hgn20, qn20, hrn20, htn20⟩ := hpn20
                            · cases hrn20
                              have hGn20 := hGn20.symm
                              subst hGn20
                              exact False.elim (by omega)
                            · cases hrn20
                            · cases hrn20
                        · cases hrn19
                        · cases hrn19
                    · have n53 : ¬ A.1.1 18 (iN a2) = 0 := fun z => by rw [(h.hn hW (by omega)).mpr z] at c53; cases c53
                      refine hr_aload6 (q := 58) X dX0_copy_56 rfl ?_
                      refine hr_call (kr := 47) (nr := 6518) (q := 61) (hc_VX (n := 0) (ci := 4) (As := []) X dX0_copy_58 rfl (tc_row X.tr h hW (i := iN a1) (by omega)) q460 cv_X4_row ⟨Nat.le_of_ble_eq_true rfl, Nat.le_of_ble_eq_true rfl⟩ rfl (Nat.le_of_ble_eq_true rfl) (h.s.2 (iN a1) (by omega)).2.1 rfl rfl) rfl (fun qxn23 E Gxn23 hpn23 _ => ?_) (fun r Gn23 hpn23 _ => ?_)
                      · obtain ⟨hgn23, hrn23, hGn23⟩ | ⟨hgn23, qn23, hrn23, htn23⟩ | ⟨hgn23, qn23, hrn23, htn23⟩ := hpn23
                        · cases hrn23
                        · cases hrn23
                          exact False.elim (by omega)
                        · cases hrn23
                          exact False.elim (by omega)
                      · obtain ⟨hgn23, hrn23, hGn23⟩ | ⟨hgn23, qn23, hrn23, htn23⟩ | ⟨hgn23, qn23, hrn23, htn23⟩ := hpn23
                        · cases hrn23
                          have hGn23 := hGn23.symm
                          subst hGn23
                          refine hr_callP (q := 64) (hcR_sort (h.r (iN a1) (by omega) hgn23).1 X dX0_copy_61 q507 ⟨Nat.le_of_ble_eq_true rfl, Nat.le_of_ble_eq_true rfl⟩ (Nat.le_of_ble_eq_true rfl)) rfl ?_
                          refine hr_aload7 (q := 66) X dX0_copy_64 rfl ?_
                          refine hr_call (kr := 43) (nr := 5501) (q := 69) (hc_VX (n := 0) (ci := 4) (As := []) X dX0_copy_66 rfl (tc_row X.tr h hW (i := iN a2) (by omega)) q460 cv_X4_row ⟨Nat.le_of_ble_eq_true rfl, Nat.le_of_ble_eq_true rfl⟩ rfl (Nat.le_of_ble_eq_true rfl) (h.s.2 (iN a2) (by omega)).2.1 rfl rfl) rfl (fun qxn24 E Gxn24 hpn24 _ => ?_) (fun r Gn24 hpn24 _ => ?_)
                          · obtain ⟨hgn24, hrn24, hGn24⟩ | ⟨hgn24, qn24, hrn24, htn24⟩ | ⟨hgn24, qn24, hrn24, htn24⟩ := hpn24
                            · cases hrn24
                            · cases hrn24
                              exact False.elim (by omega)
                            · cases hrn24
                              exact False.elim (by omega)
                          · obtain ⟨hgn24, hrn24, hGn24⟩ | ⟨hgn24, qn24, hrn24, htn24⟩ | ⟨hgn24, qn24, hrn24, htn24⟩ := hpn24
                            · cases hrn24
                              have hGn24 := hGn24.symm
                              subst hGn24
                              refine hr_callP (q := 72) (hcR_sort (h.r (iN a2) (by omega) hgn24).1 X dX0_copy_69 q507 ⟨Nat.le_of_ble_eq_true rfl, Nat.le_of_ble_eq_true rfl⟩ (Nat.le_of_ble_eq_true rfl)) rfl ?_
                              have i19 := hW.b19 (j := iN a1) (by omega); have j19 := hW.b19 (j := iN a2) (by omega)
                              refine hr_icmpN_ne (q := 75) (tgt := 79) X dX0_copy_72 rfl (by decide) (by omega) (by omega) (fun c72 => ?_) (fun c72 => ?_)
                              · refine hr_iconst (v := (bI false)) (q := 80) X dX0_copy_79 rfl rfl ?_
                                refine hr_bipush (v := (-2)) (q := 82) X dX0_copy_80 rfl rfl ?_
                                refine hr_call (kr := 42) (nr := 5494) (q := 85) (hc_S (n := 2) (As := [.int (bI false), .int (-2)]) X dX0_copy_82 rfl (tc_need X.tr (g := false) (w := (-2))) q383 cs_X0_need ⟨Nat.le_of_ble_eq_true rfl, Nat.le_of_ble_eq_true rfl⟩ rfl (Nat.le_of_ble_eq_true rfl)) rfl (fun qxn25 E Gxn25 hpn25 _ => ?_) (fun r Gn25 hpn25 _ => ?_)
                                · obtain ⟨hgn25, hrn25, -⟩ | ⟨hgn25, qn25, hrn25, htn25⟩ := hpn25
                                  · cases hrn25
                                  · cases hrn25
                                    have hxn25 := h.T htn25
                                    refine hx_catch (name := "TaxOnLooks$Refused") X [⟨114, 132, 135, 165⟩] ⟨0, 148, 149, 21⟩ [] htab (List.forall_mem_cons.mpr ⟨Or.inl (by decide), fun _ h => absurd h List.not_mem_nil⟩) (by decide) (by decide) q277 (by decide) ?_
                                    refine hr_astore6 (q := 151) X dX0_copy_149 rfl rfl (Nat.le_of_ble_eq_true rfl) ?_
                                    refine hr_aload0 (q := 152) X dX0_copy_151 rfl ?_
                                    refine hr_aload6 (q := 154) X dX0_copy_152 rfl ?_
                                    refine hr_call0 (q := 157) (hc_V (n := 1) (ci := 0) (As := [.ref qxn25]) X dX0_copy_154 rfl (tc_refused X.tr hxn25 hW (q := qxn25) htn25.2.1 htn25.2.2.1 (k := 2) (by decide) (by decide) (by decide)) q452 cv_X0_refused ⟨Nat.le_of_ble_eq_true rfl, Nat.le_of_ble_eq_true rfl⟩ rfl (Nat.le_of_ble_eq_true rfl) hxn25.o.1 rfl rfl) rfl (fun qx E G' hp => by cases hp.1) (fun r Gf26 hp _ => ?_)
                                    obtain ⟨hvf26, hhf26⟩ := hp
                                    cases hvf26
                                    have hq27 : sq_copy a1 a2 a3 a4 a5 A = ((-2), (sq_no (-2) A).2) := by
                                      simp [sq_copy, sq_noTen, sq_no_1, hgn1, hgn4, eq_false n19, eq_false n27, hgn23, hgn24, eq_false (show ¬ ((A.1.1 19 (iN a1)) = (A.1.1 19 (iN a2))) by omega)]
                                    exact hr_iret X hr dX0_copy_157 (by rw [hq27]; exact ⟨rfl, ca, rfl, hhf26⟩)
                                · obtain ⟨hgn25, hrn25, hGn25⟩ | ⟨hgn25, qn25, hrn25, htn25⟩ := hpn25
                                  · cases hgn25
                                  · cases hrn25
                              · refine hr_iconst (v := (bI true)) (q := 76) X dX0_copy_75 rfl rfl ?_
                                refine hr_goto (tgt := 80) X dX0_copy_76 (by decide) ?_
                                refine hr_bipush (v := (-2)) (q := 82) X dX0_copy_80 rfl rfl ?_
                                refine hr_call (kr := 42) (nr := 5494) (q := 85) (hc_S (n := 2) (As := [.int (bI true), .int (-2)]) X dX0_copy_82 rfl (tc_need X.tr (g := true) (w := (-2))) q383 cs_X0_need ⟨Nat.le_of_ble_eq_true rfl, Nat.le_of_ble_eq_true rfl⟩ rfl (Nat.le_of_ble_eq_true rfl)) rfl (fun qxn28 E Gxn28 hpn28 _ => ?_) (fun r Gn28 hpn28 _ => ?_)
                                · obtain ⟨hgn28, hrn28, -⟩ | ⟨hgn28, qn28, hrn28, htn28⟩ := hpn28
                                  · cases hrn28
                                  · cases hgn28
                                · obtain ⟨hgn28, hrn28, hGn28⟩ | ⟨hgn28, qn28, hrn28, htn28⟩ := hpn28
                                  · cases hrn28
                                    have hGn28 := hGn28.symm
                                    subst hGn28
                                    refine hr_aload6 (q := 87) X dX0_copy_85 rfl ?_
                                    refine hr_call (kr := 38) (nr := 4477) (q := 90) (hc_VX (n := 0) (ci := 4) (As := []) X dX0_copy_87 rfl (tc_row X.tr h hW (i := iN a1) (by omega)) q460 cv_X4_row ⟨Nat.le_of_ble_eq_true rfl, Nat.le_of_ble_eq_true rfl⟩ rfl (Nat.le_of_ble_eq_true rfl) (h.s.2 (iN a1) (by omega)).2.1 rfl rfl) rfl (fun qxn29 E Gxn29 hpn29 _ => ?_) (fun r Gn29 hpn29 _ => ?_)
                                    · obtain ⟨hgn29, hrn29, hGn29⟩ | ⟨hgn29, qn29, hrn29, htn29⟩ | ⟨hgn29, qn29, hrn29, htn29⟩ := hpn29
                                      · cases hrn29
                                      · cases hrn29
                                        exact False.elim (by omega)
                                      · cases hrn29
                                        exact False.elim (by omega)
                                    · obtain ⟨hgn29, hrn29, hGn29⟩ | ⟨hgn29, qn29, hrn29, htn29⟩ | ⟨hgn29, qn29, hrn29, htn29⟩ := hpn29
                                      · cases hrn29
                                        have hGn29 := hGn29.symm
                                        subst hGn29
                                        refine hr_astore8 (q := 92) X dX0_copy_90 rfl rfl (Nat.le_of_ble_eq_true rfl) ?_
                                        refine hr_aload7 (q := 94) X dX0_copy_92 rfl ?_
                                        refine hr_call (kr := 34) (nr := 3460) (q := 97) (hc_VX (n := 0) (ci := 4) (As := []) X dX0_copy_94 rfl (tc_row X.tr h hW (i := iN a2) (by omega)) q460 cv_X4_row ⟨Nat.le_of_ble_eq_true rfl, Nat.le_of_ble_eq_true rfl⟩ rfl (Nat.le_of_ble_eq_true rfl) (h.s.2 (iN a2) (by omega)).2.1 rfl rfl) rfl (fun qxn30 E Gxn30 hpn30 _ => ?_) (fun r Gn30 hpn30 _ => ?_)
                                        · obtain ⟨hgn30, hrn30, hGn30⟩ | ⟨hgn30, qn30, hrn30, htn30⟩ | ⟨hgn30, qn30, hrn30, htn30⟩ := hpn30
                                          · cases hrn30
                                          · cases hrn30
                                            exact False.elim (by omega)
                                          · cases hrn30
                                            exact False.elim (by omega)
                                        · obtain ⟨hgn30, hrn30, hGn30⟩ | ⟨hgn30, qn30, hrn30, htn30⟩ | ⟨hgn30, qn30, hrn30, htn30⟩ := hpn30
                                          · cases hrn30
                                            have hGn30 := hGn30.symm
                                            subst hGn30
                                            refine hr_astore9 (q := 99) X dX0_copy_97 rfl rfl (Nat.le_of_ble_eq_true rfl) ?_
                                            refine hr_iload5 (q := 101) X dX0_copy_99 rfl ?_
                                            refine hr_if_lt (q := 104) (tgt := 108) X dX0_copy_101 rfl (by decide) (fun c101 => ?_) (fun c101 => ?_)
                                            · have hz5 : ¬ 0 ≤ a5 := Int32.not_le.mpr c101
                                              refine hr_iconst (v := (bI false)) (q := 109) X dX0_copy_108 rfl rfl ?_
                                              refine hr_bipush (v := (-4)) (q := 111) X dX0_copy_109 rfl rfl ?_
                                              refine hr_call (kr := 33) (nr := 3453) (q := 114) (hc_S (n := 2) (As := [.int (bI false), .int (-4)]) X dX0_copy_111 rfl (tc_need X.tr (g := false) (w := (-4))) q383 cs_X0_need ⟨Nat.le_of_ble_eq_true rfl, Nat.le_of_ble_eq_true rfl⟩ rfl (Nat.le_of_ble_eq_true rfl)) rfl (fun qxn31 E Gxn31 hpn31 _ => ?_) (fun r Gn31 hpn31 _ => ?_)
                                              · obtain ⟨hgn31, hrn31, -⟩ | ⟨hgn31, qn31, hrn31, htn31⟩ := hpn31
                                                · cases hrn31
                                                · cases hrn31
                                                  have hxn31 := h.T htn31
                                                  refine hx_catch (name := "TaxOnLooks$Refused") X [⟨114, 132, 135, 165⟩] ⟨0, 148, 149, 21⟩ [] htab (List.forall_mem_cons.mpr ⟨Or.inl (by decide), fun _ h => absurd h List.not_mem_nil⟩) (by decide) (by decide) q277 (by decide) ?_
                                                  refine hr_astore6 (q := 151) X dX0_copy_149 rfl rfl (Nat.le_of_ble_eq_true rfl) ?_
                                                  refine hr_aload0 (q := 152) X dX0_copy_151 rfl ?_
                                                  refine hr_aload6 (q := 154) X dX0_copy_152 rfl ?_
                                                  refine hr_call0 (q := 157) (hc_V (n := 1) (ci := 0) (As := [.ref qxn31]) X dX0_copy_154 rfl (tc_refused X.tr hxn31 hW (q := qxn31) htn31.2.1 htn31.2.2.1 (k := 4) (by decide) (by decide) (by decide)) q452 cv_X0_refused ⟨Nat.le_of_ble_eq_true rfl, Nat.le_of_ble_eq_true rfl⟩ rfl (Nat.le_of_ble_eq_true rfl) hxn31.o.1 rfl rfl) rfl (fun qx E G' hp => by cases hp.1) (fun r Gf32 hp _ => ?_)
                                                  obtain ⟨hvf32, hhf32⟩ := hp
                                                  cases hvf32
                                                  have hq33 : sq_copy a1 a2 a3 a4 a5 A = ((-4), (sq_no (-4) A).2) := by
                                                    simp [sq_copy, sq_noTen, sq_no_1, hgn1, hgn4, eq_false n19, eq_false n27, hgn23, hgn24, eq_true (show (A.1.1 19 (iN a1)) = (A.1.1 19 (iN a2)) by omega), hgn29, hgn30, eq_false hz5]
                                                  exact hr_iret X hr dX0_copy_157 (by rw [hq33]; exact ⟨rfl, ca, rfl, hhf32⟩)
                                              · obtain ⟨hgn31, hrn31, hGn31⟩ | ⟨hgn31, qn31, hrn31, htn31⟩ := hpn31
                                                · cases hgn31
                                                · cases hrn31
                                            · have hz5 : 0 ≤ a5 := Int32.not_lt.mp c101
                                              refine hr_iconst (v := (bI true)) (q := 105) X dX0_copy_104 rfl rfl ?_
                                              refine hr_goto (tgt := 109) X dX0_copy_105 (by decide) ?_
                                              refine hr_bipush (v := (-4)) (q := 111) X dX0_copy_109 rfl rfl ?_
                                              refine hr_call (kr := 33) (nr := 3453) (q := 114) (hc_S (n := 2) (As := [.int (bI true), .int (-4)]) X dX0_copy_111 rfl (tc_need X.tr (g := true) (w := (-4))) q383 cs_X0_need ⟨Nat.le_of_ble_eq_true rfl, Nat.le_of_ble_eq_true rfl⟩ rfl (Nat.le_of_ble_eq_true rfl)) rfl (fun qxn34 E Gxn34 hpn34 _ => ?_) (fun r Gn34 hpn34 _ => ?_)
                                              · obtain ⟨hgn34, hrn34, -⟩ | ⟨hgn34, qn34, hrn34, htn34⟩ := hpn34
                                                · cases hrn34
                                                · cases hgn34
                                              · obtain ⟨hgn34, hrn34, hGn34⟩ | ⟨hgn34, qn34, hrn34, htn34⟩ := hpn34
                                                · cases hrn34
                                                  have hGn34 := hGn34.symm
                                                  subst hGn34
                                                  refine hr_aload8 (q := 116) X dX0_copy_114 rfl ?_
                                                  refine hr_callP (q := 119) (hcR_held (h.r (iN a1) (by omega) hgn29).1 X dX0_copy_116 q522 ⟨Nat.le_of_ble_eq_true rfl, Nat.le_of_ble_eq_true rfl⟩ (Nat.le_of_ble_eq_true rfl)) rfl ?_
                                                  refine hr_iload3 (q := 120) X dX0_copy_119 rfl ?_
                                                  refine hr_aload9 (q := 122) X dX0_copy_120 rfl ?_
                                                  refine hr_callP (q := 125) (hcR_held (h.r (iN a2) (by omega) hgn30).1 X dX0_copy_122 q522 ⟨Nat.le_of_ble_eq_true rfl, Nat.le_of_ble_eq_true rfl⟩ (Nat.le_of_ble_eq_true rfl)) rfl ?_
                                                  refine hr_iload4 (q := 127) X dX0_copy_125 rfl ?_
                                                  refine hr_iload5 (q := 129) X dX0_copy_127 rfl ?_
                                                  have R1 := (h.r (iN a1) (by omega) hgn29).1
                                                  have R2 := (h.r (iN a2) (by omega) hgn30).1
                                                  have z1 := R1.2.1
                                                  have z2 := R2.2.1
                                                  obtain ⟨ek, lk⟩ := rr_k_1 R1.1
                                                  have hse : A.1.1 19 (iN a1) = A.1.1 19 (iN a2) := by omega
                                                  have ha1 := R1.2.2.2.2
                                                  have ha2 := R2.2.2.2.2
                                                  rw [← hse] at ha2
                                                  rw [← ek] at ha1 ha2
                                                  have h89 := c101
                                                  by_cases b1 : a3 < 0
                                                  · refine hr_copyX (kr := 30) (nr := 2943) (t := rr_k (A.1.1 19 (iN a1)) - 1) X dX0_copy_129 q537 q539 q538 q102 lk ha1 ha2 (by omega) (by omega) (Or.inl b1) (Nat.le_of_ble_eq_true rfl) (Nat.le_of_ble_eq_true rfl) (fun q9 => ?_)
                                                    refine hx_catch (name := "java/lang/IndexOutOfBoundsException") X [] ⟨114, 132, 135, 165⟩ [⟨0, 148, 149, 21⟩] htab (fun _ h => absurd h List.not_mem_nil) (by decide) (by decide) q501 (by decide) ?_
                                                    refine hr_astore10 (q := 137) X dX0_copy_135 rfl rfl (Nat.le_of_ble_eq_true rfl) ?_
                                                    refine hr_new (kr := 29) (nr := 2936) (q := 140) (ci := 6) (T := TX6) (N := 7) (ty := tyX6) X dX0_copy_137 rfl q277 q360 q94 rfl in_X6 tyX6_ok (by decide) (fun x35 hlx35 hnx35 => ?_)
                                                    refine hr_dup (q := 141) X dX0_copy_140 rfl rfl ?_
                                                    refine hr_bipush (v := (-5)) (q := 143) X dX0_copy_141 rfl rfl ?_
                                                    refine hr_call0 (q := 146) (hc_I (n := 1) (As := [.int (-5)]) X dX0_copy_143 rfl (tx_new6 X.tr (b := x35) (if_pos rfl) (w := (-5))) q368 cj_X6_init ⟨Nat.le_of_ble_eq_true rfl, Nat.le_of_ble_eq_true rfl⟩ rfl (Nat.le_of_ble_eq_true rfl)) rfl (fun qx E G' hp => by cases hp.1) (fun r Gw36 hp _ => ?_)
                                                    obtain ⟨hvw36, hkw36, hww36, hbtw36⟩ := hp
                                                    cases hvw36
                                                    have htw36 : tx_T 6 x35 (-5) G Gw36 := ⟨hnx35, by rw [hkw36]; exact if_pos rfl, hww36, hg_bt.N.tr hbtw36⟩
                                                    have hxw36 := h.T htw36
                                                    refine hr_athrow X dX0_copy_146 (ci := 6) htw36.2.1 rfl rfl ?_
                                                    refine hx_catch (name := "TaxOnLooks$Refused") X [⟨114, 132, 135, 165⟩] ⟨0, 148, 149, 21⟩ [] htab (List.forall_mem_cons.mpr ⟨Or.inl (by decide), fun _ h => absurd h List.not_mem_nil⟩) (by decide) (by decide) q277 (by decide) ?_
                                                    refine hr_astore6 (q := 151) X dX0_copy_149 rfl rfl (Nat.le_of_ble_eq_true rfl) ?_
                                                    refine hr_aload0 (q := 152) X dX0_copy_151 rfl ?_
                                                    refine hr_aload6 (q := 154) X dX0_copy_152 rfl ?_
                                                    refine hr_call0 (q := 157) (hc_V (n := 1) (ci := 0) (As := [.ref x35]) X dX0_copy_154 rfl (tc_refused X.tr hxw36 hW (q := x35) htw36.2.1 htw36.2.2.1 (k := 5) (by decide) (by decide) (by decide)) q452 cv_X0_refused ⟨Nat.le_of_ble_eq_true rfl, Nat.le_of_ble_eq_true rfl⟩ rfl (Nat.le_of_ble_eq_true rfl) hxw36.o.1 rfl rfl) rfl (fun qx E G' hp => by cases hp.1) (fun r Gf37 hp _ => ?_)
                                                    obtain ⟨hvf37, hhf37⟩ := hp
                                                    cases hvf37
                                                    have hq38 : sq_copy a1 a2 a3 a4 a5 A = ((-5), (sq_no (-5) A).2) := by
                                                      simp [sq_copy, sq_noTen, sq_no_1, hgn1, hgn4, eq_false n19, eq_false n27, hgn23, hgn24, eq_true (show (A.1.1 19 (iN a1)) = (A.1.1 19 (iN a2)) by omega), hgn29, hgn30, eq_true hz5, eq_true b1]
                                                    exact hr_iret X hr dX0_copy_157 (by rw [hq38]; exact ⟨rfl, ca, rfl, hhf37⟩)
                                                  by_cases b2 : a4 < 0
                                                  · refine hr_copyX (kr := 30) (nr := 2943) (t := rr_k (A.1.1 19 (iN a1)) - 1) X dX0_copy_129 q537 q539 q538 q102 lk ha1 ha2 (by omega) (by omega) (Or.inr (Or.inl b2)) (Nat.le_of_ble_eq_true rfl) (Nat.le_of_ble_eq_true rfl) (fun q9 => ?_)
                                                    refine hx_catch (name := "java/lang/IndexOutOfBoundsException") X [] ⟨114, 132, 135, 165⟩ [⟨0, 148, 149, 21⟩] htab (fun _ h => absurd h List.not_mem_nil) (by decide) (by decide) q501 (by decide) ?_
                                                    refine hr_astore10 (q := 137) X dX0_copy_135 rfl rfl (Nat.le_of_ble_eq_true rfl) ?_
                                                    refine hr_new (kr := 29) (nr := 2936) (q := 140) (ci := 6) (T := TX6) (N := 7) (ty := tyX6) X dX0_copy_137 rfl q277 q360 q94 rfl in_X6 tyX6_ok (by decide) (fun x39 hlx39 hnx39 => ?_)
                                                    refine hr_dup (q := 141) X dX0_copy_140 rfl rfl ?_
                                                    refine hr_bipush (v := (-5)) (q := 143) X dX0_copy_141 rfl rfl ?_
                                                    refine hr_call0 (q := 146) (hc_I (n := 1) (As := [.int (-5)]) X dX0_copy_143 rfl (tx_new6 X.tr (b := x39) (if_pos rfl) (w := (-5))) q368 cj_X6_init ⟨Nat.le_of_ble_eq_true rfl, Nat.le_of_ble_eq_true rfl⟩ rfl (Nat.le_of_ble_eq_true rfl)) rfl (fun qx E G' hp => by cases hp.1) (fun r Gw40 hp _ => ?_)
                                                    obtain ⟨hvw40, hkw40, hww40, hbtw40⟩ := hp
                                                    cases hvw40
                                                    have htw40 : tx_T 6 x39 (-5) G Gw40 := ⟨hnx39, by rw [hkw40]; exact if_pos rfl, hww40, hg_bt.N.tr hbtw40⟩
                                                    have hxw40 := h.T htw40
                                                    refine hr_athrow X dX0_copy_146 (ci := 6) htw40.2.1 rfl rfl ?_
                                                    refine hx_catch (name := "TaxOnLooks$Refused") X [⟨114, 132, 135, 165⟩] ⟨0, 148, 149, 21⟩ [] htab (List.forall_mem_cons.mpr ⟨Or.inl (by decide), fun _ h => absurd h List.not_mem_nil⟩) (by decide) (by decide) q277 (by decide) ?_
                                                    refine hr_astore6 (q := 151) X dX0_copy_149 rfl rfl (Nat.le_of_ble_eq_true rfl) ?_
                                                    refine hr_aload0 (q := 152) X dX0_copy_151 rfl ?_
                                                    refine hr_aload6 (q := 154) X dX0_copy_152 rfl ?_
                                                    refine hr_call0 (q := 157) (hc_V (n := 1) (ci := 0) (As := [.ref x39]) X dX0_copy_154 rfl (tc_refused X.tr hxw40 hW (q := x39) htw40.2.1 htw40.2.2.1 (k := 5) (by decide) (by decide) (by decide)) q452 cv_X0_refused ⟨Nat.le_of_ble_eq_true rfl, Nat.le_of_ble_eq_true rfl⟩ rfl (Nat.le_of_ble_eq_true rfl) hxw40.o.1 rfl rfl) rfl (fun qx E G' hp => by cases hp.1) (fun r Gf41 hp _ => ?_)
                                                    obtain ⟨hvf41, hhf41⟩ := hp
                                                    cases hvf41
                                                    have hq42 : sq_copy a1 a2 a3 a4 a5 A = ((-5), (sq_no (-5) A).2) := by
                                                      simp [sq_copy, sq_noTen, sq_no_1, hgn1, hgn4, eq_false n19, eq_false n27, hgn23, hgn24, eq_true (show (A.1.1 19 (iN a1)) = (A.1.1 19 (iN a2)) by omega), hgn29, hgn30, eq_true hz5, eq_false b1, eq_true b2]
                                                    exact hr_iret X hr dX0_copy_157 (by rw [hq42]; exact ⟨rfl, ca, rfl, hhf41⟩)
                                                  by_cases b3 : nI (A.1.1 20 (iN a1)) - a5 < a3
                                                  · refine hr_copyX (kr := 30) (nr := 2943) (t := rr_k (A.1.1 19 (iN a1)) - 1) X dX0_copy_129 q537 q539 q538 q102 lk ha1 ha2 (by omega) (by omega) (Or.inr (Or.inr (Or.inr (Or.inl (cp_nofit z1 b1 c101 b3))))) (Nat.le_of_ble_eq_true rfl) (Nat.le_of_ble_eq_true rfl) (fun q9 => ?_)
                                                    refine hx_catch (name := "java/lang/IndexOutOfBoundsException") X [] ⟨114, 132, 135, 165⟩ [⟨0, 148, 149, 21⟩] htab (fun _ h => absurd h List.not_mem_nil) (by decide) (by decide) q501 (by decide) ?_
                                                    refine hr_astore10 (q := 137) X dX0_copy_135 rfl rfl (Nat.le_of_ble_eq_true rfl) ?_
                                                    refine hr_new (kr := 29) (nr := 2936) (q := 140) (ci := 6) (T := TX6) (N := 7) (ty := tyX6) X dX0_copy_137 rfl q277 q360 q94 rfl in_X6 tyX6_ok (by decide) (fun x43 hlx43 hnx43 => ?_)
                                                    refine hr_dup (q := 141) X dX0_copy_140 rfl rfl ?_
                                                    refine hr_bipush (v := (-5)) (q := 143) X dX0_copy_141 rfl rfl ?_
                                                    refine hr_call0 (q := 146) (hc_I (n := 1) (As := [.int (-5)]) X dX0_copy_143 rfl (tx_new6 X.tr (b := x43) (if_pos rfl) (w := (-5))) q368 cj_X6_init ⟨Nat.le_of_ble_eq_true rfl, Nat.le_of_ble_eq_true rfl⟩ rfl (Nat.le_of_ble_eq_true rfl)) rfl (fun qx E G' hp => by cases hp.1) (fun r Gw44 hp _ => ?_)
                                                    obtain ⟨hvw44, hkw44, hww44, hbtw44⟩ := hp
                                                    cases hvw44
                                                    have htw44 : tx_T 6 x43 (-5) G Gw44 := ⟨hnx43, by rw [hkw44]; exact if_pos rfl, hww44, hg_bt.N.tr hbtw44⟩
                                                    have hxw44 := h.T htw44
                                                    refine hr_athrow X dX0_copy_146 (ci := 6) htw44.2.1 rfl rfl ?_
                                                    refine hx_catch (name := "TaxOnLooks$Refused") X [⟨114, 132, 135, 165⟩] ⟨0, 148, 149, 21⟩ [] htab (List.forall_mem_cons.mpr ⟨Or.inl (by decide), fun _ h => absurd h List.not_mem_nil⟩) (by decide) (by decide) q277 (by decide) ?_
                                                    refine hr_astore6 (q := 151) X dX0_copy_149 rfl rfl (Nat.le_of_ble_eq_true rfl) ?_
                                                    refine hr_aload0 (q := 152) X dX0_copy_151 rfl ?_
                                                    refine hr_aload6 (q := 154) X dX0_copy_152 rfl ?_
                                                    refine hr_call0 (q := 157) (hc_V (n := 1) (ci := 0) (As := [.ref x43]) X dX0_copy_154 rfl (tc_refused X.tr hxw44 hW (q := x43) htw44.2.1 htw44.2.2.1 (k := 5) (by decide) (by decide) (by decide)) q452 cv_X0_refused ⟨Nat.le_of_ble_eq_true rfl, Nat.le_of_ble_eq_true rfl⟩ rfl (Nat.le_of_ble_eq_true rfl) hxw44.o.1 rfl rfl) rfl (fun qx E G' hp => by cases hp.1) (fun r Gf45 hp _ => ?_)
                                                    obtain ⟨hvf45, hhf45⟩ := hp
                                                    cases hvf45
                                                    have hq46 : sq_copy a1 a2 a3 a4 a5 A = ((-5), (sq_no (-5) A).2) := by
                                                      simp [sq_copy, sq_noTen, sq_no_1, hgn1, hgn4, eq_false n19, eq_false n27, hgn23, hgn24, eq_true (show (A.1.1 19 (iN a1)) = (A.1.1 19 (iN a2)) by omega), hgn29, hgn30, eq_true hz5, eq_false b1, eq_false b2, eq_true b3]
                                                    exact hr_iret X hr dX0_copy_157 (by rw [hq46]; exact ⟨rfl, ca, rfl, hhf45⟩)
                                                  by_cases b4 : a4 ≤ nI (A.1.1 20 (iN a2)) - a5
                                                  · have f1 := sp_fit z1 b1 c101 (Int32.not_lt.mp b3)
                                                    have f2 := sp_fit z2 b2 c101 b4
                                                    obtain ⟨e3, -⟩ := sp_geN b1
                                                    obtain ⟨e4, -⟩ := sp_geN b2
                                                    obtain ⟨e5, -⟩ := sp_geN c101
                                                    have est : ∀ (x1 x2 : Nat) (r : List Value), (Value.int a5 :: .int a4 :: .ref x1 :: .int a3 :: .ref x2 :: r) = (Value.int (nI (iN a5)) :: .int (nI (iN a4)) :: .ref x1 :: .int (nI (iN a3)) :: .ref x2 :: r) := fun x1 x2 r => by rw [← e5, ← e4, ← e3]
                                                    rw [est]
                                                    by_cases h3 : A.1.1 19 (iN a1) = 3
                                                    · rw [h3] at ha1 ha2
                                                      refine hr_copyJ (q := 132) X dX0_copy_129 rfl q537 q539 q538 q102 ha1 ha2 f1 f2 (by omega) (by omega) (Nat.le_of_ble_eq_true rfl) (by decide) ?_
                                                      have hc9 : cp_R (hs_CJ G (ca (39 + iN a2)) (ca (39 + iN a1)) (iN a3) (iN a4) (iN a5)) ca (ab_cp A (iN a1) (iN a3) (iN a2) (iN a4) (iN a5)) := h.cJ (by omega) (by omega) hgn29 hgn30 hse h3 f1 f2
                                                      refine hr_goto (tgt := 147) X dX0_copy_132 (by decide) ?_
                                                      refine hr_iconst (v := (nI 1)) (q := 148) X dX0_copy_147 rfl rfl ?_
                                                      have hq47 : sq_copy a1 a2 a3 a4 a5 A = ((nI 1), (ab_cp A (iN a1) (iN a3) (iN a2) (iN a4) (iN a5))) := by
                                                        simp [sq_copy, sq_noTen, sq_no_1, hgn1, hgn4, eq_false n19, eq_false n27, hgn23, hgn24, eq_true (show (A.1.1 19 (iN a1)) = (A.1.1 19 (iN a2)) by omega), hgn29, hgn30, eq_true hz5, eq_false b1, eq_false b2, eq_false b3, eq_true b4]
                                                      exact hr_iret X hr dX0_copy_148 (by rw [hq47]; exact ⟨rfl, ca, rfl, hc9⟩)
                                                    · have ht9 : rr_k (A.1.1 19 (iN a1)) - 1 = 0 ∨ rr_k (A.1.1 19 (iN a1)) - 1 = 2 ∨ rr_k (A.1.1 19 (iN a1)) - 1 = 3 := by
                                                        have := R1.1
                                                        rcases (show A.1.1 19 (iN a1) = 0 ∨ A.1.1 19 (iN a1) = 1 ∨ A.1.1 19 (iN a1) = 2 by omega) with g | g | g <;> rw [g] <;> decide
                                                      refine hr_copyI (q := 132) (t := rr_k (A.1.1 19 (iN a1)) - 1) X dX0_copy_129 rfl q537 q539 q538 q102 ht9 ha1 ha2 f1 f2 (by omega) (by omega) (fun j hj => h.fit hF (i := iN a1) (by omega) hgn29 (by omega) h3) (Nat.le_of_ble_eq_true rfl) (by decide) ?_
                                                      have hc9 : cp_R (hs_CI G (ca (39 + iN a2)) (ca (39 + iN a1)) (iN a3) (iN a4) (iN a5)) ca (ab_cp A (iN a1) (iN a3) (iN a2) (iN a4) (iN a5)) := h.cI (by omega) (by omega) hgn29 hgn30 hse h3 f1 f2
                                                      refine hr_goto (tgt := 147) X dX0_copy_132 (by decide) ?_
                                                      refine hr_iconst (v := (nI 1)) (q := 148) X dX0_copy_147 rfl rfl ?_
                                                      have hq48 : sq_copy a1 a2 a3 a4 a5 A = ((nI 1), (ab_cp A (iN a1) (iN a3) (iN a2) (iN a4) (iN a5))) := by
                                                        simp [sq_copy, sq_noTen, sq_no_1, hgn1, hgn4, eq_false n19, eq_false n27, hgn23, hgn24, eq_true (show (A.1.1 19 (iN a1)) = (A.1.1 19 (iN a2)) by omega), hgn29, hgn30, eq_true hz5, eq_false b1, eq_false b2, eq_false b3, eq_true b4]
                                                      exact hr_iret X hr dX0_copy_148 (by rw [hq48]; exact ⟨rfl, ca, rfl, hc9⟩)
                                                  · refine hr_copyX (kr := 30) (nr := 2943) (t := rr_k (A.1.1 19 (iN a1)) - 1) X dX0_copy_129 q537 q539 q538 q102 lk ha1 ha2 (by omega) (by omega) (Or.inr (Or.inr (Or.inr (Or.inr (cp_nofit z2 b2 c101 (Int32.not_le.mp b4)))))) (Nat.le_of_ble_eq_true rfl) (Nat.le_of_ble_eq_true rfl) (fun q9 => ?_)
                                                    refine hx_catch (name := "java/lang/IndexOutOfBoundsException") X [] ⟨114, 132, 135, 165⟩ [⟨0, 148, 149, 21⟩] htab (fun _ h => absurd h List.not_mem_nil) (by decide) (by decide) q501 (by decide) ?_
                                                    refine hr_astore10 (q := 137) X dX0_copy_135 rfl rfl (Nat.le_of_ble_eq_true rfl) ?_
                                                    refine hr_new (kr := 29) (nr := 2936) (q := 140) (ci := 6) (T := TX6) (N := 7) (ty := tyX6) X dX0_copy_137 rfl q277 q360 q94 rfl in_X6 tyX6_ok (by decide) (fun x49 hlx49 hnx49 => ?_)
                                                    refine hr_dup (q := 141) X dX0_copy_140 rfl rfl ?_
                                                    refine hr_bipush (v := (-5)) (q := 143) X dX0_copy_141 rfl rfl ?_
                                                    refine hr_call0 (q := 146) (hc_I (n := 1) (As := [.int (-5)]) X dX0_copy_143 rfl (tx_new6 X.tr (b := x49) (if_pos rfl) (w := (-5))) q368 cj_X6_init ⟨Nat.le_of_ble_eq_true rfl, Nat.le_of_ble_eq_true rfl⟩ rfl (Nat.le_of_ble_eq_true rfl)) rfl (fun qx E G' hp => by cases hp.1) (fun r Gw50 hp _ => ?_)
                                                    obtain ⟨hvw50, hkw50, hww50, hbtw50⟩ := hp
                                                    cases hvw50
                                                    have htw50 : tx_T 6 x49 (-5) G Gw50 := ⟨hnx49, by rw [hkw50]; exact if_pos rfl, hww50, hg_bt.N.tr hbtw50⟩
                                                    have hxw50 := h.T htw50
                                                    refine hr_athrow X dX0_copy_146 (ci := 6) htw50.2.1 rfl rfl ?_
                                                    refine hx_catch (name := "TaxOnLooks$Refused") X [⟨114, 132, 135, 165⟩] ⟨0, 148, 149, 21⟩ [] htab (List.forall_mem_cons.mpr ⟨Or.inl (by decide), fun _ h => absurd h List.not_mem_nil⟩) (by decide) (by decide) q277 (by decide) ?_
                                                    refine hr_astore6 (q := 151) X dX0_copy_149 rfl rfl (Nat.le_of_ble_eq_true rfl) ?_
                                                    refine hr_aload0 (q := 152) X dX0_copy_151 rfl ?_
                                                    refine hr_aload6 (q := 154) X dX0_copy_152 rfl ?_
                                                    refine hr_call0 (q := 157) (hc_V (n := 1) (ci := 0) (As := [.ref x49]) X dX0_copy_154 rfl (tc_refused X.tr hxw50 hW (q := x49) htw50.2.1 htw50.2.2.1 (k := 5) (by decide) (by decide) (by decide)) q452 cv_X0_refused ⟨Nat.le_of_ble_eq_true rfl, Nat.le_of_ble_eq_true rfl⟩ rfl (Nat.le_of_ble_eq_true rfl) hxw50.o.1 rfl rfl) rfl (fun qx E G' hp => by cases hp.1) (fun r Gf51 hp _ => ?_)
                                                    obtain ⟨hvf51, hhf51⟩ := hp
                                                    cases hvf51
                                                    have hq52 : sq_copy a1 a2 a3 a4 a5 A = ((-5), (sq_no (-5) A).2) := by
                                                      simp [sq_copy, sq_noTen, sq_no_1, hgn1, hgn4, eq_false n19, eq_false n27, hgn23, hgn24, eq_true (show (A.1.1 19 (iN a1)) = (A.1.1 19 (iN a2)) by omega), hgn29, hgn30, eq_true hz5, eq_false b1, eq_false b2, eq_false b3, eq_false b4]
                                                    exact hr_iret X hr dX0_copy_157 (by rw [hq52]; exact ⟨rfl, ca, rfl, hhf51⟩)
                                                · cases hrn34
                                          · cases hrn30
                                          · cases hrn30
                                      · cases hrn29
                                      · cases hrn29
                                  · cases hrn28
                            · cases hrn24
                            · cases hrn24
                        · cases hrn23
                        · cases hrn23
                · cases hrn13
        · cases hrn4
    · cases hrn1

