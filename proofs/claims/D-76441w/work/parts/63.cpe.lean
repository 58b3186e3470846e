theorem sp_set_e {t : sp_S} {k j n a i : Nat} : (sp_set t k j n).1 a i = if a = k then (if i = j then n else t.1 a i) else t.1 a i := rfl
theorem vp_t {x : Int32} {n : Nat} (hn : n < 2 ^ 31) (h : vp_in x n) : ¬ x < 0 ∧ x < nI n ∧ iN x < n := by
  have h0 : ¬ x < 0 := fun e => h (Or.inl e)
  have h1 : iN x < n := Nat.not_le.mp (fun e => h (Or.inr e))
  refine ⟨h0, ?_, h1⟩
  have g := sp_geN h0
  rw [g.1]
  exact (nI_ltI g.2 hn).mpr h1
theorem vp_f {x : Int32} {n : Nat} (hn : n < 2 ^ 31) (h : ¬ vp_in x n) : x < 0 ∨ (¬ x < 0 ∧ ¬ x < nI n) := by
  by_cases h0 : x < 0
  · exact Or.inl h0
  · refine Or.inr ⟨h0, fun e => h (fun z => ?_)⟩
    rcases z with z | z
    · exact h0 z
    · have g := sp_geN h0
      rw [g.1] at e
      have := (nI_ltI g.2 hn).mp e
      have z : n ≤ iN x := z
      omega
section CP8
variable {G G1 G' : hg_G} {ca : Nat → Nat} {A : ab_S}
theorem cp_R.show0 (h : cp_R G ca A) {i : Nat} (hi : i < 8) : cp_R (hs_R G (ca (8 + i)) 0 none) ca (ab_n (ab_n A 18 i 0) 21 i 99) := by
  have e18 : (ab_n (ab_n A 18 i 0) 21 i 99).1.1 18 i = 0 := by simp [ab_n, sp_set]
  refine h.hold hi (fun _ _ _ => rfl) (hg_fr.rf.R (Or.inl rfl)) (h.s.2 i hi).2.1 ?_ (fun a j hj => ?_) rfl rfl rfl (fun _ _ => rfl) (fun z => by rw [e18] at z; cases z)
  · rw [hs_Req]
    unfold cp_held
    rw [if_pos e18]
  · show (sp_set (sp_set A.1 18 i 0) 21 i 99).1 a j = _
    rw [sp_set_e, sp_set_e]
    by_cases h1 : a = 21
    · rw [if_pos h1, if_neg (by omega), if_neg (by omega)]
    · rw [if_neg h1]
      by_cases h2 : a = 18
      · rw [if_pos h2, if_neg (by omega)]
      · rw [if_neg h2]
theorem cp_R.showp (h : cp_R G ca A) {i p q : Nat} (hi : i < 8) (hq : G.2.2.2 (ca 22) p = some q) : cp_R (hs_R G (ca (8 + i)) 0 (some q)) ca (ab_n (ab_n A 18 i 2) 21 i p) := by
  have e18 : (ab_n (ab_n A 18 i 2) 21 i p).1.1 18 i = 2 := by simp [ab_n, sp_set]
  have e21 : (ab_n (ab_n A 18 i 2) 21 i p).1.1 21 i = p := by simp [ab_n, sp_set]
  refine h.hold hi (fun _ _ _ => rfl) (hg_fr.rf.R (Or.inl rfl)) (h.s.2 i hi).2.1 ?_ (fun a j hj => ?_) rfl rfl rfl (fun _ _ => rfl) (fun z => by rw [e18] at z; cases z)
  · rw [hs_Req]
    unfold cp_held
    rw [e18, if_neg (by decide), if_neg (by decide), e21, hs_Rne (fun e => by have := h.j 22 (8 + i) (.w (by decide)) (.w (by omega)) e; omega)]
    exact hq.symm
  · show (sp_set (sp_set A.1 18 i 2) 21 i p).1 a j = _
    rw [sp_set_e, sp_set_e]
    by_cases h1 : a = 21
    · rw [if_pos h1, if_neg (by omega), if_neg (by omega)]
    · rw [if_neg h1]
      by_cases h2 : a = 18
      · rw [if_pos h2, if_neg (by omega)]
      · rw [if_neg h2]
def cp_cn (ca : Nat → Nat) (i x y : Nat) : Nat → Nat := fun r => if r = 31 + i then x else if r = 39 + i then y else ca r
theorem cp_cn_0 {i x y : Nat} : cp_cn ca i x y 0 = ca 0 := by
  unfold cp_cn
  rw [if_neg (by omega), if_neg (by omega)]
theorem cp_R.rown (h : cp_R G ca A) {i x y s n : Nat} (hi : i < 8) (hx : G.1 x = none) (hy : G.1 y = none) (hxy : x ≠ y) (hR : rr_R G1 x y s n) (hz : ∀ j, rr_el G1 y s j = 0) (hf : hg_fr (fun a => a = x ∨ a = y) G G1) :
    cp_R (hs_R G1 (ca (8 + i)) 0 (some x)) (cp_cn ca i x y) (ab_z (ab_n (ab_n (ab_n A 18 i 1) 19 i s) 20 i n) i 160) := by
  have h8 := h.ex (r := 8 + i) (.w (by omega))
  have x8 : ca (8 + i) ≠ x := fun e => h8 (by rw [e]; exact hx)
  have y8 : ca (8 + i) ≠ y := fun e => h8 (by rw [e]; exact hy)
  have e18 : (ab_z (ab_n (ab_n (ab_n A 18 i 1) 19 i s) 20 i n) i 160).1.1 18 i = 1 := by simp [ab_z, ab_n, sp_set]
  have e19 : (ab_z (ab_n (ab_n (ab_n A 18 i 1) 19 i s) 20 i n) i 160).1.1 19 i = s := by simp [ab_z, ab_n, sp_set]
  have e20 : (ab_z (ab_n (ab_n (ab_n A 18 i 1) 19 i s) 20 i n) i 160).1.1 20 i = n := by simp [ab_z, ab_n, sp_set]
  have cx : cp_cn ca i x y (31 + i) = x := if_pos rfl
  have cy : cp_cn ca i x y (39 + i) = y := by unfold cp_cn; rw [if_neg (by omega), if_pos rfl]
  have hf2 : hg_fr (fun a => a = ca (8 + i) ∨ G.1 a = none) G (hs_R G1 (ca (8 + i)) 0 (some x)) := hg_fr.R (hf.mono (fun a z => Or.inr (by rcases z with rfl | rfl <;> assumption))) (Or.inl rfl)
  refine h.hold hi (fun r h1 h2 => by unfold cp_cn; rw [if_neg h1, if_neg h2]) hf2 ?_ ?_ (fun a j hj => ?_) rfl rfl rfl (fun m hm => ?_) (fun _ => ?_)
  · show G1.1 (ca (8 + i)) = _
    rw [(hf _ (fun z => z.elim x8 y8)).1]
    exact (h.s.2 i hi).2.1
  · rw [hs_Req]
    unfold cp_held
    rw [e18, if_neg (by decide), if_pos rfl, cx]
  · show (sp_set (sp_set (sp_set A.1 18 i 1) 19 i s) 20 i n).1 a j = _
    rw [sp_set_e, sp_set_e, sp_set_e]
    by_cases h1 : a = 20
    · rw [if_pos h1, if_neg (by omega), if_neg (by omega), if_neg (by omega)]
    · rw [if_neg h1]
      by_cases h2 : a = 19
      · rw [if_pos h2, if_neg (by omega), if_neg (by omega)]
      · rw [if_neg h2]
        by_cases h3 : a = 18
        · rw [if_pos h3, if_neg (by omega)]
        · rw [if_neg h3]
  · exact if_neg hm
  · rw [e19, e20, cx, cy]
    refine ⟨⟨⟨hR.1, hR.2.1, hR.2.2.1, (hs_Rne (Ne.symm x8)).trans hR.2.2.2.1, hR.2.2.2.2⟩, fun j hj => ?_⟩, hx, hy, hxy⟩
    have : rr_el (hs_R G1 (ca (8 + i)) 0 (some x)) y s j = rr_el G1 y s j := rfl
    rw [this, hz]
    have := hR.2.1
    exact (if_pos ⟨by omega, by omega⟩).symm
def rr_v (s : Nat) (v : Int64) : Int64 := if s = 3 then v else (rr_nar s v.toInt32).toInt64
theorem rr_put_el {y s j k : Nat} {v : Int64} : rr_el (rr_put G y s j v) y s k = if k = j then rr_v s v else rr_el G y s k := by
  unfold rr_el rr_put rr_v
  by_cases h : s = 3
  · rw [if_pos h, if_pos h, if_pos h, if_pos h, hs_JJ]
    by_cases e : k = j
    · rw [if_pos e, if_pos e, if_pos rfl]
    · rw [if_neg e, if_neg e]
  · rw [if_neg h, if_neg h, if_neg h, if_neg h, hs_II]
    by_cases e : k = j
    · rw [if_pos e, if_pos e, if_pos rfl]
    · rw [if_neg e, if_neg e]
theorem rr_put_fr {y s j : Nat} {v : Int64} : hg_fr (fun a => a = y) G (rr_put G y s j v) := by
  unfold rr_put
  by_cases h : s = 3
  · rw [if_pos h]; exact hg_fr.rf.J rfl
  · rw [if_neg h]; exact hg_fr.rf.I rfl
theorem rr_put_1 {y s j : Nat} {v : Int64} : (rr_put G y s j v).1 = G.1 := by
  unfold rr_put
  by_cases h : s = 3
  · rw [if_pos h]; rfl
  · rw [if_neg h]; rfl
theorem cp_R.put (h : cp_R G ca A) {i j : Nat} (hi : i < 8) (h1 : A.1.1 18 i = 1) (hj : j < A.1.1 20 i) {v : Int64} : cp_R (rr_put G (ca (39 + i)) (A.1.1 19 i) j v) ca (ab_c A (160 * i + j) (rr_v (A.1.1 19 i) v)) := by
  obtain ⟨g1, g2⟩ := h.r i hi h1
  have g3 := g1.2.1
  refine h.elem hi h1 rr_put_fr (by rw [rr_put_1]) rfl rfl rfl (fun m hm => if_neg (by omega)) (fun k hk => ?_)
  rw [rr_put_el]
  show _ = if 160 * i + k = 160 * i + j then _ else _
  by_cases e : k = j
  · rw [if_pos e, if_pos (by omega)]
  · rw [if_neg e, if_neg (by omega), g2 k hk]
end CP8
abbrev rk_X0_show : Room := { frames := 13, cells := 40, slots := 3000, locals := 10342 }
theorem tc_show {l : Launch} {D : hg_D} {lo : Nat} (htr : l.stackTraces = false) {G : hg_G} {ca : Nat → Nat} {A : ab_S} (h : cp_R G ca A) (hW : ab_wf A) {a1 a2 : Int32} :
    hg_M l D lo yX0_show (wsW_ yX0_show cX0_show 4 ((some FieldType.int)) [(0, 17, 38, 21), (18, 37, 38, 21)]) rk_X0_show [.ref (ca 0), .int a1, .int a2] G (cp_Po ca (sq_show a1 a2 A)) := by
  refine hg_M.ofH htr (by decide) [some (.ref (ca 0)), some (.int a1), some (.int a2), none] rfl (Nat.le_of_ble_eq_true rfl) ?_
  intro p e s m args below meth c X hr hnm htab
  have X : hg_X p l s m args meth c D lo "TaxOnLooks" cX0_show 4 := X
  refine hr_room (kr' := 40) (nr' := 3000) (Nat.le_of_ble_eq_true rfl) (Nat.le_of_ble_eq_true rfl) ?_
  have hw := hW.w; have w0 := hw.b0; have w1 := hw.b1; have w2 := hw.b2; have w3 := hw.b3; have w36 := hW.b36; have w43 := hW.b43
  have hpw := sp_wpk hw; have hpb := sp_bpk hw
  obtain ⟨K, hK, hKs, hKb⟩ := h.w.sk
  refine hr_aload0 (q := 1) X dX0_show_0 rfl ?_
  refine hr_iload1 (q := 2) X dX0_show_1 rfl ?_
  refine hr_call (kr := 36) (nr := 2771) (q := 5) (hc_VX (n := 1) (ci := 0) (As := [.int a1]) X dX0_show_2 rfl (tc_shelf X.tr h (x := a1)) q278 cv_X0_shelf ⟨Nat.le_of_ble_eq_true rfl, Nat.le_of_ble_eq_true rfl⟩ rfl (Nat.le_of_ble_eq_true rfl) h.o.1 rfl rfl) rfl (fun qxn1 E Gxn1 hpn1 _ => ?_) (fun r Gn1 hpn1 _ => ?_)
  · obtain ⟨hgn1, hrn1, hGn1⟩ | ⟨hgn1, qn1, hrn1, htn1⟩ := hpn1
    · cases hrn1
    · cases hrn1
      have hxn1 := h.T htn1
      refine hx_catch (name := "TaxOnLooks$Refused") X [] ⟨0, 17, 38, 21⟩ [⟨18, 37, 38, 21⟩] htab (fun _ h => absurd h List.not_mem_nil) (by decide) (by decide) q277 (by decide) ?_
      refine hr_astore3 (q := 39) X dX0_show_38 rfl rfl (Nat.le_of_ble_eq_true rfl) ?_
      refine hr_aload0 (q := 40) X dX0_show_39 rfl ?_
      refine hr_aload3 (q := 41) X dX0_show_40 rfl ?_
      refine hr_call0 (q := 44) (hc_V (n := 1) (ci := 0) (As := [.ref qxn1]) X dX0_show_41 rfl (tc_refused X.tr hxn1 hW (q := qxn1) htn1.2.1 htn1.2.2.1 (k := 1) (by decide) (by decide) (by decide)) q452 cv_X0_refused ⟨Nat.le_of_ble_eq_true rfl, Nat.le_of_ble_eq_true rfl⟩ rfl (Nat.le_of_ble_eq_true rfl) hxn1.o.1 rfl rfl) rfl (fun qx E G' hp => by cases hp.1) (fun r Gf2 hp _ => ?_)
      obtain ⟨hvf2, hhf2⟩ := hp
      cases hvf2
      have hq3 : sq_show a1 a2 A = ((-1), (sq_no (-1) A).2) := by
        simp [sq_show, sq_noTen, sq_no_1, hgn1]
      exact hr_iret X hr dX0_show_44 (by rw [hq3]; exact ⟨rfl, ca, rfl, hhf2⟩)
  · obtain ⟨hgn1, hrn1, hGn1⟩ | ⟨hgn1, qn1, hrn1, htn1⟩ := hpn1
    · cases hrn1
      have hGn1 := hGn1.symm
      subst hGn1
      obtain ⟨ea1, la1⟩ := sp_in_n hgn1 (by omega)
      refine hr_L (L' := [some (.ref (ca 0)), some (.int (nI (iN a1))), some (.int a2), none]) (by rw [← ea1]) ?_
      refine hr_astore3 (q := 6) X dX0_show_5 rfl rfl (Nat.le_of_ble_eq_true rfl) ?_
      refine hr_iload2 (q := 7) X dX0_show_6 rfl ?_
      refine hr_iconst (v := (-1)) (q := 8) X dX0_show_7 rfl rfl ?_
      refine hr_icmp_ne (q := 11) (tgt := 18) X dX0_show_8 rfl (by decide) (fun c8 => ?_) (fun c8 => ?_)
      · refine hr_aload0 (q := 19) X dX0_show_18 rfl ?_
        refine hr_iload2 (q := 20) X dX0_show_19 rfl ?_
        refine hr_call (kr := 35) (nr := 2764) (q := 23) (hc_V (n := 1) (ci := 0) (As := [.int a2]) X dX0_show_20 rfl (tc_mustPerson X.tr h hW (x := a2)) q563 cv_X0_mustPerson ⟨Nat.le_of_ble_eq_true rfl, Nat.le_of_ble_eq_true rfl⟩ rfl (Nat.le_of_ble_eq_true rfl) h.o.1 rfl rfl) rfl (fun qxn4 E Gxn4 hpn4 _ => ?_) (fun r Gn4 hpn4 _ => ?_)
        · obtain ⟨hgn4, hrn4, -⟩ | ⟨hgn4, qn4, hrn4, htn4⟩ := hpn4
          · cases hrn4
          · cases hrn4
            have hxn4 := h.T htn4
            refine hx_catch (name := "TaxOnLooks$Refused") X [⟨0, 17, 38, 21⟩] ⟨18, 37, 38, 21⟩ [] htab (List.forall_mem_cons.mpr ⟨Or.inl (by decide), fun _ h => absurd h List.not_mem_nil⟩) (by decide) (by decide) q277 (by decide) ?_
            refine hr_astore3 (q := 39) X dX0_show_38 rfl rfl (Nat.le_of_ble_eq_true rfl) ?_
            refine hr_aload0 (q := 40) X dX0_show_39 rfl ?_
            refine hr_aload3 (q := 41) X dX0_show_40 rfl ?_
            refine hr_call0 (q := 44) (hc_V (n := 1) (ci := 0) (As := [.ref qxn4]) X dX0_show_41 rfl (tc_refused X.tr hxn4 hW (q := qxn4) htn4.2.1 htn4.2.2.1 (k := 1) (by decide) (by decide) (by decide)) q452 cv_X0_refused ⟨Nat.le_of_ble_eq_true rfl, Nat.le_of_ble_eq_true rfl⟩ rfl (Nat.le_of_ble_eq_true rfl) hxn4.o.1 rfl rfl) rfl (fun qx E G' hp => by cases hp.1) (fun r Gf5 hp _ => ?_)
            obtain ⟨hvf5, hhf5⟩ := hp
            cases hvf5
            have hq6 : sq_show a1 a2 A = ((-1), (sq_no (-1) A).2) := by
              simp [sq_show, sq_noTen, sq_no_1, hgn1, eq_false c8, hgn4]
            exact hr_iret X hr dX0_show_44 (by rw [hq6]; exact ⟨rfl, ca, rfl, hhf5⟩)
        · obtain ⟨hgn4, hrn4, hGn4⟩ | ⟨hgn4, qn4, hrn4, htn4⟩ := hpn4
          · cases hrn4
            have hGn4 := hGn4.symm
            subst hGn4
            obtain ⟨ea2, la2⟩ := sp_in_n hgn4 (by omega)
            refine hr_L (L' := [some (.ref (ca 0)), some (.int (nI (iN a1))), some (.int (nI (iN a2))), some (.ref (ca (8 + iN a1)))]) (by rw [← ea2]) ?_
            refine hr_aload3 (q := 24) X dX0_show_23 rfl ?_
            refine hr_aload0 (q := 25) X dX0_show_24 rfl ?_
            refine hr_getR (v := (cp_w ca 0)) (q := 28) X dX0_show_25 rfl fr_q250_0 rfl h.o.1 h.o.2.2.2.2.2.2.1 ?_
            refine hr_getR (v := (cp_w ca 1)) (q := 31) X dX0_show_28 rfl fr_q181_2 rfl h.w.ob h.w.f11 ?_
            refine hr_iload2 (q := 32) X dX0_show_31 rfl ?_
            obtain ⟨q7, hq7a, hq7k, hq7i, hq7b, hq7s⟩ := h.w.pe (p := iN a2) (by omega)
            have hq79 := hw.b9 (p := iN a2) (by omega)
            refine hr_aaldN (v := q7) (q := 33) X dX0_show_32 rfl h.w.k1 (by decide) (by omega) (by decide) hq7a ?_
            refine hr_putR (q := 36) X dX0_show_33 rfl fw_q241_4 (fun h => nomatch h) rfl rfl (h.s.2 (iN a1) (by omega)).2.1 ?_
            have p8 : cp_R (hs_R G (ca (8 + iN a1)) 0 (some q7)) ca (ab_n (ab_n A 18 (iN a1) 2) 21 (iN a1) (iN a2)) := h.showp (i := iN a1) (p := iN a2) (by omega) hq7a
            refine hr_iconst (v := (nI 1)) (q := 37) X dX0_show_36 rfl rfl ?_
            have hq9 : sq_show a1 a2 A = ((nI 1), (ab_n (ab_n A 18 (iN a1) 2) 21 (iN a1) (iN a2))) := by
              simp [sq_show, sq_noTen, sq_no_1, hgn1, eq_false c8, hgn4]
            exact hr_iret X hr dX0_show_37 (by rw [hq9]; exact ⟨rfl, ca, rfl, p8⟩)
          · cases hrn4
      · refine hr_aload3 (q := 12) X dX0_show_11 rfl ?_
        refine hr_null (q := 13) X dX0_show_12 rfl ?_
        refine hr_putN (q := 16) X dX0_show_13 rfl fw_q241_4 (fun h => nomatch h) rfl rfl (h.s.2 (iN a1) (by omega)).2.1 ?_
        have p10 : cp_R (hs_R G (ca (8 + iN a1)) 0 none) ca (ab_n (ab_n A 18 (iN a1) 0) 21 (iN a1) 99) := h.show0 (i := iN a1) (by omega)
        refine hr_iconst (v := (nI 0)) (q := 17) X dX0_show_16 rfl rfl ?_
        have hq11 : sq_show a1 a2 A = ((nI 0), (ab_n (ab_n A 18 (iN a1) 0) 21 (iN a1) 99)) := by
          simp [sq_show, sq_noTen, sq_no_1, hgn1, eq_true c8]
        exact hr_iret X hr dX0_show_17 (by rw [hq11]; exact ⟨rfl, ca, rfl, p10⟩)
    · cases hrn1

abbrev rk_X0_row : Room := { frames := 13, cells := 40, slots := 3000, locals := 10342 }
theorem tc_rowC {l : Launch} {D : hg_D} {lo : Nat} (htr : l.stackTraces = false) {G : hg_G} {ca : Nat → Nat} {A : ab_S} (h : cp_R G ca A) (hW : ab_wf A) {a1 a2 a3 : Int32} :
    hg_M l D lo yX0_row (wsW_ yX0_row cX0_row 5 ((some FieldType.int)) [(0, 63, 64, 21)]) rk_X0_row [.ref (ca 0), .int a1, .int a2, .int a3] G (cp_Po ca (sq_row a1 a2 a3 A)) := by
  refine hg_M.ofH htr (by decide) [some (.ref (ca 0)), some (.int a1), some (.int a2), some (.int a3), none] rfl (Nat.le_of_ble_eq_true rfl) ?_
  intro p e s m args below meth c X hr hnm htab
  have X : hg_X p l s m args meth c D lo "TaxOnLooks" cX0_row 5 := X
  refine hr_room (kr' := 40) (nr' := 3000) (Nat.le_of_ble_eq_true rfl) (Nat.le_of_ble_eq_true rfl) ?_
  have hw := hW.w; have w0 := hw.b0; have w1 := hw.b1; have w2 := hw.b2; have w3 := hw.b3; have w36 := hW.b36; have w43 := hW.b43
  have hpw := sp_wpk hw; have hpb := sp_bpk hw
  obtain ⟨K, hK, hKs, hKb⟩ := h.w.sk
  refine hr_aload0 (q := 1) X dX0_row_0 rfl ?_
  refine hr_iload1 (q := 2) X dX0_row_1 rfl ?_
  refine hr_call (kr := 36) (nr := 2771) (q := 5) (hc_VX (n := 1) (ci := 0) (As := [.int a1]) X dX0_row_2 rfl (tc_shelf X.tr h (x := a1)) q278 cv_X0_shelf ⟨Nat.le_of_ble_eq_true rfl, Nat.le_of_ble_eq_true rfl⟩ rfl (Nat.le_of_ble_eq_true rfl) h.o.1 rfl rfl) rfl (fun qxn1 E Gxn1 hpn1 _ => ?_) (fun r Gn1 hpn1 _ => ?_)
  · obtain ⟨hgn1, hrn1, hGn1⟩ | ⟨hgn1, qn1, hrn1, htn1⟩ := hpn1
    · cases hrn1
    · cases hrn1
      have hxn1 := h.T htn1
      refine hx_catch (name := "TaxOnLooks$Refused") X [] ⟨0, 63, 64, 21⟩ [] htab (fun _ h => absurd h List.not_mem_nil) (by decide) (by decide) q277 (by decide) ?_
      refine hr_astore4 (q := 66) X dX0_row_64 rfl rfl (Nat.le_of_ble_eq_true rfl) ?_
      refine hr_aload0 (q := 67) X dX0_row_66 rfl ?_
      refine hr_aload4 (q := 69) X dX0_row_67 rfl ?_
      refine hr_call0 (q := 72) (hc_V (n := 1) (ci := 0) (As := [.ref qxn1]) X dX0_row_69 rfl (tc_refused X.tr hxn1 hW (q := qxn1) htn1.2.1 htn1.2.2.1 (k := 1) (by decide) (by decide) (by decide)) q452 cv_X0_refused ⟨Nat.le_of_ble_eq_true rfl, Nat.le_of_ble_eq_true rfl⟩ rfl (Nat.le_of_ble_eq_true rfl) hxn1.o.1 rfl rfl) rfl (fun qx E G' hp => by cases hp.1) (fun r Gf2 hp _ => ?_)
      obtain ⟨hvf2, hhf2⟩ := hp
      cases hvf2
      have hq3 : sq_row a1 a2 a3 A = ((-1), (sq_no (-1) A).2) := by
        simp [sq_row, sq_noTen, sq_no_1, hgn1]
      exact hr_iret X hr dX0_row_72 (by rw [hq3]; exact ⟨rfl, ca, rfl, hhf2⟩)
  · obtain ⟨hgn1, hrn1, hGn1⟩ | ⟨hgn1, qn1, hrn1, htn1⟩ := hpn1
    · cases hrn1
      have hGn1 := hGn1.symm
      subst hGn1
      obtain ⟨ea1, la1⟩ := sp_in_n hgn1 (by omega)
      refine hr_L (L' := [some (.ref (ca 0)), some (.int (nI (iN a1))), some (.int a2), some (.int a3), none]) (by rw [← ea1]) ?_
      refine hr_astore4 (q := 7) X dX0_row_5 rfl rfl (Nat.le_of_ble_eq_true rfl) ?_
      refine hr_iload3 (q := 8) X dX0_row_7 rfl ?_
      refine hr_if_lt (q := 11) (tgt := 15) X dX0_row_8 rfl (by decide) (fun c8 => ?_) (fun c8 => ?_)
      · have hz8 : ¬ 0 ≤ a3 := Int32.not_le.mpr c8
        refine hr_iconst (v := (bI false)) (q := 16) X dX0_row_15 rfl rfl ?_
        refine hr_bipush (v := (-4)) (q := 18) X dX0_row_16 rfl rfl ?_
        refine hr_call (kr := 35) (nr := 2764) (q := 21) (hc_S (n := 2) (As := [.int (bI false), .int (-4)]) X dX0_row_18 rfl (tc_need X.tr (g := false) (w := (-4))) q383 cs_X0_need ⟨Nat.le_of_ble_eq_true rfl, Nat.le_of_ble_eq_true rfl⟩ rfl (Nat.le_of_ble_eq_true rfl)) rfl (fun qxn4 E Gxn4 hpn4 _ => ?_) (fun r Gn4 hpn4 _ => ?_)
        · obtain ⟨hgn4, hrn4, -⟩ | ⟨hgn4, qn4, hrn4, htn4⟩ := hpn4
          · cases hrn4
          · cases hrn4
            have hxn4 := h.T htn4
            refine hx_catch (name := "TaxOnLooks$Refused") X [] ⟨0, 63, 64, 21⟩ [] htab (fun _ h => absurd h List.not_mem_nil) (by decide) (by decide) q277 (by decide) ?_
            refine hr_astore4 (q := 66) X dX0_row_64 rfl rfl (Nat.le_of_ble_eq_true rfl) ?_
            refine hr_aload0 (q := 67) X dX0_row_66 rfl ?_
            refine hr_aload4 (q := 69) X dX0_row_67 rfl ?_
            refine hr_call0 (q := 72) (hc_V (n := 1) (ci := 0) (As := [.ref qxn4]) X dX0_row_69 rfl (tc_refused X.tr hxn4 hW (q := qxn4) htn4.2.1 htn4.2.2.1 (k := 4) (by decide) (by decide) (by decide)) q452 cv_X0_refused ⟨Nat.le_of_ble_eq_true rfl, Nat.le_of_ble_eq_true rfl⟩ rfl (Nat.le_of_ble_eq_true rfl) hxn4.o.1 rfl rfl) rfl (fun qx E G' hp => by cases hp.1) (fun r Gf5 hp _ => ?_)
            obtain ⟨hvf5, hhf5⟩ := hp
            cases hvf5
            have hq6 : sq_row a1 a2 a3 A = ((-4), (sq_no (-4) A).2) := by
              simp [sq_row, sq_noTen, sq_no_1, hgn1, eq_false hz8]
            exact hr_iret X hr dX0_row_72 (by rw [hq6]; exact ⟨rfl, ca, rfl, hhf5⟩)
        · obtain ⟨hgn4, hrn4, hGn4⟩ | ⟨hgn4, qn4, hrn4, htn4⟩ := hpn4
          · cases hgn4
          · cases hrn4
      · have hz8 : 0 ≤ a3 := Int32.not_lt.mp c8
        refine hr_iconst (v := (bI true)) (q := 12) X dX0_row_11 rfl rfl ?_
        refine hr_goto (tgt := 16) X dX0_row_12 (by decide) ?_
        refine hr_bipush (v := (-4)) (q := 18) X dX0_row_16 rfl rfl ?_
        refine hr_call (kr := 35) (nr := 2764) (q := 21) (hc_S (n := 2) (As := [.int (bI true), .int (-4)]) X dX0_row_18 rfl (tc_need X.tr (g := true) (w := (-4))) q383 cs_X0_need ⟨Nat.le_of_ble_eq_true rfl, Nat.le_of_ble_eq_true rfl⟩ rfl (Nat.le_of_ble_eq_true rfl)) rfl (fun qxn7 E Gxn7 hpn7 _ => ?_) (fun r Gn7 hpn7 _ => ?_)
        · obtain ⟨hgn7, hrn7, -⟩ | ⟨hgn7, qn7, hrn7, htn7⟩ := hpn7
          · cases hrn7
          · cases hgn7
        · obtain ⟨hgn7, hrn7, hGn7⟩ | ⟨hgn7, qn7, hrn7, htn7⟩ := hpn7
          · cases hrn7
            have hGn7 := hGn7.symm
            subst hGn7
            refine hr_iload2 (q := 22) X dX0_row_21 rfl ?_
            refine hr_i2l (v := a2.toInt64) (q := 23) X dX0_row_22 rfl rfl ?_
            refine hr_lconst (v := (lN 0)) (q := 24) X dX0_row_23 rfl rfl ?_
            refine hr_ldc2 (q := 27) X dX0_row_24 rfl q386 ?_
            refine hr_callP (v := .int (bI (sp_fr a2 (nI 0) (nI 3)))) (q := 30) (hc_S (n := 3) (As := [.long a2.toInt64, .long (lN 0), .long 3]) X dX0_row_27 rfl (tc_in X.tr (x := a2) (b := 0) (z := 3) (by decide) (by decide)) q387 cs_X0_in ⟨Nat.le_of_ble_eq_true rfl, Nat.le_of_ble_eq_true rfl⟩ rfl (Nat.le_of_ble_eq_true rfl)) rfl ?_
            refine hr_bipush (v := (-6)) (q := 32) X dX0_row_30 rfl rfl ?_
            refine hr_call (kr := 34) (nr := 2757) (q := 35) (hc_S (n := 2) (As := [.int (bI (sp_fr a2 (nI 0) (nI 3))), .int (-6)]) X dX0_row_32 rfl (tc_need X.tr (g := sp_fr a2 (nI 0) (nI 3)) (w := (-6))) q383 cs_X0_need ⟨Nat.le_of_ble_eq_true rfl, Nat.le_of_ble_eq_true rfl⟩ rfl (Nat.le_of_ble_eq_true rfl)) rfl (fun qxn8 E Gxn8 hpn8 _ => ?_) (fun r Gn8 hpn8 _ => ?_)
            · obtain ⟨hgn8, hrn8, -⟩ | ⟨hgn8, qn8, hrn8, htn8⟩ := hpn8
              · cases hrn8
              · cases hrn8
                have hxn8 := h.T htn8
                refine hx_catch (name := "TaxOnLooks$Refused") X [] ⟨0, 63, 64, 21⟩ [] htab (fun _ h => absurd h List.not_mem_nil) (by decide) (by decide) q277 (by decide) ?_
                have fhgn8 : a2 < (0 : Int32) ∨ (¬ a2 < (0 : Int32) ∧ ¬ a2 ≤ nI 3) := sp_fr_f hgn8
                refine hr_astore4 (q := 66) X dX0_row_64 rfl rfl (Nat.le_of_ble_eq_true rfl) ?_
                refine hr_aload0 (q := 67) X dX0_row_66 rfl ?_
                refine hr_aload4 (q := 69) X dX0_row_67 rfl ?_
                refine hr_call0 (q := 72) (hc_V (n := 1) (ci := 0) (As := [.ref qxn8]) X dX0_row_69 rfl (tc_refused X.tr hxn8 hW (q := qxn8) htn8.2.1 htn8.2.2.1 (k := 6) (by decide) (by decide) (by decide)) q452 cv_X0_refused ⟨Nat.le_of_ble_eq_true rfl, Nat.le_of_ble_eq_true rfl⟩ rfl (Nat.le_of_ble_eq_true rfl) hxn8.o.1 rfl rfl) rfl (fun qx E G' hp => by cases hp.1) (fun r Gf9 hp _ => ?_)
                obtain ⟨hvf9, hhf9⟩ := hp
                cases hvf9
                have hq10 : sq_row a1 a2 a3 A = ((-6), (sq_no (-6) A).2) := by
                  rcases fhgn8 with g | ⟨g, g2⟩
                  · simp [sq_row, sq_noTen, sq_no_1, hgn1, eq_true hz8, hgn8, eq_true g]
                  · simp [sq_row, sq_noTen, sq_no_1, hgn1, eq_true hz8, hgn8, eq_false g, eq_false g2]
                exact hr_iret X hr dX0_row_72 (by rw [hq10]; exact ⟨rfl, ca, rfl, hhf9⟩)
            · obtain ⟨hgn8, hrn8, hGn8⟩ | ⟨hgn8, qn8, hrn8, htn8⟩ := hpn8
              · cases hrn8
                have hGn8 := hGn8.symm
                subst hGn8
                have fhgn8 : ¬ a2 < (0 : Int32) ∧ a2 ≤ nI 3 := sp_fr_t hgn8
                refine hr_iload3 (q := 36) X dX0_row_35 rfl ?_
                refine hr_sipush (v := (nI 160)) (q := 39) X dX0_row_36 rfl rfl ?_
                refine hr_icmp_gt (q := 42) (tgt := 46) X dX0_row_39 rfl (by decide) (fun c39 => ?_) (fun c39 => ?_)
                · have hm16 : ¬ a3 ≤ nI 160 := Int32.not_le.mpr c39
                  refine hr_iconst (v := (bI false)) (q := 47) X dX0_row_46 rfl rfl ?_
                  refine hr_bipush (v := (-7)) (q := 49) X dX0_row_47 rfl rfl ?_
                  refine hr_call (kr := 33) (nr := 2750) (q := 52) (hc_S (n := 2) (As := [.int (bI false), .int (-7)]) X dX0_row_49 rfl (tc_need X.tr (g := false) (w := (-7))) q383 cs_X0_need ⟨Nat.le_of_ble_eq_true rfl, Nat.le_of_ble_eq_true rfl⟩ rfl (Nat.le_of_ble_eq_true rfl)) rfl (fun qxn11 E Gxn11 hpn11 _ => ?_) (fun r Gn11 hpn11 _ => ?_)
                  · obtain ⟨hgn11, hrn11, -⟩ | ⟨hgn11, qn11, hrn11, htn11⟩ := hpn11
                    · cases hrn11
                    · cases hrn11
                      have hxn11 := h.T htn11
                      refine hx_catch (name := "TaxOnLooks$Refused") X [] ⟨0, 63, 64, 21⟩ [] htab (fun _ h => absurd h List.not_mem_nil) (by decide) (by decide) q277 (by decide) ?_
                      refine hr_astore4 (q := 66) X dX0_row_64 rfl rfl (Nat.le_of_ble_eq_true rfl) ?_
                      refine hr_aload0 (q := 67) X dX0_row_66 rfl ?_
                      refine hr_aload4 (q := 69) X dX0_row_67 rfl ?_
                      refine hr_call0 (q := 72) (hc_V (n := 1) (ci := 0) (As := [.ref qxn11]) X dX0_row_69 rfl (tc_refused X.tr hxn11 hW (q := qxn11) htn11.2.1 htn11.2.2.1 (k := 7) (by decide) (by decide) (by decide)) q452 cv_X0_refused ⟨Nat.le_of_ble_eq_true rfl, Nat.le_of_ble_eq_true rfl⟩ rfl (Nat.le_of_ble_eq_true rfl) hxn11.o.1 rfl rfl) rfl (fun qx E G' hp => by cases hp.1) (fun r Gf12 hp _ => ?_)
                      obtain ⟨hvf12, hhf12⟩ := hp
                      cases hvf12
                      have hq13 : sq_row a1 a2 a3 A = ((-7), (sq_no (-7) A).2) := by
                        simp [sq_row, sq_noTen, sq_no_1, hgn1, eq_true hz8, eq_false fhgn8.1, eq_true fhgn8.2, eq_false hm16]
                      exact hr_iret X hr dX0_row_72 (by rw [hq13]; exact ⟨rfl, ca, rfl, hhf12⟩)
                  · obtain ⟨hgn11, hrn11, hGn11⟩ | ⟨hgn11, qn11, hrn11, htn11⟩ := hpn11
                    · cases hgn11
                    · cases hrn11
                · have hm16 : a3 ≤ nI 160 := Int32.not_lt.mp c39
                  refine hr_iconst (v := (bI true)) (q := 43) X dX0_row_42 rfl rfl ?_
                  refine hr_goto (tgt := 47) X dX0_row_43 (by decide) ?_
                  refine hr_bipush (v := (-7)) (q := 49) X dX0_row_47 rfl rfl ?_
                  refine hr_call (kr := 33) (nr := 2750) (q := 52) (hc_S (n := 2) (As := [.int (bI true), .int (-7)]) X dX0_row_49 rfl (tc_need X.tr (g := true) (w := (-7))) q383 cs_X0_need ⟨Nat.le_of_ble_eq_true rfl, Nat.le_of_ble_eq_true rfl⟩ rfl (Nat.le_of_ble_eq_true rfl)) rfl (fun qxn14 E Gxn14 hpn14 _ => ?_) (fun r Gn14 hpn14 _ => ?_)
                  · obtain ⟨hgn14, hrn14, -⟩ | ⟨hgn14, qn14, hrn14, htn14⟩ := hpn14
                    · cases hrn14
                    · cases hgn14
                  · obtain ⟨hgn14, hrn14, hGn14⟩ | ⟨hgn14, qn14, hrn14, htn14⟩ := hpn14
                    · cases hrn14
                      have hGn14 := hGn14.symm
                      subst hGn14
                      obtain ⟨ea2, la2, ma2⟩ := sp_fr_n (b := 0) (z := 3) (by decide) (by decide) fhgn8.1 fhgn8.2
                      refine hr_L (L' := [some (.ref (ca 0)), some (.int (nI (iN a1))), some (.int (nI (iN a2))), some (.int a3), some (.ref (ca (8 + iN a1)))]) (by rw [← ea2]) ?_
                      obtain ⟨ea3, la3, ma3⟩ := sp_fr_n (b := 0) (z := 160) (by decide) (by decide) c8 hm16
                      refine hr_L (L' := [some (.ref (ca 0)), some (.int (nI (iN a1))), some (.int (nI (iN a2))), some (.int (nI (iN a3))), some (.ref (ca (8 + iN a1)))]) (by rw [← ea3]) ?_
                      refine hr_aload4 (q := 54) X dX0_row_52 rfl ?_
                      refine hr_iload2 (q := 55) X dX0_row_54 rfl ?_
                      refine hr_iload3 (q := 56) X dX0_row_55 rfl ?_
                      refine hr_call (kr := 31) (nr := 2589) (q := 59) (hc_SX (n := 2) (As := [.int (nI (iN a2)), .int (nI (iN a3))]) X dX0_row_56 rfl (tc_newRow X.tr (s0 := iN a2) (n := iN a3) (by omega) (by omega)) q390 cs_X0_newRow ⟨Nat.le_of_ble_eq_true rfl, Nat.le_of_ble_eq_true rfl⟩ rfl (Nat.le_of_ble_eq_true rfl)) rfl (fun qx E G' hp _ => by obtain ⟨b, y, hb, -⟩ := hp; cases hb) (fun r Gr hp _ => ?_)
                      obtain ⟨x9, y9, hv9, hx9, hy9, hxy9, hR9, hz9, hf9⟩ := hp
                      cases hv9
                      have h89 := h.ex (r := 8 + iN a1) (.w (by omega))
                      have x89 : ca (8 + iN a1) ≠ x9 := fun e => h89 (by rw [e]; exact hx9)
                      have y89 : ca (8 + iN a1) ≠ y9 := fun e => h89 (by rw [e]; exact hy9)
                      refine hr_putR (q := 62) X dX0_row_59 rfl fw_q241_4 (fun h => nomatch h) rfl rfl (by rw [(hf9 _ (fun z => z.elim x89 y89)).1]; exact (h.s.2 (iN a1) (by omega)).2.1) ?_
                      have p15 : cp_R (hs_R Gr (ca (8 + iN a1)) 0 (some x9)) (cp_cn ca (iN a1) x9 y9) (ab_z (ab_n (ab_n (ab_n A 18 (iN a1) 1) 19 (iN a1) (iN a2)) 20 (iN a1) (iN a3)) (iN a1) 160) := h.rown (i := iN a1) (by omega) hx9 hy9 hxy9 hR9 hz9 hf9
                      refine hr_iconst (v := (nI 1)) (q := 63) X dX0_row_62 rfl rfl ?_
                      have hq : sq_row a1 a2 a3 A = (nI 1, (ab_z (ab_n (ab_n (ab_n A 18 (iN a1) 1) 19 (iN a1) (iN a2)) 20 (iN a1) (iN a3)) (iN a1) 160)) := by
                        rw [sq_row, if_pos hgn1, if_pos hz8, if_neg fhgn8.1, if_pos fhgn8.2, if_pos hm16]
                      exact hr_iret X hr dX0_row_63 (by rw [hq]; exact ⟨rfl, (cp_cn ca (iN a1) x9 y9), cp_cn_0, p15⟩)
                    · cases hrn14
              · cases hrn8
          · cases hrn7
    · cases hrn1

abbrev rk_X0_set : Room := { frames := 13, cells := 40, slots := 3000, locals := 10343 }
theorem tc_set {l : Launch} {D : hg_D} {lo : Nat} (htr : l.stackTraces = false) {G : hg_G} {ca : Nat → Nat} {A : ab_S} (h : cp_R G ca A) (hW : ab_wf A) {a1 a2 : Int32} {a3 : Int64} :
    hg_M l D lo yX0_set (wsW_ yX0_set cX0_set 7 ((some FieldType.int)) [(10, 17, 20, 99), (0, 33, 34, 21)]) rk_X0_set [.ref (ca 0), .int a1, .int a2, .long a3] G (cp_Po ca (sq_set a1 a2 a3 A)) := by
  refine hg_M.ofH htr (by decide) [some (.ref (ca 0)), some (.int a1), some (.int a2), some (.long a3), none, none, none] rfl (Nat.le_of_ble_eq_true rfl) ?_
  intro p e s m args below meth c X hr hnm htab
  have X : hg_X p l s m args meth c D lo "TaxOnLooks" cX0_set 7 := X
  refine hr_room (kr' := 40) (nr' := 3000) (Nat.le_of_ble_eq_true rfl) (Nat.le_of_ble_eq_true rfl) ?_
  have hw := hW.w; have w0 := hw.b0; have w1 := hw.b1; have w2 := hw.b2; have w3 := hw.b3; have w36 := hW.b36; have w43 := hW.b43
  have hpw := sp_wpk hw; have hpb := sp_bpk hw
  obtain ⟨K, hK, hKs, hKb⟩ := h.w.sk
  refine hr_aload0 (q := 1) X dX0_set_0 rfl ?_
  refine hr_iload1 (q := 2) X dX0_set_1 rfl ?_
  refine hr_call (kr := 36) (nr := 2771) (q := 5) (hc_VX (n := 1) (ci := 0) (As := [.int a1]) X dX0_set_2 rfl (tc_shelf X.tr h (x := a1)) q278 cv_X0_shelf ⟨Nat.le_of_ble_eq_true rfl, Nat.le_of_ble_eq_true rfl⟩ rfl (Nat.le_of_ble_eq_true rfl) h.o.1 rfl rfl) rfl (fun qxn1 E Gxn1 hpn1 _ => ?_) (fun r Gn1 hpn1 _ => ?_)
  · obtain ⟨hgn1, hrn1, hGn1⟩ | ⟨hgn1, qn1, hrn1, htn1⟩ := hpn1
    · cases hrn1
    · cases hrn1
      have hxn1 := h.T htn1
      refine hx_catch (name := "TaxOnLooks$Refused") X [⟨10, 17, 20, 99⟩] ⟨0, 33, 34, 21⟩ [] htab (List.forall_mem_cons.mpr ⟨Or.inl (by decide), fun _ h => absurd h List.not_mem_nil⟩) (by decide) (by decide) q277 (by decide) ?_
      refine hr_astore5 (q := 36) X dX0_set_34 rfl rfl (Nat.le_of_ble_eq_true rfl) ?_
      refine hr_aload0 (q := 37) X dX0_set_36 rfl ?_
      refine hr_aload5 (q := 39) X dX0_set_37 rfl ?_
      refine hr_call0 (q := 42) (hc_V (n := 1) (ci := 0) (As := [.ref qxn1]) X dX0_set_39 rfl (tc_refused X.tr hxn1 hW (q := qxn1) htn1.2.1 htn1.2.2.1 (k := 1) (by decide) (by decide) (by decide)) q452 cv_X0_refused ⟨Nat.le_of_ble_eq_true rfl, Nat.le_of_ble_eq_true rfl⟩ rfl (Nat.le_of_ble_eq_true rfl) hxn1.o.1 rfl rfl) rfl (fun qx E G' hp => by cases hp.1) (fun r Gf2 hp _ => ?_)
      obtain ⟨hvf2, hhf2⟩ := hp
      cases hvf2
      have hq3 : sq_set a1 a2 a3 A = ((-1), (sq_no (-1) A).2) := by
        simp [sq_set, sq_noTen, sq_no_1, hgn1]
      exact hr_iret X hr dX0_set_42 (by rw [hq3]; exact ⟨rfl, ca, rfl, hhf2⟩)
  · obtain ⟨hgn1, hrn1, hGn1⟩ | ⟨hgn1, qn1, hrn1, htn1⟩ := hpn1
    · cases hrn1
      have hGn1 := hGn1.symm
      subst hGn1
      obtain ⟨ea1, la1⟩ := sp_in_n hgn1 (by omega)
      refine hr_L (L' := [some (.ref (ca 0)), some (.int (nI (iN a1))), some (.int a2), some (.long a3), none, none, none]) (by rw [← ea1]) ?_
      refine hr_call (kr := 32) (nr := 1754) (q := 8) (hc_VX (n := 0) (ci := 4) (As := []) X dX0_set_5 rfl (tc_row X.tr h hW (i := iN a1) (by omega)) q460 cv_X4_row ⟨Nat.le_of_ble_eq_true rfl, Nat.le_of_ble_eq_true rfl⟩ rfl (Nat.le_of_ble_eq_true rfl) (h.s.2 (iN a1) (by omega)).2.1 rfl rfl) rfl (fun qxn4 E Gxn4 hpn4 _ => ?_) (fun r Gn4 hpn4 _ => ?_)
      · obtain ⟨hgn4, hrn4, hGn4⟩ | ⟨hgn4, qn4, hrn4, htn4⟩ | ⟨hgn4, qn4, hrn4, htn4⟩ := hpn4
        · cases hrn4
        · cases hrn4
          have hxn4 := h.T htn4
          refine hx_catch (name := "TaxOnLooks$Refused") X [⟨10, 17, 20, 99⟩] ⟨0, 33, 34, 21⟩ [] htab (List.forall_mem_cons.mpr ⟨Or.inl (by decide), fun _ h => absurd h List.not_mem_nil⟩) (by decide) (by decide) q277 (by decide) ?_
          refine hr_astore5 (q := 36) X dX0_set_34 rfl rfl (Nat.le_of_ble_eq_true rfl) ?_
          refine hr_aload0 (q := 37) X dX0_set_36 rfl ?_
          refine hr_aload5 (q := 39) X dX0_set_37 rfl ?_
          refine hr_call0 (q := 42) (hc_V (n := 1) (ci := 0) (As := [.ref qxn4]) X dX0_set_39 rfl (tc_refused X.tr hxn4 hW (q := qxn4) htn4.2.1 htn4.2.2.1 (k := 2) (by decide) (by decide) (by decide)) q452 cv_X0_refused ⟨Nat.le_of_ble_eq_true rfl, Nat.le_of_ble_eq_true rfl⟩ rfl (Nat.le_of_ble_eq_true rfl) hxn4.o.1 rfl rfl) rfl (fun qx E G' hp => by cases hp.1) (fun r Gf5 hp _ => ?_)
          obtain ⟨hvf5, hhf5⟩ := hp
          cases hvf5
          have hq6 : sq_set a1 a2 a3 A = ((-2), (sq_no (-2) A).2) := by
            simp [sq_set, sq_noTen, sq_no_1, hgn1, hgn4]
          exact hr_iret X hr dX0_set_42 (by rw [hq6]; exact ⟨rfl, ca, rfl, hhf5⟩)
        · cases hrn4
          have hxn4 := h.T htn4
          refine hx_catch (name := "TaxOnLooks$Refused") X [⟨10, 17, 20, 99⟩] ⟨0, 33, 34, 21⟩ [] htab (List.forall_mem_cons.mpr ⟨Or.inl (by decide), fun _ h => absurd h List.not_mem_nil⟩) (by decide) (by decide) q277 (by decide) ?_
          refine hr_astore5 (q := 36) X dX0_set_34 rfl rfl (Nat.le_of_ble_eq_true rfl) ?_
          refine hr_aload0 (q := 37) X dX0_set_36 rfl ?_
          refine hr_aload5 (q := 39) X dX0_set_37 rfl ?_
          refine hr_call0 (q := 42) (hc_V (n := 1) (ci := 0) (As := [.ref qxn4]) X dX0_set_39 rfl (tc_refused X.tr hxn4 hW (q := qxn4) htn4.2.1 htn4.2.2.1 (k := 3) (by decide) (by decide) (by decide)) q452 cv_X0_refused ⟨Nat.le_of_ble_eq_true rfl, Nat.le_of_ble_eq_true rfl⟩ rfl (Nat.le_of_ble_eq_true rfl) hxn4.o.1 rfl rfl) rfl (fun qx E G' hp => by cases hp.1) (fun r Gf7 hp _ => ?_)
          obtain ⟨hvf7, hhf7⟩ := hp
          cases hvf7
          have hq8 : sq_set a1 a2 a3 A = ((-3), (sq_no (-3) A).2) := by
            simp [sq_set, sq_noTen, sq_no_1, hgn1, hgn4]
          exact hr_iret X hr dX0_set_42 (by rw [hq8]; exact ⟨rfl, ca, rfl, hhf7⟩)
      · obtain ⟨hgn4, hrn4, hGn4⟩ | ⟨hgn4, qn4, hrn4, htn4⟩ | ⟨hgn4, qn4, hrn4, htn4⟩ := hpn4
        · cases hrn4
          have hGn4 := hGn4.symm
          subst hGn4
          refine hr_astore5 (q := 10) X dX0_set_8 rfl rfl (Nat.le_of_ble_eq_true rfl) ?_
          refine hr_aload5 (q := 12) X dX0_set_10 rfl ?_
          refine hr_iload2 (q := 13) X dX0_set_12 rfl ?_
          refine hr_lload3 (q := 14) X dX0_set_13 rfl ?_
          have h20 := hW.b20 (j := iN a1) (by omega)
          have h19 := hW.b19 (j := iN a1) (by omega)
          by_cases hv5 : vp_in a2 (A.1.1 20 (iN a1))
          · obtain ⟨v1, v2, v3⟩ := vp_t (by omega) hv5
            refine hr_call0 (q := 17) (hcR_put (h.r (iN a1) (by omega) hgn4).1 (i := a2) (v := a3) hv5 X dX0_set_14 q482 ⟨Nat.le_of_ble_eq_true rfl, Nat.le_of_ble_eq_true rfl⟩ (Nat.le_of_ble_eq_true rfl)) rfl (fun qx E G' hp => by cases hp.1) (fun r Gp hp _ => ?_)
            obtain ⟨hvp, hGp⟩ := hp
            cases hvp
            have hc5 : cp_R Gp ca (ab_c A (160 * (iN a1) + iN a2) (rr_v (A.1.1 19 (iN a1)) a3)) := by rw [hGp]; exact h.put (i := iN a1) (by omega) hgn4 v3
            refine hr_goto (tgt := 32) X dX0_set_17 (by decide) ?_
            refine hr_iconst (v := (nI 1)) (q := 33) X dX0_set_32 rfl rfl ?_
            have hq : sq_set a1 a2 a3 A = (nI 1, (ab_c A (160 * (iN a1) + iN a2) (rr_v (A.1.1 19 (iN a1)) a3))) := by
              rcases (show A.1.1 19 (iN a1) = 0 ∨ A.1.1 19 (iN a1) = 1 ∨ A.1.1 19 (iN a1) = 2 ∨ A.1.1 19 (iN a1) = 3 by omega) with g | g | g | g <;> simp [sq_set, rr_v, rr_nar, g, hgn1, hgn4, eq_false v1, eq_true v2]
            exact hr_iret X hr dX0_set_33 (by rw [hq]; exact ⟨rfl, ca, rfl, hc5⟩)
          · have v1 := vp_f (by omega) hv5
            refine hr_call (kr := 29) (nr := 1532) (q := 17) (hcR_putX (h.r (iN a1) (by omega) hgn4).1 (i := a2) (v := a3) hv5 X dX0_set_14 q482 ⟨Nat.le_of_ble_eq_true rfl, Nat.le_of_ble_eq_true rfl⟩ (Nat.le_of_ble_eq_true rfl)) rfl (fun qx E G' hp _ => ?_) (fun r G' hp _ => by obtain ⟨-, q, hq⟩ := hp; cases hq)
            obtain ⟨hG5, q5, hr5⟩ := hp
            cases hr5
            have hG5 := hG5.symm
            subst hG5
            refine hx_catch (name := "java/lang/ArrayIndexOutOfBoundsException") X [] ⟨10, 17, 20, 99⟩ [⟨0, 33, 34, 21⟩] htab (fun _ h => absurd h List.not_mem_nil) (by decide) (by decide) q282 (by decide) ?_
            refine hr_astore6 (q := 22) X dX0_set_20 rfl rfl (Nat.le_of_ble_eq_true rfl) ?_
            refine hr_new (kr := 28) (nr := 1525) (q := 25) (ci := 6) (T := TX6) (N := 7) (ty := tyX6) X dX0_set_22 rfl q277 q360 q94 rfl in_X6 tyX6_ok (by decide) (fun x9 hlx9 hnx9 => ?_)
            refine hr_dup (q := 26) X dX0_set_25 rfl rfl ?_
            refine hr_bipush (v := (-5)) (q := 28) X dX0_set_26 rfl rfl ?_
            refine hr_call0 (q := 31) (hc_I (n := 1) (As := [.int (-5)]) X dX0_set_28 rfl (tx_new6 X.tr (b := x9) (if_pos rfl) (w := (-5))) q368 cj_X6_init ⟨Nat.le_of_ble_eq_true rfl, Nat.le_of_ble_eq_true rfl⟩ rfl (Nat.le_of_ble_eq_true rfl)) rfl (fun qx E G' hp => by cases hp.1) (fun r Gw10 hp _ => ?_)
            obtain ⟨hvw10, hkw10, hww10, hbtw10⟩ := hp
            cases hvw10
            have htw10 : tx_T 6 x9 (-5) G Gw10 := ⟨hnx9, by rw [hkw10]; exact if_pos rfl, hww10, hg_bt.N.tr hbtw10⟩
            have hxw10 := h.T htw10
            refine hr_athrow X dX0_set_31 (ci := 6) htw10.2.1 rfl rfl ?_
            refine hx_catch (name := "TaxOnLooks$Refused") X [⟨10, 17, 20, 99⟩] ⟨0, 33, 34, 21⟩ [] htab (List.forall_mem_cons.mpr ⟨Or.inl (by decide), fun _ h => absurd h List.not_mem_nil⟩) (by decide) (by decide) q277 (by decide) ?_
            refine hr_astore5 (q := 36) X dX0_set_34 rfl rfl (Nat.le_of_ble_eq_true rfl) ?_
            refine hr_aload0 (q := 37) X dX0_set_36 rfl ?_
            refine hr_aload5 (q := 39) X dX0_set_37 rfl ?_
            refine hr_call0 (q := 42) (hc_V (n := 1) (ci := 0) (As := [.ref x9]) X dX0_set_39 rfl (tc_refused X.tr hxw10 hW (q := x9) htw10.2.1 htw10.2.2.1 (k := 5) (by decide) (by decide) (by decide)) q452 cv_X0_refused ⟨Nat.le_of_ble_eq_true rfl, Nat.le_of_ble_eq_true rfl⟩ rfl (Nat.le_of_ble_eq_true rfl) hxw10.o.1 rfl rfl) rfl (fun qx E G' hp => by cases hp.1) (fun r Gf11 hp _ => ?_)
            obtain ⟨hvf11, hhf11⟩ := hp
            cases hvf11
            have hq12 : sq_set a1 a2 a3 A = ((-5), (sq_no (-5) A).2) := by
              rcases v1 with g | ⟨g, g2⟩
              · simp [sq_set, sq_noTen, sq_no_1, hgn1, hgn4, eq_true g]
              · simp [sq_set, sq_noTen, sq_no_1, hgn1, hgn4, eq_false g, eq_false g2]
            exact hr_iret X hr dX0_set_42 (by rw [hq12]; exact ⟨rfl, ca, rfl, hhf11⟩)
        · cases hrn4
        · cases hrn4
    · cases hrn1

abbrev rk_X0_element : Room := { frames := 13, cells := 40, slots := 3000, locals := 10342 }
theorem tc_element {l : Launch} {D : hg_D} {lo : Nat} (htr : l.stackTraces = false) {G : hg_G} {ca : Nat → Nat} {A : ab_S} (h : cp_R G ca A) (hW : ab_wf A) {a1 a2 : Int32} :
    hg_M l D lo yX0_element (wsW_ yX0_element cX0_element 4 ((some FieldType.long)) [(0, 12, 13, 21), (0, 12, 16, 99)]) rk_X0_element [.ref (ca 0), .int a1, .int a2] G (fun r G' => r = .inl (some (.long (sq_element a1 a2 A).1)) ∧ ∃ ca' : Nat → Nat, ca' 0 = ca 0 ∧ cp_R G' ca' (sq_element a1 a2 A).2) := by
  refine hg_M.ofH htr (by decide) [some (.ref (ca 0)), some (.int a1), some (.int a2), none] rfl (Nat.le_of_ble_eq_true rfl) ?_
  intro p e s m args below meth c X hr hnm htab
  have X : hg_X p l s m args meth c D lo "TaxOnLooks" cX0_element 4 := X
  refine hr_room (kr' := 40) (nr' := 3000) (Nat.le_of_ble_eq_true rfl) (Nat.le_of_ble_eq_true rfl) ?_
  have hw := hW.w; have w0 := hw.b0; have w1 := hw.b1; have w2 := hw.b2; have w3 := hw.b3; have w36 := hW.b36; have w43 := hW.b43
  have hpw := sp_wpk hw; have hpb := sp_bpk hw
  obtain ⟨K, hK, hKs, hKb⟩ := h.w.sk
  refine hr_aload0 (q := 1) X dX0_element_0 rfl ?_
  refine hr_iload1 (q := 2) X dX0_element_1 rfl ?_
  refine hr_call (kr := 36) (nr := 2771) (q := 5) (hc_VX (n := 1) (ci := 0) (As := [.int a1]) X dX0_element_2 rfl (tc_shelf X.tr h (x := a1)) q278 cv_X0_shelf ⟨Nat.le_of_ble_eq_true rfl, Nat.le_of_ble_eq_true rfl⟩ rfl (Nat.le_of_ble_eq_true rfl) h.o.1 rfl rfl) rfl (fun qxn1 E Gxn1 hpn1 _ => ?_) (fun r Gn1 hpn1 _ => ?_)
  · obtain ⟨hgn1, hrn1, hGn1⟩ | ⟨hgn1, qn1, hrn1, htn1⟩ := hpn1
    · cases hrn1
    · cases hrn1
      have hxn1 := h.T htn1
      refine hx_catch (name := "TaxOnLooks$Refused") X [] ⟨0, 12, 13, 21⟩ [⟨0, 12, 16, 99⟩] htab (fun _ h => absurd h List.not_mem_nil) (by decide) (by decide) q277 (by decide) ?_
      refine hr_astore3 (q := 14) X dX0_element_13 rfl rfl (Nat.le_of_ble_eq_true rfl) ?_
      refine hr_lconst (v := (lN 0)) (q := 15) X dX0_element_14 rfl rfl ?_
      have hq2 : sq_element a1 a2 A = (0, A) := by
        simp [sq_element, hgn1]
      exact hr_lret X hr dX0_element_15 (by rw [hq2]; exact ⟨rfl, ca, rfl, hxn1⟩)
  · obtain ⟨hgn1, hrn1, hGn1⟩ | ⟨hgn1, qn1, hrn1, htn1⟩ := hpn1
    · cases hrn1
      have hGn1 := hGn1.symm
      subst hGn1
      obtain ⟨ea1, la1⟩ := sp_in_n hgn1 (by omega)
      refine hr_L (L' := [some (.ref (ca 0)), some (.int (nI (iN a1))), some (.int a2), none]) (by rw [← ea1]) ?_
      refine hr_call (kr := 32) (nr := 1754) (q := 8) (hc_VX (n := 0) (ci := 4) (As := []) X dX0_element_5 rfl (tc_row X.tr h hW (i := iN a1) (by omega)) q460 cv_X4_row ⟨Nat.le_of_ble_eq_true rfl, Nat.le_of_ble_eq_true rfl⟩ rfl (Nat.le_of_ble_eq_true rfl) (h.s.2 (iN a1) (by omega)).2.1 rfl rfl) rfl (fun qxn3 E Gxn3 hpn3 _ => ?_) (fun r Gn3 hpn3 _ => ?_)
      · obtain ⟨hgn3, hrn3, hGn3⟩ | ⟨hgn3, qn3, hrn3, htn3⟩ | ⟨hgn3, qn3, hrn3, htn3⟩ := hpn3
        · cases hrn3
        · cases hrn3
          have hxn3 := h.T htn3
          refine hx_catch (name := "TaxOnLooks$Refused") X [] ⟨0, 12, 13, 21⟩ [⟨0, 12, 16, 99⟩] htab (fun _ h => absurd h List.not_mem_nil) (by decide) (by decide) q277 (by decide) ?_
          refine hr_astore3 (q := 14) X dX0_element_13 rfl rfl (Nat.le_of_ble_eq_true rfl) ?_
          refine hr_lconst (v := (lN 0)) (q := 15) X dX0_element_14 rfl rfl ?_
          have hq4 : sq_element a1 a2 A = (0, A) := by
            simp [sq_element, hgn1, hgn3]
          exact hr_lret X hr dX0_element_15 (by rw [hq4]; exact ⟨rfl, ca, rfl, hxn3⟩)
        · cases hrn3
          have hxn3 := h.T htn3
          refine hx_catch (name := "TaxOnLooks$Refused") X [] ⟨0, 12, 13, 21⟩ [⟨0, 12, 16, 99⟩] htab (fun _ h => absurd h List.not_mem_nil) (by decide) (by decide) q277 (by decide) ?_
          refine hr_astore3 (q := 14) X dX0_element_13 rfl rfl (Nat.le_of_ble_eq_true rfl) ?_
          refine hr_lconst (v := (lN 0)) (q := 15) X dX0_element_14 rfl rfl ?_
          have hq5 : sq_element a1 a2 A = (0, A) := by
            simp [sq_element, hgn1, hgn3]
          exact hr_lret X hr dX0_element_15 (by rw [hq5]; exact ⟨rfl, ca, rfl, hxn3⟩)
      · obtain ⟨hgn3, hrn3, hGn3⟩ | ⟨hgn3, qn3, hrn3, htn3⟩ | ⟨hgn3, qn3, hrn3, htn3⟩ := hpn3
        · cases hrn3
          have hGn3 := hGn3.symm
          subst hGn3
          refine hr_iload2 (q := 9) X dX0_element_8 rfl ?_
          have h20 := hW.b20 (j := iN a1) (by omega)
          by_cases hv5 : vp_in a2 (A.1.1 20 (iN a1))
          · obtain ⟨v1, v2, v3⟩ := vp_t (by omega) hv5
            have v4 : ¬ nI (A.1.1 20 (iN a1)) ≤ a2 := Int32.not_le.mpr v2
            refine hr_callP (v := .long (rr_el G (ca (39 + iN a1)) (A.1.1 19 (iN a1)) (iN a2))) (q := 12) (hcR_get (h.r (iN a1) (by omega) hgn3).1 (i := a2) hv5 X dX0_element_9 q544 ⟨Nat.le_of_ble_eq_true rfl, Nat.le_of_ble_eq_true rfl⟩ (Nat.le_of_ble_eq_true rfl)) rfl ?_
            refine hr_st1 (v' := .long (A.2.2.2 (160 * (iN a1) + iN a2))) (congrArg Value.long ((h.r (iN a1) (by omega) hgn3).2 _ v3)) ?_
            have hq6 : sq_element a1 a2 A = ((A.2.2.2 (160 * (iN a1) + iN a2)), A) := by
              simp [sq_element, hgn1, hgn3, eq_false v1, eq_false v4]
            exact hr_lret X hr dX0_element_12 (by rw [hq6]; exact ⟨rfl, ca, rfl, h⟩)
          · have v1 := vp_f (by omega) hv5
            refine hr_call (kr := 29) (nr := 1532) (q := 12) (hcR_getX (h.r (iN a1) (by omega) hgn3).1 (i := a2) hv5 X dX0_element_9 q544 ⟨Nat.le_of_ble_eq_true rfl, Nat.le_of_ble_eq_true rfl⟩ (Nat.le_of_ble_eq_true rfl)) rfl (fun qx E G' hp _ => ?_) (fun r G' hp _ => by obtain ⟨-, q, hq⟩ := hp; cases hq)
            obtain ⟨hG5, q5, hr5⟩ := hp
            cases hr5
            have hG5 := hG5.symm
            subst hG5
            refine hx_catch (name := "java/lang/ArrayIndexOutOfBoundsException") X [⟨0, 12, 13, 21⟩] ⟨0, 12, 16, 99⟩ [] htab (List.forall_mem_cons.mpr ⟨Or.inr ⟨by decide, _, q277, by decide⟩, fun _ h => absurd h List.not_mem_nil⟩) (by decide) (by decide) q282 (by decide) ?_
            refine hr_astore3 (q := 17) X dX0_element_16 rfl rfl (Nat.le_of_ble_eq_true rfl) ?_
            refine hr_lconst (v := (lN 0)) (q := 18) X dX0_element_17 rfl rfl ?_
            have hq7 : sq_element a1 a2 A = (0, A) := by
              rcases v1 with g | ⟨g, g2⟩
              · simp [sq_element, hgn1, hgn3, eq_true g]
              · have g3 : nI (A.1.1 20 (iN a1)) ≤ a2 := Int32.not_lt.mp g2
                simp [sq_element, hgn1, hgn3, eq_false g, eq_true g3]
            exact hr_lret X hr dX0_element_18 (by rw [hq7]; exact ⟨rfl, ca, rfl, h⟩)
        · cases hrn3
        · cases hrn3
    · cases hrn1

abbrev rk_X0_holds : Room := { frames := 12, cells := 40, slots := 3000, locals := 400 }
theorem tc_holds {l : Launch} {D : hg_D} {lo : Nat} (htr : l.stackTraces = false) {G : hg_G} {ca : Nat → Nat} {A : ab_S} (h : cp_R G ca A) (hW : ab_wf A) {a1 : Int32} :
    hg_M l D lo yX0_holds (ws_ yX0_holds cX0_holds 3 ((some FieldType.int))) rk_X0_holds [.ref (ca 0), .int a1] G (cp_Po ca (sq_holds a1 A)) := by
  refine hg_M.of htr (by decide) [some (.ref (ca 0)), some (.int a1), none] rfl (Nat.le_of_ble_eq_true rfl) ?_
  intro p e s m args below meth c X hr hnm htab
  have X : hg_X p l s m args meth c D lo "TaxOnLooks" cX0_holds 3 := X
  refine hr_room (kr' := 40) (nr' := 3000) (Nat.le_of_ble_eq_true rfl) (Nat.le_of_ble_eq_true rfl) ?_
  have hw := hW.w; have w0 := hw.b0; have w1 := hw.b1; have w2 := hw.b2; have w3 := hw.b3; have w36 := hW.b36; have w43 := hW.b43
  have hpw := sp_wpk hw; have hpb := sp_bpk hw
  obtain ⟨K, hK, hKs, hKb⟩ := h.w.sk
  refine hr_iload1 (q := 1) X dX0_holds_0 rfl ?_
  refine hr_if_lt (q := 4) (tgt := 22) X dX0_holds_1 rfl (by decide) (fun c1 => ?_) (fun c1 => ?_)
  · have hin : sp_in a1 8 = false := decide_eq_false (fun g => Int32.not_lt.mpr g.1 c1)
    refine hr_iconst (v := (-1)) (q := 23) X dX0_holds_22 rfl rfl ?_
    have hq1 : sq_holds a1 A = ((-1), A) := by
      simp [sq_holds, sq_noTen, sq_no_1, hin]
    exact hr_iret X hr dX0_holds_23 (by rw [hq1]; exact ⟨rfl, ca, rfl, h⟩)
  · refine hr_iload1 (q := 5) X dX0_holds_4 rfl ?_
    refine hr_bipush (v := (nI 8)) (q := 7) X dX0_holds_5 rfl rfl ?_
    refine hr_icmp_ge (q := 10) (tgt := 22) X dX0_holds_7 rfl (by decide) (fun c7 => ?_) (fun c7 => ?_)
    · have hin : sp_in a1 8 = false := decide_eq_false (fun g => Int32.not_lt.mpr c7 g.2)
      refine hr_iconst (v := (-1)) (q := 23) X dX0_holds_22 rfl rfl ?_
      have hq2 : sq_holds a1 A = ((-1), A) := by
        simp [sq_holds, sq_noTen, sq_no_1, hin]
      exact hr_iret X hr dX0_holds_23 (by rw [hq2]; exact ⟨rfl, ca, rfl, h⟩)
    · have hin : sp_in a1 8 = true := decide_eq_true ⟨Int32.not_lt.mp c1, Int32.not_le.mp c7⟩
      obtain ⟨ea1, la1⟩ := sp_in_n hin (by decide)
      refine hr_L (L' := [some (.ref (ca 0)), some (.int (nI (iN a1))), none]) (by rw [← ea1]) ?_
      obtain ⟨g1, g2, g3⟩ := h.s.2 (iN a1) la1
      have b18 := hW.b18 la1
      unfold cp_held at g3
      by_cases k0 : A.1.1 18 (iN a1) = 0
      · rw [if_pos k0] at g3
        refine hr_aload0 (q := 11) X dX0_holds_10 rfl ?_
        refine hr_getR (v := (ca 1)) (q := 14) X dX0_holds_11 rfl fr_q245_0 rfl h.o.1 h.o.2.1 ?_
        refine hr_iload1 (q := 15) X dX0_holds_14 rfl ?_
        refine hr_aaldN (v := (ca (8 + iN a1))) (q := 16) X dX0_holds_15 rfl h.s.1 (by decide) (by omega) (by decide) g1 ?_
        refine hr_getQ (v := none) (q := 19) X dX0_holds_16 rfl fr_q241_4 rfl g2 g3 ?_
        refine hr_st1 (v' := .null) rfl ?_
        refine hr_ifnonnullN (q := 22) (tgt := 24) X dX0_holds_19 rfl (by decide) ?_
        refine hr_iconst (v := (-1)) (q := 23) X dX0_holds_22 rfl rfl ?_
        have hq3 : sq_holds a1 A = ((-1), A) := by
          simp [sq_holds, sq_noTen, sq_no_1, hin, k0]
        exact hr_iret X hr dX0_holds_23 (by rw [hq3]; exact ⟨rfl, ca, rfl, h⟩)
      · rw [if_neg k0] at g3
        by_cases k1 : A.1.1 18 (iN a1) = 1
        · rw [if_pos k1] at g3
          obtain ⟨q1, -⟩ := h.r (iN a1) la1 k1
          obtain ⟨rr, hrr, htw, hcs, hnc⟩ := hg_clR2 _ q1.1
          refine hr_aload0 (q := 11) X dX0_holds_10 rfl ?_
          refine hr_getR (v := (ca 1)) (q := 14) X dX0_holds_11 rfl fr_q245_0 rfl h.o.1 h.o.2.1 ?_
          refine hr_iload1 (q := 15) X dX0_holds_14 rfl ?_
          refine hr_aaldN (v := (ca (8 + iN a1))) (q := 16) X dX0_holds_15 rfl h.s.1 (by decide) (by omega) (by decide) g1 ?_
          refine hr_getR (v := (ca (31 + iN a1))) (q := 19) X dX0_holds_16 rfl fr_q241_4 rfl g2 g3 ?_
          refine hr_ifnonnullS (q := 22) (tgt := 24) X dX0_holds_19 rfl (by decide) ?_
          refine hr_aload0 (q := 25) X dX0_holds_24 rfl ?_
          refine hr_getR (v := (ca 1)) (q := 28) X dX0_holds_25 rfl fr_q245_0 rfl h.o.1 h.o.2.1 ?_
          refine hr_iload1 (q := 29) X dX0_holds_28 rfl ?_
          refine hr_aaldN (v := (ca (8 + iN a1))) (q := 30) X dX0_holds_29 rfl h.s.1 (by decide) (by omega) (by decide) g1 ?_
          refine hr_getR (v := (ca (31 + iN a1))) (q := 33) X dX0_holds_30 rfl fr_q241_4 rfl g2 g3 ?_
          refine hr_astore2 (q := 34) X dX0_holds_33 rfl rfl (Nat.le_of_ble_eq_true rfl) ?_
          refine hr_aload2 (q := 35) X dX0_holds_34 rfl ?_
          refine hr_instZ (q := 38) X dX0_holds_35 rfl q575 q1.2.2.1 hrr (hnc _ (by decide)) ?_
          refine hr_if_eq (q := 41) (tgt := 51) X dX0_holds_38 rfl (by decide) (fun _ => ?_) (fun z => absurd z (by decide))
          refine hr_bipush (v := (nI 100)) (q := 53) X dX0_holds_51 rfl rfl ?_
          refine hr_aload2 (q := 54) X dX0_holds_53 rfl ?_
          refine hr_castY (q := 57) X dX0_holds_54 rfl q576 q1.2.2.1 hrr (Or.inr hcs) ?_
          refine hr_callP (q := 60) (hcR_sort (h.r (iN a1) (by omega) k1).1 X dX0_holds_57 q507 ⟨Nat.le_of_ble_eq_true rfl, Nat.le_of_ble_eq_true rfl⟩ (Nat.le_of_ble_eq_true rfl)) rfl ?_
          refine hr_iadd (v := (nI (100 + (A.1.1 19 (iN a1))))) (q := 61) X dX0_holds_60 rfl (nI_add _ _) ?_
          have hq4 : sq_holds a1 A = ((nI (100 + (A.1.1 19 (iN a1)))), A) := by
            simp [sq_holds, sq_noTen, sq_no_1, hin, k1]
          exact hr_iret X hr dX0_holds_61 (by rw [hq4]; exact ⟨rfl, ca, rfl, h⟩)
        · rw [if_neg k1] at g3
          have k2 : A.1.1 18 (iN a1) = 2 := by omega
          have hb21 := hW.b21 la1 k2
          obtain ⟨q, hqa, hqk, hqi, -⟩ := h.w.pe hb21
          have g3 := g3.trans hqa
          obtain ⟨rr, hrr, hcs⟩ := hg_clP2 _ (hw.b9 (p := A.1.1 21 (iN a1)) (by omega))
          have h9q := hw.b9 (p := A.1.1 21 (iN a1)) (by omega)
          refine hr_aload0 (q := 11) X dX0_holds_10 rfl ?_
          refine hr_getR (v := (ca 1)) (q := 14) X dX0_holds_11 rfl fr_q245_0 rfl h.o.1 h.o.2.1 ?_
          refine hr_iload1 (q := 15) X dX0_holds_14 rfl ?_
          refine hr_aaldN (v := (ca (8 + iN a1))) (q := 16) X dX0_holds_15 rfl h.s.1 (by decide) (by omega) (by decide) g1 ?_
          refine hr_getR (v := q) (q := 19) X dX0_holds_16 rfl fr_q241_4 rfl g2 g3 ?_
          refine hr_ifnonnullS (q := 22) (tgt := 24) X dX0_holds_19 rfl (by decide) ?_
          refine hr_aload0 (q := 25) X dX0_holds_24 rfl ?_
          refine hr_getR (v := (ca 1)) (q := 28) X dX0_holds_25 rfl fr_q245_0 rfl h.o.1 h.o.2.1 ?_
          refine hr_iload1 (q := 29) X dX0_holds_28 rfl ?_
          refine hr_aaldN (v := (ca (8 + iN a1))) (q := 30) X dX0_holds_29 rfl h.s.1 (by decide) (by omega) (by decide) g1 ?_
          refine hr_getR (v := q) (q := 33) X dX0_holds_30 rfl fr_q241_4 rfl g2 g3 ?_
          refine hr_astore2 (q := 34) X dX0_holds_33 rfl rfl (Nat.le_of_ble_eq_true rfl) ?_
          refine hr_aload2 (q := 35) X dX0_holds_34 rfl ?_
          refine hr_instY (q := 38) X dX0_holds_35 rfl q575 hqk hrr hcs ?_
          refine hr_if_eq (q := 41) (tgt := 51) X dX0_holds_38 rfl (by decide) (fun z => absurd z (by decide)) (fun _ => ?_)
          refine hr_aload2 (q := 42) X dX0_holds_41 rfl ?_
          refine hr_castY (q := 45) X dX0_holds_42 rfl q575 hqk hrr hcs ?_
          refine hr_getI (v := (nI (A.1.1 21 (iN a1)))) (q := 48) X dX0_holds_45 rfl (fp_q664 _ (hw.b9 (p := A.1.1 21 (iN a1)) (by omega))) (fp_ft _ (by omega) 0 (by decide)) hqk hqi ?_
          refine hr_st1 (v' := .int (oI (A.1.1 21 (iN a1)))) (congrArg Value.int (oI_of (by omega)).symm) ?_
          refine hr_goto (tgt := 61) X dX0_holds_48 (by decide) ?_
          have hq5 : sq_holds a1 A = ((oI (A.1.1 21 (iN a1))), A) := by
            simp [sq_holds, sq_noTen, sq_no_1, hin, k2]
          exact hr_iret X hr dX0_holds_61 (by rw [hq5]; exact ⟨rfl, ca, rfl, h⟩)

