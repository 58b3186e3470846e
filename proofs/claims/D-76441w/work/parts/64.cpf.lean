/-! Shelf.says: what is told of a person taken for one of a kind -/
def sp_ok (c K : Nat) : Bool := decide (c = 0 ∨ c = K ∨ (c = 1 ∧ K = 2) ∨ (c = 3 ∧ K = 5) ∨ (c = 4 ∧ K = 6))
def sp_told (t : sp_S) (c p : Nat) : Nat := if c = 0 then t.1 14 p else if c = 1 ∨ c = 2 then sp_shows t p else if c = 3 ∨ c = 5 then t.1 13 p else t.1 12 p
theorem sq_says_2 {a1 a2 : Int32} {A : ab_S} (h1 : sp_in a1 8 = true) (h2 : ¬ a2 < 0) (h3 : a2 ≤ nI 6) (hc : iN a2 ≤ 6) (k1 : ¬ A.1.1 18 (iN a1) = 1) (k0 : ¬ A.1.1 18 (iN a1) = 0) :
    sq_says a1 a2 A = if sp_ok (iN a2) (A.1.1 9 (A.1.1 21 (iN a1))) = true then (nI (sp_told A.1 (iN a2) (A.1.1 21 (iN a1))), A) else sq_no (-2) A := by
  rw [sq_says, if_pos h1, if_neg h2, if_pos h3, if_neg k1, if_neg k0]
  generalize A.1.1 9 (A.1.1 21 (iN a1)) = K
  generalize A.1.1 21 (iN a1) = p
  generalize iN a2 = c at hc ⊢
  have hc : c = 0 ∨ c = 1 ∨ c = 2 ∨ c = 3 ∨ c = 4 ∨ c = 5 ∨ c = 6 := by omega
  rcases hc with rfl | rfl | rfl | rfl | rfl | rfl | rfl
  · (repeat' first | rw [if_pos (by decide)] | rw [if_neg (by decide)] | split) <;> first | rfl | (simp_all [sp_ok, sp_told]; done)
  · by_cases q1 : K = 2 <;> by_cases q2 : 1 = K <;> (repeat' first | rw [if_pos (by decide)] | rw [if_neg (by decide)] | rw [if_pos q1] | rw [if_neg q1] | rw [if_pos q2] | rw [if_neg q2] | split) <;> first | rfl | (simp_all [sp_ok, sp_told]; done)
  · (repeat' first | rw [if_pos (by decide)] | rw [if_neg (by decide)] | split) <;> first | rfl | (simp_all [sp_ok, sp_told]; done)
  · by_cases q1 : K = 5 <;> by_cases q2 : 3 = K <;> (repeat' first | rw [if_pos (by decide)] | rw [if_neg (by decide)] | rw [if_pos q1] | rw [if_neg q1] | rw [if_pos q2] | rw [if_neg q2] | split) <;> first | rfl | (simp_all [sp_ok, sp_told]; done)
  · by_cases q1 : K = 6 <;> by_cases q2 : 4 = K <;> (repeat' first | rw [if_pos (by decide)] | rw [if_neg (by decide)] | rw [if_pos q1] | rw [if_neg q1] | rw [if_pos q2] | rw [if_neg q2] | split) <;> first | rfl | (simp_all [sp_ok, sp_told]; done)
  · (repeat' first | rw [if_pos (by decide)] | rw [if_neg (by decide)] | split) <;> first | rfl | (simp_all [sp_ok, sp_told]; done)
  · (repeat' first | rw [if_pos (by decide)] | rw [if_neg (by decide)] | split) <;> first | rfl | (simp_all [sp_ok, sp_told]; done)
theorem hg_clK_X13 : ∀ k, (k = 1 ∨ k = 2) → ∃ r, hg_cl[12 + k]? = some r ∧ (r.1 = "TaxOnLooks$Beauty" ∨ (r.1, "TaxOnLooks$Beauty") ∈ hg_cs) := by
  intro k hk
  rcases hk with rfl | rfl
  · exact ⟨_, rfl, by decide⟩
  · exact ⟨_, rfl, by decide⟩

theorem hg_clN_X13 : ∀ k, k ≤ 6 → ¬ (k = 1 ∨ k = 2) → ∃ r, hg_cl[12 + k]? = some r ∧ (r.1, "TaxOnLooks$Beauty") ∈ hg_nc ∧ hg_tw r.1 := fun k hk h => match k, hk with
  | 0, _ => ⟨_, rfl, by decide, by decide +kernel, by decide +kernel⟩
  | 1, _ => absurd (by decide) h
  | 2, _ => absurd (by decide) h
  | 3, _ => ⟨_, rfl, by decide, by decide +kernel, by decide +kernel⟩
  | 4, _ => ⟨_, rfl, by decide, by decide +kernel, by decide +kernel⟩
  | 5, _ => ⟨_, rfl, by decide, by decide +kernel, by decide +kernel⟩
  | 6, _ => ⟨_, rfl, by decide, by decide +kernel, by decide +kernel⟩
  | k + 7, h => absurd h (by omega)

theorem hg_clK_X14 : ∀ k, (k = 2) → ∃ r, hg_cl[12 + k]? = some r ∧ (r.1 = "TaxOnLooks$Actress" ∨ (r.1, "TaxOnLooks$Actress") ∈ hg_cs) := by
  intro k hk
  subst hk
  exact ⟨_, rfl, by decide⟩

theorem hg_clN_X14 : ∀ k, k ≤ 6 → ¬ (k = 2) → ∃ r, hg_cl[12 + k]? = some r ∧ (r.1, "TaxOnLooks$Actress") ∈ hg_nc ∧ hg_tw r.1 := fun k hk h => match k, hk with
  | 0, _ => ⟨_, rfl, by decide, by decide +kernel, by decide +kernel⟩
  | 1, _ => ⟨_, rfl, by decide, by decide +kernel, by decide +kernel⟩
  | 2, _ => absurd rfl h
  | 3, _ => ⟨_, rfl, by decide, by decide +kernel, by decide +kernel⟩
  | 4, _ => ⟨_, rfl, by decide, by decide +kernel, by decide +kernel⟩
  | 5, _ => ⟨_, rfl, by decide, by decide +kernel, by decide +kernel⟩
  | 6, _ => ⟨_, rfl, by decide, by decide +kernel, by decide +kernel⟩
  | k + 7, h => absurd h (by omega)

theorem hg_clK_X15 : ∀ k, (k = 3 ∨ k = 5) → ∃ r, hg_cl[12 + k]? = some r ∧ (r.1 = "TaxOnLooks$Blind" ∨ (r.1, "TaxOnLooks$Blind") ∈ hg_cs) := by
  intro k hk
  rcases hk with rfl | rfl
  · exact ⟨_, rfl, by decide⟩
  · exact ⟨_, rfl, by decide⟩

theorem hg_clN_X15 : ∀ k, k ≤ 6 → ¬ (k = 3 ∨ k = 5) → ∃ r, hg_cl[12 + k]? = some r ∧ (r.1, "TaxOnLooks$Blind") ∈ hg_nc ∧ hg_tw r.1 := fun k hk h => match k, hk with
  | 0, _ => ⟨_, rfl, by decide, by decide +kernel, by decide +kernel⟩
  | 1, _ => ⟨_, rfl, by decide, by decide +kernel, by decide +kernel⟩
  | 2, _ => ⟨_, rfl, by decide, by decide +kernel, by decide +kernel⟩
  | 3, _ => absurd (by decide) h
  | 4, _ => ⟨_, rfl, by decide, by decide +kernel, by decide +kernel⟩
  | 5, _ => absurd (by decide) h
  | 6, _ => ⟨_, rfl, by decide, by decide +kernel, by decide +kernel⟩
  | k + 7, h => absurd h (by omega)

theorem hg_clK_X16 : ∀ k, (k = 4 ∨ k = 6) → ∃ r, hg_cl[12 + k]? = some r ∧ (r.1 = "TaxOnLooks$Lover" ∨ (r.1, "TaxOnLooks$Lover") ∈ hg_cs) := by
  intro k hk
  rcases hk with rfl | rfl
  · exact ⟨_, rfl, by decide⟩
  · exact ⟨_, rfl, by decide⟩

theorem hg_clN_X16 : ∀ k, k ≤ 6 → ¬ (k = 4 ∨ k = 6) → ∃ r, hg_cl[12 + k]? = some r ∧ (r.1, "TaxOnLooks$Lover") ∈ hg_nc ∧ hg_tw r.1 := fun k hk h => match k, hk with
  | 0, _ => ⟨_, rfl, by decide, by decide +kernel, by decide +kernel⟩
  | 1, _ => ⟨_, rfl, by decide, by decide +kernel, by decide +kernel⟩
  | 2, _ => ⟨_, rfl, by decide, by decide +kernel, by decide +kernel⟩
  | 3, _ => ⟨_, rfl, by decide, by decide +kernel, by decide +kernel⟩
  | 4, _ => absurd (by decide) h
  | 5, _ => ⟨_, rfl, by decide, by decide +kernel, by decide +kernel⟩
  | 6, _ => absurd (by decide) h
  | k + 7, h => absurd h (by omega)

theorem hg_clK_X17 : ∀ k, (k = 5) → ∃ r, hg_cl[12 + k]? = some r ∧ (r.1 = "TaxOnLooks$Child" ∨ (r.1, "TaxOnLooks$Child") ∈ hg_cs) := by
  intro k hk
  subst hk
  exact ⟨_, rfl, by decide⟩

theorem hg_clN_X17 : ∀ k, k ≤ 6 → ¬ (k = 5) → ∃ r, hg_cl[12 + k]? = some r ∧ (r.1, "TaxOnLooks$Child") ∈ hg_nc ∧ hg_tw r.1 := fun k hk h => match k, hk with
  | 0, _ => ⟨_, rfl, by decide, by decide +kernel, by decide +kernel⟩
  | 1, _ => ⟨_, rfl, by decide, by decide +kernel, by decide +kernel⟩
  | 2, _ => ⟨_, rfl, by decide, by decide +kernel, by decide +kernel⟩
  | 3, _ => ⟨_, rfl, by decide, by decide +kernel, by decide +kernel⟩
  | 4, _ => ⟨_, rfl, by decide, by decide +kernel, by decide +kernel⟩
  | 5, _ => absurd rfl h
  | 6, _ => ⟨_, rfl, by decide, by decide +kernel, by decide +kernel⟩
  | k + 7, h => absurd h (by omega)

theorem hg_clK_X18 : ∀ k, (k = 6) → ∃ r, hg_cl[12 + k]? = some r ∧ (r.1 = "TaxOnLooks$Shamed" ∨ (r.1, "TaxOnLooks$Shamed") ∈ hg_cs) := by
  intro k hk
  subst hk
  exact ⟨_, rfl, by decide⟩

theorem hg_clN_X18 : ∀ k, k ≤ 6 → ¬ (k = 6) → ∃ r, hg_cl[12 + k]? = some r ∧ (r.1, "TaxOnLooks$Shamed") ∈ hg_nc ∧ hg_tw r.1 := fun k hk h => match k, hk with
  | 0, _ => ⟨_, rfl, by decide, by decide +kernel, by decide +kernel⟩
  | 1, _ => ⟨_, rfl, by decide, by decide +kernel, by decide +kernel⟩
  | 2, _ => ⟨_, rfl, by decide, by decide +kernel, by decide +kernel⟩
  | 3, _ => ⟨_, rfl, by decide, by decide +kernel, by decide +kernel⟩
  | 4, _ => ⟨_, rfl, by decide, by decide +kernel, by decide +kernel⟩
  | 5, _ => ⟨_, rfl, by decide, by decide +kernel, by decide +kernel⟩
  | 6, _ => absurd rfl h
  | k + 7, h => absurd h (by omega)

abbrev rk_X4_says : Room := { frames := 10, cells := 4, slots := 1017, locals := 10260 }
theorem ts_says_r {l : Launch} {D : hg_D} {lo : Nat} (htr : l.stackTraces = false) {G : hg_G} {ta : Nat → Nat} {t : sp_S} (hT : tn_R G ta t) (hw : sp_wf t) {a v9 : Nat} (hs : G.1 a = some (0, 4)) (hc : v9 ≤ 6) {x s0 : Nat} (hv : G.2.2.2 a 0 = some x) (hs0 : s0 ≤ 3) (hx : G.1 x = some (0, 8 + s0)) :
    hg_M l D lo yX4_says (wsW_ yX4_says cX4_says 4 ((some FieldType.int)) [(0, 253, 254, 21)]) rk_X4_says [.ref a, .int (nI v9), .ref (ta 0)] G (fun r G' => ∃ q, r = .inr (q, "TaxOnLooks$Refused") ∧ tx_T 6 q (-2) G G') := by
  refine hg_M.ofH htr (by decide) [some (.ref a), some (.int (nI v9)), some (.ref (ta 0)), none] rfl (Nat.le_of_ble_eq_true rfl) ?_
  intro p e s m args below meth c X hr hnm htab
  have X : hg_X p l s m args meth c D lo "TaxOnLooks$Shelf" cX4_says 4 := X
  refine hr_room (kr' := 4) (nr' := 1017) (Nat.le_of_ble_eq_true rfl) (Nat.le_of_ble_eq_true rfl) ?_
  have w0 := hw.b0; have w1 := hw.b1; have w2 := hw.b2; have w3 := hw.b3; have w36 := hw.b36
  obtain ⟨K9, hK9, hKs, hKb⟩ := hT.sk
  obtain ⟨rr, hrr, htw, hcs, hnc⟩ := hg_clR2 s0 hs0
  refine hr_iload1 (q := 1) X dX4_says_0 rfl ?_
  by_cases e1 : v9 = 1
  · refine hr_tableIn (off := 39) (tgt := 40) X dX4_says_1 (by rw [congrArg nI e1]; decide) (by rw [congrArg nI e1]; decide) (by rw [congrArg nI e1]; rfl) (by decide) ?_
    refine hr_aload0 (q := 41) X dX4_says_40 rfl ?_
    refine hr_getR (v := x) (q := 44) X dX4_says_41 rfl fr_q240_4 rfl hs hv ?_
    refine hr_ifnonnullS (q := 47) (tgt := 51) X dX4_says_44 rfl (by decide) ?_
    refine hr_aload2 (q := 52) X dX4_says_51 rfl ?_
    refine hr_aload0 (q := 53) X dX4_says_52 rfl ?_
    refine hr_getR (v := x) (q := 56) X dX4_says_53 rfl fr_q240_4 rfl hs hv ?_
    refine hr_castX (kr := 1) (nr := 7) X dX4_says_56 q586 hx hrr (hnc _ (by decide)) htw ⟨by decide +kernel, by decide +kernel⟩ (Nat.le_of_ble_eq_true rfl) (by rw [show ([Value.ref x, Value.ref (ta 0)].map fun v => v.category).sum = 2 from rfl]; exact Nat.le_of_ble_eq_true rfl) (fun q9 => ?_)
    refine hx_catch (name := "java/lang/ClassCastException") X [] ⟨0, 253, 254, 21⟩ [] htab (fun _ h => absurd h List.not_mem_nil) (by decide) (by decide) q464 (by decide) ?_
    refine hr_astore3 (q := 255) X dX4_says_254 rfl rfl (Nat.le_of_ble_eq_true rfl) ?_
    refine hr_new (kr := 0) (nr := 0) (q := 258) (ci := 6) (T := TX6) (N := 7) (ty := tyX6) X dX4_says_255 rfl q480 q360 q94 rfl in_X6 tyX6_ok (by decide) (fun x1 hlx1 hnx1 => ?_)
    refine hr_dup (q := 259) X dX4_says_258 rfl rfl ?_
    refine hr_bipush (v := (-2)) (q := 261) X dX4_says_259 rfl rfl ?_
    refine hr_call0 (q := 264) (hc_I (n := 1) (As := [.int (-2)]) X dX4_says_261 rfl (tx_new6 X.tr (b := x1) (if_pos rfl) (w := (-2))) q481 cj_X6_init ⟨Nat.le_of_ble_eq_true rfl, Nat.le_of_ble_eq_true rfl⟩ rfl (Nat.le_of_ble_eq_true rfl)) rfl (fun qx E G' hp => by cases hp.1) (fun r Gw2 hp _ => ?_)
    obtain ⟨hvw2, hkw2, hww2, hbtw2⟩ := hp
    cases hvw2
    have htw2 : tx_T 6 x1 (-2) G Gw2 := ⟨hnx1, by rw [hkw2]; exact if_pos rfl, hww2, hg_bt.N.tr hbtw2⟩
    refine hr_athrow X dX4_says_264 (ci := 6) htw2.2.1 rfl rfl ?_
    exact hx_out X (by rw [htab]; exact List.forall_mem_cons.mpr ⟨Or.inl (by decide), fun _ h => absurd h List.not_mem_nil⟩) ⟨x1, rfl, htw2⟩
  by_cases e2 : v9 = 2
  · refine hr_tableIn (off := 68) (tgt := 69) X dX4_says_1 (by rw [congrArg nI e2]; decide) (by rw [congrArg nI e2]; decide) (by rw [congrArg nI e2]; rfl) (by decide) ?_
    refine hr_aload0 (q := 70) X dX4_says_69 rfl ?_
    refine hr_getR (v := x) (q := 73) X dX4_says_70 rfl fr_q240_4 rfl hs hv ?_
    refine hr_ifnonnullS (q := 76) (tgt := 80) X dX4_says_73 rfl (by decide) ?_
    refine hr_aload2 (q := 81) X dX4_says_80 rfl ?_
    refine hr_aload0 (q := 82) X dX4_says_81 rfl ?_
    refine hr_getR (v := x) (q := 85) X dX4_says_82 rfl fr_q240_4 rfl hs hv ?_
    refine hr_castX (kr := 1) (nr := 7) X dX4_says_85 q620 hx hrr (hnc _ (by decide)) htw ⟨by decide +kernel, by decide +kernel⟩ (Nat.le_of_ble_eq_true rfl) (by rw [show ([Value.ref x, Value.ref (ta 0)].map fun v => v.category).sum = 2 from rfl]; exact Nat.le_of_ble_eq_true rfl) (fun q9 => ?_)
    refine hx_catch (name := "java/lang/ClassCastException") X [] ⟨0, 253, 254, 21⟩ [] htab (fun _ h => absurd h List.not_mem_nil) (by decide) (by decide) q464 (by decide) ?_
    refine hr_astore3 (q := 255) X dX4_says_254 rfl rfl (Nat.le_of_ble_eq_true rfl) ?_
    refine hr_new (kr := 0) (nr := 0) (q := 258) (ci := 6) (T := TX6) (N := 7) (ty := tyX6) X dX4_says_255 rfl q480 q360 q94 rfl in_X6 tyX6_ok (by decide) (fun x3 hlx3 hnx3 => ?_)
    refine hr_dup (q := 259) X dX4_says_258 rfl rfl ?_
    refine hr_bipush (v := (-2)) (q := 261) X dX4_says_259 rfl rfl ?_
    refine hr_call0 (q := 264) (hc_I (n := 1) (As := [.int (-2)]) X dX4_says_261 rfl (tx_new6 X.tr (b := x3) (if_pos rfl) (w := (-2))) q481 cj_X6_init ⟨Nat.le_of_ble_eq_true rfl, Nat.le_of_ble_eq_true rfl⟩ rfl (Nat.le_of_ble_eq_true rfl)) rfl (fun qx E G' hp => by cases hp.1) (fun r Gw4 hp _ => ?_)
    obtain ⟨hvw4, hkw4, hww4, hbtw4⟩ := hp
    cases hvw4
    have htw4 : tx_T 6 x3 (-2) G Gw4 := ⟨hnx3, by rw [hkw4]; exact if_pos rfl, hww4, hg_bt.N.tr hbtw4⟩
    refine hr_athrow X dX4_says_264 (ci := 6) htw4.2.1 rfl rfl ?_
    exact hx_out X (by rw [htab]; exact List.forall_mem_cons.mpr ⟨Or.inl (by decide), fun _ h => absurd h List.not_mem_nil⟩) ⟨x3, rfl, htw4⟩
  by_cases e3 : v9 = 3
  · refine hr_tableIn (off := 97) (tgt := 98) X dX4_says_1 (by rw [congrArg nI e3]; decide) (by rw [congrArg nI e3]; decide) (by rw [congrArg nI e3]; rfl) (by decide) ?_
    refine hr_aload0 (q := 99) X dX4_says_98 rfl ?_
    refine hr_getR (v := x) (q := 102) X dX4_says_99 rfl fr_q240_4 rfl hs hv ?_
    refine hr_ifnonnullS (q := 105) (tgt := 109) X dX4_says_102 rfl (by decide) ?_
    refine hr_aload2 (q := 110) X dX4_says_109 rfl ?_
    refine hr_getR (v := (ta 3)) (q := 113) X dX4_says_110 rfl fr_q185_2 rfl hT.ob hT.f13 ?_
    refine hr_aload0 (q := 114) X dX4_says_113 rfl ?_
    refine hr_getR (v := x) (q := 117) X dX4_says_114 rfl fr_q240_4 rfl hs hv ?_
    refine hr_castX (kr := 1) (nr := 7) X dX4_says_117 q621 hx hrr (hnc _ (by decide)) htw ⟨by decide +kernel, by decide +kernel⟩ (Nat.le_of_ble_eq_true rfl) (by rw [show ([Value.ref x, Value.ref (ta 3)].map fun v => v.category).sum = 2 from rfl]; exact Nat.le_of_ble_eq_true rfl) (fun q9 => ?_)
    refine hx_catch (name := "java/lang/ClassCastException") X [] ⟨0, 253, 254, 21⟩ [] htab (fun _ h => absurd h List.not_mem_nil) (by decide) (by decide) q464 (by decide) ?_
    refine hr_astore3 (q := 255) X dX4_says_254 rfl rfl (Nat.le_of_ble_eq_true rfl) ?_
    refine hr_new (kr := 0) (nr := 0) (q := 258) (ci := 6) (T := TX6) (N := 7) (ty := tyX6) X dX4_says_255 rfl q480 q360 q94 rfl in_X6 tyX6_ok (by decide) (fun x5 hlx5 hnx5 => ?_)
    refine hr_dup (q := 259) X dX4_says_258 rfl rfl ?_
    refine hr_bipush (v := (-2)) (q := 261) X dX4_says_259 rfl rfl ?_
    refine hr_call0 (q := 264) (hc_I (n := 1) (As := [.int (-2)]) X dX4_says_261 rfl (tx_new6 X.tr (b := x5) (if_pos rfl) (w := (-2))) q481 cj_X6_init ⟨Nat.le_of_ble_eq_true rfl, Nat.le_of_ble_eq_true rfl⟩ rfl (Nat.le_of_ble_eq_true rfl)) rfl (fun qx E G' hp => by cases hp.1) (fun r Gw6 hp _ => ?_)
    obtain ⟨hvw6, hkw6, hww6, hbtw6⟩ := hp
    cases hvw6
    have htw6 : tx_T 6 x5 (-2) G Gw6 := ⟨hnx5, by rw [hkw6]; exact if_pos rfl, hww6, hg_bt.N.tr hbtw6⟩
    refine hr_athrow X dX4_says_264 (ci := 6) htw6.2.1 rfl rfl ?_
    exact hx_out X (by rw [htab]; exact List.forall_mem_cons.mpr ⟨Or.inl (by decide), fun _ h => absurd h List.not_mem_nil⟩) ⟨x5, rfl, htw6⟩
  by_cases e4 : v9 = 4
  · refine hr_tableIn (off := 127) (tgt := 128) X dX4_says_1 (by rw [congrArg nI e4]; decide) (by rw [congrArg nI e4]; decide) (by rw [congrArg nI e4]; rfl) (by decide) ?_
    refine hr_aload0 (q := 129) X dX4_says_128 rfl ?_
    refine hr_getR (v := x) (q := 132) X dX4_says_129 rfl fr_q240_4 rfl hs hv ?_
    refine hr_ifnonnullS (q := 135) (tgt := 139) X dX4_says_132 rfl (by decide) ?_
    refine hr_aload0 (q := 140) X dX4_says_139 rfl ?_
    refine hr_getR (v := x) (q := 143) X dX4_says_140 rfl fr_q240_4 rfl hs hv ?_
    refine hr_castX (kr := 1) (nr := 7) X dX4_says_143 q622 hx hrr (hnc _ (by decide)) htw ⟨by decide +kernel, by decide +kernel⟩ (Nat.le_of_ble_eq_true rfl) (by rw [show ([Value.ref x].map fun v => v.category).sum = 1 from rfl]; exact Nat.le_of_ble_eq_true rfl) (fun q9 => ?_)
    refine hx_catch (name := "java/lang/ClassCastException") X [] ⟨0, 253, 254, 21⟩ [] htab (fun _ h => absurd h List.not_mem_nil) (by decide) (by decide) q464 (by decide) ?_
    refine hr_astore3 (q := 255) X dX4_says_254 rfl rfl (Nat.le_of_ble_eq_true rfl) ?_
    refine hr_new (kr := 0) (nr := 0) (q := 258) (ci := 6) (T := TX6) (N := 7) (ty := tyX6) X dX4_says_255 rfl q480 q360 q94 rfl in_X6 tyX6_ok (by decide) (fun x7 hlx7 hnx7 => ?_)
    refine hr_dup (q := 259) X dX4_says_258 rfl rfl ?_
    refine hr_bipush (v := (-2)) (q := 261) X dX4_says_259 rfl rfl ?_
    refine hr_call0 (q := 264) (hc_I (n := 1) (As := [.int (-2)]) X dX4_says_261 rfl (tx_new6 X.tr (b := x7) (if_pos rfl) (w := (-2))) q481 cj_X6_init ⟨Nat.le_of_ble_eq_true rfl, Nat.le_of_ble_eq_true rfl⟩ rfl (Nat.le_of_ble_eq_true rfl)) rfl (fun qx E G' hp => by cases hp.1) (fun r Gw8 hp _ => ?_)
    obtain ⟨hvw8, hkw8, hww8, hbtw8⟩ := hp
    cases hvw8
    have htw8 : tx_T 6 x7 (-2) G Gw8 := ⟨hnx7, by rw [hkw8]; exact if_pos rfl, hww8, hg_bt.N.tr hbtw8⟩
    refine hr_athrow X dX4_says_264 (ci := 6) htw8.2.1 rfl rfl ?_
    exact hx_out X (by rw [htab]; exact List.forall_mem_cons.mpr ⟨Or.inl (by decide), fun _ h => absurd h List.not_mem_nil⟩) ⟨x7, rfl, htw8⟩
  by_cases e5 : v9 = 5
  · refine hr_tableIn (off := 152) (tgt := 153) X dX4_says_1 (by rw [congrArg nI e5]; decide) (by rw [congrArg nI e5]; decide) (by rw [congrArg nI e5]; rfl) (by decide) ?_
    refine hr_aload0 (q := 154) X dX4_says_153 rfl ?_
    refine hr_getR (v := x) (q := 157) X dX4_says_154 rfl fr_q240_4 rfl hs hv ?_
    refine hr_ifnonnullS (q := 160) (tgt := 164) X dX4_says_157 rfl (by decide) ?_
    refine hr_aload2 (q := 165) X dX4_says_164 rfl ?_
    refine hr_getR (v := (ta 3)) (q := 168) X dX4_says_165 rfl fr_q185_2 rfl hT.ob hT.f13 ?_
    refine hr_aload0 (q := 169) X dX4_says_168 rfl ?_
    refine hr_getR (v := x) (q := 172) X dX4_says_169 rfl fr_q240_4 rfl hs hv ?_
    refine hr_castX (kr := 1) (nr := 7) X dX4_says_172 q623 hx hrr (hnc _ (by decide)) htw ⟨by decide +kernel, by decide +kernel⟩ (Nat.le_of_ble_eq_true rfl) (by rw [show ([Value.ref x, Value.ref (ta 3)].map fun v => v.category).sum = 2 from rfl]; exact Nat.le_of_ble_eq_true rfl) (fun q9 => ?_)
    refine hx_catch (name := "java/lang/ClassCastException") X [] ⟨0, 253, 254, 21⟩ [] htab (fun _ h => absurd h List.not_mem_nil) (by decide) (by decide) q464 (by decide) ?_
    refine hr_astore3 (q := 255) X dX4_says_254 rfl rfl (Nat.le_of_ble_eq_true rfl) ?_
    refine hr_new (kr := 0) (nr := 0) (q := 258) (ci := 6) (T := TX6) (N := 7) (ty := tyX6) X dX4_says_255 rfl q480 q360 q94 rfl in_X6 tyX6_ok (by decide) (fun x9 hlx9 hnx9 => ?_)
    refine hr_dup (q := 259) X dX4_says_258 rfl rfl ?_
    refine hr_bipush (v := (-2)) (q := 261) X dX4_says_259 rfl rfl ?_
    refine hr_call0 (q := 264) (hc_I (n := 1) (As := [.int (-2)]) X dX4_says_261 rfl (tx_new6 X.tr (b := x9) (if_pos rfl) (w := (-2))) q481 cj_X6_init ⟨Nat.le_of_ble_eq_true rfl, Nat.le_of_ble_eq_true rfl⟩ rfl (Nat.le_of_ble_eq_true rfl)) rfl (fun qx E G' hp => by cases hp.1) (fun r Gw10 hp _ => ?_)
    obtain ⟨hvw10, hkw10, hww10, hbtw10⟩ := hp
    cases hvw10
    have htw10 : tx_T 6 x9 (-2) G Gw10 := ⟨hnx9, by rw [hkw10]; exact if_pos rfl, hww10, hg_bt.N.tr hbtw10⟩
    refine hr_athrow X dX4_says_264 (ci := 6) htw10.2.1 rfl rfl ?_
    exact hx_out X (by rw [htab]; exact List.forall_mem_cons.mpr ⟨Or.inl (by decide), fun _ h => absurd h List.not_mem_nil⟩) ⟨x9, rfl, htw10⟩
  by_cases e6 : v9 = 6
  · refine hr_tableIn (off := 182) (tgt := 183) X dX4_says_1 (by rw [congrArg nI e6]; decide) (by rw [congrArg nI e6]; decide) (by rw [congrArg nI e6]; rfl) (by decide) ?_
    refine hr_aload0 (q := 184) X dX4_says_183 rfl ?_
    refine hr_getR (v := x) (q := 187) X dX4_says_184 rfl fr_q240_4 rfl hs hv ?_
    refine hr_ifnonnullS (q := 190) (tgt := 194) X dX4_says_187 rfl (by decide) ?_
    refine hr_aload0 (q := 195) X dX4_says_194 rfl ?_
    refine hr_getR (v := x) (q := 198) X dX4_says_195 rfl fr_q240_4 rfl hs hv ?_
    refine hr_castX (kr := 1) (nr := 7) X dX4_says_198 q624 hx hrr (hnc _ (by decide)) htw ⟨by decide +kernel, by decide +kernel⟩ (Nat.le_of_ble_eq_true rfl) (by rw [show ([Value.ref x].map fun v => v.category).sum = 1 from rfl]; exact Nat.le_of_ble_eq_true rfl) (fun q9 => ?_)
    refine hx_catch (name := "java/lang/ClassCastException") X [] ⟨0, 253, 254, 21⟩ [] htab (fun _ h => absurd h List.not_mem_nil) (by decide) (by decide) q464 (by decide) ?_
    refine hr_astore3 (q := 255) X dX4_says_254 rfl rfl (Nat.le_of_ble_eq_true rfl) ?_
    refine hr_new (kr := 0) (nr := 0) (q := 258) (ci := 6) (T := TX6) (N := 7) (ty := tyX6) X dX4_says_255 rfl q480 q360 q94 rfl in_X6 tyX6_ok (by decide) (fun x11 hlx11 hnx11 => ?_)
    refine hr_dup (q := 259) X dX4_says_258 rfl rfl ?_
    refine hr_bipush (v := (-2)) (q := 261) X dX4_says_259 rfl rfl ?_
    refine hr_call0 (q := 264) (hc_I (n := 1) (As := [.int (-2)]) X dX4_says_261 rfl (tx_new6 X.tr (b := x11) (if_pos rfl) (w := (-2))) q481 cj_X6_init ⟨Nat.le_of_ble_eq_true rfl, Nat.le_of_ble_eq_true rfl⟩ rfl (Nat.le_of_ble_eq_true rfl)) rfl (fun qx E G' hp => by cases hp.1) (fun r Gw12 hp _ => ?_)
    obtain ⟨hvw12, hkw12, hww12, hbtw12⟩ := hp
    cases hvw12
    have htw12 : tx_T 6 x11 (-2) G Gw12 := ⟨hnx11, by rw [hkw12]; exact if_pos rfl, hww12, hg_bt.N.tr hbtw12⟩
    refine hr_athrow X dX4_says_264 (ci := 6) htw12.2.1 rfl rfl ?_
    exact hx_out X (by rw [htab]; exact List.forall_mem_cons.mpr ⟨Or.inl (by decide), fun _ h => absurd h List.not_mem_nil⟩) ⟨x11, rfl, htw12⟩
  have e0 : v9 = 0 := by omega
  refine hr_tableOut (tgt := 208) X dX4_says_1 (Or.inl (by rw [congrArg nI e0]; decide)) (by decide) ?_
  refine hr_aload0 (q := 209) X dX4_says_208 rfl ?_
  refine hr_getR (v := x) (q := 212) X dX4_says_209 rfl fr_q240_4 rfl hs hv ?_
  refine hr_ifnonnullS (q := 215) (tgt := 219) X dX4_says_212 rfl (by decide) ?_
  refine hr_aload2 (q := 220) X dX4_says_219 rfl ?_
  refine hr_getR (v := (ta 4)) (q := 223) X dX4_says_220 rfl fr_q189_2 rfl hT.ob hT.f14 ?_
  refine hr_aload0 (q := 224) X dX4_says_223 rfl ?_
  refine hr_getR (v := x) (q := 227) X dX4_says_224 rfl fr_q240_4 rfl hs hv ?_
  refine hr_castX (kr := 1) (nr := 7) X dX4_says_227 q506 hx hrr (hnc _ (by decide)) htw ⟨by decide +kernel, by decide +kernel⟩ (Nat.le_of_ble_eq_true rfl) (by rw [show ([Value.ref x, Value.ref (ta 4)].map fun v => v.category).sum = 2 from rfl]; exact Nat.le_of_ble_eq_true rfl) (fun q9 => ?_)
  refine hx_catch (name := "java/lang/ClassCastException") X [] ⟨0, 253, 254, 21⟩ [] htab (fun _ h => absurd h List.not_mem_nil) (by decide) (by decide) q464 (by decide) ?_
  refine hr_astore3 (q := 255) X dX4_says_254 rfl rfl (Nat.le_of_ble_eq_true rfl) ?_
  refine hr_new (kr := 0) (nr := 0) (q := 258) (ci := 6) (T := TX6) (N := 7) (ty := tyX6) X dX4_says_255 rfl q480 q360 q94 rfl in_X6 tyX6_ok (by decide) (fun x13 hlx13 hnx13 => ?_)
  refine hr_dup (q := 259) X dX4_says_258 rfl rfl ?_
  refine hr_bipush (v := (-2)) (q := 261) X dX4_says_259 rfl rfl ?_
  refine hr_call0 (q := 264) (hc_I (n := 1) (As := [.int (-2)]) X dX4_says_261 rfl (tx_new6 X.tr (b := x13) (if_pos rfl) (w := (-2))) q481 cj_X6_init ⟨Nat.le_of_ble_eq_true rfl, Nat.le_of_ble_eq_true rfl⟩ rfl (Nat.le_of_ble_eq_true rfl)) rfl (fun qx E G' hp => by cases hp.1) (fun r Gw14 hp _ => ?_)
  obtain ⟨hvw14, hkw14, hww14, hbtw14⟩ := hp
  cases hvw14
  have htw14 : tx_T 6 x13 (-2) G Gw14 := ⟨hnx13, by rw [hkw14]; exact if_pos rfl, hww14, hg_bt.N.tr hbtw14⟩
  refine hr_athrow X dX4_says_264 (ci := 6) htw14.2.1 rfl rfl ?_
  exact hx_out X (by rw [htab]; exact List.forall_mem_cons.mpr ⟨Or.inl (by decide), fun _ h => absurd h List.not_mem_nil⟩) ⟨x13, rfl, htw14⟩

theorem ts_says_n {l : Launch} {D : hg_D} {lo : Nat} (htr : l.stackTraces = false) {G : hg_G} {ta : Nat → Nat} {t : sp_S} (hT : tn_R G ta t) (hw : sp_wf t) {a v9 : Nat} (hs : G.1 a = some (0, 4)) (hc : v9 ≤ 6) (hv : G.2.2.2 a 0 = none) :
    hg_M l D lo yX4_says (wsW_ yX4_says cX4_says 4 ((some FieldType.int)) [(0, 253, 254, 21)]) rk_X4_says [.ref a, .int (nI v9), .ref (ta 0)] G (fun r G' => ∃ q, r = .inr (q, "TaxOnLooks$Refused") ∧ tx_T 6 q (-3) G G') := by
  refine hg_M.ofH htr (by decide) [some (.ref a), some (.int (nI v9)), some (.ref (ta 0)), none] rfl (Nat.le_of_ble_eq_true rfl) ?_
  intro p e s m args below meth c X hr hnm htab
  have X : hg_X p l s m args meth c D lo "TaxOnLooks$Shelf" cX4_says 4 := X
  refine hr_room (kr' := 4) (nr' := 1017) (Nat.le_of_ble_eq_true rfl) (Nat.le_of_ble_eq_true rfl) ?_
  have w0 := hw.b0; have w1 := hw.b1; have w2 := hw.b2; have w3 := hw.b3; have w36 := hw.b36
  obtain ⟨K9, hK9, hKs, hKb⟩ := hT.sk
  refine hr_iload1 (q := 1) X dX4_says_0 rfl ?_
  by_cases e1 : v9 = 1
  · refine hr_tableIn (off := 39) (tgt := 40) X dX4_says_1 (by rw [congrArg nI e1]; decide) (by rw [congrArg nI e1]; decide) (by rw [congrArg nI e1]; rfl) (by decide) ?_
    refine hr_aload0 (q := 41) X dX4_says_40 rfl ?_
    refine hr_getQ (v := none) (q := 44) X dX4_says_41 rfl fr_q240_4 rfl hs hv ?_
    refine hr_st1 (v' := .null) rfl ?_
    refine hr_ifnonnullN (q := 47) (tgt := 51) X dX4_says_44 rfl (by decide) ?_
    refine hr_iconst (v := (-1)) (q := 48) X dX4_says_47 rfl rfl ?_
    refine hr_goto (tgt := 65) X dX4_says_48 (by decide) ?_
    refine hr_istore3 (q := 66) X dX4_says_65 rfl rfl (Nat.le_of_ble_eq_true rfl) ?_
    refine hr_goto (tgt := 235) X dX4_says_66 (by decide) ?_
    refine hr_aload0 (q := 236) X dX4_says_235 rfl ?_
    refine hr_getQ (v := none) (q := 239) X dX4_says_236 rfl fr_q240_4 rfl hs hv ?_
    refine hr_st1 (v' := .null) rfl ?_
    refine hr_ifnullN (q := 242) (tgt := 246) X dX4_says_239 rfl (by decide) ?_
    refine hr_iconst (v := (bI false)) (q := 247) X dX4_says_246 rfl rfl ?_
    refine hr_bipush (v := (-3)) (q := 249) X dX4_says_247 rfl rfl ?_
    refine hr_call (kr := 3) (nr := 1010) (q := 252) (hc_S (n := 2) (As := [.int (bI false), .int (-3)]) X dX4_says_249 rfl (tc_need X.tr (g := false) (w := (-3))) q479 cs_X0_need ⟨Nat.le_of_ble_eq_true rfl, Nat.le_of_ble_eq_true rfl⟩ rfl (Nat.le_of_ble_eq_true rfl)) rfl (fun qx E G1 hp _ => ?_) (fun r G1 hp _ => ?_)
    · obtain ⟨hg9, -⟩ | ⟨-, q9, hr9, ht9⟩ := hp
      · cases hg9
      · cases hr9
        exact hx_out X (by rw [htab]; exact List.forall_mem_cons.mpr ⟨Or.inr ⟨by decide, _, q464, by decide⟩, fun _ h => absurd h List.not_mem_nil⟩) ⟨_, rfl, ht9⟩
    · obtain ⟨hg9, -⟩ | ⟨-, q9, hr9, -⟩ := hp
      · cases hg9
      · cases hr9
  by_cases e2 : v9 = 2
  · refine hr_tableIn (off := 68) (tgt := 69) X dX4_says_1 (by rw [congrArg nI e2]; decide) (by rw [congrArg nI e2]; decide) (by rw [congrArg nI e2]; rfl) (by decide) ?_
    refine hr_aload0 (q := 70) X dX4_says_69 rfl ?_
    refine hr_getQ (v := none) (q := 73) X dX4_says_70 rfl fr_q240_4 rfl hs hv ?_
    refine hr_st1 (v' := .null) rfl ?_
    refine hr_ifnonnullN (q := 76) (tgt := 80) X dX4_says_73 rfl (by decide) ?_
    refine hr_iconst (v := (-1)) (q := 77) X dX4_says_76 rfl rfl ?_
    refine hr_goto (tgt := 94) X dX4_says_77 (by decide) ?_
    refine hr_istore3 (q := 95) X dX4_says_94 rfl rfl (Nat.le_of_ble_eq_true rfl) ?_
    refine hr_goto (tgt := 235) X dX4_says_95 (by decide) ?_
    refine hr_aload0 (q := 236) X dX4_says_235 rfl ?_
    refine hr_getQ (v := none) (q := 239) X dX4_says_236 rfl fr_q240_4 rfl hs hv ?_
    refine hr_st1 (v' := .null) rfl ?_
    refine hr_ifnullN (q := 242) (tgt := 246) X dX4_says_239 rfl (by decide) ?_
    refine hr_iconst (v := (bI false)) (q := 247) X dX4_says_246 rfl rfl ?_
    refine hr_bipush (v := (-3)) (q := 249) X dX4_says_247 rfl rfl ?_
    refine hr_call (kr := 3) (nr := 1010) (q := 252) (hc_S (n := 2) (As := [.int (bI false), .int (-3)]) X dX4_says_249 rfl (tc_need X.tr (g := false) (w := (-3))) q479 cs_X0_need ⟨Nat.le_of_ble_eq_true rfl, Nat.le_of_ble_eq_true rfl⟩ rfl (Nat.le_of_ble_eq_true rfl)) rfl (fun qx E G1 hp _ => ?_) (fun r G1 hp _ => ?_)
    · obtain ⟨hg9, -⟩ | ⟨-, q9, hr9, ht9⟩ := hp
      · cases hg9
      · cases hr9
        exact hx_out X (by rw [htab]; exact List.forall_mem_cons.mpr ⟨Or.inr ⟨by decide, _, q464, by decide⟩, fun _ h => absurd h List.not_mem_nil⟩) ⟨_, rfl, ht9⟩
    · obtain ⟨hg9, -⟩ | ⟨-, q9, hr9, -⟩ := hp
      · cases hg9
      · cases hr9
  by_cases e3 : v9 = 3
  · refine hr_tableIn (off := 97) (tgt := 98) X dX4_says_1 (by rw [congrArg nI e3]; decide) (by rw [congrArg nI e3]; decide) (by rw [congrArg nI e3]; rfl) (by decide) ?_
    refine hr_aload0 (q := 99) X dX4_says_98 rfl ?_
    refine hr_getQ (v := none) (q := 102) X dX4_says_99 rfl fr_q240_4 rfl hs hv ?_
    refine hr_st1 (v' := .null) rfl ?_
    refine hr_ifnonnullN (q := 105) (tgt := 109) X dX4_says_102 rfl (by decide) ?_
    refine hr_iconst (v := (-1)) (q := 106) X dX4_says_105 rfl rfl ?_
    refine hr_goto (tgt := 124) X dX4_says_106 (by decide) ?_
    refine hr_istore3 (q := 125) X dX4_says_124 rfl rfl (Nat.le_of_ble_eq_true rfl) ?_
    refine hr_goto (tgt := 235) X dX4_says_125 (by decide) ?_
    refine hr_aload0 (q := 236) X dX4_says_235 rfl ?_
    refine hr_getQ (v := none) (q := 239) X dX4_says_236 rfl fr_q240_4 rfl hs hv ?_
    refine hr_st1 (v' := .null) rfl ?_
    refine hr_ifnullN (q := 242) (tgt := 246) X dX4_says_239 rfl (by decide) ?_
    refine hr_iconst (v := (bI false)) (q := 247) X dX4_says_246 rfl rfl ?_
    refine hr_bipush (v := (-3)) (q := 249) X dX4_says_247 rfl rfl ?_
    refine hr_call (kr := 3) (nr := 1010) (q := 252) (hc_S (n := 2) (As := [.int (bI false), .int (-3)]) X dX4_says_249 rfl (tc_need X.tr (g := false) (w := (-3))) q479 cs_X0_need ⟨Nat.le_of_ble_eq_true rfl, Nat.le_of_ble_eq_true rfl⟩ rfl (Nat.le_of_ble_eq_true rfl)) rfl (fun qx E G1 hp _ => ?_) (fun r G1 hp _ => ?_)
    · obtain ⟨hg9, -⟩ | ⟨-, q9, hr9, ht9⟩ := hp
      · cases hg9
      · cases hr9
        exact hx_out X (by rw [htab]; exact List.forall_mem_cons.mpr ⟨Or.inr ⟨by decide, _, q464, by decide⟩, fun _ h => absurd h List.not_mem_nil⟩) ⟨_, rfl, ht9⟩
    · obtain ⟨hg9, -⟩ | ⟨-, q9, hr9, -⟩ := hp
      · cases hg9
      · cases hr9
  by_cases e4 : v9 = 4
  · refine hr_tableIn (off := 127) (tgt := 128) X dX4_says_1 (by rw [congrArg nI e4]; decide) (by rw [congrArg nI e4]; decide) (by rw [congrArg nI e4]; rfl) (by decide) ?_
    refine hr_aload0 (q := 129) X dX4_says_128 rfl ?_
    refine hr_getQ (v := none) (q := 132) X dX4_says_129 rfl fr_q240_4 rfl hs hv ?_
    refine hr_st1 (v' := .null) rfl ?_
    refine hr_ifnonnullN (q := 135) (tgt := 139) X dX4_says_132 rfl (by decide) ?_
    refine hr_iconst (v := (-1)) (q := 136) X dX4_says_135 rfl rfl ?_
    refine hr_goto (tgt := 149) X dX4_says_136 (by decide) ?_
    refine hr_istore3 (q := 150) X dX4_says_149 rfl rfl (Nat.le_of_ble_eq_true rfl) ?_
    refine hr_goto (tgt := 235) X dX4_says_150 (by decide) ?_
    refine hr_aload0 (q := 236) X dX4_says_235 rfl ?_
    refine hr_getQ (v := none) (q := 239) X dX4_says_236 rfl fr_q240_4 rfl hs hv ?_
    refine hr_st1 (v' := .null) rfl ?_
    refine hr_ifnullN (q := 242) (tgt := 246) X dX4_says_239 rfl (by decide) ?_
    refine hr_iconst (v := (bI false)) (q := 247) X dX4_says_246 rfl rfl ?_
    refine hr_bipush (v := (-3)) (q := 249) X dX4_says_247 rfl rfl ?_
    refine hr_call (kr := 3) (nr := 1010) (q := 252) (hc_S (n := 2) (As := [.int (bI false), .int (-3)]) X dX4_says_249 rfl (tc_need X.tr (g := false) (w := (-3))) q479 cs_X0_need ⟨Nat.le_of_ble_eq_true rfl, Nat.le_of_ble_eq_true rfl⟩ rfl (Nat.le_of_ble_eq_true rfl)) rfl (fun qx E G1 hp _ => ?_) (fun r G1 hp _ => ?_)
    · obtain ⟨hg9, -⟩ | ⟨-, q9, hr9, ht9⟩ := hp
      · cases hg9
      · cases hr9
        exact hx_out X (by rw [htab]; exact List.forall_mem_cons.mpr ⟨Or.inr ⟨by decide, _, q464, by decide⟩, fun _ h => absurd h List.not_mem_nil⟩) ⟨_, rfl, ht9⟩
    · obtain ⟨hg9, -⟩ | ⟨-, q9, hr9, -⟩ := hp
      · cases hg9
      · cases hr9
  by_cases e5 : v9 = 5
  · refine hr_tableIn (off := 152) (tgt := 153) X dX4_says_1 (by rw [congrArg nI e5]; decide) (by rw [congrArg nI e5]; decide) (by rw [congrArg nI e5]; rfl) (by decide) ?_
    refine hr_aload0 (q := 154) X dX4_says_153 rfl ?_
    refine hr_getQ (v := none) (q := 157) X dX4_says_154 rfl fr_q240_4 rfl hs hv ?_
    refine hr_st1 (v' := .null) rfl ?_
    refine hr_ifnonnullN (q := 160) (tgt := 164) X dX4_says_157 rfl (by decide) ?_
    refine hr_iconst (v := (-1)) (q := 161) X dX4_says_160 rfl rfl ?_
    refine hr_goto (tgt := 179) X dX4_says_161 (by decide) ?_
    refine hr_istore3 (q := 180) X dX4_says_179 rfl rfl (Nat.le_of_ble_eq_true rfl) ?_
    refine hr_goto (tgt := 235) X dX4_says_180 (by decide) ?_
    refine hr_aload0 (q := 236) X dX4_says_235 rfl ?_
    refine hr_getQ (v := none) (q := 239) X dX4_says_236 rfl fr_q240_4 rfl hs hv ?_
    refine hr_st1 (v' := .null) rfl ?_
    refine hr_ifnullN (q := 242) (tgt := 246) X dX4_says_239 rfl (by decide) ?_
    refine hr_iconst (v := (bI false)) (q := 247) X dX4_says_246 rfl rfl ?_
    refine hr_bipush (v := (-3)) (q := 249) X dX4_says_247 rfl rfl ?_
    refine hr_call (kr := 3) (nr := 1010) (q := 252) (hc_S (n := 2) (As := [.int (bI false), .int (-3)]) X dX4_says_249 rfl (tc_need X.tr (g := false) (w := (-3))) q479 cs_X0_need ⟨Nat.le_of_ble_eq_true rfl, Nat.le_of_ble_eq_true rfl⟩ rfl (Nat.le_of_ble_eq_true rfl)) rfl (fun qx E G1 hp _ => ?_) (fun r G1 hp _ => ?_)
    · obtain ⟨hg9, -⟩ | ⟨-, q9, hr9, ht9⟩ := hp
      · cases hg9
      · cases hr9
        exact hx_out X (by rw [htab]; exact List.forall_mem_cons.mpr ⟨Or.inr ⟨by decide, _, q464, by decide⟩, fun _ h => absurd h List.not_mem_nil⟩) ⟨_, rfl, ht9⟩
    · obtain ⟨hg9, -⟩ | ⟨-, q9, hr9, -⟩ := hp
      · cases hg9
      · cases hr9
  by_cases e6 : v9 = 6
  · refine hr_tableIn (off := 182) (tgt := 183) X dX4_says_1 (by rw [congrArg nI e6]; decide) (by rw [congrArg nI e6]; decide) (by rw [congrArg nI e6]; rfl) (by decide) ?_
    refine hr_aload0 (q := 184) X dX4_says_183 rfl ?_
    refine hr_getQ (v := none) (q := 187) X dX4_says_184 rfl fr_q240_4 rfl hs hv ?_
    refine hr_st1 (v' := .null) rfl ?_
    refine hr_ifnonnullN (q := 190) (tgt := 194) X dX4_says_187 rfl (by decide) ?_
    refine hr_iconst (v := (-1)) (q := 191) X dX4_says_190 rfl rfl ?_
    refine hr_goto (tgt := 204) X dX4_says_191 (by decide) ?_
    refine hr_istore3 (q := 205) X dX4_says_204 rfl rfl (Nat.le_of_ble_eq_true rfl) ?_
    refine hr_goto (tgt := 235) X dX4_says_205 (by decide) ?_
    refine hr_aload0 (q := 236) X dX4_says_235 rfl ?_
    refine hr_getQ (v := none) (q := 239) X dX4_says_236 rfl fr_q240_4 rfl hs hv ?_
    refine hr_st1 (v' := .null) rfl ?_
    refine hr_ifnullN (q := 242) (tgt := 246) X dX4_says_239 rfl (by decide) ?_
    refine hr_iconst (v := (bI false)) (q := 247) X dX4_says_246 rfl rfl ?_
    refine hr_bipush (v := (-3)) (q := 249) X dX4_says_247 rfl rfl ?_
    refine hr_call (kr := 3) (nr := 1010) (q := 252) (hc_S (n := 2) (As := [.int (bI false), .int (-3)]) X dX4_says_249 rfl (tc_need X.tr (g := false) (w := (-3))) q479 cs_X0_need ⟨Nat.le_of_ble_eq_true rfl, Nat.le_of_ble_eq_true rfl⟩ rfl (Nat.le_of_ble_eq_true rfl)) rfl (fun qx E G1 hp _ => ?_) (fun r G1 hp _ => ?_)
    · obtain ⟨hg9, -⟩ | ⟨-, q9, hr9, ht9⟩ := hp
      · cases hg9
      · cases hr9
        exact hx_out X (by rw [htab]; exact List.forall_mem_cons.mpr ⟨Or.inr ⟨by decide, _, q464, by decide⟩, fun _ h => absurd h List.not_mem_nil⟩) ⟨_, rfl, ht9⟩
    · obtain ⟨hg9, -⟩ | ⟨-, q9, hr9, -⟩ := hp
      · cases hg9
      · cases hr9
  have e0 : v9 = 0 := by omega
  refine hr_tableOut (tgt := 208) X dX4_says_1 (Or.inl (by rw [congrArg nI e0]; decide)) (by decide) ?_
  refine hr_aload0 (q := 209) X dX4_says_208 rfl ?_
  refine hr_getQ (v := none) (q := 212) X dX4_says_209 rfl fr_q240_4 rfl hs hv ?_
  refine hr_st1 (v' := .null) rfl ?_
  refine hr_ifnonnullN (q := 215) (tgt := 219) X dX4_says_212 rfl (by decide) ?_
  refine hr_iconst (v := (-1)) (q := 216) X dX4_says_215 rfl rfl ?_
  refine hr_goto (tgt := 234) X dX4_says_216 (by decide) ?_
  refine hr_istore3 (q := 235) X dX4_says_234 rfl rfl (Nat.le_of_ble_eq_true rfl) ?_
  refine hr_aload0 (q := 236) X dX4_says_235 rfl ?_
  refine hr_getQ (v := none) (q := 239) X dX4_says_236 rfl fr_q240_4 rfl hs hv ?_
  refine hr_st1 (v' := .null) rfl ?_
  refine hr_ifnullN (q := 242) (tgt := 246) X dX4_says_239 rfl (by decide) ?_
  refine hr_iconst (v := (bI false)) (q := 247) X dX4_says_246 rfl rfl ?_
  refine hr_bipush (v := (-3)) (q := 249) X dX4_says_247 rfl rfl ?_
  refine hr_call (kr := 3) (nr := 1010) (q := 252) (hc_S (n := 2) (As := [.int (bI false), .int (-3)]) X dX4_says_249 rfl (tc_need X.tr (g := false) (w := (-3))) q479 cs_X0_need ⟨Nat.le_of_ble_eq_true rfl, Nat.le_of_ble_eq_true rfl⟩ rfl (Nat.le_of_ble_eq_true rfl)) rfl (fun qx E G1 hp _ => ?_) (fun r G1 hp _ => ?_)
  · obtain ⟨hg9, -⟩ | ⟨-, q9, hr9, ht9⟩ := hp
    · cases hg9
    · cases hr9
      exact hx_out X (by rw [htab]; exact List.forall_mem_cons.mpr ⟨Or.inr ⟨by decide, _, q464, by decide⟩, fun _ h => absurd h List.not_mem_nil⟩) ⟨_, rfl, ht9⟩
  · obtain ⟨hg9, -⟩ | ⟨-, q9, hr9, -⟩ := hp
    · cases hg9
    · cases hr9

theorem ts_says_p {l : Launch} {D : hg_D} {lo : Nat} (htr : l.stackTraces = false) {G : hg_G} {ta : Nat → Nat} {t : sp_S} (hT : tn_R G ta t) (hw : sp_wf t) {a v9 : Nat} (hs : G.1 a = some (0, 4)) (hc : v9 ≤ 6) {q p9 K : Nat} (hv : G.2.2.2 a 0 = some q) (hp : p9 < t.1 0 0) (hqk : G.1 q = some (0, 12 + K)) (hqi : G.2.1 q 0 = nI p9) (hqs : G.2.1 q 2 = nI (t.1 12 p9)) (hK : K ≤ 6) :
    hg_M l D lo yX4_says (wsW_ yX4_says cX4_says 4 ((some FieldType.int)) [(0, 253, 254, 21)]) rk_X4_says [.ref a, .int (nI v9), .ref (ta 0)] G (fun r G' => (sp_ok v9 K = true ∧ r = .inl (some (.int (nI (sp_told t v9 p9)))) ∧ G' = G) ∨ (sp_ok v9 K = false ∧ ∃ q, r = .inr (q, "TaxOnLooks$Refused") ∧ tx_T 6 q (-2) G G')) := by
  refine hg_M.ofH htr (by decide) [some (.ref a), some (.int (nI v9)), some (.ref (ta 0)), none] rfl (Nat.le_of_ble_eq_true rfl) ?_
  intro p e s m args below meth c X hr hnm htab
  have X : hg_X p l s m args meth c D lo "TaxOnLooks$Shelf" cX4_says 4 := X
  refine hr_room (kr' := 4) (nr' := 1017) (Nat.le_of_ble_eq_true rfl) (Nat.le_of_ble_eq_true rfl) ?_
  have w0 := hw.b0; have w1 := hw.b1; have w2 := hw.b2; have w3 := hw.b3; have w36 := hw.b36
  obtain ⟨K9, hK9, hKs, hKb⟩ := hT.sk
  refine hr_iload1 (q := 1) X dX4_says_0 rfl ?_
  by_cases e1 : v9 = 1
  · refine hr_tableIn (off := 39) (tgt := 40) X dX4_says_1 (by rw [congrArg nI e1]; decide) (by rw [congrArg nI e1]; decide) (by rw [congrArg nI e1]; rfl) (by decide) ?_
    refine hr_aload0 (q := 41) X dX4_says_40 rfl ?_
    refine hr_getR (v := q) (q := 44) X dX4_says_41 rfl fr_q240_4 rfl hs hv ?_
    refine hr_ifnonnullS (q := 47) (tgt := 51) X dX4_says_44 rfl (by decide) ?_
    refine hr_aload2 (q := 52) X dX4_says_51 rfl ?_
    refine hr_aload0 (q := 53) X dX4_says_52 rfl ?_
    refine hr_getR (v := q) (q := 56) X dX4_says_53 rfl fr_q240_4 rfl hs hv ?_
    by_cases hkc : K = 1 ∨ K = 2
    · obtain ⟨rr, hrr, hcp⟩ := hg_clK_X13 K hkc
      have hok : sp_ok v9 K = true := by rw [e1]; exact decide_eq_true (by omega)
      refine hr_castY (q := 59) X dX4_says_56 rfl q586 hqk hrr hcp ?_
      refine hr_getI (v := (nI p9)) (q := 62) X dX4_says_59 rfl (fp_q653 _ hkc) (fp_ft _ (by omega) 0 (by decide)) hqk hqi ?_
      refine hr_callP (q := 65) (hc_V (n := 1) (ci := 2) (As := [.int (nI p9)]) X dX4_says_62 rfl (tn_show X.tr hT hw (x := p9) (by omega)) q587 cv_X2_show ⟨Nat.le_of_ble_eq_true rfl, Nat.le_of_ble_eq_true rfl⟩ rfl (Nat.le_of_ble_eq_true rfl) hT.ob rfl rfl) rfl ?_
      have := sp_shows_lt (t := t) hw (x := p9) (by omega)
      refine hr_istore3 (q := 66) X dX4_says_65 rfl rfl (Nat.le_of_ble_eq_true rfl) ?_
      refine hr_goto (tgt := 235) X dX4_says_66 (by decide) ?_
      refine hr_aload0 (q := 236) X dX4_says_235 rfl ?_
      refine hr_getR (v := q) (q := 239) X dX4_says_236 rfl fr_q240_4 rfl hs hv ?_
      refine hr_ifnullS (q := 242) (tgt := 246) X dX4_says_239 rfl (by decide) ?_
      refine hr_iconst (v := (bI true)) (q := 243) X dX4_says_242 rfl rfl ?_
      refine hr_goto (tgt := 247) X dX4_says_243 (by decide) ?_
      refine hr_bipush (v := (-3)) (q := 249) X dX4_says_247 rfl rfl ?_
      refine hr_call (kr := 3) (nr := 1010) (q := 252) (hc_S (n := 2) (As := [.int (bI true), .int (-3)]) X dX4_says_249 rfl (tc_need X.tr (g := true) (w := (-3))) q479 cs_X0_need ⟨Nat.le_of_ble_eq_true rfl, Nat.le_of_ble_eq_true rfl⟩ rfl (Nat.le_of_ble_eq_true rfl)) rfl (fun qx E G1 hp _ => ?_) (fun r G1 hp _ => ?_)
      · obtain ⟨-, hr9, -⟩ | ⟨hg9, -⟩ := hp
        · cases hr9
        · cases hg9
      · obtain ⟨-, hr9, hG9⟩ | ⟨hg9, -⟩ := hp
        · cases hr9
          have hG9 := hG9.symm
          subst hG9
          refine hr_iload3 (q := 253) X dX4_says_252 rfl ?_
          exact hr_iret X hr dX4_says_253 (Or.inl ⟨hok, by rw [show sp_told t v9 p9 = sp_shows t p9 by rw [e1]; rfl], rfl⟩)
        · cases hg9
    · obtain ⟨rr, hrr, hno, htw⟩ := hg_clN_X13 K hK hkc
      have hok : sp_ok v9 K = false := by rw [e1]; exact decide_eq_false (by omega)
      refine hr_castX (kr := 1) (nr := 7) X dX4_says_56 q586 hqk hrr hno htw ⟨by decide +kernel, by decide +kernel⟩ (Nat.le_of_ble_eq_true rfl) (by rw [show ([Value.ref q, Value.ref (ta 0)].map fun v => v.category).sum = 2 from rfl]; exact Nat.le_of_ble_eq_true rfl) (fun q9 => ?_)
      refine hx_catch (name := "java/lang/ClassCastException") X [] ⟨0, 253, 254, 21⟩ [] htab (fun _ h => absurd h List.not_mem_nil) (by decide) (by decide) q464 (by decide) ?_
      refine hr_astore3 (q := 255) X dX4_says_254 rfl rfl (Nat.le_of_ble_eq_true rfl) ?_
      refine hr_new (kr := 0) (nr := 0) (q := 258) (ci := 6) (T := TX6) (N := 7) (ty := tyX6) X dX4_says_255 rfl q480 q360 q94 rfl in_X6 tyX6_ok (by decide) (fun x1 hlx1 hnx1 => ?_)
      refine hr_dup (q := 259) X dX4_says_258 rfl rfl ?_
      refine hr_bipush (v := (-2)) (q := 261) X dX4_says_259 rfl rfl ?_
      refine hr_call0 (q := 264) (hc_I (n := 1) (As := [.int (-2)]) X dX4_says_261 rfl (tx_new6 X.tr (b := x1) (if_pos rfl) (w := (-2))) q481 cj_X6_init ⟨Nat.le_of_ble_eq_true rfl, Nat.le_of_ble_eq_true rfl⟩ rfl (Nat.le_of_ble_eq_true rfl)) rfl (fun qx E G' hp => by cases hp.1) (fun r Gw2 hp _ => ?_)
      obtain ⟨hvw2, hkw2, hww2, hbtw2⟩ := hp
      cases hvw2
      have htw2 : tx_T 6 x1 (-2) G Gw2 := ⟨hnx1, by rw [hkw2]; exact if_pos rfl, hww2, hg_bt.N.tr hbtw2⟩
      refine hr_athrow X dX4_says_264 (ci := 6) htw2.2.1 rfl rfl ?_
      exact hx_out X (by rw [htab]; exact List.forall_mem_cons.mpr ⟨Or.inl (by decide), fun _ h => absurd h List.not_mem_nil⟩) (Or.inr ⟨hok, x1, rfl, htw2⟩)
  by_cases e2 : v9 = 2
  · refine hr_tableIn (off := 68) (tgt := 69) X dX4_says_1 (by rw [congrArg nI e2]; decide) (by rw [congrArg nI e2]; decide) (by rw [congrArg nI e2]; rfl) (by decide) ?_
    refine hr_aload0 (q := 70) X dX4_says_69 rfl ?_
    refine hr_getR (v := q) (q := 73) X dX4_says_70 rfl fr_q240_4 rfl hs hv ?_
    refine hr_ifnonnullS (q := 76) (tgt := 80) X dX4_says_73 rfl (by decide) ?_
    refine hr_aload2 (q := 81) X dX4_says_80 rfl ?_
    refine hr_aload0 (q := 82) X dX4_says_81 rfl ?_
    refine hr_getR (v := q) (q := 85) X dX4_says_82 rfl fr_q240_4 rfl hs hv ?_
    by_cases hkc : K = 2
    · obtain ⟨rr, hrr, hcp⟩ := hg_clK_X14 K hkc
      have hok : sp_ok v9 K = true := by rw [e2]; exact decide_eq_true (by omega)
      refine hr_castY (q := 88) X dX4_says_85 rfl q620 hqk hrr hcp ?_
      have hqk2 : G.1 q = some (0, 14) := by have e := hqk; rw [hkc] at e; exact e
      refine hr_getI (v := (nI p9)) (q := 91) X dX4_says_88 rfl fr_q655_14 rfl hqk2 hqi ?_
      refine hr_callP (q := 94) (hc_V (n := 1) (ci := 2) (As := [.int (nI p9)]) X dX4_says_91 rfl (tn_show X.tr hT hw (x := p9) (by omega)) q587 cv_X2_show ⟨Nat.le_of_ble_eq_true rfl, Nat.le_of_ble_eq_true rfl⟩ rfl (Nat.le_of_ble_eq_true rfl) hT.ob rfl rfl) rfl ?_
      have := sp_shows_lt (t := t) hw (x := p9) (by omega)
      refine hr_istore3 (q := 95) X dX4_says_94 rfl rfl (Nat.le_of_ble_eq_true rfl) ?_
      refine hr_goto (tgt := 235) X dX4_says_95 (by decide) ?_
      refine hr_aload0 (q := 236) X dX4_says_235 rfl ?_
      refine hr_getR (v := q) (q := 239) X dX4_says_236 rfl fr_q240_4 rfl hs hv ?_
      refine hr_ifnullS (q := 242) (tgt := 246) X dX4_says_239 rfl (by decide) ?_
      refine hr_iconst (v := (bI true)) (q := 243) X dX4_says_242 rfl rfl ?_
      refine hr_goto (tgt := 247) X dX4_says_243 (by decide) ?_
      refine hr_bipush (v := (-3)) (q := 249) X dX4_says_247 rfl rfl ?_
      refine hr_call (kr := 3) (nr := 1010) (q := 252) (hc_S (n := 2) (As := [.int (bI true), .int (-3)]) X dX4_says_249 rfl (tc_need X.tr (g := true) (w := (-3))) q479 cs_X0_need ⟨Nat.le_of_ble_eq_true rfl, Nat.le_of_ble_eq_true rfl⟩ rfl (Nat.le_of_ble_eq_true rfl)) rfl (fun qx E G1 hp _ => ?_) (fun r G1 hp _ => ?_)
      · obtain ⟨-, hr9, -⟩ | ⟨hg9, -⟩ := hp
        · cases hr9
        · cases hg9
      · obtain ⟨-, hr9, hG9⟩ | ⟨hg9, -⟩ := hp
        · cases hr9
          have hG9 := hG9.symm
          subst hG9
          refine hr_iload3 (q := 253) X dX4_says_252 rfl ?_
          exact hr_iret X hr dX4_says_253 (Or.inl ⟨hok, by rw [show sp_told t v9 p9 = sp_shows t p9 by rw [e2]; rfl], rfl⟩)
        · cases hg9
    · obtain ⟨rr, hrr, hno, htw⟩ := hg_clN_X14 K hK hkc
      have hok : sp_ok v9 K = false := by rw [e2]; exact decide_eq_false (by omega)
      refine hr_castX (kr := 1) (nr := 7) X dX4_says_85 q620 hqk hrr hno htw ⟨by decide +kernel, by decide +kernel⟩ (Nat.le_of_ble_eq_true rfl) (by rw [show ([Value.ref q, Value.ref (ta 0)].map fun v => v.category).sum = 2 from rfl]; exact Nat.le_of_ble_eq_true rfl) (fun q9 => ?_)
      refine hx_catch (name := "java/lang/ClassCastException") X [] ⟨0, 253, 254, 21⟩ [] htab (fun _ h => absurd h List.not_mem_nil) (by decide) (by decide) q464 (by decide) ?_
      refine hr_astore3 (q := 255) X dX4_says_254 rfl rfl (Nat.le_of_ble_eq_true rfl) ?_
      refine hr_new (kr := 0) (nr := 0) (q := 258) (ci := 6) (T := TX6) (N := 7) (ty := tyX6) X dX4_says_255 rfl q480 q360 q94 rfl in_X6 tyX6_ok (by decide) (fun x3 hlx3 hnx3 => ?_)
      refine hr_dup (q := 259) X dX4_says_258 rfl rfl ?_
      refine hr_bipush (v := (-2)) (q := 261) X dX4_says_259 rfl rfl ?_
      refine hr_call0 (q := 264) (hc_I (n := 1) (As := [.int (-2)]) X dX4_says_261 rfl (tx_new6 X.tr (b := x3) (if_pos rfl) (w := (-2))) q481 cj_X6_init ⟨Nat.le_of_ble_eq_true rfl, Nat.le_of_ble_eq_true rfl⟩ rfl (Nat.le_of_ble_eq_true rfl)) rfl (fun qx E G' hp => by cases hp.1) (fun r Gw4 hp _ => ?_)
      obtain ⟨hvw4, hkw4, hww4, hbtw4⟩ := hp
      cases hvw4
      have htw4 : tx_T 6 x3 (-2) G Gw4 := ⟨hnx3, by rw [hkw4]; exact if_pos rfl, hww4, hg_bt.N.tr hbtw4⟩
      refine hr_athrow X dX4_says_264 (ci := 6) htw4.2.1 rfl rfl ?_
      exact hx_out X (by rw [htab]; exact List.forall_mem_cons.mpr ⟨Or.inl (by decide), fun _ h => absurd h List.not_mem_nil⟩) (Or.inr ⟨hok, x3, rfl, htw4⟩)
  by_cases e3 : v9 = 3
  · refine hr_tableIn (off := 97) (tgt := 98) X dX4_says_1 (by rw [congrArg nI e3]; decide) (by rw [congrArg nI e3]; decide) (by rw [congrArg nI e3]; rfl) (by decide) ?_
    refine hr_aload0 (q := 99) X dX4_says_98 rfl ?_
    refine hr_getR (v := q) (q := 102) X dX4_says_99 rfl fr_q240_4 rfl hs hv ?_
    refine hr_ifnonnullS (q := 105) (tgt := 109) X dX4_says_102 rfl (by decide) ?_
    refine hr_aload2 (q := 110) X dX4_says_109 rfl ?_
    refine hr_getR (v := (ta 3)) (q := 113) X dX4_says_110 rfl fr_q185_2 rfl hT.ob hT.f13 ?_
    refine hr_aload0 (q := 114) X dX4_says_113 rfl ?_
    refine hr_getR (v := q) (q := 117) X dX4_says_114 rfl fr_q240_4 rfl hs hv ?_
    by_cases hkc : K = 3 ∨ K = 5
    · obtain ⟨rr, hrr, hcp⟩ := hg_clK_X15 K hkc
      have hok : sp_ok v9 K = true := by rw [e3]; exact decide_eq_true (by omega)
      refine hr_castY (q := 120) X dX4_says_117 rfl q621 hqk hrr hcp ?_
      refine hr_getI (v := (nI p9)) (q := 123) X dX4_says_120 rfl (fp_q657 _ hkc) (fp_ft _ (by omega) 0 (by decide)) hqk hqi ?_
      have b5 := hw.b13 (p := p9) (by omega)
      refine hr_ialdN (v := (nI (t.1 13 p9))) (q := 124) X dX4_says_123 rfl hT.k3 (Or.inl rfl) (by omega) (by decide) (hT.e3 (by omega)) ?_
      refine hr_istore3 (q := 125) X dX4_says_124 rfl rfl (Nat.le_of_ble_eq_true rfl) ?_
      refine hr_goto (tgt := 235) X dX4_says_125 (by decide) ?_
      refine hr_aload0 (q := 236) X dX4_says_235 rfl ?_
      refine hr_getR (v := q) (q := 239) X dX4_says_236 rfl fr_q240_4 rfl hs hv ?_
      refine hr_ifnullS (q := 242) (tgt := 246) X dX4_says_239 rfl (by decide) ?_
      refine hr_iconst (v := (bI true)) (q := 243) X dX4_says_242 rfl rfl ?_
      refine hr_goto (tgt := 247) X dX4_says_243 (by decide) ?_
      refine hr_bipush (v := (-3)) (q := 249) X dX4_says_247 rfl rfl ?_
      refine hr_call (kr := 3) (nr := 1010) (q := 252) (hc_S (n := 2) (As := [.int (bI true), .int (-3)]) X dX4_says_249 rfl (tc_need X.tr (g := true) (w := (-3))) q479 cs_X0_need ⟨Nat.le_of_ble_eq_true rfl, Nat.le_of_ble_eq_true rfl⟩ rfl (Nat.le_of_ble_eq_true rfl)) rfl (fun qx E G1 hp _ => ?_) (fun r G1 hp _ => ?_)
      · obtain ⟨-, hr9, -⟩ | ⟨hg9, -⟩ := hp
        · cases hr9
        · cases hg9
      · obtain ⟨-, hr9, hG9⟩ | ⟨hg9, -⟩ := hp
        · cases hr9
          have hG9 := hG9.symm
          subst hG9
          refine hr_iload3 (q := 253) X dX4_says_252 rfl ?_
          exact hr_iret X hr dX4_says_253 (Or.inl ⟨hok, by rw [show sp_told t v9 p9 = t.1 13 p9 by rw [e3]; rfl], rfl⟩)
        · cases hg9
    · obtain ⟨rr, hrr, hno, htw⟩ := hg_clN_X15 K hK hkc
      have hok : sp_ok v9 K = false := by rw [e3]; exact decide_eq_false (by omega)
      refine hr_castX (kr := 1) (nr := 7) X dX4_says_117 q621 hqk hrr hno htw ⟨by decide +kernel, by decide +kernel⟩ (Nat.le_of_ble_eq_true rfl) (by rw [show ([Value.ref q, Value.ref (ta 3)].map fun v => v.category).sum = 2 from rfl]; exact Nat.le_of_ble_eq_true rfl) (fun q9 => ?_)
      refine hx_catch (name := "java/lang/ClassCastException") X [] ⟨0, 253, 254, 21⟩ [] htab (fun _ h => absurd h List.not_mem_nil) (by decide) (by decide) q464 (by decide) ?_
      refine hr_astore3 (q := 255) X dX4_says_254 rfl rfl (Nat.le_of_ble_eq_true rfl) ?_
      refine hr_new (kr := 0) (nr := 0) (q := 258) (ci := 6) (T := TX6) (N := 7) (ty := tyX6) X dX4_says_255 rfl q480 q360 q94 rfl in_X6 tyX6_ok (by decide) (fun x6 hlx6 hnx6 => ?_)
      refine hr_dup (q := 259) X dX4_says_258 rfl rfl ?_
      refine hr_bipush (v := (-2)) (q := 261) X dX4_says_259 rfl rfl ?_
      refine hr_call0 (q := 264) (hc_I (n := 1) (As := [.int (-2)]) X dX4_says_261 rfl (tx_new6 X.tr (b := x6) (if_pos rfl) (w := (-2))) q481 cj_X6_init ⟨Nat.le_of_ble_eq_true rfl, Nat.le_of_ble_eq_true rfl⟩ rfl (Nat.le_of_ble_eq_true rfl)) rfl (fun qx E G' hp => by cases hp.1) (fun r Gw7 hp _ => ?_)
      obtain ⟨hvw7, hkw7, hww7, hbtw7⟩ := hp
      cases hvw7
      have htw7 : tx_T 6 x6 (-2) G Gw7 := ⟨hnx6, by rw [hkw7]; exact if_pos rfl, hww7, hg_bt.N.tr hbtw7⟩
      refine hr_athrow X dX4_says_264 (ci := 6) htw7.2.1 rfl rfl ?_
      exact hx_out X (by rw [htab]; exact List.forall_mem_cons.mpr ⟨Or.inl (by decide), fun _ h => absurd h List.not_mem_nil⟩) (Or.inr ⟨hok, x6, rfl, htw7⟩)
  by_cases e4 : v9 = 4
  · refine hr_tableIn (off := 127) (tgt := 128) X dX4_says_1 (by rw [congrArg nI e4]; decide) (by rw [congrArg nI e4]; decide) (by rw [congrArg nI e4]; rfl) (by decide) ?_
    refine hr_aload0 (q := 129) X dX4_says_128 rfl ?_
    refine hr_getR (v := q) (q := 132) X dX4_says_129 rfl fr_q240_4 rfl hs hv ?_
    refine hr_ifnonnullS (q := 135) (tgt := 139) X dX4_says_132 rfl (by decide) ?_
    refine hr_aload0 (q := 140) X dX4_says_139 rfl ?_
    refine hr_getR (v := q) (q := 143) X dX4_says_140 rfl fr_q240_4 rfl hs hv ?_
    by_cases hkc : K = 4 ∨ K = 6
    · obtain ⟨rr, hrr, hcp⟩ := hg_clK_X16 K hkc
      have hok : sp_ok v9 K = true := by rw [e4]; exact decide_eq_true (by omega)
      refine hr_castY (q := 146) X dX4_says_143 rfl q622 hqk hrr hcp ?_
      refine hr_getI (v := (nI (t.1 12 p9))) (q := 149) X dX4_says_146 rfl (fp_q676 _ hkc) (fp_ft _ (by omega) 2 (by decide)) hqk hqs ?_
      refine hr_istore3 (q := 150) X dX4_says_149 rfl rfl (Nat.le_of_ble_eq_true rfl) ?_
      refine hr_goto (tgt := 235) X dX4_says_150 (by decide) ?_
      refine hr_aload0 (q := 236) X dX4_says_235 rfl ?_
      refine hr_getR (v := q) (q := 239) X dX4_says_236 rfl fr_q240_4 rfl hs hv ?_
      refine hr_ifnullS (q := 242) (tgt := 246) X dX4_says_239 rfl (by decide) ?_
      refine hr_iconst (v := (bI true)) (q := 243) X dX4_says_242 rfl rfl ?_
      refine hr_goto (tgt := 247) X dX4_says_243 (by decide) ?_
      refine hr_bipush (v := (-3)) (q := 249) X dX4_says_247 rfl rfl ?_
      refine hr_call (kr := 3) (nr := 1010) (q := 252) (hc_S (n := 2) (As := [.int (bI true), .int (-3)]) X dX4_says_249 rfl (tc_need X.tr (g := true) (w := (-3))) q479 cs_X0_need ⟨Nat.le_of_ble_eq_true rfl, Nat.le_of_ble_eq_true rfl⟩ rfl (Nat.le_of_ble_eq_true rfl)) rfl (fun qx E G1 hp _ => ?_) (fun r G1 hp _ => ?_)
      · obtain ⟨-, hr9, -⟩ | ⟨hg9, -⟩ := hp
        · cases hr9
        · cases hg9
      · obtain ⟨-, hr9, hG9⟩ | ⟨hg9, -⟩ := hp
        · cases hr9
          have hG9 := hG9.symm
          subst hG9
          refine hr_iload3 (q := 253) X dX4_says_252 rfl ?_
          exact hr_iret X hr dX4_says_253 (Or.inl ⟨hok, by rw [show sp_told t v9 p9 = t.1 12 p9 by rw [e4]; rfl], rfl⟩)
        · cases hg9
    · obtain ⟨rr, hrr, hno, htw⟩ := hg_clN_X16 K hK hkc
      have hok : sp_ok v9 K = false := by rw [e4]; exact decide_eq_false (by omega)
      refine hr_castX (kr := 1) (nr := 7) X dX4_says_143 q622 hqk hrr hno htw ⟨by decide +kernel, by decide +kernel⟩ (Nat.le_of_ble_eq_true rfl) (by rw [show ([Value.ref q].map fun v => v.category).sum = 1 from rfl]; exact Nat.le_of_ble_eq_true rfl) (fun q9 => ?_)
      refine hx_catch (name := "java/lang/ClassCastException") X [] ⟨0, 253, 254, 21⟩ [] htab (fun _ h => absurd h List.not_mem_nil) (by decide) (by decide) q464 (by decide) ?_
      refine hr_astore3 (q := 255) X dX4_says_254 rfl rfl (Nat.le_of_ble_eq_true rfl) ?_
      refine hr_new (kr := 0) (nr := 0) (q := 258) (ci := 6) (T := TX6) (N := 7) (ty := tyX6) X dX4_says_255 rfl q480 q360 q94 rfl in_X6 tyX6_ok (by decide) (fun x8 hlx8 hnx8 => ?_)
      refine hr_dup (q := 259) X dX4_says_258 rfl rfl ?_
      refine hr_bipush (v := (-2)) (q := 261) X dX4_says_259 rfl rfl ?_
      refine hr_call0 (q := 264) (hc_I (n := 1) (As := [.int (-2)]) X dX4_says_261 rfl (tx_new6 X.tr (b := x8) (if_pos rfl) (w := (-2))) q481 cj_X6_init ⟨Nat.le_of_ble_eq_true rfl, Nat.le_of_ble_eq_true rfl⟩ rfl (Nat.le_of_ble_eq_true rfl)) rfl (fun qx E G' hp => by cases hp.1) (fun r Gw9 hp _ => ?_)
      obtain ⟨hvw9, hkw9, hww9, hbtw9⟩ := hp
      cases hvw9
      have htw9 : tx_T 6 x8 (-2) G Gw9 := ⟨hnx8, by rw [hkw9]; exact if_pos rfl, hww9, hg_bt.N.tr hbtw9⟩
      refine hr_athrow X dX4_says_264 (ci := 6) htw9.2.1 rfl rfl ?_
      exact hx_out X (by rw [htab]; exact List.forall_mem_cons.mpr ⟨Or.inl (by decide), fun _ h => absurd h List.not_mem_nil⟩) (Or.inr ⟨hok, x8, rfl, htw9⟩)
  by_cases e5 : v9 = 5
  · refine hr_tableIn (off := 152) (tgt := 153) X dX4_says_1 (by rw [congrArg nI e5]; decide) (by rw [congrArg nI e5]; decide) (by rw [congrArg nI e5]; rfl) (by decide) ?_
    refine hr_aload0 (q := 154) X dX4_says_153 rfl ?_
    refine hr_getR (v := q) (q := 157) X dX4_says_154 rfl fr_q240_4 rfl hs hv ?_
    refine hr_ifnonnullS (q := 160) (tgt := 164) X dX4_says_157 rfl (by decide) ?_
    refine hr_aload2 (q := 165) X dX4_says_164 rfl ?_
    refine hr_getR (v := (ta 3)) (q := 168) X dX4_says_165 rfl fr_q185_2 rfl hT.ob hT.f13 ?_
    refine hr_aload0 (q := 169) X dX4_says_168 rfl ?_
    refine hr_getR (v := q) (q := 172) X dX4_says_169 rfl fr_q240_4 rfl hs hv ?_
    by_cases hkc : K = 5
    · obtain ⟨rr, hrr, hcp⟩ := hg_clK_X17 K hkc
      have hok : sp_ok v9 K = true := by rw [e5]; exact decide_eq_true (by omega)
      refine hr_castY (q := 175) X dX4_says_172 rfl q623 hqk hrr hcp ?_
      have hqk2 : G.1 q = some (0, 17) := by have e := hqk; rw [hkc] at e; exact e
      refine hr_getI (v := (nI p9)) (q := 178) X dX4_says_175 rfl fr_q659_17 rfl hqk2 hqi ?_
      have b10 := hw.b13 (p := p9) (by omega)
      refine hr_ialdN (v := (nI (t.1 13 p9))) (q := 179) X dX4_says_178 rfl hT.k3 (Or.inl rfl) (by omega) (by decide) (hT.e3 (by omega)) ?_
      refine hr_istore3 (q := 180) X dX4_says_179 rfl rfl (Nat.le_of_ble_eq_true rfl) ?_
      refine hr_goto (tgt := 235) X dX4_says_180 (by decide) ?_
      refine hr_aload0 (q := 236) X dX4_says_235 rfl ?_
      refine hr_getR (v := q) (q := 239) X dX4_says_236 rfl fr_q240_4 rfl hs hv ?_
      refine hr_ifnullS (q := 242) (tgt := 246) X dX4_says_239 rfl (by decide) ?_
      refine hr_iconst (v := (bI true)) (q := 243) X dX4_says_242 rfl rfl ?_
      refine hr_goto (tgt := 247) X dX4_says_243 (by decide) ?_
      refine hr_bipush (v := (-3)) (q := 249) X dX4_says_247 rfl rfl ?_
      refine hr_call (kr := 3) (nr := 1010) (q := 252) (hc_S (n := 2) (As := [.int (bI true), .int (-3)]) X dX4_says_249 rfl (tc_need X.tr (g := true) (w := (-3))) q479 cs_X0_need ⟨Nat.le_of_ble_eq_true rfl, Nat.le_of_ble_eq_true rfl⟩ rfl (Nat.le_of_ble_eq_true rfl)) rfl (fun qx E G1 hp _ => ?_) (fun r G1 hp _ => ?_)
      · obtain ⟨-, hr9, -⟩ | ⟨hg9, -⟩ := hp
        · cases hr9
        · cases hg9
      · obtain ⟨-, hr9, hG9⟩ | ⟨hg9, -⟩ := hp
        · cases hr9
          have hG9 := hG9.symm
          subst hG9
          refine hr_iload3 (q := 253) X dX4_says_252 rfl ?_
          exact hr_iret X hr dX4_says_253 (Or.inl ⟨hok, by rw [show sp_told t v9 p9 = t.1 13 p9 by rw [e5]; rfl], rfl⟩)
        · cases hg9
    · obtain ⟨rr, hrr, hno, htw⟩ := hg_clN_X17 K hK hkc
      have hok : sp_ok v9 K = false := by rw [e5]; exact decide_eq_false (by omega)
      refine hr_castX (kr := 1) (nr := 7) X dX4_says_172 q623 hqk hrr hno htw ⟨by decide +kernel, by decide +kernel⟩ (Nat.le_of_ble_eq_true rfl) (by rw [show ([Value.ref q, Value.ref (ta 3)].map fun v => v.category).sum = 2 from rfl]; exact Nat.le_of_ble_eq_true rfl) (fun q9 => ?_)
      refine hx_catch (name := "java/lang/ClassCastException") X [] ⟨0, 253, 254, 21⟩ [] htab (fun _ h => absurd h List.not_mem_nil) (by decide) (by decide) q464 (by decide) ?_
      refine hr_astore3 (q := 255) X dX4_says_254 rfl rfl (Nat.le_of_ble_eq_true rfl) ?_
      refine hr_new (kr := 0) (nr := 0) (q := 258) (ci := 6) (T := TX6) (N := 7) (ty := tyX6) X dX4_says_255 rfl q480 q360 q94 rfl in_X6 tyX6_ok (by decide) (fun x11 hlx11 hnx11 => ?_)
      refine hr_dup (q := 259) X dX4_says_258 rfl rfl ?_
      refine hr_bipush (v := (-2)) (q := 261) X dX4_says_259 rfl rfl ?_
      refine hr_call0 (q := 264) (hc_I (n := 1) (As := [.int (-2)]) X dX4_says_261 rfl (tx_new6 X.tr (b := x11) (if_pos rfl) (w := (-2))) q481 cj_X6_init ⟨Nat.le_of_ble_eq_true rfl, Nat.le_of_ble_eq_true rfl⟩ rfl (Nat.le_of_ble_eq_true rfl)) rfl (fun qx E G' hp => by cases hp.1) (fun r Gw12 hp _ => ?_)
      obtain ⟨hvw12, hkw12, hww12, hbtw12⟩ := hp
      cases hvw12
      have htw12 : tx_T 6 x11 (-2) G Gw12 := ⟨hnx11, by rw [hkw12]; exact if_pos rfl, hww12, hg_bt.N.tr hbtw12⟩
      refine hr_athrow X dX4_says_264 (ci := 6) htw12.2.1 rfl rfl ?_
      exact hx_out X (by rw [htab]; exact List.forall_mem_cons.mpr ⟨Or.inl (by decide), fun _ h => absurd h List.not_mem_nil⟩) (Or.inr ⟨hok, x11, rfl, htw12⟩)
  by_cases e6 : v9 = 6
  · refine hr_tableIn (off := 182) (tgt := 183) X dX4_says_1 (by rw [congrArg nI e6]; decide) (by rw [congrArg nI e6]; decide) (by rw [congrArg nI e6]; rfl) (by decide) ?_
    refine hr_aload0 (q := 184) X dX4_says_183 rfl ?_
    refine hr_getR (v := q) (q := 187) X dX4_says_184 rfl fr_q240_4 rfl hs hv ?_
    refine hr_ifnonnullS (q := 190) (tgt := 194) X dX4_says_187 rfl (by decide) ?_
    refine hr_aload0 (q := 195) X dX4_says_194 rfl ?_
    refine hr_getR (v := q) (q := 198) X dX4_says_195 rfl fr_q240_4 rfl hs hv ?_
    by_cases hkc : K = 6
    · obtain ⟨rr, hrr, hcp⟩ := hg_clK_X18 K hkc
      have hok : sp_ok v9 K = true := by rw [e6]; exact decide_eq_true (by omega)
      refine hr_castY (q := 201) X dX4_says_198 rfl q624 hqk hrr hcp ?_
      have hqk2 : G.1 q = some (0, 18) := by have e := hqk; rw [hkc] at e; exact e
      refine hr_getI (v := (nI (t.1 12 p9))) (q := 204) X dX4_says_201 rfl fr_q678_18 rfl hqk2 hqs ?_
      refine hr_istore3 (q := 205) X dX4_says_204 rfl rfl (Nat.le_of_ble_eq_true rfl) ?_
      refine hr_goto (tgt := 235) X dX4_says_205 (by decide) ?_
      refine hr_aload0 (q := 236) X dX4_says_235 rfl ?_
      refine hr_getR (v := q) (q := 239) X dX4_says_236 rfl fr_q240_4 rfl hs hv ?_
      refine hr_ifnullS (q := 242) (tgt := 246) X dX4_says_239 rfl (by decide) ?_
      refine hr_iconst (v := (bI true)) (q := 243) X dX4_says_242 rfl rfl ?_
      refine hr_goto (tgt := 247) X dX4_says_243 (by decide) ?_
      refine hr_bipush (v := (-3)) (q := 249) X dX4_says_247 rfl rfl ?_
      refine hr_call (kr := 3) (nr := 1010) (q := 252) (hc_S (n := 2) (As := [.int (bI true), .int (-3)]) X dX4_says_249 rfl (tc_need X.tr (g := true) (w := (-3))) q479 cs_X0_need ⟨Nat.le_of_ble_eq_true rfl, Nat.le_of_ble_eq_true rfl⟩ rfl (Nat.le_of_ble_eq_true rfl)) rfl (fun qx E G1 hp _ => ?_) (fun r G1 hp _ => ?_)
      · obtain ⟨-, hr9, -⟩ | ⟨hg9, -⟩ := hp
        · cases hr9
        · cases hg9
      · obtain ⟨-, hr9, hG9⟩ | ⟨hg9, -⟩ := hp
        · cases hr9
          have hG9 := hG9.symm
          subst hG9
          refine hr_iload3 (q := 253) X dX4_says_252 rfl ?_
          exact hr_iret X hr dX4_says_253 (Or.inl ⟨hok, by rw [show sp_told t v9 p9 = t.1 12 p9 by rw [e6]; rfl], rfl⟩)
        · cases hg9
    · obtain ⟨rr, hrr, hno, htw⟩ := hg_clN_X18 K hK hkc
      have hok : sp_ok v9 K = false := by rw [e6]; exact decide_eq_false (by omega)
      refine hr_castX (kr := 1) (nr := 7) X dX4_says_198 q624 hqk hrr hno htw ⟨by decide +kernel, by decide +kernel⟩ (Nat.le_of_ble_eq_true rfl) (by rw [show ([Value.ref q].map fun v => v.category).sum = 1 from rfl]; exact Nat.le_of_ble_eq_true rfl) (fun q9 => ?_)
      refine hx_catch (name := "java/lang/ClassCastException") X [] ⟨0, 253, 254, 21⟩ [] htab (fun _ h => absurd h List.not_mem_nil) (by decide) (by decide) q464 (by decide) ?_
      refine hr_astore3 (q := 255) X dX4_says_254 rfl rfl (Nat.le_of_ble_eq_true rfl) ?_
      refine hr_new (kr := 0) (nr := 0) (q := 258) (ci := 6) (T := TX6) (N := 7) (ty := tyX6) X dX4_says_255 rfl q480 q360 q94 rfl in_X6 tyX6_ok (by decide) (fun x13 hlx13 hnx13 => ?_)
      refine hr_dup (q := 259) X dX4_says_258 rfl rfl ?_
      refine hr_bipush (v := (-2)) (q := 261) X dX4_says_259 rfl rfl ?_
      refine hr_call0 (q := 264) (hc_I (n := 1) (As := [.int (-2)]) X dX4_says_261 rfl (tx_new6 X.tr (b := x13) (if_pos rfl) (w := (-2))) q481 cj_X6_init ⟨Nat.le_of_ble_eq_true rfl, Nat.le_of_ble_eq_true rfl⟩ rfl (Nat.le_of_ble_eq_true rfl)) rfl (fun qx E G' hp => by cases hp.1) (fun r Gw14 hp _ => ?_)
      obtain ⟨hvw14, hkw14, hww14, hbtw14⟩ := hp
      cases hvw14
      have htw14 : tx_T 6 x13 (-2) G Gw14 := ⟨hnx13, by rw [hkw14]; exact if_pos rfl, hww14, hg_bt.N.tr hbtw14⟩
      refine hr_athrow X dX4_says_264 (ci := 6) htw14.2.1 rfl rfl ?_
      exact hx_out X (by rw [htab]; exact List.forall_mem_cons.mpr ⟨Or.inl (by decide), fun _ h => absurd h List.not_mem_nil⟩) (Or.inr ⟨hok, x13, rfl, htw14⟩)
  have e0 : v9 = 0 := by omega
  refine hr_tableOut (tgt := 208) X dX4_says_1 (Or.inl (by rw [congrArg nI e0]; decide)) (by decide) ?_
  refine hr_aload0 (q := 209) X dX4_says_208 rfl ?_
  refine hr_getR (v := q) (q := 212) X dX4_says_209 rfl fr_q240_4 rfl hs hv ?_
  refine hr_ifnonnullS (q := 215) (tgt := 219) X dX4_says_212 rfl (by decide) ?_
  refine hr_aload2 (q := 220) X dX4_says_219 rfl ?_
  refine hr_getR (v := (ta 4)) (q := 223) X dX4_says_220 rfl fr_q189_2 rfl hT.ob hT.f14 ?_
  refine hr_aload0 (q := 224) X dX4_says_223 rfl ?_
  refine hr_getR (v := q) (q := 227) X dX4_says_224 rfl fr_q240_4 rfl hs hv ?_
  obtain ⟨rr, hrr, hcp⟩ := hg_clP2 K hK
  have hok : sp_ok v9 K = true := by rw [e0]; simp [sp_ok]
  refine hr_castY (q := 230) X dX4_says_227 rfl q506 hqk hrr hcp ?_
  refine hr_getI (v := (nI p9)) (q := 233) X dX4_says_230 rfl (fp_q661 _ hK) (fp_ft _ (by omega) 0 (by decide)) hqk hqi ?_
  have b15 := hw.b14 (p := p9) (by omega)
  refine hr_ialdN (v := (nI (t.1 14 p9))) (q := 234) X dX4_says_233 rfl hT.k4 (Or.inl rfl) (by omega) (by decide) (hT.e4 (by omega)) ?_
  refine hr_istore3 (q := 235) X dX4_says_234 rfl rfl (Nat.le_of_ble_eq_true rfl) ?_
  refine hr_aload0 (q := 236) X dX4_says_235 rfl ?_
  refine hr_getR (v := q) (q := 239) X dX4_says_236 rfl fr_q240_4 rfl hs hv ?_
  refine hr_ifnullS (q := 242) (tgt := 246) X dX4_says_239 rfl (by decide) ?_
  refine hr_iconst (v := (bI true)) (q := 243) X dX4_says_242 rfl rfl ?_
  refine hr_goto (tgt := 247) X dX4_says_243 (by decide) ?_
  refine hr_bipush (v := (-3)) (q := 249) X dX4_says_247 rfl rfl ?_
  refine hr_call (kr := 3) (nr := 1010) (q := 252) (hc_S (n := 2) (As := [.int (bI true), .int (-3)]) X dX4_says_249 rfl (tc_need X.tr (g := true) (w := (-3))) q479 cs_X0_need ⟨Nat.le_of_ble_eq_true rfl, Nat.le_of_ble_eq_true rfl⟩ rfl (Nat.le_of_ble_eq_true rfl)) rfl (fun qx E G1 hp _ => ?_) (fun r G1 hp _ => ?_)
  · obtain ⟨-, hr9, -⟩ | ⟨hg9, -⟩ := hp
    · cases hr9
    · cases hg9
  · obtain ⟨-, hr9, hG9⟩ | ⟨hg9, -⟩ := hp
    · cases hr9
      have hG9 := hG9.symm
      subst hG9
      refine hr_iload3 (q := 253) X dX4_says_252 rfl ?_
      exact hr_iret X hr dX4_says_253 (Or.inl ⟨hok, by rw [show sp_told t v9 p9 = t.1 14 p9 by rw [e0]; rfl], rfl⟩)
    · cases hg9

theorem tc_saysS {l : Launch} {D : hg_D} {lo : Nat} (htr : l.stackTraces = false) {G : hg_G} {ca : Nat → Nat} {A : ab_S} (h : cp_R G ca A) (hW : ab_wf A) {i c : Nat} (hi : i < 8) (hc : c ≤ 6) :
    hg_M l D lo yX4_says (wsW_ yX4_says cX4_says 4 ((some FieldType.int)) [(0, 253, 254, 21)]) rk_X4_says [.ref (ca (8 + i)), .int (nI c), .ref (cp_w ca 0)] G (fun r G' => ((A.1.1 18 i = 2 ∧ sp_ok c (A.1.1 9 (A.1.1 21 i)) = true) ∧ r = .inl (some (.int (nI (sp_told A.1 c (A.1.1 21 i))))) ∧ G' = G) ∨ ((A.1.1 18 i = 1 ∨ (A.1.1 18 i = 2 ∧ sp_ok c (A.1.1 9 (A.1.1 21 i)) = false)) ∧ ∃ q, r = .inr (q, "TaxOnLooks$Refused") ∧ tx_T 6 q (-2) G G') ∨ (A.1.1 18 i = 0 ∧ ∃ q, r = .inr (q, "TaxOnLooks$Refused") ∧ tx_T 6 q (-3) G G')) := by
  obtain ⟨-, g2, g3⟩ := h.s.2 i hi
  have b := hW.b18 hi
  unfold cp_held at g3
  by_cases h0 : A.1.1 18 i = 0
  · rw [if_pos h0] at g3
    exact (ts_says_n htr h.w hW.w g2 hc g3).imp fun r G' p => Or.inr (Or.inr ⟨h0, p⟩)
  · rw [if_neg h0] at g3
    by_cases h1 : A.1.1 18 i = 1
    · rw [if_pos h1] at g3
      have g := (h.r i hi h1).1
      exact (ts_says_r htr h.w hW.w g2 hc g3 g.1 g.2.2.1).imp fun r G' p => Or.inr (Or.inl ⟨Or.inl h1, p⟩)
    · rw [if_neg h1] at g3
      have h2 : A.1.1 18 i = 2 := by omega
      have w0 := hW.w.b0
      obtain ⟨q, k1, k2, k3, -, k4⟩ := h.w.pe (hW.b21 hi h2)
      refine (ts_says_p htr h.w hW.w g2 hc (g3.trans k1) (hW.b21 hi h2) k2 k3 k4 (hW.w.b9 (by have := hW.b21 hi h2; omega))).imp fun r G' p => ?_
      rcases p with ⟨p1, p2⟩ | ⟨p1, p2⟩
      · exact Or.inl ⟨⟨h2, p1⟩, p2⟩
      · exact Or.inr (Or.inl ⟨Or.inr ⟨h2, p1⟩, p2⟩)

abbrev rk_X0_says : Room := { frames := 13, cells := 40, slots := 3000, locals := 10343 }
theorem tc_says {l : Launch} {D : hg_D} {lo : Nat} (htr : l.stackTraces = false) {G : hg_G} {ca : Nat → Nat} {A : ab_S} (h : cp_R G ca A) (hW : ab_wf A) {a1 a2 : Int32} :
    hg_M l D lo yX0_says (wsW_ yX0_says cX0_says 4 ((some FieldType.int)) [(0, 28, 29, 21)]) rk_X0_says [.ref (ca 0), .int a1, .int a2] G (cp_Po ca (sq_says a1 a2 A)) := by
  refine hg_M.ofH htr (by decide) [some (.ref (ca 0)), some (.int a1), some (.int a2), none] rfl (Nat.le_of_ble_eq_true rfl) ?_
  intro p e s m args below meth c X hr hnm htab
  have X : hg_X p l s m args meth c D lo "TaxOnLooks" cX0_says 4 := X
  refine hr_room (kr' := 40) (nr' := 3000) (Nat.le_of_ble_eq_true rfl) (Nat.le_of_ble_eq_true rfl) ?_
  have hw := hW.w; have w0 := hw.b0; have w1 := hw.b1; have w2 := hw.b2; have w3 := hw.b3; have w36 := hW.b36; have w43 := hW.b43
  have hpw := sp_wpk hw; have hpb := sp_bpk hw
  obtain ⟨K, hK, hKs, hKb⟩ := h.w.sk
  refine hr_aload0 (q := 1) X dX0_says_0 rfl ?_
  refine hr_iload1 (q := 2) X dX0_says_1 rfl ?_
  refine hr_call (kr := 36) (nr := 2771) (q := 5) (hc_VX (n := 1) (ci := 0) (As := [.int a1]) X dX0_says_2 rfl (tc_shelf X.tr h (x := a1)) q278 cv_X0_shelf ⟨Nat.le_of_ble_eq_true rfl, Nat.le_of_ble_eq_true rfl⟩ rfl (Nat.le_of_ble_eq_true rfl) h.o.1 rfl rfl) rfl (fun qxn1 E Gxn1 hpn1 _ => ?_) (fun r Gn1 hpn1 _ => ?_)
  · obtain ⟨hgn1, hrn1, hGn1⟩ | ⟨hgn1, qn1, hrn1, htn1⟩ := hpn1
    · cases hrn1
    · cases hrn1
      have hxn1 := h.T htn1
      refine hx_catch (name := "TaxOnLooks$Refused") X [] ⟨0, 28, 29, 21⟩ [] htab (fun _ h => absurd h List.not_mem_nil) (by decide) (by decide) q277 (by decide) ?_
      refine hr_astore3 (q := 30) X dX0_says_29 rfl rfl (Nat.le_of_ble_eq_true rfl) ?_
      refine hr_aload0 (q := 31) X dX0_says_30 rfl ?_
      refine hr_aload3 (q := 32) X dX0_says_31 rfl ?_
      refine hr_call0 (q := 35) (hc_V (n := 1) (ci := 0) (As := [.ref qxn1]) X dX0_says_32 rfl (tc_refused X.tr hxn1 hW (q := qxn1) htn1.2.1 htn1.2.2.1 (k := 1) (by decide) (by decide) (by decide)) q452 cv_X0_refused ⟨Nat.le_of_ble_eq_true rfl, Nat.le_of_ble_eq_true rfl⟩ rfl (Nat.le_of_ble_eq_true rfl) hxn1.o.1 rfl rfl) rfl (fun qx E G' hp => by cases hp.1) (fun r Gf2 hp _ => ?_)
      obtain ⟨hvf2, hhf2⟩ := hp
      cases hvf2
      have hq3 : sq_says a1 a2 A = ((-1), (sq_no (-1) A).2) := by
        simp [sq_says, sq_noTen, sq_no_1, hgn1]
      exact hr_iret X hr dX0_says_35 (by rw [hq3]; exact ⟨rfl, ca, rfl, hhf2⟩)
  · obtain ⟨hgn1, hrn1, hGn1⟩ | ⟨hgn1, qn1, hrn1, htn1⟩ := hpn1
    · cases hrn1
      have hGn1 := hGn1.symm
      subst hGn1
      obtain ⟨ea1, la1⟩ := sp_in_n hgn1 (by omega)
      refine hr_L (L' := [some (.ref (ca 0)), some (.int (nI (iN a1))), some (.int a2), none]) (by rw [← ea1]) ?_
      refine hr_astore3 (q := 6) X dX0_says_5 rfl rfl (Nat.le_of_ble_eq_true rfl) ?_
      refine hr_iload2 (q := 7) X dX0_says_6 rfl ?_
      refine hr_i2l (v := a2.toInt64) (q := 8) X dX0_says_7 rfl rfl ?_
      refine hr_lconst (v := (lN 0)) (q := 9) X dX0_says_8 rfl rfl ?_
      refine hr_ldc2 (q := 12) X dX0_says_9 rfl q581 ?_
      refine hr_callP (v := .int (bI (sp_fr a2 (nI 0) (nI 6)))) (q := 15) (hc_S (n := 3) (As := [.long a2.toInt64, .long (lN 0), .long 6]) X dX0_says_12 rfl (tc_in X.tr (x := a2) (b := 0) (z := 6) (by decide) (by decide)) q387 cs_X0_in ⟨Nat.le_of_ble_eq_true rfl, Nat.le_of_ble_eq_true rfl⟩ rfl (Nat.le_of_ble_eq_true rfl)) rfl ?_
      refine hr_iconst (v := (-1)) (q := 16) X dX0_says_15 rfl rfl ?_
      refine hr_call (kr := 35) (nr := 2764) (q := 19) (hc_S (n := 2) (As := [.int (bI (sp_fr a2 (nI 0) (nI 6))), .int (-1)]) X dX0_says_16 rfl (tc_need X.tr (g := sp_fr a2 (nI 0) (nI 6)) (w := (-1))) q383 cs_X0_need ⟨Nat.le_of_ble_eq_true rfl, Nat.le_of_ble_eq_true rfl⟩ rfl (Nat.le_of_ble_eq_true rfl)) rfl (fun qxn4 E Gxn4 hpn4 _ => ?_) (fun r Gn4 hpn4 _ => ?_)
      · obtain ⟨hgn4, hrn4, -⟩ | ⟨hgn4, qn4, hrn4, htn4⟩ := hpn4
        · cases hrn4
        · cases hrn4
          have hxn4 := h.T htn4
          refine hx_catch (name := "TaxOnLooks$Refused") X [] ⟨0, 28, 29, 21⟩ [] htab (fun _ h => absurd h List.not_mem_nil) (by decide) (by decide) q277 (by decide) ?_
          have fhgn4 : a2 < (0 : Int32) ∨ (¬ a2 < (0 : Int32) ∧ ¬ a2 ≤ nI 6) := sp_fr_f hgn4
          refine hr_astore3 (q := 30) X dX0_says_29 rfl rfl (Nat.le_of_ble_eq_true rfl) ?_
          refine hr_aload0 (q := 31) X dX0_says_30 rfl ?_
          refine hr_aload3 (q := 32) X dX0_says_31 rfl ?_
          refine hr_call0 (q := 35) (hc_V (n := 1) (ci := 0) (As := [.ref qxn4]) X dX0_says_32 rfl (tc_refused X.tr hxn4 hW (q := qxn4) htn4.2.1 htn4.2.2.1 (k := 1) (by decide) (by decide) (by decide)) q452 cv_X0_refused ⟨Nat.le_of_ble_eq_true rfl, Nat.le_of_ble_eq_true rfl⟩ rfl (Nat.le_of_ble_eq_true rfl) hxn4.o.1 rfl rfl) rfl (fun qx E G' hp => by cases hp.1) (fun r Gf5 hp _ => ?_)
          obtain ⟨hvf5, hhf5⟩ := hp
          cases hvf5
          have hq6 : sq_says a1 a2 A = ((-1), (sq_no (-1) A).2) := by
            rcases fhgn4 with g | ⟨g, g2⟩
            · simp [sq_says, sq_noTen, sq_no_1, hgn1, hgn4, eq_true g]
            · simp [sq_says, sq_noTen, sq_no_1, hgn1, hgn4, eq_false g, eq_false g2]
          exact hr_iret X hr dX0_says_35 (by rw [hq6]; exact ⟨rfl, ca, rfl, hhf5⟩)
      · obtain ⟨hgn4, hrn4, hGn4⟩ | ⟨hgn4, qn4, hrn4, htn4⟩ := hpn4
        · cases hrn4
          have hGn4 := hGn4.symm
          subst hGn4
          have fhgn4 : ¬ a2 < (0 : Int32) ∧ a2 ≤ nI 6 := sp_fr_t hgn4
          obtain ⟨ea2, la2, ma2⟩ := sp_fr_n (b := 0) (z := 6) (by decide) (by decide) fhgn4.1 fhgn4.2
          refine hr_L (L' := [some (.ref (ca 0)), some (.int (nI (iN a1))), some (.int (nI (iN a2))), some (.ref (ca (8 + iN a1)))]) (by rw [← ea2]) ?_
          refine hr_aload3 (q := 20) X dX0_says_19 rfl ?_
          refine hr_iload2 (q := 21) X dX0_says_20 rfl ?_
          refine hr_aload0 (q := 22) X dX0_says_21 rfl ?_
          refine hr_getR (v := (cp_w ca 0)) (q := 25) X dX0_says_22 rfl fr_q250_0 rfl h.o.1 h.o.2.2.2.2.2.2.1 ?_
          refine hr_call (kr := 31) (nr := 1747) (q := 28) (hc_VX (n := 2) (ci := 4) (As := [.int (nI (iN a2)), .ref (cp_w ca 0)]) X dX0_says_25 rfl (tc_saysS X.tr h hW (i := iN a1) (c := iN a2) (by omega) (by omega)) q582 cv_X4_says ⟨Nat.le_of_ble_eq_true rfl, Nat.le_of_ble_eq_true rfl⟩ rfl (Nat.le_of_ble_eq_true rfl) (h.s.2 (iN a1) (by omega)).2.1 rfl rfl) rfl (fun qxn7 E Gxn7 hpn7 _ => ?_) (fun r Gn7 hpn7 _ => ?_)
          · obtain ⟨hgn7, hrn7, hGn7⟩ | ⟨hgn7, qn7, hrn7, htn7⟩ | ⟨hgn7, qn7, hrn7, htn7⟩ := hpn7
            · cases hrn7
            · cases hrn7
              have hxn7 := h.T htn7
              refine hx_catch (name := "TaxOnLooks$Refused") X [] ⟨0, 28, 29, 21⟩ [] htab (fun _ h => absurd h List.not_mem_nil) (by decide) (by decide) q277 (by decide) ?_
              refine hr_astore3 (q := 30) X dX0_says_29 rfl rfl (Nat.le_of_ble_eq_true rfl) ?_
              refine hr_aload0 (q := 31) X dX0_says_30 rfl ?_
              refine hr_aload3 (q := 32) X dX0_says_31 rfl ?_
              refine hr_call0 (q := 35) (hc_V (n := 1) (ci := 0) (As := [.ref qxn7]) X dX0_says_32 rfl (tc_refused X.tr hxn7 hW (q := qxn7) htn7.2.1 htn7.2.2.1 (k := 2) (by decide) (by decide) (by decide)) q452 cv_X0_refused ⟨Nat.le_of_ble_eq_true rfl, Nat.le_of_ble_eq_true rfl⟩ rfl (Nat.le_of_ble_eq_true rfl) hxn7.o.1 rfl rfl) rfl (fun qx E G' hp => by cases hp.1) (fun r Gf8 hp _ => ?_)
              obtain ⟨hvf8, hhf8⟩ := hp
              cases hvf8
              have hq9 : sq_says a1 a2 A = ((-2), (sq_no (-2) A).2) := by
                rcases hgn7 with g | ⟨g, g2⟩
                · rw [sq_says, if_pos hgn1, if_neg fhgn4.1, if_pos fhgn4.2, if_pos g]; rfl
                · rw [sq_says_2 hgn1 fhgn4.1 fhgn4.2 ma2 (by omega) (by omega), if_neg (by rw [g2]; decide)]; rfl
              exact hr_iret X hr dX0_says_35 (by rw [hq9]; exact ⟨rfl, ca, rfl, hhf8⟩)
            · cases hrn7
              have hxn7 := h.T htn7
              refine hx_catch (name := "TaxOnLooks$Refused") X [] ⟨0, 28, 29, 21⟩ [] htab (fun _ h => absurd h List.not_mem_nil) (by decide) (by decide) q277 (by decide) ?_
              refine hr_astore3 (q := 30) X dX0_says_29 rfl rfl (Nat.le_of_ble_eq_true rfl) ?_
              refine hr_aload0 (q := 31) X dX0_says_30 rfl ?_
              refine hr_aload3 (q := 32) X dX0_says_31 rfl ?_
              refine hr_call0 (q := 35) (hc_V (n := 1) (ci := 0) (As := [.ref qxn7]) X dX0_says_32 rfl (tc_refused X.tr hxn7 hW (q := qxn7) htn7.2.1 htn7.2.2.1 (k := 3) (by decide) (by decide) (by decide)) q452 cv_X0_refused ⟨Nat.le_of_ble_eq_true rfl, Nat.le_of_ble_eq_true rfl⟩ rfl (Nat.le_of_ble_eq_true rfl) hxn7.o.1 rfl rfl) rfl (fun qx E G' hp => by cases hp.1) (fun r Gf10 hp _ => ?_)
              obtain ⟨hvf10, hhf10⟩ := hp
              cases hvf10
              have hq11 : sq_says a1 a2 A = ((-3), (sq_no (-3) A).2) := by
                rw [sq_says, if_pos hgn1, if_neg fhgn4.1, if_pos fhgn4.2, if_neg (by omega), if_pos hgn7]; rfl
              exact hr_iret X hr dX0_says_35 (by rw [hq11]; exact ⟨rfl, ca, rfl, hhf10⟩)
          · obtain ⟨hgn7, hrn7, hGn7⟩ | ⟨hgn7, qn7, hrn7, htn7⟩ | ⟨hgn7, qn7, hrn7, htn7⟩ := hpn7
            · cases hrn7
              have hGn7 := hGn7.symm
              subst hGn7
              have hq12 : sq_says a1 a2 A = ((nI (sp_told A.1 (iN a2) (A.1.1 21 (iN a1)))), A) := by
                rw [sq_says_2 hgn1 fhgn4.1 fhgn4.2 ma2 (by omega) (by omega), if_pos hgn7.2]
              exact hr_iret X hr dX0_says_28 (by rw [hq12]; exact ⟨rfl, ca, rfl, h⟩)
            · cases hrn7
            · cases hrn7
        · cases hrn4
    · cases hrn1

