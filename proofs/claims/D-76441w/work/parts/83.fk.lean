/-! what the rows hold goes on fitting their sort -/
section FK
variable {A B : ab_S}
theorem ab_F.of (h : ab_F A) (e1 : ∀ i, B.1.1 19 i = A.1.1 19 i) (e2 : B.2.2.2 = A.2.2.2) : ab_F B := fun i j hi hj => by
  rw [e1, e2]; exact h i j hi hj
theorem ab_F.no (h : ab_F A) (b : Int32) : ab_F (sq_no b A).2 := h.of (fun _ => rfl) rfl
theorem ab_F.noTen (h : ab_F A) (b : Int32) : ab_F (sq_noTen b A).2 := h.of (fun _ => rfl) rfl
theorem F_ite {c : Prop} [Decidable c] {a b : Int32 × ab_S} (h : ab_F a.2) (h' : ab_F b.2) : ab_F (if c then a else b).2 := by
  by_cases g : c
  · rw [if_pos g]; exact h
  · rw [if_neg g]; exact h'
theorem F_iteH {c : Prop} [Decidable c] {a b : Int32 × ab_S} (h : c → ab_F a.2) (h' : ¬ c → ab_F b.2) : ab_F (if c then a else b).2 := by
  by_cases g : c
  · rw [if_pos g]; exact h g
  · rw [if_neg g]; exact h' g
theorem ab_F.fault (h : ab_F A) : ab_F (sq_fault A).2 := h
theorem ab_F.view (h : ab_F A) (x y : Int32) : ab_F (sq_view x y A).2 := by
  unfold sq_view; (repeat' split) <;> first | exact h | exact h.no _ | exact h.noTen _
theorem ab_F.personOf (h : ab_F A) (x y : Int32) : ab_F (sq_personOf x y A).2 := by
  unfold sq_personOf; (repeat' split) <;> first | exact h | exact h.no _ | exact h.noTen _
theorem ab_F.squareOf (h : ab_F A) (x y : Int32) : ab_F (sq_squareOf x y A).2 := by
  unfold sq_squareOf; (repeat' split) <;> first | exact h | exact h.no _ | exact h.noTen _
theorem ab_F.glances (h : ab_F A) (x y : Int32) : ab_F (sq_glances x y A).2 := by
  unfold sq_glances; (repeat' split) <;> first | exact h | exact h.no _ | exact h.noTen _
theorem ab_F.duty (h : ab_F A) (x y : Int32) : ab_F (sq_duty x y A).2 := by
  unfold sq_duty; (repeat' split) <;> first | exact h | exact h.no _ | exact h.noTen _
theorem ab_F.all (h : ab_F A) (x : Int32) : ab_F (sq_all x A).2 := by
  unfold sq_all; (repeat' split) <;> first | exact h | exact h.no _ | exact h.noTen _
theorem ab_F.walk (h : ab_F A) (x y z : Int32) : ab_F (sq_walk x y z A).2 := by
  unfold sq_walk; (repeat' split) <;> first | exact h | exact h.no _ | exact h.noTen _
theorem ab_F.stand (h : ab_F A) (x y : Int32) : ab_F (sq_stand x y A).2 := by
  unfold sq_stand; (repeat' split) <;> first | exact h | exact h.no _ | exact h.noTen _
theorem ab_F.sacks (h : ab_F A) (x y : Int32) : ab_F (sq_sacks x y A).2 := by
  unfold sq_sacks; (repeat' split) <;> first | exact h | exact h.no _ | exact h.noTen _
theorem ab_F.balconies (h : ab_F A) (x : Int32) : ab_F (sq_balconies x A).2 := by
  unfold sq_balconies; (repeat' split) <;> first | exact h | exact h.no _ | exact h.noTen _
theorem ab_F.fits (h : ab_F A) (x y : Int32) : ab_F (sq_fits x y A).2 := by
  unfold sq_fits; (repeat' split) <;> first | exact h | exact h.no _ | exact h.noTen _
theorem ab_F.most (h : ab_F A) (x : Int32) : ab_F (sq_most x A).2 := by
  unfold sq_most; (repeat' split) <;> first | exact h | exact h.no _ | exact h.noTen _
theorem ab_F.crowd (h : ab_F A) (x : Int32) : ab_F (sq_crowd x A).2 := by
  unfold sq_crowd; (repeat' split) <;> first | exact h | exact h.no _ | exact h.noTen _
theorem ab_F.judge (h : ab_F A) (x y : Int32) : ab_F (sq_judge x y A).2 := by
  unfold sq_judge; (repeat' split) <;> first | exact h | exact h.no _ | exact h.noTen _
theorem ab_F.behind (h : ab_F A) (x y z : Int32) : ab_F (sq_behind x y z A).2 := by
  unfold sq_behind; (repeat' split) <;> first | exact h | exact h.no _ | exact h.noTen _
theorem ab_F.trace (h : ab_F A) (x : Int32) : ab_F (sq_trace x A).2 := by
  unfold sq_trace; (repeat' split) <;> first | exact h | exact h.no _ | exact h.noTen _
theorem ab_F.status (h : ab_F A) (x : Int32) : ab_F (sq_status x A).2 := by
  unfold sq_status; repeat' first | (refine F_ite ?_ ?_) | exact h | exact h.no _ | exact h.noTen _
theorem ab_F.holds (h : ab_F A) (x : Int32) : ab_F (sq_holds x A).2 := by
  unfold sq_holds; (repeat' split) <;> first | exact h | exact h.no _ | exact h.noTen _
theorem ab_F.element (h : ab_F A) (x y : Int32) : ab_F (sq_element x y A).2 := by
  unfold sq_element; (repeat' split) <;> first | exact h | exact h.no _ | exact h.noTen _
theorem ab_F.says (h : ab_F A) (x y : Int32) : ab_F (sq_says x y A).2 := by
  unfold sq_says; repeat' first | (refine F_ite ?_ ?_) | exact h | exact h.no _ | exact h.noTen _
theorem ab_F.put (h : ab_F A) (x y : Int32) : ab_F (sq_put x y A).2 := by
  unfold sq_put; (repeat' split) <;> first | exact h.no _ | exact h.noTen _ | exact h.of (fun _ => rfl) rfl
theorem ab_F.sack (h : ab_F A) (x : Int32) (y : Bool) : ab_F (sq_sack x y A).2 := by
  unfold sq_sack; (repeat' split) <;> first | exact h.no _ | exact h.noTen _ | exact h.of (fun _ => rfl) rfl
theorem ab_F.build (h : ab_F A) (x y : Int32) (z : Bool) : ab_F (sq_build x y z A).2 := by
  unfold sq_build; (repeat' split) <;> first | exact h.no _ | exact h.noTen _ | exact h.of (fun _ => rfl) rfl
theorem ab_F.show (h : ab_F A) (x y : Int32) : ab_F (sq_show x y A).2 := by
  unfold sq_show; (repeat' split) <;> first | exact h.no _ | exact h.noTen _ | exact h.of (fun _ => rfl) rfl
theorem ab_F.seed (h : ab_F A) (x : Int32) : ab_F (sq_seed x A).2 := h.of (fun _ => rfl) rfl
theorem ab_F.image (h : ab_F A) : ab_F (sp_set A.1 43 0 1, A.1, A.2.2) := h.of (fun _ => rfl) rfl
theorem ab_F.ask (h : ab_F A) (x y : Int32) : ab_F (sq_ask x y A).2 := by
  have e : ∀ w v, ab_F (sq_asks w v A) := fun w v => by
    unfold sq_asks
    (repeat' split) <;> exact h.of (fun _ => rfl) rfl
  unfold sq_ask
  (repeat' split) <;> first | exact h.no _ | exact h.noTen _ | exact e _ _
theorem ab_F.person (h : ab_F A) (a b c d e f : Int32) : ab_F (sq_person a b c d e f A).2 := by
  have k : ∀ k1 k2 k3 k4 k5 k6, ab_F (sq_adds k1 k2 k3 k4 k5 k6 A).2 := fun k1 k2 k3 k4 k5 k6 => h.of (fun i => congrFun ((ab_tw.adds (A := A)).1 19 (by decide)) i) (congrArg (fun z => z.2.2) ab_tw.adds.2.2)
  unfold sq_person
  repeat' first | (refine F_ite ?_ ?_) | exact h.no _ | exact h.noTen _ | exact k _ _ _ _ _ _
theorem ab_F.rn (h : ab_F A) (hb : ab_rn A B) : ab_F B := h.of (fun i => by rw [hb.1]) hb.2.2.2.1
theorem ab_F.act (h : ab_F A) (x y z : Int32) : ab_F (sq_act x y z A).2 := by
  have h0 : ab_F (ab_i A 42 (nI 0)) := h.of (fun _ => rfl) rfl
  unfold sq_act
  by_cases h1 : sp_in x (A.1.1 0 0) = true
  · rw [if_pos h1]
    by_cases h2 : y < 0
    · rw [if_pos h2]; exact h0
    rw [if_neg h2]
    by_cases h3 : y ≤ nI 2
    · rw [if_pos h3]
      by_cases h4 : y = 0
      · rw [if_pos h4]
        exact h0.rn (ab_rn.look _ _ _ _)
      · rw [if_neg h4]
        by_cases h5 : y = nI 1
        · rw [if_pos h5]
          exact h0.rn (ab_rn.walk _ _ _ _)
        · rw [if_neg h5]
          exact h0.rn (ab_rn.pay _ _ _ _)
    · rw [if_neg h3]; exact h0
  · rw [if_neg h1]; exact h0
theorem sq_nHours_19 (A : ab_S) : ∀ k, (∀ i, (sq_nHours A k).1.1 19 i = A.1.1 19 i) ∧ (sq_nHours A k).2 = A.2
  | 0 => ⟨fun _ => rfl, rfl⟩
  | k + 1 => by
    have mv : ∀ B p, (∀ i, (sq_moves B p).1.1 19 i = B.1.1 19 i) ∧ (sq_moves B p).2 = B.2 := fun B p => by
      induction p with
      | zero => exact ⟨fun _ => rfl, rfl⟩
      | succ p ih =>
        rw [sq_moves]
        unfold sq_goes
        (repeat' split) <;> exact ⟨fun i => (show _ = (sq_moves B p).1.1 19 i from rfl).trans (ih.1 i), (show _ = (sq_moves B p).2 from rfl).trans ih.2⟩
    have py : ∀ B p, (∀ i, (sq_pays B p).1.1.1 19 i = B.1.1 19 i) ∧ (sq_pays B p).1.2 = B.2 := fun B p => by
      induction p with
      | zero => exact ⟨fun _ => rfl, rfl⟩
      | succ p ih => exact ⟨fun i => (show _ = (sq_pays B p).1.1.1 19 i from rfl).trans (ih.1 i), (show _ = (sq_pays B p).1.2 from rfl).trans ih.2⟩
    have rn : ∀ B, (∀ i, (sq_rain B).1.1 19 i = B.1.1 19 i) ∧ (sq_rain B).2 = B.2 := fun B => ⟨fun _ => rfl, rfl⟩
    have e : (∀ i, (sq_hour (sq_nHours A k)).1.1 19 i = (sq_nHours A k).1.1 19 i) ∧ (sq_hour (sq_nHours A k)).2 = (sq_nHours A k).2 := by
      show (∀ i, (sq_pays (sq_moves (sq_rain (sq_nHours A k)) _) _).1.1.1 19 i = _) ∧ (sq_pays (sq_moves (sq_rain (sq_nHours A k)) _) _).1.2 = _
      exact ⟨fun i => ((py _ _).1 i).trans (((mv _ _).1 i).trans ((rn _).1 i)), (py _ _).2.trans ((mv _ _).2.trans (rn _).2)⟩
    exact ⟨fun i => (e.1 i).trans ((sq_nHours_19 A k).1 i), e.2.trans (sq_nHours_19 A k).2⟩
theorem ab_F.hours (h : ab_F A) (x : Int32) : ab_F (sq_hours x A).2 := by
  unfold sq_hours
  split
  · exact h.of (sq_nHours_19 A _).1 (congrArg (fun z => z.2.2) (sq_nHours_19 A _).2)
  · exact h.no _
theorem ab_F.done (h : ab_F A) (x y : Int32) : ab_F (sq_done x y A).2 := by
  have e := sq_str_eq0 A (iN x) (sq_upto A (iN x) (iN y))
  have g : ab_F (sq_after A (iN x) (iN y)).1 := h.of (fun i => congrFun (e.1 19 (by decide) (by decide)) i) (congrArg (fun z => z.2.2) e.2.2)
  have g2 : ∀ k v k' v', ab_F (ab_i (ab_i (sq_after A (iN x) (iN y)).1 k v) k' v') := fun k v k' v' => g.of (fun _ => rfl) rfl
  unfold sq_done
  repeat' first | (refine F_ite ?_ ?_) | exact h.no _ | exact h.noTen _ | exact g2 _ _ _ _
theorem ab_F.restore (h : ab_F A) : ab_F (sq_restore A).2 := by
  unfold sq_restore
  split
  · exact h.no _
  · have eo : ∀ a, ¬ (a < 4 ∨ (9 ≤ a ∧ a ≤ 17)) → a ≠ 18 → ∀ i, (ab_fl (sp_back A A.2.1) 8).1.1 a i = A.1.1 a i := fun a ha h18 i => (if_neg (fun z => h18 z.1)).trans (if_neg ha)
    exact h.of (eo 19 (by decide) (by decide)) rfl
theorem ab_F.town (h : ab_F A) (hW : ab_wf A) (x : Int32) : ab_F (sq_town x A).2 := by
  unfold sq_town
  by_cases h1 : sq_wanted x A = 0
  · rw [if_pos h1]
    have h0 : ab_F (ab_i A 7 (-1)) := h.of (fun _ => rfl) rfl
    have g := rd_items_W (f := rd_f A (iN x)) (E := A.1.1 20 (iN x)) 200 (ab_i A 7 (-1)) 0 1 (hW.i _ _) (Nat.zero_le _)
    by_cases h2 : (sq_townZ (iN x) A).1 = true
    · rw [if_pos h2]
      exact h0.of (fun i => congrFun (g.2.1 19 (by decide)) i) (congrArg (fun z => z.2.2) g.2.2.2)
    · rw [if_neg h2]
      exact h0.of (fun _ => rfl) rfl
  · rw [if_neg h1]; exact h.no _
theorem fit_0 : (∃ v : Int32, (0 : Int64) = v.toInt8.toInt32.toInt64) ∧ ∃ v : Int32, (0 : Int64) = v.toInt16.toInt32.toInt64 := ⟨⟨0, by decide⟩, 0, by decide⟩
theorem ab_F.rowZ (h : ab_F A) {p k n : Nat} : ab_F (ab_z (ab_n (ab_n (ab_n A 18 p 1) 19 p k) 20 p n) p 160) := fun i j hi hj => by
  have e1 : (ab_z (ab_n (ab_n (ab_n A 18 p 1) 19 p k) 20 p n) p 160).1.1 19 i = if i = p then k else A.1.1 19 i := rfl
  have e2 : (ab_z (ab_n (ab_n (ab_n A 18 p 1) 19 p k) 20 p n) p 160).2.2.2 (160 * i + j) = if 160 * p ≤ 160 * i + j ∧ 160 * i + j < 160 * p + 160 then 0 else A.2.2.2 (160 * i + j) := rfl
  rw [e1, e2]
  by_cases e : i = p
  · rw [if_pos e, if_pos (by omega)]
    exact ⟨fun _ => fit_0.1, fun _ => fit_0.2⟩
  · rw [if_neg e, if_neg (by omega)]
    exact h i j hi hj
theorem ab_F.row (h : ab_F A) (x y z : Int32) : ab_F (sq_row x y z A).2 := by
  unfold sq_row
  repeat' first | (refine F_ite ?_ ?_) | exact h.no _ | exact h.noTen _ | exact h.rowZ
theorem ab_F.c (h : ab_F A) {i j : Nat} {v : Int64} (hj : j < 160) (h0 : A.1.1 19 i = 0 → ∃ w : Int32, v = w.toInt8.toInt32.toInt64) (h1 : A.1.1 19 i = 1 → ∃ w : Int32, v = w.toInt16.toInt32.toInt64) : ab_F (ab_c A (160 * i + j) v) := fun i2 j2 hi2 hj2 => by
  have e2 : (ab_c A (160 * i + j) v).2.2.2 (160 * i2 + j2) = if 160 * i2 + j2 = 160 * i + j then v else A.2.2.2 (160 * i2 + j2) := rfl
  rw [e2]
  by_cases e : 160 * i2 + j2 = 160 * i + j
  · have : i2 = i := by omega
    subst this
    rw [if_pos e]
    exact ⟨h0, h1⟩
  · rw [if_neg e]
    exact h i2 j2 hi2 hj2
theorem ab_F.set (h : ab_F A) (hW : ab_wf A) (x y : Int32) (z : Int64) : ab_F (sq_set x y z A).2 := by
  unfold sq_set
  refine F_iteH (fun g1 => ?_) (fun _ => h.no _)
  refine F_iteH (fun _ => h.no _) (fun _ => ?_)
  refine F_iteH (fun _ => h.no _) (fun _ => ?_)
  refine F_iteH (fun _ => h.no _) (fun g2 => ?_)
  refine F_iteH (fun g3 => ?_) (fun _ => h.no _)
  have b := hW.b20 (sp_inN (by decide) g1).2
  have hj : iN y < 160 := by
    obtain ⟨e, l9⟩ := sp_geN g2
    rw [e, nI_ltI l9 (by omega)] at g3
    omega
  refine F_iteH (fun g4 => ?_) (fun g4 => ?_)
  · exact h.c hj (fun _ => ⟨_, rfl⟩) (fun e => by omega)
  refine F_iteH (fun g5 => ?_) (fun g5 => ?_)
  · exact h.c hj (fun e => by omega) (fun _ => ⟨_, rfl⟩)
  refine F_iteH (fun g6 => ?_) (fun g6 => ?_)
  · exact h.c hj (fun e => by omega) (fun e => by omega)
  · exact h.c hj (fun e => by omega) (fun e => by omega)
theorem ab_F.cp (h : ab_F A) {p i q j k : Nat} (hp : p < 8) (hi : i + k ≤ 160) (hj : j + k ≤ 160) (hs : A.1.1 19 p = A.1.1 19 q) : ab_F (ab_cp A p i q j k) := fun i2 j2 hi2 hj2 => by
  have e1 : (ab_cp A p i q j k).1.1 19 i2 = A.1.1 19 i2 := rfl
  have e2 : (ab_cp A p i q j k).2.2.2 (160 * i2 + j2) = if 160 * q + j ≤ 160 * i2 + j2 ∧ 160 * i2 + j2 < 160 * q + j + k then A.2.2.2 (160 * p + i + (160 * i2 + j2 - (160 * q + j))) else A.2.2.2 (160 * i2 + j2) := rfl
  rw [e1, e2]
  by_cases e : 160 * q + j ≤ 160 * i2 + j2 ∧ 160 * i2 + j2 < 160 * q + j + k
  · have : i2 = q := by omega
    subst this
    rw [if_pos e, ← hs, show 160 * p + i + (160 * i2 + j2 - (160 * i2 + j)) = 160 * p + (i + (j2 - j)) by omega]
    exact h p _ hp (by omega)
  · rw [if_neg e]
    exact h i2 j2 hi2 hj2
theorem ab_F.copy (h : ab_F A) (hW : ab_wf A) (a b c d e : Int32) : ab_F (sq_copy a b c d e A).2 := by
  unfold sq_copy
  refine F_iteH (fun g1 => ?_) (fun _ => h.no _)
  refine F_iteH (fun g2 => ?_) (fun _ => h.no _)
  have k1 := (sp_inN (by decide) g1).2
  have k2 := (sp_inN (by decide) g2).2
  have b1 := hW.b18 k1
  have b2 := hW.b18 k2
  have b3 := hW.b20 k1
  have b4 := hW.b20 k2
  have key : A.1.1 19 (iN a) = A.1.1 19 (iN b) → 0 ≤ e → ¬ c < 0 → ¬ d < 0 → ¬ nI (A.1.1 20 (iN a)) - e < c → d ≤ nI (A.1.1 20 (iN b)) - e → ab_F (ab_cp A (iN a) (iN c) (iN b) (iN d) (iN e)) := fun hs q1 q2 q3 q4 q5 => by
    have f1 := sp_fit b3 q2 (Int32.not_lt.mpr q1) (Int32.not_lt.mp q4)
    have f2 := sp_fit b4 q3 (Int32.not_lt.mpr q1) q5
    exact h.cp k1 (by omega) (by omega) hs
  (repeat' first | (refine F_iteH (fun _ => ?_) (fun _ => ?_)) | exact h.no _ | exact h.noTen _) <;> first | (apply key <;> assumption) | (exfalso; omega)
end FK
/-- what the law keeps -/
def ab_I (A : ab_S) : Prop := ab_W A ∧ ab_F A
theorem ab_I_0 : ab_I ab_0 := ⟨⟨ab_0_wf, 0, by decide, rfl⟩, fun i j _ _ => ⟨fun _ => fit_0.1, fun _ => fit_0.2⟩⟩
section FKI
variable {A : ab_S}
theorem ab_I.w (h : ab_I A) : ab_wf A := h.1.1
theorem ab_I.fault (h : ab_I A) : ab_I (sq_fault A).2 := ⟨h.1.fault , h.2.fault ⟩
theorem ab_I.view (h : ab_I A) (x y : Int32) : ab_I (sq_view x y A).2 := ⟨h.1.view x y, h.2.view x y⟩
theorem ab_I.personOf (h : ab_I A) (x y : Int32) : ab_I (sq_personOf x y A).2 := ⟨h.1.personOf x y, h.2.personOf x y⟩
theorem ab_I.squareOf (h : ab_I A) (x y : Int32) : ab_I (sq_squareOf x y A).2 := ⟨h.1.squareOf x y, h.2.squareOf x y⟩
theorem ab_I.glances (h : ab_I A) (x y : Int32) : ab_I (sq_glances x y A).2 := ⟨h.1.glances x y, h.2.glances x y⟩
theorem ab_I.duty (h : ab_I A) (x y : Int32) : ab_I (sq_duty x y A).2 := ⟨h.1.duty x y, h.2.duty x y⟩
theorem ab_I.all (h : ab_I A) (x : Int32) : ab_I (sq_all x A).2 := ⟨h.1.all x, h.2.all x⟩
theorem ab_I.walk (h : ab_I A) (x y z : Int32) : ab_I (sq_walk x y z A).2 := ⟨h.1.walk x y z, h.2.walk x y z⟩
theorem ab_I.stand (h : ab_I A) (x y : Int32) : ab_I (sq_stand x y A).2 := ⟨h.1.stand x y, h.2.stand x y⟩
theorem ab_I.sacks (h : ab_I A) (x y : Int32) : ab_I (sq_sacks x y A).2 := ⟨h.1.sacks x y, h.2.sacks x y⟩
theorem ab_I.balconies (h : ab_I A) (x : Int32) : ab_I (sq_balconies x A).2 := ⟨h.1.balconies x, h.2.balconies x⟩
theorem ab_I.fits (h : ab_I A) (x y : Int32) : ab_I (sq_fits x y A).2 := ⟨h.1.fits x y, h.2.fits x y⟩
theorem ab_I.most (h : ab_I A) (x : Int32) : ab_I (sq_most x A).2 := ⟨h.1.most x, h.2.most x⟩
theorem ab_I.crowd (h : ab_I A) (x : Int32) : ab_I (sq_crowd x A).2 := ⟨h.1.crowd x, h.2.crowd x⟩
theorem ab_I.judge (h : ab_I A) (x y : Int32) : ab_I (sq_judge x y A).2 := ⟨h.1.judge x y, h.2.judge x y⟩
theorem ab_I.behind (h : ab_I A) (x y z : Int32) : ab_I (sq_behind x y z A).2 := ⟨h.1.behind x y z, h.2.behind x y z⟩
theorem ab_I.trace (h : ab_I A) (x : Int32) : ab_I (sq_trace x A).2 := ⟨h.1.trace x, h.2.trace x⟩
theorem ab_I.status (h : ab_I A) (x : Int32) : ab_I (sq_status x A).2 := ⟨h.1.status x, h.2.status x⟩
theorem ab_I.holds (h : ab_I A) (x : Int32) : ab_I (sq_holds x A).2 := ⟨h.1.holds x, h.2.holds x⟩
theorem ab_I.element (h : ab_I A) (x y : Int32) : ab_I (sq_element x y A).2 := ⟨h.1.element x y, h.2.element x y⟩
theorem ab_I.says (h : ab_I A) (x y : Int32) : ab_I (sq_says x y A).2 := ⟨h.1.says x y, h.2.says x y⟩
theorem ab_I.put (h : ab_I A) (x y : Int32) : ab_I (sq_put x y A).2 := ⟨h.1.put x y, h.2.put x y⟩
theorem ab_I.sack (h : ab_I A) (x : Int32) (y : Bool) : ab_I (sq_sack x y A).2 := ⟨h.1.sack x y, h.2.sack x y⟩
theorem ab_I.build (h : ab_I A) (x y : Int32) (z : Bool) : ab_I (sq_build x y z A).2 := ⟨h.1.build x y z, h.2.build x y z⟩
theorem ab_I.show (h : ab_I A) (x y : Int32) : ab_I (sq_show x y A).2 := ⟨h.1.show x y, h.2.show x y⟩
theorem ab_I.seed (h : ab_I A) (x : Int32) : ab_I (sq_seed x A).2 := ⟨h.1.seed x, h.2.seed x⟩
theorem ab_I.image (h : ab_I A) : ab_I (sp_set A.1 43 0 1, A.1, A.2.2) := ⟨h.1.image , h.2.image ⟩
theorem ab_I.ask (h : ab_I A) (x y : Int32) : ab_I (sq_ask x y A).2 := ⟨h.1.ask x y, h.2.ask x y⟩
theorem ab_I.person (h : ab_I A) (a b c d e f : Int32) : ab_I (sq_person a b c d e f A).2 := ⟨h.1.person a b c d e f, h.2.person a b c d e f⟩
theorem ab_I.act (h : ab_I A) (x y z : Int32) : ab_I (sq_act x y z A).2 := ⟨h.1.act x y z, h.2.act x y z⟩
theorem ab_I.hours (h : ab_I A) (x : Int32) : ab_I (sq_hours x A).2 := ⟨h.1.hours x, h.2.hours x⟩
theorem ab_I.done (h : ab_I A) (x y : Int32) : ab_I (sq_done x y A).2 := ⟨h.1.done x y, h.2.done x y⟩
theorem ab_I.restore (h : ab_I A) : ab_I (sq_restore A).2 := ⟨h.1.restore , h.2.restore ⟩
theorem ab_I.town (h : ab_I A) (x : Int32) : ab_I (sq_town x A).2 := ⟨h.1.town x, h.2.town h.w x⟩
theorem ab_I.row (h : ab_I A) (x y z : Int32) : ab_I (sq_row x y z A).2 := ⟨h.1.row x y z, h.2.row x y z⟩
theorem ab_I.set (h : ab_I A) (x y : Int32) (z : Int64) : ab_I (sq_set x y z A).2 := ⟨h.1.set x y z, h.2.set h.w x y z⟩
theorem ab_I.copy (h : ab_I A) (a b c d e : Int32) : ab_I (sq_copy a b c d e A).2 := ⟨h.1.copy a b c d e, h.2.copy h.w a b c d e⟩
end FKI
