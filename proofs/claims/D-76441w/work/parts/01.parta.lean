-- ===== PART A: goes FIRST, ahead of the names: the tables' words, and 'selects' of the private methods out of them =====
/-- a private method of a class that the tables say can be made, by its rows of tables_1 -/
def lw_okq (q : MethodName × Nat) : Prop := (q.1.cls ≠ "java/lang/invoke/MethodHandle" ∧ q.1.cls ≠ "java/lang/invoke/VarHandle") ∧ Cond.instantiable q.1.cls q.2 ∈ tables_1 ∧ Cond.privateMethod q.1 ∈ tables_1 ∧ Cond.instanceMethod q.1 ∈ tables_1
set_option maxRecDepth 100000
theorem lw_t1 {w : Cond} (h : w ∈ tables_1_1) : w ∈ tables_1 := List.mem_append_left _ h
theorem lw_t2 {w : Cond} (h : w ∈ tables_1_2) : w ∈ tables_1 := List.mem_append_right _ (List.mem_append_left _ h)
theorem lw_t3 {w : Cond} (h : w ∈ tables_1_3) : w ∈ tables_1 := List.mem_append_right _ (List.mem_append_right _ (List.mem_append_left _ h))
theorem lw_t4 {w : Cond} (h : w ∈ tables_1_4) : w ∈ tables_1 := List.mem_append_right _ (List.mem_append_right _ (List.mem_append_right _ (List.mem_append_left _ h)))
theorem lw_t5 {w : Cond} (h : w ∈ tables_1_5) : w ∈ tables_1 := List.mem_append_right _ (List.mem_append_right _ (List.mem_append_right _ (List.mem_append_right _ (List.mem_append_left _ h))))
theorem lw_t6 {w : Cond} (h : w ∈ tables_1_6) : w ∈ tables_1 := List.mem_append_right _ (List.mem_append_right _ (List.mem_append_right _ (List.mem_append_right _ (List.mem_append_right _ (List.mem_append_left _ h)))))
theorem lw_t7 {w : Cond} (h : w ∈ tables_1_7) : w ∈ tables_1 := List.mem_append_right _ (List.mem_append_right _ (List.mem_append_right _ (List.mem_append_right _ (List.mem_append_right _ (List.mem_append_right _ (List.mem_append_left _ h))))))
theorem lw_t8 {w : Cond} (h : w ∈ tables_1_8) : w ∈ tables_1 := List.mem_append_right _ (List.mem_append_right _ (List.mem_append_right _ (List.mem_append_right _ (List.mem_append_right _ (List.mem_append_right _ (List.mem_append_right _ h))))))
theorem lw_p0 : lw_okq (⟨"TaxOnLooks", "shelf", "(I)LTaxOnLooks$Shelf;"⟩, 9) := ⟨⟨by decide +kernel, by decide +kernel⟩, lw_t1 (List.mem_of_getElem? (i := 38) rfl), lw_t1 (List.mem_of_getElem? (i := 198) rfl), lw_t1 (List.mem_of_getElem? (i := 199) rfl)⟩
theorem lw_p1 : lw_okq (⟨"java/lang/Throwable", "fillInStackTrace", "(I)Ljava/lang/Throwable;"⟩, 6) := ⟨⟨by decide +kernel, by decide +kernel⟩, lw_t1 (List.mem_of_getElem? (i := 234) rfl), lw_t1 (List.mem_of_getElem? (i := 232) rfl), lw_t1 (List.mem_of_getElem? (i := 233) rfl)⟩
theorem lw_p2 : lw_okq (⟨"TaxOnLooks", "refused", "(LTaxOnLooks$Refused;)I"⟩, 9) := ⟨⟨by decide +kernel, by decide +kernel⟩, lw_t1 (List.mem_of_getElem? (i := 38) rfl), lw_t2 (List.mem_of_getElem? (i := 132) rfl), lw_t2 (List.mem_of_getElem? (i := 133) rfl)⟩
theorem lw_p3 : lw_okq (⟨"TaxOnLooks", "mustPerson", "(I)V"⟩, 9) := ⟨⟨by decide +kernel, by decide +kernel⟩, lw_t1 (List.mem_of_getElem? (i := 38) rfl), lw_t3 (List.mem_of_getElem? (i := 3) rfl), lw_t3 (List.mem_of_getElem? (i := 4) rfl)⟩
theorem lw_p4 : lw_okq (⟨"TaxOnLooks", "asked", "(II)I"⟩, 9) := ⟨⟨by decide +kernel, by decide +kernel⟩, lw_t1 (List.mem_of_getElem? (i := 38) rfl), lw_t3 (List.mem_of_getElem? (i := 209) rfl), lw_t3 (List.mem_of_getElem? (i := 210) rfl)⟩
theorem lw_p5 : lw_okq (⟨"TaxOnLooks", "beyond", "()I"⟩, 9) := ⟨⟨by decide +kernel, by decide +kernel⟩, lw_t1 (List.mem_of_getElem? (i := 38) rfl), lw_t3 (List.mem_of_getElem? (i := 218) rfl), lw_t3 (List.mem_of_getElem? (i := 219) rfl)⟩
theorem lw_p6 : lw_okq (⟨"TaxOnLooks$Reader", "item", "()V"⟩, 4) := ⟨⟨by decide +kernel, by decide +kernel⟩, lw_t4 (List.mem_of_getElem? (i := 21) rfl), lw_t4 (List.mem_of_getElem? (i := 44) rfl), lw_t4 (List.mem_of_getElem? (i := 45) rfl)⟩
theorem lw_p7 : lw_okq (⟨"TaxOnLooks$Reader", "sees", "(I)Z"⟩, 4) := ⟨⟨by decide +kernel, by decide +kernel⟩, lw_t4 (List.mem_of_getElem? (i := 21) rfl), lw_t4 (List.mem_of_getElem? (i := 48) rfl), lw_t4 (List.mem_of_getElem? (i := 49) rfl)⟩
theorem lw_p8 : lw_okq (⟨"TaxOnLooks$Reader", "ends", "()Z"⟩, 4) := ⟨⟨by decide +kernel, by decide +kernel⟩, lw_t4 (List.mem_of_getElem? (i := 21) rfl), lw_t4 (List.mem_of_getElem? (i := 52) rfl), lw_t4 (List.mem_of_getElem? (i := 53) rfl)⟩
theorem lw_p9 : lw_okq (⟨"TaxOnLooks$Reader", "wall", "()V"⟩, 4) := ⟨⟨by decide +kernel, by decide +kernel⟩, lw_t4 (List.mem_of_getElem? (i := 21) rfl), lw_t4 (List.mem_of_getElem? (i := 80) rfl), lw_t4 (List.mem_of_getElem? (i := 81) rfl)⟩
theorem lw_p10 : lw_okq (⟨"TaxOnLooks$Reader", "word", "(Ljava/lang/String;)V"⟩, 4) := ⟨⟨by decide +kernel, by decide +kernel⟩, lw_t4 (List.mem_of_getElem? (i := 21) rfl), lw_t4 (List.mem_of_getElem? (i := 85) rfl), lw_t4 (List.mem_of_getElem? (i := 86) rfl)⟩
theorem lw_p11 : lw_okq (⟨"TaxOnLooks$Reader", "must", "(I)V"⟩, 4) := ⟨⟨by decide +kernel, by decide +kernel⟩, lw_t4 (List.mem_of_getElem? (i := 21) rfl), lw_t4 (List.mem_of_getElem? (i := 137) rfl), lw_t4 (List.mem_of_getElem? (i := 138) rfl)⟩
theorem lw_p12 : lw_okq (⟨"TaxOnLooks$Reader", "square", "()I"⟩, 4) := ⟨⟨by decide +kernel, by decide +kernel⟩, lw_t4 (List.mem_of_getElem? (i := 21) rfl), lw_t4 (List.mem_of_getElem? (i := 160) rfl), lw_t4 (List.mem_of_getElem? (i := 161) rfl)⟩
theorem lw_p13 : lw_okq (⟨"TaxOnLooks$Reader", "number", "(II)I"⟩, 4) := ⟨⟨by decide +kernel, by decide +kernel⟩, lw_t4 (List.mem_of_getElem? (i := 21) rfl), lw_t4 (List.mem_of_getElem? (i := 164) rfl), lw_t4 (List.mem_of_getElem? (i := 165) rfl)⟩
theorem lw_p14 : lw_okq (⟨"TaxOnLooks$Reader", "digit", "()Z"⟩, 4) := ⟨⟨by decide +kernel, by decide +kernel⟩, lw_t4 (List.mem_of_getElem? (i := 21) rfl), lw_t4 (List.mem_of_getElem? (i := 168) rfl), lw_t4 (List.mem_of_getElem? (i := 169) rfl)⟩
theorem lw_p15 : lw_okq (⟨"TaxOnLooks$Reader", "hasRoom", "(ZI)V"⟩, 4) := ⟨⟨by decide +kernel, by decide +kernel⟩, lw_t4 (List.mem_of_getElem? (i := 21) rfl), lw_t4 (List.mem_of_getElem? (i := 173) rfl), lw_t4 (List.mem_of_getElem? (i := 174) rfl)⟩
def lw_privs_1 : List (MethodName × Nat) := [(⟨"TaxOnLooks", "shelf", "(I)LTaxOnLooks$Shelf;"⟩, 9), (⟨"java/lang/Throwable", "fillInStackTrace", "(I)Ljava/lang/Throwable;"⟩, 6), (⟨"TaxOnLooks", "refused", "(LTaxOnLooks$Refused;)I"⟩, 9), (⟨"TaxOnLooks", "mustPerson", "(I)V"⟩, 9), (⟨"TaxOnLooks", "asked", "(II)I"⟩, 9), (⟨"TaxOnLooks", "beyond", "()I"⟩, 9), (⟨"TaxOnLooks$Reader", "item", "()V"⟩, 4), (⟨"TaxOnLooks$Reader", "sees", "(I)Z"⟩, 4), (⟨"TaxOnLooks$Reader", "ends", "()Z"⟩, 4), (⟨"TaxOnLooks$Reader", "wall", "()V"⟩, 4), (⟨"TaxOnLooks$Reader", "word", "(Ljava/lang/String;)V"⟩, 4), (⟨"TaxOnLooks$Reader", "must", "(I)V"⟩, 4), (⟨"TaxOnLooks$Reader", "square", "()I"⟩, 4), (⟨"TaxOnLooks$Reader", "number", "(II)I"⟩, 4), (⟨"TaxOnLooks$Reader", "digit", "()Z"⟩, 4), (⟨"TaxOnLooks$Reader", "hasRoom", "(ZI)V"⟩, 4)]
theorem lw_r1 : ∀ q ∈ lw_privs_1, lw_okq q := List.forall_mem_cons.mpr ⟨lw_p0, List.forall_mem_cons.mpr ⟨lw_p1, List.forall_mem_cons.mpr ⟨lw_p2, List.forall_mem_cons.mpr ⟨lw_p3, List.forall_mem_cons.mpr ⟨lw_p4, List.forall_mem_cons.mpr ⟨lw_p5, List.forall_mem_cons.mpr ⟨lw_p6, List.forall_mem_cons.mpr ⟨lw_p7, List.forall_mem_cons.mpr ⟨lw_p8, List.forall_mem_cons.mpr ⟨lw_p9, List.forall_mem_cons.mpr ⟨lw_p10, List.forall_mem_cons.mpr ⟨lw_p11, List.forall_mem_cons.mpr ⟨lw_p12, List.forall_mem_cons.mpr ⟨lw_p13, List.forall_mem_cons.mpr ⟨lw_p14, List.forall_mem_cons.mpr ⟨lw_p15, fun _ h => absurd h List.not_mem_nil⟩⟩⟩⟩⟩⟩⟩⟩⟩⟩⟩⟩⟩⟩⟩⟩
theorem lw_p16 : lw_okq (⟨"TaxOnLooks$Reader", "person", "(I)V"⟩, 4) := ⟨⟨by decide +kernel, by decide +kernel⟩, lw_t4 (List.mem_of_getElem? (i := 21) rfl), lw_t4 (List.mem_of_getElem? (i := 181) rfl), lw_t4 (List.mem_of_getElem? (i := 182) rfl)⟩
theorem lw_p17 : lw_okq (⟨"TaxOnLooks$Town", "catches", "(II)Z"⟩, 15) := ⟨⟨by decide +kernel, by decide +kernel⟩, lw_t1 (List.mem_of_getElem? (i := 64) rfl), lw_t4 (List.mem_of_getElem? (i := 226) rfl), lw_t4 (List.mem_of_getElem? (i := 227) rfl)⟩
theorem lw_p18 : lw_okq (⟨"TaxOnLooks$Town", "isBefore", "(III)Z"⟩, 15) := ⟨⟨by decide +kernel, by decide +kernel⟩, lw_t1 (List.mem_of_getElem? (i := 64) rfl), lw_t5 (List.mem_of_getElem? (i := 5) rfl), lw_t5 (List.mem_of_getElem? (i := 6) rfl)⟩
theorem lw_p19 : lw_okq (⟨"TaxOnLooks$Walks", "shortens", "(LTaxOnLooks$Town;I)Z"⟩, 2) := ⟨⟨by decide +kernel, by decide +kernel⟩, lw_t1 (List.mem_of_getElem? (i := 142) rfl), lw_t5 (List.mem_of_getElem? (i := 86) rfl), lw_t5 (List.mem_of_getElem? (i := 87) rfl)⟩
theorem lw_p20 : lw_okq (⟨"TaxOnLooks$Walks", "by", "(I)I"⟩, 2) := ⟨⟨by decide +kernel, by decide +kernel⟩, lw_t1 (List.mem_of_getElem? (i := 142) rfl), lw_t5 (List.mem_of_getElem? (i := 97) rfl), lw_t5 (List.mem_of_getElem? (i := 98) rfl)⟩
theorem lw_p21 : lw_okq (⟨"TaxOnLooks", "bestSacks", "(I)I"⟩, 9) := ⟨⟨by decide +kernel, by decide +kernel⟩, lw_t1 (List.mem_of_getElem? (i := 38) rfl), lw_t5 (List.mem_of_getElem? (i := 129) rfl), lw_t5 (List.mem_of_getElem? (i := 130) rfl)⟩
theorem lw_p22 : lw_okq (⟨"TaxOnLooks", "dutiesWith", "(I)I"⟩, 9) := ⟨⟨by decide +kernel, by decide +kernel⟩, lw_t1 (List.mem_of_getElem? (i := 38) rfl), lw_t5 (List.mem_of_getElem? (i := 134) rfl), lw_t5 (List.mem_of_getElem? (i := 135) rfl)⟩
theorem lw_p23 : lw_okq (⟨"TaxOnLooks", "enteredWith", "(I)I"⟩, 9) := ⟨⟨by decide +kernel, by decide +kernel⟩, lw_t1 (List.mem_of_getElem? (i := 38) rfl), lw_t5 (List.mem_of_getElem? (i := 142) rfl), lw_t5 (List.mem_of_getElem? (i := 143) rfl)⟩
theorem lw_p24 : lw_okq (⟨"TaxOnLooks", "isRoll", "(LTaxOnLooks$Row;)Z"⟩, 9) := ⟨⟨by decide +kernel, by decide +kernel⟩, lw_t1 (List.mem_of_getElem? (i := 38) rfl), lw_t5 (List.mem_of_getElem? (i := 156) rfl), lw_t5 (List.mem_of_getElem? (i := 157) rfl)⟩
theorem lw_p25 : lw_okq (⟨"TaxOnLooks", "dutiesWithout", "(I)I"⟩, 9) := ⟨⟨by decide +kernel, by decide +kernel⟩, lw_t1 (List.mem_of_getElem? (i := 38) rfl), lw_t5 (List.mem_of_getElem? (i := 165) rfl), lw_t5 (List.mem_of_getElem? (i := 166) rfl)⟩
theorem lw_p26 : lw_okq (⟨"TaxOnLooks", "lookersAt", "(I)I"⟩, 9) := ⟨⟨by decide +kernel, by decide +kernel⟩, lw_t1 (List.mem_of_getElem? (i := 38) rfl), lw_t5 (List.mem_of_getElem? (i := 173) rfl), lw_t5 (List.mem_of_getElem? (i := 174) rfl)⟩
theorem lw_p27 : lw_okq (⟨"TaxOnLooks", "toldAt", "(II)LTaxOnLooks$Row;"⟩, 9) := ⟨⟨by decide +kernel, by decide +kernel⟩, lw_t1 (List.mem_of_getElem? (i := 38) rfl), lw_t5 (List.mem_of_getElem? (i := 183) rfl), lw_t5 (List.mem_of_getElem? (i := 184) rfl)⟩
theorem lw_p28 : lw_okq (⟨"TaxOnLooks", "wrongIn", "(LTaxOnLooks$Row;I)I"⟩, 9) := ⟨⟨by decide +kernel, by decide +kernel⟩, lw_t1 (List.mem_of_getElem? (i := 38) rfl), lw_t5 (List.mem_of_getElem? (i := 187) rfl), lw_t5 (List.mem_of_getElem? (i := 188) rfl)⟩
theorem lw_p29 : lw_okq (⟨"TaxOnLooks", "emptyPurses", "()I"⟩, 9) := ⟨⟨by decide +kernel, by decide +kernel⟩, lw_t1 (List.mem_of_getElem? (i := 38) rfl), lw_t5 (List.mem_of_getElem? (i := 200) rfl), lw_t5 (List.mem_of_getElem? (i := 201) rfl)⟩
theorem lw_p30 : lw_okq (⟨"TaxOnLooks", "goesHour", "()V"⟩, 9) := ⟨⟨by decide +kernel, by decide +kernel⟩, lw_t1 (List.mem_of_getElem? (i := 38) rfl), lw_t5 (List.mem_of_getElem? (i := 213) rfl), lw_t5 (List.mem_of_getElem? (i := 214) rfl)⟩
theorem lw_p31 : lw_okq (⟨"TaxOnLooks", "shelvesFollow", "()V"⟩, 9) := ⟨⟨by decide +kernel, by decide +kernel⟩, lw_t1 (List.mem_of_getElem? (i := 38) rfl), lw_t6 (List.mem_of_getElem? (i := 76) rfl), lw_t6 (List.mem_of_getElem? (i := 77) rfl)⟩
def lw_privs_2 : List (MethodName × Nat) := [(⟨"TaxOnLooks$Reader", "person", "(I)V"⟩, 4), (⟨"TaxOnLooks$Town", "catches", "(II)Z"⟩, 15), (⟨"TaxOnLooks$Town", "isBefore", "(III)Z"⟩, 15), (⟨"TaxOnLooks$Walks", "shortens", "(LTaxOnLooks$Town;I)Z"⟩, 2), (⟨"TaxOnLooks$Walks", "by", "(I)I"⟩, 2), (⟨"TaxOnLooks", "bestSacks", "(I)I"⟩, 9), (⟨"TaxOnLooks", "dutiesWith", "(I)I"⟩, 9), (⟨"TaxOnLooks", "enteredWith", "(I)I"⟩, 9), (⟨"TaxOnLooks", "isRoll", "(LTaxOnLooks$Row;)Z"⟩, 9), (⟨"TaxOnLooks", "dutiesWithout", "(I)I"⟩, 9), (⟨"TaxOnLooks", "lookersAt", "(I)I"⟩, 9), (⟨"TaxOnLooks", "toldAt", "(II)LTaxOnLooks$Row;"⟩, 9), (⟨"TaxOnLooks", "wrongIn", "(LTaxOnLooks$Row;I)I"⟩, 9), (⟨"TaxOnLooks", "emptyPurses", "()I"⟩, 9), (⟨"TaxOnLooks", "goesHour", "()V"⟩, 9), (⟨"TaxOnLooks", "shelvesFollow", "()V"⟩, 9)]
theorem lw_r2 : ∀ q ∈ lw_privs_2, lw_okq q := List.forall_mem_cons.mpr ⟨lw_p16, List.forall_mem_cons.mpr ⟨lw_p17, List.forall_mem_cons.mpr ⟨lw_p18, List.forall_mem_cons.mpr ⟨lw_p19, List.forall_mem_cons.mpr ⟨lw_p20, List.forall_mem_cons.mpr ⟨lw_p21, List.forall_mem_cons.mpr ⟨lw_p22, List.forall_mem_cons.mpr ⟨lw_p23, List.forall_mem_cons.mpr ⟨lw_p24, List.forall_mem_cons.mpr ⟨lw_p25, List.forall_mem_cons.mpr ⟨lw_p26, List.forall_mem_cons.mpr ⟨lw_p27, List.forall_mem_cons.mpr ⟨lw_p28, List.forall_mem_cons.mpr ⟨lw_p29, List.forall_mem_cons.mpr ⟨lw_p30, List.forall_mem_cons.mpr ⟨lw_p31, fun _ h => absurd h List.not_mem_nil⟩⟩⟩⟩⟩⟩⟩⟩⟩⟩⟩⟩⟩⟩⟩⟩
theorem lw_p32 : lw_okq (⟨"TaxOnLooksModel", "isShelf", "(I)Z"⟩, 44) := ⟨⟨by decide +kernel, by decide +kernel⟩, lw_t6 (List.mem_of_getElem? (i := 96) rfl), lw_t6 (List.mem_of_getElem? (i := 239) rfl), lw_t7 (List.mem_of_getElem? (i := 0) rfl)⟩
theorem lw_p33 : lw_okq (⟨"TaxOnLooksModel", "no", "(I)I"⟩, 44) := ⟨⟨by decide +kernel, by decide +kernel⟩, lw_t6 (List.mem_of_getElem? (i := 96) rfl), lw_t7 (List.mem_of_getElem? (i := 3) rfl), lw_t7 (List.mem_of_getElem? (i := 4) rfl)⟩
theorem lw_p34 : lw_okq (⟨"TaxOnLooksModel", "isOne", "(I)Z"⟩, 44) := ⟨⟨by decide +kernel, by decide +kernel⟩, lw_t6 (List.mem_of_getElem? (i := 96) rfl), lw_t7 (List.mem_of_getElem? (i := 23) rfl), lw_t7 (List.mem_of_getElem? (i := 24) rfl)⟩
theorem lw_p35 : lw_okq (⟨"TaxOnLooksModel", "shows", "(I)I"⟩, 44) := ⟨⟨by decide +kernel, by decide +kernel⟩, lw_t6 (List.mem_of_getElem? (i := 96) rfl), lw_t7 (List.mem_of_getElem? (i := 35) rfl), lw_t7 (List.mem_of_getElem? (i := 36) rfl)⟩
theorem lw_p36 : lw_okq (⟨"TaxOnLooksModel", "isFrom", "(III)Z"⟩, 44) := ⟨⟨by decide +kernel, by decide +kernel⟩, lw_t6 (List.mem_of_getElem? (i := 96) rfl), lw_t7 (List.mem_of_getElem? (i := 43) rfl), lw_t7 (List.mem_of_getElem? (i := 44) rfl)⟩
theorem lw_p37 : lw_okq (⟨"TaxOnLooksModel", "isSquare", "(I)Z"⟩, 44) := ⟨⟨by decide +kernel, by decide +kernel⟩, lw_t6 (List.mem_of_getElem? (i := 96) rfl), lw_t7 (List.mem_of_getElem? (i := 47) rfl), lw_t7 (List.mem_of_getElem? (i := 48) rfl)⟩
theorem lw_p38 : lw_okq (⟨"TaxOnLooksModel", "adds", "(IIIIII)I"⟩, 44) := ⟨⟨by decide +kernel, by decide +kernel⟩, lw_t6 (List.mem_of_getElem? (i := 96) rfl), lw_t7 (List.mem_of_getElem? (i := 51) rfl), lw_t7 (List.mem_of_getElem? (i := 52) rfl)⟩
theorem lw_p39 : lw_okq (⟨"TaxOnLooksModel", "thereAt", "(I)I"⟩, 44) := ⟨⟨by decide +kernel, by decide +kernel⟩, lw_t6 (List.mem_of_getElem? (i := 96) rfl), lw_t7 (List.mem_of_getElem? (i := 59) rfl), lw_t7 (List.mem_of_getElem? (i := 60) rfl)⟩
theorem lw_p40 : lw_okq (⟨"TaxOnLooksModel", "isAsked", "(II)Z"⟩, 44) := ⟨⟨by decide +kernel, by decide +kernel⟩, lw_t6 (List.mem_of_getElem? (i := 96) rfl), lw_t7 (List.mem_of_getElem? (i := 75) rfl), lw_t7 (List.mem_of_getElem? (i := 76) rfl)⟩
theorem lw_p41 : lw_okq (⟨"TaxOnLooksModel", "asks", "(II)V"⟩, 44) := ⟨⟨by decide +kernel, by decide +kernel⟩, lw_t6 (List.mem_of_getElem? (i := 96) rfl), lw_t7 (List.mem_of_getElem? (i := 79) rfl), lw_t7 (List.mem_of_getElem? (i := 80) rfl)⟩
theorem lw_p42 : lw_okq (⟨"TaxOnLooksModel", "wanted", "(I)I"⟩, 44) := ⟨⟨by decide +kernel, by decide +kernel⟩, lw_t6 (List.mem_of_getElem? (i := 96) rfl), lw_t7 (List.mem_of_getElem? (i := 95) rfl), lw_t7 (List.mem_of_getElem? (i := 96) rfl)⟩
theorem lw_p43 : lw_okq (⟨"TaxOnLooksModel", "carriesAll", "([IZ)V"⟩, 44) := ⟨⟨by decide +kernel, by decide +kernel⟩, lw_t6 (List.mem_of_getElem? (i := 96) rfl), lw_t7 (List.mem_of_getElem? (i := 99) rfl), lw_t7 (List.mem_of_getElem? (i := 100) rfl)⟩
theorem lw_p44 : lw_okq (⟨"TaxOnLooksModel", "carries", "([II[IIZ)I"⟩, 44) := ⟨⟨by decide +kernel, by decide +kernel⟩, lw_t6 (List.mem_of_getElem? (i := 96) rfl), lw_t7 (List.mem_of_getElem? (i := 103) rfl), lw_t7 (List.mem_of_getElem? (i := 104) rfl)⟩
theorem lw_p45 : lw_okq (⟨"TaxOnLooksModel", "item", "()Z"⟩, 44) := ⟨⟨by decide +kernel, by decide +kernel⟩, lw_t6 (List.mem_of_getElem? (i := 96) rfl), lw_t7 (List.mem_of_getElem? (i := 107) rfl), lw_t7 (List.mem_of_getElem? (i := 108) rfl)⟩
theorem lw_p46 : lw_okq (⟨"TaxOnLooksModel", "stands", "(I)Z"⟩, 44) := ⟨⟨by decide +kernel, by decide +kernel⟩, lw_t6 (List.mem_of_getElem? (i := 96) rfl), lw_t7 (List.mem_of_getElem? (i := 111) rfl), lw_t7 (List.mem_of_getElem? (i := 112) rfl)⟩
theorem lw_p47 : lw_okq (⟨"TaxOnLooksModel", "wrong", "(I)Z"⟩, 44) := ⟨⟨by decide +kernel, by decide +kernel⟩, lw_t6 (List.mem_of_getElem? (i := 96) rfl), lw_t7 (List.mem_of_getElem? (i := 115) rfl), lw_t7 (List.mem_of_getElem? (i := 116) rfl)⟩
def lw_privs_3 : List (MethodName × Nat) := [(⟨"TaxOnLooksModel", "isShelf", "(I)Z"⟩, 44), (⟨"TaxOnLooksModel", "no", "(I)I"⟩, 44), (⟨"TaxOnLooksModel", "isOne", "(I)Z"⟩, 44), (⟨"TaxOnLooksModel", "shows", "(I)I"⟩, 44), (⟨"TaxOnLooksModel", "isFrom", "(III)Z"⟩, 44), (⟨"TaxOnLooksModel", "isSquare", "(I)Z"⟩, 44), (⟨"TaxOnLooksModel", "adds", "(IIIIII)I"⟩, 44), (⟨"TaxOnLooksModel", "thereAt", "(I)I"⟩, 44), (⟨"TaxOnLooksModel", "isAsked", "(II)Z"⟩, 44), (⟨"TaxOnLooksModel", "asks", "(II)V"⟩, 44), (⟨"TaxOnLooksModel", "wanted", "(I)I"⟩, 44), (⟨"TaxOnLooksModel", "carriesAll", "([IZ)V"⟩, 44), (⟨"TaxOnLooksModel", "carries", "([II[IIZ)I"⟩, 44), (⟨"TaxOnLooksModel", "item", "()Z"⟩, 44), (⟨"TaxOnLooksModel", "stands", "(I)Z"⟩, 44), (⟨"TaxOnLooksModel", "wrong", "(I)Z"⟩, 44)]
theorem lw_r3 : ∀ q ∈ lw_privs_3, lw_okq q := List.forall_mem_cons.mpr ⟨lw_p32, List.forall_mem_cons.mpr ⟨lw_p33, List.forall_mem_cons.mpr ⟨lw_p34, List.forall_mem_cons.mpr ⟨lw_p35, List.forall_mem_cons.mpr ⟨lw_p36, List.forall_mem_cons.mpr ⟨lw_p37, List.forall_mem_cons.mpr ⟨lw_p38, List.forall_mem_cons.mpr ⟨lw_p39, List.forall_mem_cons.mpr ⟨lw_p40, List.forall_mem_cons.mpr ⟨lw_p41, List.forall_mem_cons.mpr ⟨lw_p42, List.forall_mem_cons.mpr ⟨lw_p43, List.forall_mem_cons.mpr ⟨lw_p44, List.forall_mem_cons.mpr ⟨lw_p45, List.forall_mem_cons.mpr ⟨lw_p46, List.forall_mem_cons.mpr ⟨lw_p47, fun _ h => absurd h List.not_mem_nil⟩⟩⟩⟩⟩⟩⟩⟩⟩⟩⟩⟩⟩⟩⟩⟩
theorem lw_p48 : lw_okq (⟨"TaxOnLooksModel", "word", "()I"⟩, 44) := ⟨⟨by decide +kernel, by decide +kernel⟩, lw_t6 (List.mem_of_getElem? (i := 96) rfl), lw_t7 (List.mem_of_getElem? (i := 119) rfl), lw_t7 (List.mem_of_getElem? (i := 120) rfl)⟩
theorem lw_p49 : lw_okq (⟨"TaxOnLooksModel", "reads", "()Z"⟩, 44) := ⟨⟨by decide +kernel, by decide +kernel⟩, lw_t6 (List.mem_of_getElem? (i := 96) rfl), lw_t7 (List.mem_of_getElem? (i := 123) rfl), lw_t7 (List.mem_of_getElem? (i := 124) rfl)⟩
theorem lw_p50 : lw_okq (⟨"TaxOnLooksModel", "isDigit", "()Z"⟩, 44) := ⟨⟨by decide +kernel, by decide +kernel⟩, lw_t6 (List.mem_of_getElem? (i := 96) rfl), lw_t7 (List.mem_of_getElem? (i := 127) rfl), lw_t7 (List.mem_of_getElem? (i := 128) rfl)⟩
theorem lw_p51 : lw_okq (⟨"TaxOnLooksModel", "isSo", "(II)Z"⟩, 44) := ⟨⟨by decide +kernel, by decide +kernel⟩, lw_t6 (List.mem_of_getElem? (i := 96) rfl), lw_t7 (List.mem_of_getElem? (i := 131) rfl), lw_t7 (List.mem_of_getElem? (i := 132) rfl)⟩
theorem lw_p52 : lw_okq (⟨"TaxOnLooksModel", "sees", "(II)Z"⟩, 44) := ⟨⟨by decide +kernel, by decide +kernel⟩, lw_t6 (List.mem_of_getElem? (i := 96) rfl), lw_t7 (List.mem_of_getElem? (i := 143) rfl), lw_t7 (List.mem_of_getElem? (i := 144) rfl)⟩
theorem lw_p53 : lw_okq (⟨"TaxOnLooksModel", "distance", "(II)I"⟩, 44) := ⟨⟨by decide +kernel, by decide +kernel⟩, lw_t6 (List.mem_of_getElem? (i := 96) rfl), lw_t7 (List.mem_of_getElem? (i := 147) rfl), lw_t7 (List.mem_of_getElem? (i := 148) rfl)⟩
theorem lw_p54 : lw_okq (⟨"TaxOnLooksModel", "lookers", "(I)I"⟩, 44) := ⟨⟨by decide +kernel, by decide +kernel⟩, lw_t6 (List.mem_of_getElem? (i := 96) rfl), lw_t7 (List.mem_of_getElem? (i := 155) rfl), lw_t7 (List.mem_of_getElem? (i := 156) rfl)⟩
theorem lw_p55 : lw_okq (⟨"TaxOnLooksModel", "lookedAt", "(I)I"⟩, 44) := ⟨⟨by decide +kernel, by decide +kernel⟩, lw_t6 (List.mem_of_getElem? (i := 96) rfl), lw_t7 (List.mem_of_getElem? (i := 159) rfl), lw_t7 (List.mem_of_getElem? (i := 160) rfl)⟩
theorem lw_p56 : lw_okq (⟨"TaxOnLooksModel", "would", "(II)Z"⟩, 44) := ⟨⟨by decide +kernel, by decide +kernel⟩, lw_t6 (List.mem_of_getElem? (i := 96) rfl), lw_t7 (List.mem_of_getElem? (i := 163) rfl), lw_t7 (List.mem_of_getElem? (i := 164) rfl)⟩
theorem lw_p57 : lw_okq (⟨"TaxOnLooksModel", "owes", "(I)I"⟩, 44) := ⟨⟨by decide +kernel, by decide +kernel⟩, lw_t6 (List.mem_of_getElem? (i := 96) rfl), lw_t7 (List.mem_of_getElem? (i := 171) rfl), lw_t7 (List.mem_of_getElem? (i := 172) rfl)⟩
theorem lw_p58 : lw_okq (⟨"TaxOnLooksModel", "isLit", "(I)Z"⟩, 44) := ⟨⟨by decide +kernel, by decide +kernel⟩, lw_t6 (List.mem_of_getElem? (i := 96) rfl), lw_t7 (List.mem_of_getElem? (i := 175) rfl), lw_t7 (List.mem_of_getElem? (i := 176) rfl)⟩
theorem lw_p59 : lw_okq (⟨"TaxOnLooksModel", "many", "(I)I"⟩, 44) := ⟨⟨by decide +kernel, by decide +kernel⟩, lw_t6 (List.mem_of_getElem? (i := 96) rfl), lw_t7 (List.mem_of_getElem? (i := 179) rfl), lw_t7 (List.mem_of_getElem? (i := 180) rfl)⟩
theorem lw_p60 : lw_okq (⟨"TaxOnLooksModel", "wouldPay", "(I)I"⟩, 44) := ⟨⟨by decide +kernel, by decide +kernel⟩, lw_t6 (List.mem_of_getElem? (i := 96) rfl), lw_t7 (List.mem_of_getElem? (i := 183) rfl), lw_t7 (List.mem_of_getElem? (i := 184) rfl)⟩
theorem lw_p61 : lw_okq (⟨"TaxOnLooksModel", "noTen", "(I)I"⟩, 44) := ⟨⟨by decide +kernel, by decide +kernel⟩, lw_t6 (List.mem_of_getElem? (i := 96) rfl), lw_t7 (List.mem_of_getElem? (i := 195) rfl), lw_t7 (List.mem_of_getElem? (i := 196) rfl)⟩
theorem lw_p62 : lw_okq (⟨"TaxOnLooksModel", "tellsDuties", "(I)V"⟩, 44) := ⟨⟨by decide +kernel, by decide +kernel⟩, lw_t6 (List.mem_of_getElem? (i := 96) rfl), lw_t7 (List.mem_of_getElem? (i := 199) rfl), lw_t7 (List.mem_of_getElem? (i := 200) rfl)⟩
theorem lw_p63 : lw_okq (⟨"TaxOnLooksModel", "tellsWays", "(I)V"⟩, 44) := ⟨⟨by decide +kernel, by decide +kernel⟩, lw_t6 (List.mem_of_getElem? (i := 96) rfl), lw_t7 (List.mem_of_getElem? (i := 204) rfl), lw_t7 (List.mem_of_getElem? (i := 205) rfl)⟩
def lw_privs_4 : List (MethodName × Nat) := [(⟨"TaxOnLooksModel", "word", "()I"⟩, 44), (⟨"TaxOnLooksModel", "reads", "()Z"⟩, 44), (⟨"TaxOnLooksModel", "isDigit", "()Z"⟩, 44), (⟨"TaxOnLooksModel", "isSo", "(II)Z"⟩, 44), (⟨"TaxOnLooksModel", "sees", "(II)Z"⟩, 44), (⟨"TaxOnLooksModel", "distance", "(II)I"⟩, 44), (⟨"TaxOnLooksModel", "lookers", "(I)I"⟩, 44), (⟨"TaxOnLooksModel", "lookedAt", "(I)I"⟩, 44), (⟨"TaxOnLooksModel", "would", "(II)Z"⟩, 44), (⟨"TaxOnLooksModel", "owes", "(I)I"⟩, 44), (⟨"TaxOnLooksModel", "isLit", "(I)Z"⟩, 44), (⟨"TaxOnLooksModel", "many", "(I)I"⟩, 44), (⟨"TaxOnLooksModel", "wouldPay", "(I)I"⟩, 44), (⟨"TaxOnLooksModel", "noTen", "(I)I"⟩, 44), (⟨"TaxOnLooksModel", "tellsDuties", "(I)V"⟩, 44), (⟨"TaxOnLooksModel", "tellsWays", "(I)V"⟩, 44)]
theorem lw_r4 : ∀ q ∈ lw_privs_4, lw_okq q := List.forall_mem_cons.mpr ⟨lw_p48, List.forall_mem_cons.mpr ⟨lw_p49, List.forall_mem_cons.mpr ⟨lw_p50, List.forall_mem_cons.mpr ⟨lw_p51, List.forall_mem_cons.mpr ⟨lw_p52, List.forall_mem_cons.mpr ⟨lw_p53, List.forall_mem_cons.mpr ⟨lw_p54, List.forall_mem_cons.mpr ⟨lw_p55, List.forall_mem_cons.mpr ⟨lw_p56, List.forall_mem_cons.mpr ⟨lw_p57, List.forall_mem_cons.mpr ⟨lw_p58, List.forall_mem_cons.mpr ⟨lw_p59, List.forall_mem_cons.mpr ⟨lw_p60, List.forall_mem_cons.mpr ⟨lw_p61, List.forall_mem_cons.mpr ⟨lw_p62, List.forall_mem_cons.mpr ⟨lw_p63, fun _ h => absurd h List.not_mem_nil⟩⟩⟩⟩⟩⟩⟩⟩⟩⟩⟩⟩⟩⟩⟩⟩
theorem lw_p64 : lw_okq (⟨"TaxOnLooksModel", "beside", "(II)I"⟩, 44) := ⟨⟨by decide +kernel, by decide +kernel⟩, lw_t6 (List.mem_of_getElem? (i := 96) rfl), lw_t7 (List.mem_of_getElem? (i := 208) rfl), lw_t7 (List.mem_of_getElem? (i := 209) rfl)⟩
theorem lw_p65 : lw_okq (⟨"TaxOnLooksModel", "firstOn", "(I)I"⟩, 44) := ⟨⟨by decide +kernel, by decide +kernel⟩, lw_t6 (List.mem_of_getElem? (i := 96) rfl), lw_t7 (List.mem_of_getElem? (i := 212) rfl), lw_t7 (List.mem_of_getElem? (i := 213) rfl)⟩
theorem lw_p66 : lw_okq (⟨"TaxOnLooksModel", "allDuties", "()I"⟩, 44) := ⟨⟨by decide +kernel, by decide +kernel⟩, lw_t6 (List.mem_of_getElem? (i := 96) rfl), lw_t7 (List.mem_of_getElem? (i := 224) rfl), lw_t7 (List.mem_of_getElem? (i := 225) rfl)⟩
theorem lw_p67 : lw_okq (⟨"TaxOnLooksModel", "allEntered", "()I"⟩, 44) := ⟨⟨by decide +kernel, by decide +kernel⟩, lw_t6 (List.mem_of_getElem? (i := 96) rfl), lw_t7 (List.mem_of_getElem? (i := 232) rfl), lw_t7 (List.mem_of_getElem? (i := 233) rfl)⟩
theorem lw_p68 : lw_okq (⟨"TaxOnLooksModel", "intAt", "(II)I"⟩, 44) := ⟨⟨by decide +kernel, by decide +kernel⟩, lw_t6 (List.mem_of_getElem? (i := 96) rfl), lw_t8 (List.mem_of_getElem? (i := 0) rfl), lw_t8 (List.mem_of_getElem? (i := 1) rfl)⟩
theorem lw_p69 : lw_okq (⟨"TaxOnLooksModel", "without", "()I"⟩, 44) := ⟨⟨by decide +kernel, by decide +kernel⟩, lw_t6 (List.mem_of_getElem? (i := 96) rfl), lw_t8 (List.mem_of_getElem? (i := 8) rfl), lw_t8 (List.mem_of_getElem? (i := 9) rfl)⟩
theorem lw_p70 : lw_okq (⟨"TaxOnLooksModel", "seers", "(I)I"⟩, 44) := ⟨⟨by decide +kernel, by decide +kernel⟩, lw_t6 (List.mem_of_getElem? (i := 96) rfl), lw_t8 (List.mem_of_getElem? (i := 16) rfl), lw_t8 (List.mem_of_getElem? (i := 17) rfl)⟩
theorem lw_p71 : lw_okq (⟨"TaxOnLooksModel", "barsOf", "(II)I"⟩, 44) := ⟨⟨by decide +kernel, by decide +kernel⟩, lw_t6 (List.mem_of_getElem? (i := 96) rfl), lw_t8 (List.mem_of_getElem? (i := 24) rfl), lw_t8 (List.mem_of_getElem? (i := 25) rfl)⟩
theorem lw_p72 : lw_okq (⟨"TaxOnLooksModel", "strolls", "(II)I"⟩, 44) := ⟨⟨by decide +kernel, by decide +kernel⟩, lw_t6 (List.mem_of_getElem? (i := 96) rfl), lw_t8 (List.mem_of_getElem? (i := 28) rfl), lw_t8 (List.mem_of_getElem? (i := 29) rfl)⟩
theorem lw_p73 : lw_okq (⟨"TaxOnLooksModel", "pays", "(I)V"⟩, 44) := ⟨⟨by decide +kernel, by decide +kernel⟩, lw_t6 (List.mem_of_getElem? (i := 96) rfl), lw_t8 (List.mem_of_getElem? (i := 32) rfl), lw_t8 (List.mem_of_getElem? (i := 33) rfl)⟩
theorem lw_p74 : lw_okq (⟨"TaxOnLooksModel", "empty", "()I"⟩, 44) := ⟨⟨by decide +kernel, by decide +kernel⟩, lw_t6 (List.mem_of_getElem? (i := 96) rfl), lw_t8 (List.mem_of_getElem? (i := 40) rfl), lw_t8 (List.mem_of_getElem? (i := 41) rfl)⟩
theorem lw_p75 : lw_okq (⟨"TaxOnLooksModel", "draw", "(I)I"⟩, 44) := ⟨⟨by decide +kernel, by decide +kernel⟩, lw_t6 (List.mem_of_getElem? (i := 96) rfl), lw_t8 (List.mem_of_getElem? (i := 52) rfl), lw_t8 (List.mem_of_getElem? (i := 53) rfl)⟩
theorem lw_p76 : lw_okq (⟨"TaxOnLooksModel", "looking", "(II)I"⟩, 44) := ⟨⟨by decide +kernel, by decide +kernel⟩, lw_t6 (List.mem_of_getElem? (i := 96) rfl), lw_t8 (List.mem_of_getElem? (i := 65) rfl), lw_t8 (List.mem_of_getElem? (i := 66) rfl)⟩
theorem lw_p77 : lw_okq (⟨"TaxOnLooksModel", "body", "(I)V"⟩, 44) := ⟨⟨by decide +kernel, by decide +kernel⟩, lw_t6 (List.mem_of_getElem? (i := 96) rfl), lw_t8 (List.mem_of_getElem? (i := 69) rfl), lw_t8 (List.mem_of_getElem? (i := 70) rfl)⟩
theorem lw_p78 : lw_okq (⟨"TaxOnLooksModel", "walking", "(II)I"⟩, 44) := ⟨⟨by decide +kernel, by decide +kernel⟩, lw_t6 (List.mem_of_getElem? (i := 96) rfl), lw_t8 (List.mem_of_getElem? (i := 73) rfl), lw_t8 (List.mem_of_getElem? (i := 74) rfl)⟩
theorem lw_p79 : lw_okq (⟨"TaxOnLooksModel", "paying", "(II)I"⟩, 44) := ⟨⟨by decide +kernel, by decide +kernel⟩, lw_t6 (List.mem_of_getElem? (i := 96) rfl), lw_t8 (List.mem_of_getElem? (i := 77) rfl), lw_t8 (List.mem_of_getElem? (i := 78) rfl)⟩
def lw_privs_5 : List (MethodName × Nat) := [(⟨"TaxOnLooksModel", "beside", "(II)I"⟩, 44), (⟨"TaxOnLooksModel", "firstOn", "(I)I"⟩, 44), (⟨"TaxOnLooksModel", "allDuties", "()I"⟩, 44), (⟨"TaxOnLooksModel", "allEntered", "()I"⟩, 44), (⟨"TaxOnLooksModel", "intAt", "(II)I"⟩, 44), (⟨"TaxOnLooksModel", "without", "()I"⟩, 44), (⟨"TaxOnLooksModel", "seers", "(I)I"⟩, 44), (⟨"TaxOnLooksModel", "barsOf", "(II)I"⟩, 44), (⟨"TaxOnLooksModel", "strolls", "(II)I"⟩, 44), (⟨"TaxOnLooksModel", "pays", "(I)V"⟩, 44), (⟨"TaxOnLooksModel", "empty", "()I"⟩, 44), (⟨"TaxOnLooksModel", "draw", "(I)I"⟩, 44), (⟨"TaxOnLooksModel", "looking", "(II)I"⟩, 44), (⟨"TaxOnLooksModel", "body", "(I)V"⟩, 44), (⟨"TaxOnLooksModel", "walking", "(II)I"⟩, 44), (⟨"TaxOnLooksModel", "paying", "(II)I"⟩, 44)]
theorem lw_r5 : ∀ q ∈ lw_privs_5, lw_okq q := List.forall_mem_cons.mpr ⟨lw_p64, List.forall_mem_cons.mpr ⟨lw_p65, List.forall_mem_cons.mpr ⟨lw_p66, List.forall_mem_cons.mpr ⟨lw_p67, List.forall_mem_cons.mpr ⟨lw_p68, List.forall_mem_cons.mpr ⟨lw_p69, List.forall_mem_cons.mpr ⟨lw_p70, List.forall_mem_cons.mpr ⟨lw_p71, List.forall_mem_cons.mpr ⟨lw_p72, List.forall_mem_cons.mpr ⟨lw_p73, List.forall_mem_cons.mpr ⟨lw_p74, List.forall_mem_cons.mpr ⟨lw_p75, List.forall_mem_cons.mpr ⟨lw_p76, List.forall_mem_cons.mpr ⟨lw_p77, List.forall_mem_cons.mpr ⟨lw_p78, List.forall_mem_cons.mpr ⟨lw_p79, fun _ h => absurd h List.not_mem_nil⟩⟩⟩⟩⟩⟩⟩⟩⟩⟩⟩⟩⟩⟩⟩⟩
theorem lw_p80 : lw_okq (⟨"TaxOnLooksModel", "together", "([II)I"⟩, 44) := ⟨⟨by decide +kernel, by decide +kernel⟩, lw_t6 (List.mem_of_getElem? (i := 96) rfl), lw_t8 (List.mem_of_getElem? (i := 97) rfl), lw_t8 (List.mem_of_getElem? (i := 98) rfl)⟩
def lw_privs_6 : List (MethodName × Nat) := [(⟨"TaxOnLooksModel", "together", "([II)I"⟩, 44)]
theorem lw_r6 : ∀ q ∈ lw_privs_6, lw_okq q := List.forall_mem_cons.mpr ⟨lw_p80, fun _ h => absurd h List.not_mem_nil⟩
def lw_privs : List (MethodName × Nat) := lw_privs_1 ++ (lw_privs_2 ++ (lw_privs_3 ++ (lw_privs_4 ++ (lw_privs_5 ++ (lw_privs_6)))))
def lw_tbl : List Cond := k2_sels lw_privs ++ tables_1
theorem lw_privs_ok : ∀ q ∈ lw_privs, lw_okq q := by
  show ∀ q ∈ lw_privs_1 ++ (lw_privs_2 ++ (lw_privs_3 ++ (lw_privs_4 ++ (lw_privs_5 ++ (lw_privs_6))))), lw_okq q
  exact List.forall_mem_append.mpr ⟨lw_r1, List.forall_mem_append.mpr ⟨lw_r2, List.forall_mem_append.mpr ⟨lw_r3, List.forall_mem_append.mpr ⟨lw_r4, List.forall_mem_append.mpr ⟨lw_r5, lw_r6⟩⟩⟩⟩⟩
-- ===== ONE list of words for every method: the tables' words that hold all through a run =====
def lw_all : List Cond := lw_tbl.filter goodWord
/-- a word of the tables by its place: claim/WORDS.tsv -/
theorem lw_w {w : Cond} (i : Nat) (h : lw_tbl[i]? = some w) (g : goodWord w = true) : w ∈ lw_all := List.mem_filter.mpr ⟨List.mem_of_getElem? h, g⟩
theorem lw_all_tbl {w : Cond} (h : w ∈ lw_all) : w ∈ lw_tbl := (List.mem_filter.mp h).1
theorem lw_self : GoodIn lw_all lw_all := fun w h => ⟨h, good_of_word (List.mem_filter.mp h).2⟩
/-- a class's field words, by their places -/
theorem lw_in (ws : List Cond) (ps : List Nat) (hp : ws = ps.filterMap (fun i => lw_tbl[i]?)) (hg : ws.all goodWord = true) : ∀ w ∈ ws, w ∈ lw_all := by
  intro w h
  have h1 := List.all_eq_true.mp hg w h
  rw [hp] at h
  obtain ⟨i, -, hi⟩ := List.mem_filterMap.mp h
  exact lw_w i hi h1
/-- the words of a contract for the method y with code b, L locals, answer r -/
abbrev ws_ (y : MethodName) (b : ByteArray) (L : Nat) (r : Option FieldType) : List Cond := Cond.code y b L r :: lw_all
theorem lw_meth {y : MethodName} {b : ByteArray} {L : Nat} {r : Option FieldType} (h : Cond.code y b L r ∈ lw_all) : GoodIn lw_all (ws_ y b L r) := by
  intro w hw
  rcases List.mem_cons.mp hw with e | e
  · rw [e]
    exact lw_self _ h
  · exact lw_self _ e
theorem lw_app {a c : List Cond} (ha : ∀ w ∈ a, w ∈ lw_all) (hc : GoodIn lw_all c) : GoodIn lw_all (a ++ c) := by
  intro w hw
  rcases List.mem_append.mp hw with e | e
  · exact lw_self w (ha w e)
  · exact hc w e
/-- what a call through an object asks: cwV n hts (lw_V ..) -/
theorem lw_V {own : String} {idx : Nat} {C : String} {y : MethodName} {b : ByteArray} {L : Nat} {r : Option FieldType} (h1 : Cond.methodLink own idx y ∈ lw_all) (h2 : Cond.instanceMethod y ∈ lw_all) (h3 : Cond.selects C y y ∈ lw_all) (h4 : Cond.initialized C ∈ lw_all) (h5 : Cond.code y b L r ∈ lw_all) : GoodIn lw_all (wsV own idx C y (ws_ y b L r)) := by
  refine lw_app ?_ (lw_meth h5)
  intro w hw
  simp only [List.mem_cons, List.not_mem_nil, or_false] at hw
  rcases hw with e | e | e | e
  · rw [e]; exact h1
  · rw [e]; exact h2
  · rw [e]; exact h3
  · rw [e]; exact h4
/-- what a static call asks: va_cwS n hts (lw_S ..) -/
theorem lw_S {own : String} {idx : Nat} {y : MethodName} {b : ByteArray} {L : Nat} {r : Option FieldType} (h1 : Cond.methodLink own idx y ∈ lw_all) (h2 : Cond.static y ∈ lw_all) (h3 : Cond.initialized y.cls ∈ lw_all) (h4 : Cond.code y b L r ∈ lw_all) : GoodIn lw_all (va_wsS own idx y (ws_ y b L r)) := by
  refine lw_app ?_ (lw_meth h4)
  intro w hw
  simp only [List.mem_cons, List.not_mem_nil, or_false] at hw
  rcases hw with e | e | e
  · rw [e]; exact h1
  · rw [e]; exact h2
  · rw [e]; exact h3
/-- the words of a contract for a method WITH HANDLERS (hh: its table) -/
abbrev wsW_ (y : MethodName) (b : ByteArray) (L : Nat) (r : Option FieldType) (hh : List (Nat × Nat × Nat × Nat)) : List Cond := Cond.codeWith y b L r hh :: lw_all
theorem lw_methW {y : MethodName} {b : ByteArray} {L : Nat} {r : Option FieldType} {hh : List (Nat × Nat × Nat × Nat)} (h : Cond.codeWith y b L r hh ∈ lw_all) : GoodIn lw_all (wsW_ y b L r hh) := by
  intro w hw
  rcases List.mem_cons.mp hw with e | e
  · rw [e]
    exact lw_self _ h
  · exact lw_self _ e
/-- any list of words by their places (lw_in), good -/
theorem lw_good {ws : List Cond} (h : ∀ w ∈ ws, w ∈ lw_all) : GoodIn lw_all ws := fun w hw => lw_self w (h w hw)
/-- what a call of a method with handlers asks: vx_cwVW n hts (lw_VW ..), vx_cwSW n hts (lw_SW ..) -/
theorem lw_VW {own : String} {idx : Nat} {C : String} {y : MethodName} {b : ByteArray} {L : Nat} {r : Option FieldType} {hh : List (Nat × Nat × Nat × Nat)} (h1 : Cond.methodLink own idx y ∈ lw_all) (h2 : Cond.instanceMethod y ∈ lw_all) (h3 : Cond.selects C y y ∈ lw_all) (h4 : Cond.initialized C ∈ lw_all) (h5 : Cond.codeWith y b L r hh ∈ lw_all) : GoodIn lw_all (wsV own idx C y (wsW_ y b L r hh)) := by
  refine lw_app ?_ (lw_methW h5)
  intro w hw
  simp only [List.mem_cons, List.not_mem_nil, or_false] at hw
  rcases hw with e | e | e | e
  · rw [e]; exact h1
  · rw [e]; exact h2
  · rw [e]; exact h3
  · rw [e]; exact h4
theorem lw_SW {own : String} {idx : Nat} {y : MethodName} {b : ByteArray} {L : Nat} {r : Option FieldType} {hh : List (Nat × Nat × Nat × Nat)} (h1 : Cond.methodLink own idx y ∈ lw_all) (h2 : Cond.static y ∈ lw_all) (h3 : Cond.initialized y.cls ∈ lw_all) (h4 : Cond.codeWith y b L r hh ∈ lw_all) : GoodIn lw_all (va_wsS own idx y (wsW_ y b L r hh)) := by
  refine lw_app ?_ (lw_methW h4)
  intro w hw
  simp only [List.mem_cons, List.not_mem_nil, or_false] at hw
  rcases hw with e | e | e
  · rw [e]; exact h1
  · rw [e]; exact h2
  · rw [e]; exact h3
/-- a word by its place in its run of the tables -/
theorem lw_at {r : List Cond} (hr : ∀ w ∈ r, w ∈ lw_tbl) {w : Cond} (i : Nat) (h : r[i]? = some w) : w ∈ lw_tbl := hr w (List.mem_of_getElem? h)
theorem lw_g {w : Cond} (h : w ∈ lw_tbl) (g : goodWord w = true) : w ∈ lw_all := List.mem_filter.mpr ⟨h, g⟩
theorem lw_ms : ∀ w ∈ k2_sels lw_privs, w ∈ lw_tbl := fun w h => show w ∈ k2_sels lw_privs ++ tables_1 from List.mem_append_left _ h
theorem lw_m1 : ∀ w ∈ tables_1_1, w ∈ lw_tbl := fun w h => show w ∈ k2_sels lw_privs ++ tables_1 from List.mem_append_right (k2_sels lw_privs) (show w ∈ tables_1 from List.mem_append_left _ h)
theorem lw_m2 : ∀ w ∈ tables_1_2, w ∈ lw_tbl := fun w h => show w ∈ k2_sels lw_privs ++ tables_1 from List.mem_append_right (k2_sels lw_privs) (show w ∈ tables_1 from List.mem_append_right _ (List.mem_append_left _ h))
theorem lw_m3 : ∀ w ∈ tables_1_3, w ∈ lw_tbl := fun w h => show w ∈ k2_sels lw_privs ++ tables_1 from List.mem_append_right (k2_sels lw_privs) (show w ∈ tables_1 from List.mem_append_right _ (List.mem_append_right _ (List.mem_append_left _ h)))
theorem lw_m4 : ∀ w ∈ tables_1_4, w ∈ lw_tbl := fun w h => show w ∈ k2_sels lw_privs ++ tables_1 from List.mem_append_right (k2_sels lw_privs) (show w ∈ tables_1 from List.mem_append_right _ (List.mem_append_right _ (List.mem_append_right _ (List.mem_append_left _ h))))
theorem lw_m5 : ∀ w ∈ tables_1_5, w ∈ lw_tbl := fun w h => show w ∈ k2_sels lw_privs ++ tables_1 from List.mem_append_right (k2_sels lw_privs) (show w ∈ tables_1 from List.mem_append_right _ (List.mem_append_right _ (List.mem_append_right _ (List.mem_append_right _ (List.mem_append_left _ h)))))
theorem lw_m6 : ∀ w ∈ tables_1_6, w ∈ lw_tbl := fun w h => show w ∈ k2_sels lw_privs ++ tables_1 from List.mem_append_right (k2_sels lw_privs) (show w ∈ tables_1 from List.mem_append_right _ (List.mem_append_right _ (List.mem_append_right _ (List.mem_append_right _ (List.mem_append_right _ (List.mem_append_left _ h))))))
theorem lw_m7 : ∀ w ∈ tables_1_7, w ∈ lw_tbl := fun w h => show w ∈ k2_sels lw_privs ++ tables_1 from List.mem_append_right (k2_sels lw_privs) (show w ∈ tables_1 from List.mem_append_right _ (List.mem_append_right _ (List.mem_append_right _ (List.mem_append_right _ (List.mem_append_right _ (List.mem_append_right _ (List.mem_append_left _ h)))))))
theorem lw_m8 : ∀ w ∈ tables_1_8, w ∈ lw_tbl := fun w h => show w ∈ k2_sels lw_privs ++ tables_1 from List.mem_append_right (k2_sels lw_privs) (show w ∈ tables_1 from List.mem_append_right _ (List.mem_append_right _ (List.mem_append_right _ (List.mem_append_right _ (List.mem_append_right _ (List.mem_append_right _ (List.mem_append_right _ h)))))))
theorem qs0 : (Cond.selects "TaxOnLooks" ⟨"TaxOnLooks", "shelf", "(I)LTaxOnLooks$Shelf;"⟩ ⟨"TaxOnLooks", "shelf", "(I)LTaxOnLooks$Shelf;"⟩) ∈ lw_all := lw_g (lw_at lw_ms 0 rfl) rfl
theorem qs1 : (Cond.selects "java/lang/Throwable" ⟨"java/lang/Throwable", "fillInStackTrace", "(I)Ljava/lang/Throwable;"⟩ ⟨"java/lang/Throwable", "fillInStackTrace", "(I)Ljava/lang/Throwable;"⟩) ∈ lw_all := lw_g (lw_at lw_ms 1 rfl) rfl
theorem qs2 : (Cond.selects "TaxOnLooks" ⟨"TaxOnLooks", "refused", "(LTaxOnLooks$Refused;)I"⟩ ⟨"TaxOnLooks", "refused", "(LTaxOnLooks$Refused;)I"⟩) ∈ lw_all := lw_g (lw_at lw_ms 2 rfl) rfl
theorem qs3 : (Cond.selects "TaxOnLooks" ⟨"TaxOnLooks", "mustPerson", "(I)V"⟩ ⟨"TaxOnLooks", "mustPerson", "(I)V"⟩) ∈ lw_all := lw_g (lw_at lw_ms 3 rfl) rfl
theorem qs4 : (Cond.selects "TaxOnLooks" ⟨"TaxOnLooks", "asked", "(II)I"⟩ ⟨"TaxOnLooks", "asked", "(II)I"⟩) ∈ lw_all := lw_g (lw_at lw_ms 4 rfl) rfl
theorem qs5 : (Cond.selects "TaxOnLooks" ⟨"TaxOnLooks", "beyond", "()I"⟩ ⟨"TaxOnLooks", "beyond", "()I"⟩) ∈ lw_all := lw_g (lw_at lw_ms 5 rfl) rfl
theorem qs6 : (Cond.selects "TaxOnLooks$Reader" ⟨"TaxOnLooks$Reader", "item", "()V"⟩ ⟨"TaxOnLooks$Reader", "item", "()V"⟩) ∈ lw_all := lw_g (lw_at lw_ms 6 rfl) rfl
theorem qs7 : (Cond.selects "TaxOnLooks$Reader" ⟨"TaxOnLooks$Reader", "sees", "(I)Z"⟩ ⟨"TaxOnLooks$Reader", "sees", "(I)Z"⟩) ∈ lw_all := lw_g (lw_at lw_ms 7 rfl) rfl
theorem qs8 : (Cond.selects "TaxOnLooks$Reader" ⟨"TaxOnLooks$Reader", "ends", "()Z"⟩ ⟨"TaxOnLooks$Reader", "ends", "()Z"⟩) ∈ lw_all := lw_g (lw_at lw_ms 8 rfl) rfl
theorem qs9 : (Cond.selects "TaxOnLooks$Reader" ⟨"TaxOnLooks$Reader", "wall", "()V"⟩ ⟨"TaxOnLooks$Reader", "wall", "()V"⟩) ∈ lw_all := lw_g (lw_at lw_ms 9 rfl) rfl
theorem qs10 : (Cond.selects "TaxOnLooks$Reader" ⟨"TaxOnLooks$Reader", "word", "(Ljava/lang/String;)V"⟩ ⟨"TaxOnLooks$Reader", "word", "(Ljava/lang/String;)V"⟩) ∈ lw_all := lw_g (lw_at lw_ms 10 rfl) rfl
theorem qs11 : (Cond.selects "TaxOnLooks$Reader" ⟨"TaxOnLooks$Reader", "must", "(I)V"⟩ ⟨"TaxOnLooks$Reader", "must", "(I)V"⟩) ∈ lw_all := lw_g (lw_at lw_ms 11 rfl) rfl
theorem qs12 : (Cond.selects "TaxOnLooks$Reader" ⟨"TaxOnLooks$Reader", "square", "()I"⟩ ⟨"TaxOnLooks$Reader", "square", "()I"⟩) ∈ lw_all := lw_g (lw_at lw_ms 12 rfl) rfl
theorem qs13 : (Cond.selects "TaxOnLooks$Reader" ⟨"TaxOnLooks$Reader", "number", "(II)I"⟩ ⟨"TaxOnLooks$Reader", "number", "(II)I"⟩) ∈ lw_all := lw_g (lw_at lw_ms 13 rfl) rfl
theorem qs14 : (Cond.selects "TaxOnLooks$Reader" ⟨"TaxOnLooks$Reader", "digit", "()Z"⟩ ⟨"TaxOnLooks$Reader", "digit", "()Z"⟩) ∈ lw_all := lw_g (lw_at lw_ms 14 rfl) rfl
theorem qs15 : (Cond.selects "TaxOnLooks$Reader" ⟨"TaxOnLooks$Reader", "hasRoom", "(ZI)V"⟩ ⟨"TaxOnLooks$Reader", "hasRoom", "(ZI)V"⟩) ∈ lw_all := lw_g (lw_at lw_ms 15 rfl) rfl
theorem qs16 : (Cond.selects "TaxOnLooks$Reader" ⟨"TaxOnLooks$Reader", "person", "(I)V"⟩ ⟨"TaxOnLooks$Reader", "person", "(I)V"⟩) ∈ lw_all := lw_g (lw_at lw_ms 16 rfl) rfl
theorem qs17 : (Cond.selects "TaxOnLooks$Town" ⟨"TaxOnLooks$Town", "catches", "(II)Z"⟩ ⟨"TaxOnLooks$Town", "catches", "(II)Z"⟩) ∈ lw_all := lw_g (lw_at lw_ms 17 rfl) rfl
theorem qs18 : (Cond.selects "TaxOnLooks$Town" ⟨"TaxOnLooks$Town", "isBefore", "(III)Z"⟩ ⟨"TaxOnLooks$Town", "isBefore", "(III)Z"⟩) ∈ lw_all := lw_g (lw_at lw_ms 18 rfl) rfl
theorem qs19 : (Cond.selects "TaxOnLooks$Walks" ⟨"TaxOnLooks$Walks", "shortens", "(LTaxOnLooks$Town;I)Z"⟩ ⟨"TaxOnLooks$Walks", "shortens", "(LTaxOnLooks$Town;I)Z"⟩) ∈ lw_all := lw_g (lw_at lw_ms 19 rfl) rfl
theorem qs20 : (Cond.selects "TaxOnLooks$Walks" ⟨"TaxOnLooks$Walks", "by", "(I)I"⟩ ⟨"TaxOnLooks$Walks", "by", "(I)I"⟩) ∈ lw_all := lw_g (lw_at lw_ms 20 rfl) rfl
theorem qs21 : (Cond.selects "TaxOnLooks" ⟨"TaxOnLooks", "bestSacks", "(I)I"⟩ ⟨"TaxOnLooks", "bestSacks", "(I)I"⟩) ∈ lw_all := lw_g (lw_at lw_ms 21 rfl) rfl
theorem qs22 : (Cond.selects "TaxOnLooks" ⟨"TaxOnLooks", "dutiesWith", "(I)I"⟩ ⟨"TaxOnLooks", "dutiesWith", "(I)I"⟩) ∈ lw_all := lw_g (lw_at lw_ms 22 rfl) rfl
theorem qs23 : (Cond.selects "TaxOnLooks" ⟨"TaxOnLooks", "enteredWith", "(I)I"⟩ ⟨"TaxOnLooks", "enteredWith", "(I)I"⟩) ∈ lw_all := lw_g (lw_at lw_ms 23 rfl) rfl
theorem qs24 : (Cond.selects "TaxOnLooks" ⟨"TaxOnLooks", "isRoll", "(LTaxOnLooks$Row;)Z"⟩ ⟨"TaxOnLooks", "isRoll", "(LTaxOnLooks$Row;)Z"⟩) ∈ lw_all := lw_g (lw_at lw_ms 24 rfl) rfl
theorem qs25 : (Cond.selects "TaxOnLooks" ⟨"TaxOnLooks", "dutiesWithout", "(I)I"⟩ ⟨"TaxOnLooks", "dutiesWithout", "(I)I"⟩) ∈ lw_all := lw_g (lw_at lw_ms 25 rfl) rfl
theorem qs26 : (Cond.selects "TaxOnLooks" ⟨"TaxOnLooks", "lookersAt", "(I)I"⟩ ⟨"TaxOnLooks", "lookersAt", "(I)I"⟩) ∈ lw_all := lw_g (lw_at lw_ms 26 rfl) rfl
theorem qs27 : (Cond.selects "TaxOnLooks" ⟨"TaxOnLooks", "toldAt", "(II)LTaxOnLooks$Row;"⟩ ⟨"TaxOnLooks", "toldAt", "(II)LTaxOnLooks$Row;"⟩) ∈ lw_all := lw_g (lw_at lw_ms 27 rfl) rfl
theorem qs28 : (Cond.selects "TaxOnLooks" ⟨"TaxOnLooks", "wrongIn", "(LTaxOnLooks$Row;I)I"⟩ ⟨"TaxOnLooks", "wrongIn", "(LTaxOnLooks$Row;I)I"⟩) ∈ lw_all := lw_g (lw_at lw_ms 28 rfl) rfl
theorem qs29 : (Cond.selects "TaxOnLooks" ⟨"TaxOnLooks", "emptyPurses", "()I"⟩ ⟨"TaxOnLooks", "emptyPurses", "()I"⟩) ∈ lw_all := lw_g (lw_at lw_ms 29 rfl) rfl
theorem qs30 : (Cond.selects "TaxOnLooks" ⟨"TaxOnLooks", "goesHour", "()V"⟩ ⟨"TaxOnLooks", "goesHour", "()V"⟩) ∈ lw_all := lw_g (lw_at lw_ms 30 rfl) rfl
theorem qs31 : (Cond.selects "TaxOnLooks" ⟨"TaxOnLooks", "shelvesFollow", "()V"⟩ ⟨"TaxOnLooks", "shelvesFollow", "()V"⟩) ∈ lw_all := lw_g (lw_at lw_ms 31 rfl) rfl
theorem qs32 : (Cond.selects "TaxOnLooksModel" ⟨"TaxOnLooksModel", "isShelf", "(I)Z"⟩ ⟨"TaxOnLooksModel", "isShelf", "(I)Z"⟩) ∈ lw_all := lw_g (lw_at lw_ms 32 rfl) rfl
theorem qs33 : (Cond.selects "TaxOnLooksModel" ⟨"TaxOnLooksModel", "no", "(I)I"⟩ ⟨"TaxOnLooksModel", "no", "(I)I"⟩) ∈ lw_all := lw_g (lw_at lw_ms 33 rfl) rfl
theorem qs34 : (Cond.selects "TaxOnLooksModel" ⟨"TaxOnLooksModel", "isOne", "(I)Z"⟩ ⟨"TaxOnLooksModel", "isOne", "(I)Z"⟩) ∈ lw_all := lw_g (lw_at lw_ms 34 rfl) rfl
theorem qs35 : (Cond.selects "TaxOnLooksModel" ⟨"TaxOnLooksModel", "shows", "(I)I"⟩ ⟨"TaxOnLooksModel", "shows", "(I)I"⟩) ∈ lw_all := lw_g (lw_at lw_ms 35 rfl) rfl
theorem qs36 : (Cond.selects "TaxOnLooksModel" ⟨"TaxOnLooksModel", "isFrom", "(III)Z"⟩ ⟨"TaxOnLooksModel", "isFrom", "(III)Z"⟩) ∈ lw_all := lw_g (lw_at lw_ms 36 rfl) rfl
theorem qs37 : (Cond.selects "TaxOnLooksModel" ⟨"TaxOnLooksModel", "isSquare", "(I)Z"⟩ ⟨"TaxOnLooksModel", "isSquare", "(I)Z"⟩) ∈ lw_all := lw_g (lw_at lw_ms 37 rfl) rfl
theorem qs38 : (Cond.selects "TaxOnLooksModel" ⟨"TaxOnLooksModel", "adds", "(IIIIII)I"⟩ ⟨"TaxOnLooksModel", "adds", "(IIIIII)I"⟩) ∈ lw_all := lw_g (lw_at lw_ms 38 rfl) rfl
theorem qs39 : (Cond.selects "TaxOnLooksModel" ⟨"TaxOnLooksModel", "thereAt", "(I)I"⟩ ⟨"TaxOnLooksModel", "thereAt", "(I)I"⟩) ∈ lw_all := lw_g (lw_at lw_ms 39 rfl) rfl
theorem qs40 : (Cond.selects "TaxOnLooksModel" ⟨"TaxOnLooksModel", "isAsked", "(II)Z"⟩ ⟨"TaxOnLooksModel", "isAsked", "(II)Z"⟩) ∈ lw_all := lw_g (lw_at lw_ms 40 rfl) rfl
theorem qs41 : (Cond.selects "TaxOnLooksModel" ⟨"TaxOnLooksModel", "asks", "(II)V"⟩ ⟨"TaxOnLooksModel", "asks", "(II)V"⟩) ∈ lw_all := lw_g (lw_at lw_ms 41 rfl) rfl
theorem qs42 : (Cond.selects "TaxOnLooksModel" ⟨"TaxOnLooksModel", "wanted", "(I)I"⟩ ⟨"TaxOnLooksModel", "wanted", "(I)I"⟩) ∈ lw_all := lw_g (lw_at lw_ms 42 rfl) rfl
theorem qs43 : (Cond.selects "TaxOnLooksModel" ⟨"TaxOnLooksModel", "carriesAll", "([IZ)V"⟩ ⟨"TaxOnLooksModel", "carriesAll", "([IZ)V"⟩) ∈ lw_all := lw_g (lw_at lw_ms 43 rfl) rfl
theorem qs44 : (Cond.selects "TaxOnLooksModel" ⟨"TaxOnLooksModel", "carries", "([II[IIZ)I"⟩ ⟨"TaxOnLooksModel", "carries", "([II[IIZ)I"⟩) ∈ lw_all := lw_g (lw_at lw_ms 44 rfl) rfl
theorem qs45 : (Cond.selects "TaxOnLooksModel" ⟨"TaxOnLooksModel", "item", "()Z"⟩ ⟨"TaxOnLooksModel", "item", "()Z"⟩) ∈ lw_all := lw_g (lw_at lw_ms 45 rfl) rfl
theorem qs46 : (Cond.selects "TaxOnLooksModel" ⟨"TaxOnLooksModel", "stands", "(I)Z"⟩ ⟨"TaxOnLooksModel", "stands", "(I)Z"⟩) ∈ lw_all := lw_g (lw_at lw_ms 46 rfl) rfl
theorem qs47 : (Cond.selects "TaxOnLooksModel" ⟨"TaxOnLooksModel", "wrong", "(I)Z"⟩ ⟨"TaxOnLooksModel", "wrong", "(I)Z"⟩) ∈ lw_all := lw_g (lw_at lw_ms 47 rfl) rfl
theorem qs48 : (Cond.selects "TaxOnLooksModel" ⟨"TaxOnLooksModel", "word", "()I"⟩ ⟨"TaxOnLooksModel", "word", "()I"⟩) ∈ lw_all := lw_g (lw_at lw_ms 48 rfl) rfl
theorem qs49 : (Cond.selects "TaxOnLooksModel" ⟨"TaxOnLooksModel", "reads", "()Z"⟩ ⟨"TaxOnLooksModel", "reads", "()Z"⟩) ∈ lw_all := lw_g (lw_at lw_ms 49 rfl) rfl
theorem qs50 : (Cond.selects "TaxOnLooksModel" ⟨"TaxOnLooksModel", "isDigit", "()Z"⟩ ⟨"TaxOnLooksModel", "isDigit", "()Z"⟩) ∈ lw_all := lw_g (lw_at lw_ms 50 rfl) rfl
theorem qs51 : (Cond.selects "TaxOnLooksModel" ⟨"TaxOnLooksModel", "isSo", "(II)Z"⟩ ⟨"TaxOnLooksModel", "isSo", "(II)Z"⟩) ∈ lw_all := lw_g (lw_at lw_ms 51 rfl) rfl
theorem qs52 : (Cond.selects "TaxOnLooksModel" ⟨"TaxOnLooksModel", "sees", "(II)Z"⟩ ⟨"TaxOnLooksModel", "sees", "(II)Z"⟩) ∈ lw_all := lw_g (lw_at lw_ms 52 rfl) rfl
theorem qs53 : (Cond.selects "TaxOnLooksModel" ⟨"TaxOnLooksModel", "distance", "(II)I"⟩ ⟨"TaxOnLooksModel", "distance", "(II)I"⟩) ∈ lw_all := lw_g (lw_at lw_ms 53 rfl) rfl
theorem qs54 : (Cond.selects "TaxOnLooksModel" ⟨"TaxOnLooksModel", "lookers", "(I)I"⟩ ⟨"TaxOnLooksModel", "lookers", "(I)I"⟩) ∈ lw_all := lw_g (lw_at lw_ms 54 rfl) rfl
theorem qs55 : (Cond.selects "TaxOnLooksModel" ⟨"TaxOnLooksModel", "lookedAt", "(I)I"⟩ ⟨"TaxOnLooksModel", "lookedAt", "(I)I"⟩) ∈ lw_all := lw_g (lw_at lw_ms 55 rfl) rfl
theorem qs56 : (Cond.selects "TaxOnLooksModel" ⟨"TaxOnLooksModel", "would", "(II)Z"⟩ ⟨"TaxOnLooksModel", "would", "(II)Z"⟩) ∈ lw_all := lw_g (lw_at lw_ms 56 rfl) rfl
theorem qs57 : (Cond.selects "TaxOnLooksModel" ⟨"TaxOnLooksModel", "owes", "(I)I"⟩ ⟨"TaxOnLooksModel", "owes", "(I)I"⟩) ∈ lw_all := lw_g (lw_at lw_ms 57 rfl) rfl
theorem qs58 : (Cond.selects "TaxOnLooksModel" ⟨"TaxOnLooksModel", "isLit", "(I)Z"⟩ ⟨"TaxOnLooksModel", "isLit", "(I)Z"⟩) ∈ lw_all := lw_g (lw_at lw_ms 58 rfl) rfl
theorem qs59 : (Cond.selects "TaxOnLooksModel" ⟨"TaxOnLooksModel", "many", "(I)I"⟩ ⟨"TaxOnLooksModel", "many", "(I)I"⟩) ∈ lw_all := lw_g (lw_at lw_ms 59 rfl) rfl
theorem qs60 : (Cond.selects "TaxOnLooksModel" ⟨"TaxOnLooksModel", "wouldPay", "(I)I"⟩ ⟨"TaxOnLooksModel", "wouldPay", "(I)I"⟩) ∈ lw_all := lw_g (lw_at lw_ms 60 rfl) rfl
theorem qs61 : (Cond.selects "TaxOnLooksModel" ⟨"TaxOnLooksModel", "noTen", "(I)I"⟩ ⟨"TaxOnLooksModel", "noTen", "(I)I"⟩) ∈ lw_all := lw_g (lw_at lw_ms 61 rfl) rfl
theorem qs62 : (Cond.selects "TaxOnLooksModel" ⟨"TaxOnLooksModel", "tellsDuties", "(I)V"⟩ ⟨"TaxOnLooksModel", "tellsDuties", "(I)V"⟩) ∈ lw_all := lw_g (lw_at lw_ms 62 rfl) rfl
theorem qs63 : (Cond.selects "TaxOnLooksModel" ⟨"TaxOnLooksModel", "tellsWays", "(I)V"⟩ ⟨"TaxOnLooksModel", "tellsWays", "(I)V"⟩) ∈ lw_all := lw_g (lw_at lw_ms 63 rfl) rfl
theorem qs64 : (Cond.selects "TaxOnLooksModel" ⟨"TaxOnLooksModel", "beside", "(II)I"⟩ ⟨"TaxOnLooksModel", "beside", "(II)I"⟩) ∈ lw_all := lw_g (lw_at lw_ms 64 rfl) rfl
theorem qs65 : (Cond.selects "TaxOnLooksModel" ⟨"TaxOnLooksModel", "firstOn", "(I)I"⟩ ⟨"TaxOnLooksModel", "firstOn", "(I)I"⟩) ∈ lw_all := lw_g (lw_at lw_ms 65 rfl) rfl
theorem qs66 : (Cond.selects "TaxOnLooksModel" ⟨"TaxOnLooksModel", "allDuties", "()I"⟩ ⟨"TaxOnLooksModel", "allDuties", "()I"⟩) ∈ lw_all := lw_g (lw_at lw_ms 66 rfl) rfl
theorem qs67 : (Cond.selects "TaxOnLooksModel" ⟨"TaxOnLooksModel", "allEntered", "()I"⟩ ⟨"TaxOnLooksModel", "allEntered", "()I"⟩) ∈ lw_all := lw_g (lw_at lw_ms 67 rfl) rfl
theorem qs68 : (Cond.selects "TaxOnLooksModel" ⟨"TaxOnLooksModel", "intAt", "(II)I"⟩ ⟨"TaxOnLooksModel", "intAt", "(II)I"⟩) ∈ lw_all := lw_g (lw_at lw_ms 68 rfl) rfl
theorem qs69 : (Cond.selects "TaxOnLooksModel" ⟨"TaxOnLooksModel", "without", "()I"⟩ ⟨"TaxOnLooksModel", "without", "()I"⟩) ∈ lw_all := lw_g (lw_at lw_ms 69 rfl) rfl
theorem qs70 : (Cond.selects "TaxOnLooksModel" ⟨"TaxOnLooksModel", "seers", "(I)I"⟩ ⟨"TaxOnLooksModel", "seers", "(I)I"⟩) ∈ lw_all := lw_g (lw_at lw_ms 70 rfl) rfl
theorem qs71 : (Cond.selects "TaxOnLooksModel" ⟨"TaxOnLooksModel", "barsOf", "(II)I"⟩ ⟨"TaxOnLooksModel", "barsOf", "(II)I"⟩) ∈ lw_all := lw_g (lw_at lw_ms 71 rfl) rfl
theorem qs72 : (Cond.selects "TaxOnLooksModel" ⟨"TaxOnLooksModel", "strolls", "(II)I"⟩ ⟨"TaxOnLooksModel", "strolls", "(II)I"⟩) ∈ lw_all := lw_g (lw_at lw_ms 72 rfl) rfl
theorem qs73 : (Cond.selects "TaxOnLooksModel" ⟨"TaxOnLooksModel", "pays", "(I)V"⟩ ⟨"TaxOnLooksModel", "pays", "(I)V"⟩) ∈ lw_all := lw_g (lw_at lw_ms 73 rfl) rfl
theorem qs74 : (Cond.selects "TaxOnLooksModel" ⟨"TaxOnLooksModel", "empty", "()I"⟩ ⟨"TaxOnLooksModel", "empty", "()I"⟩) ∈ lw_all := lw_g (lw_at lw_ms 74 rfl) rfl
theorem qs75 : (Cond.selects "TaxOnLooksModel" ⟨"TaxOnLooksModel", "draw", "(I)I"⟩ ⟨"TaxOnLooksModel", "draw", "(I)I"⟩) ∈ lw_all := lw_g (lw_at lw_ms 75 rfl) rfl
theorem qs76 : (Cond.selects "TaxOnLooksModel" ⟨"TaxOnLooksModel", "looking", "(II)I"⟩ ⟨"TaxOnLooksModel", "looking", "(II)I"⟩) ∈ lw_all := lw_g (lw_at lw_ms 76 rfl) rfl
theorem qs77 : (Cond.selects "TaxOnLooksModel" ⟨"TaxOnLooksModel", "body", "(I)V"⟩ ⟨"TaxOnLooksModel", "body", "(I)V"⟩) ∈ lw_all := lw_g (lw_at lw_ms 77 rfl) rfl
theorem qs78 : (Cond.selects "TaxOnLooksModel" ⟨"TaxOnLooksModel", "walking", "(II)I"⟩ ⟨"TaxOnLooksModel", "walking", "(II)I"⟩) ∈ lw_all := lw_g (lw_at lw_ms 78 rfl) rfl
theorem qs79 : (Cond.selects "TaxOnLooksModel" ⟨"TaxOnLooksModel", "paying", "(II)I"⟩ ⟨"TaxOnLooksModel", "paying", "(II)I"⟩) ∈ lw_all := lw_g (lw_at lw_ms 79 rfl) rfl
theorem qs80 : (Cond.selects "TaxOnLooksModel" ⟨"TaxOnLooksModel", "together", "([II)I"⟩ ⟨"TaxOnLooksModel", "together", "([II)I"⟩) ∈ lw_all := lw_g (lw_at lw_ms 80 rfl) rfl
