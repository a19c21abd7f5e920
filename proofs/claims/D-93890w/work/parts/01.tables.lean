-- ===== PART A: goes FIRST, ahead of the names: the tables' words, and 'selects' of the private methods out of them =====
/-- a private method of a class that the tables say can be made, by its rows of tables_1 -/
def lw_okq (q : MethodName × Nat) : Prop := (q.1.cls ≠ "java/lang/invoke/MethodHandle" ∧ q.1.cls ≠ "java/lang/invoke/VarHandle") ∧ Cond.instantiable q.1.cls q.2 ∈ tables_1 ∧ Cond.privateMethod q.1 ∈ tables_1 ∧ Cond.instanceMethod q.1 ∈ tables_1
set_option maxRecDepth 100000
theorem lw_t1 {w : Cond} (h : w ∈ tables_1_1) : w ∈ tables_1 := List.mem_append_left _ h
theorem lw_t2 {w : Cond} (h : w ∈ tables_1_2) : w ∈ tables_1 := List.mem_append_right _ (List.mem_append_left _ h)
theorem lw_t3 {w : Cond} (h : w ∈ tables_1_3) : w ∈ tables_1 := List.mem_append_right _ (List.mem_append_right _ (List.mem_append_left _ h))
theorem lw_t4 {w : Cond} (h : w ∈ tables_1_4) : w ∈ tables_1 := List.mem_append_right _ (List.mem_append_right _ (List.mem_append_right _ (List.mem_append_left _ h)))
theorem lw_t5 {w : Cond} (h : w ∈ tables_1_5) : w ∈ tables_1 := List.mem_append_right _ (List.mem_append_right _ (List.mem_append_right _ (List.mem_append_right _ (List.mem_append_left _ h))))
theorem lw_t6 {w : Cond} (h : w ∈ tables_1_6) : w ∈ tables_1 := List.mem_append_right _ (List.mem_append_right _ (List.mem_append_right _ (List.mem_append_right _ (List.mem_append_right _ (List.mem_append_left _ h)))))
theorem lw_t7 {w : Cond} (h : w ∈ tables_1_7) : w ∈ tables_1 := List.mem_append_right _ (List.mem_append_right _ (List.mem_append_right _ (List.mem_append_right _ (List.mem_append_right _ (List.mem_append_right _ (List.mem_append_left _ h))))))
theorem lw_t8 {w : Cond} (h : w ∈ tables_1_8) : w ∈ tables_1 := List.mem_append_right _ (List.mem_append_right _ (List.mem_append_right _ (List.mem_append_right _ (List.mem_append_right _ (List.mem_append_right _ (List.mem_append_right _ h))))))
theorem lw_p0 : lw_okq (⟨"NoFartherThanAThrow", "shelf", "(I)LNoFartherThanAThrow$Shelf;"⟩, 9) := ⟨⟨by decide +kernel, by decide +kernel⟩, lw_t1 (List.mem_of_getElem? (i := 37) rfl), lw_t1 (List.mem_of_getElem? (i := 229) rfl), lw_t1 (List.mem_of_getElem? (i := 230) rfl)⟩
theorem lw_p1 : lw_okq (⟨"java/lang/Throwable", "fillInStackTrace", "(I)Ljava/lang/Throwable;"⟩, 6) := ⟨⟨by decide +kernel, by decide +kernel⟩, lw_t2 (List.mem_of_getElem? (i := 25) rfl), lw_t2 (List.mem_of_getElem? (i := 23) rfl), lw_t2 (List.mem_of_getElem? (i := 24) rfl)⟩
theorem lw_p2 : lw_okq (⟨"NoFartherThanAThrow", "refused", "(LNoFartherThanAThrow$Refused;)I"⟩, 9) := ⟨⟨by decide +kernel, by decide +kernel⟩, lw_t1 (List.mem_of_getElem? (i := 37) rfl), lw_t2 (List.mem_of_getElem? (i := 163) rfl), lw_t2 (List.mem_of_getElem? (i := 164) rfl)⟩
theorem lw_p3 : lw_okq (⟨"NoFartherThanAThrow", "thingAt", "(I)LNoFartherThanAThrow$Thing;"⟩, 9) := ⟨⟨by decide +kernel, by decide +kernel⟩, lw_t1 (List.mem_of_getElem? (i := 37) rfl), lw_t3 (List.mem_of_getElem? (i := 34) rfl), lw_t3 (List.mem_of_getElem? (i := 35) rfl)⟩
theorem lw_p4 : lw_okq (⟨"NoFartherThanAThrow", "isThing", "(I)Z"⟩, 9) := ⟨⟨by decide +kernel, by decide +kernel⟩, lw_t1 (List.mem_of_getElem? (i := 37) rfl), lw_t3 (List.mem_of_getElem? (i := 38) rfl), lw_t3 (List.mem_of_getElem? (i := 39) rfl)⟩
theorem lw_p5 : lw_okq (⟨"NoFartherThanAThrow", "addMan", "(I)V"⟩, 9) := ⟨⟨by decide +kernel, by decide +kernel⟩, lw_t1 (List.mem_of_getElem? (i := 37) rfl), lw_t4 (List.mem_of_getElem? (i := 21) rfl), lw_t4 (List.mem_of_getElem? (i := 22) rfl)⟩
theorem lw_p6 : lw_okq (⟨"NoFartherThanAThrow", "beyond", "()I"⟩, 9) := ⟨⟨by decide +kernel, by decide +kernel⟩, lw_t1 (List.mem_of_getElem? (i := 37) rfl), lw_t4 (List.mem_of_getElem? (i := 87) rfl), lw_t4 (List.mem_of_getElem? (i := 88) rfl)⟩
theorem lw_p7 : lw_okq (⟨"NoFartherThanAThrow", "isMan", "(I)Z"⟩, 9) := ⟨⟨by decide +kernel, by decide +kernel⟩, lw_t1 (List.mem_of_getElem? (i := 37) rfl), lw_t4 (List.mem_of_getElem? (i := 118) rfl), lw_t4 (List.mem_of_getElem? (i := 119) rfl)⟩
theorem lw_p8 : lw_okq (⟨"NoFartherThanAThrow$Reader", "item", "()V"⟩, 3) := ⟨⟨by decide +kernel, by decide +kernel⟩, lw_t4 (List.mem_of_getElem? (i := 138) rfl), lw_t4 (List.mem_of_getElem? (i := 158) rfl), lw_t4 (List.mem_of_getElem? (i := 159) rfl)⟩
theorem lw_p9 : lw_okq (⟨"NoFartherThanAThrow$Reader", "sees", "(I)Z"⟩, 3) := ⟨⟨by decide +kernel, by decide +kernel⟩, lw_t4 (List.mem_of_getElem? (i := 138) rfl), lw_t4 (List.mem_of_getElem? (i := 162) rfl), lw_t4 (List.mem_of_getElem? (i := 163) rfl)⟩
theorem lw_p10 : lw_okq (⟨"NoFartherThanAThrow$Reader", "ends", "()Z"⟩, 3) := ⟨⟨by decide +kernel, by decide +kernel⟩, lw_t4 (List.mem_of_getElem? (i := 138) rfl), lw_t4 (List.mem_of_getElem? (i := 166) rfl), lw_t4 (List.mem_of_getElem? (i := 167) rfl)⟩
theorem lw_p11 : lw_okq (⟨"NoFartherThanAThrow$Reader", "word", "(Ljava/lang/String;)V"⟩, 3) := ⟨⟨by decide +kernel, by decide +kernel⟩, lw_t4 (List.mem_of_getElem? (i := 138) rfl), lw_t4 (List.mem_of_getElem? (i := 173) rfl), lw_t4 (List.mem_of_getElem? (i := 174) rfl)⟩
theorem lw_p12 : lw_okq (⟨"NoFartherThanAThrow$Reader", "must", "(I)V"⟩, 3) := ⟨⟨by decide +kernel, by decide +kernel⟩, lw_t4 (List.mem_of_getElem? (i := 138) rfl), lw_t4 (List.mem_of_getElem? (i := 225) rfl), lw_t4 (List.mem_of_getElem? (i := 226) rfl)⟩
theorem lw_p13 : lw_okq (⟨"NoFartherThanAThrow$Reader", "hasRoom", "(ZI)V"⟩, 3) := ⟨⟨by decide +kernel, by decide +kernel⟩, lw_t4 (List.mem_of_getElem? (i := 138) rfl), lw_t5 (List.mem_of_getElem? (i := 8) rfl), lw_t5 (List.mem_of_getElem? (i := 9) rfl)⟩
theorem lw_p14 : lw_okq (⟨"NoFartherThanAThrow$Reader", "number", "(II)I"⟩, 3) := ⟨⟨by decide +kernel, by decide +kernel⟩, lw_t4 (List.mem_of_getElem? (i := 138) rfl), lw_t5 (List.mem_of_getElem? (i := 12) rfl), lw_t5 (List.mem_of_getElem? (i := 13) rfl)⟩
theorem lw_p15 : lw_okq (⟨"NoFartherThanAThrow$Reader", "digit", "()Z"⟩, 3) := ⟨⟨by decide +kernel, by decide +kernel⟩, lw_t4 (List.mem_of_getElem? (i := 138) rfl), lw_t5 (List.mem_of_getElem? (i := 16) rfl), lw_t5 (List.mem_of_getElem? (i := 17) rfl)⟩
def lw_privs_1 : List (MethodName × Nat) := [(⟨"NoFartherThanAThrow", "shelf", "(I)LNoFartherThanAThrow$Shelf;"⟩, 9), (⟨"java/lang/Throwable", "fillInStackTrace", "(I)Ljava/lang/Throwable;"⟩, 6), (⟨"NoFartherThanAThrow", "refused", "(LNoFartherThanAThrow$Refused;)I"⟩, 9), (⟨"NoFartherThanAThrow", "thingAt", "(I)LNoFartherThanAThrow$Thing;"⟩, 9), (⟨"NoFartherThanAThrow", "isThing", "(I)Z"⟩, 9), (⟨"NoFartherThanAThrow", "addMan", "(I)V"⟩, 9), (⟨"NoFartherThanAThrow", "beyond", "()I"⟩, 9), (⟨"NoFartherThanAThrow", "isMan", "(I)Z"⟩, 9), (⟨"NoFartherThanAThrow$Reader", "item", "()V"⟩, 3), (⟨"NoFartherThanAThrow$Reader", "sees", "(I)Z"⟩, 3), (⟨"NoFartherThanAThrow$Reader", "ends", "()Z"⟩, 3), (⟨"NoFartherThanAThrow$Reader", "word", "(Ljava/lang/String;)V"⟩, 3), (⟨"NoFartherThanAThrow$Reader", "must", "(I)V"⟩, 3), (⟨"NoFartherThanAThrow$Reader", "hasRoom", "(ZI)V"⟩, 3), (⟨"NoFartherThanAThrow$Reader", "number", "(II)I"⟩, 3), (⟨"NoFartherThanAThrow$Reader", "digit", "()Z"⟩, 3)]
theorem lw_r1 : ∀ q ∈ lw_privs_1, lw_okq q := List.forall_mem_cons.mpr ⟨lw_p0, List.forall_mem_cons.mpr ⟨lw_p1, List.forall_mem_cons.mpr ⟨lw_p2, List.forall_mem_cons.mpr ⟨lw_p3, List.forall_mem_cons.mpr ⟨lw_p4, List.forall_mem_cons.mpr ⟨lw_p5, List.forall_mem_cons.mpr ⟨lw_p6, List.forall_mem_cons.mpr ⟨lw_p7, List.forall_mem_cons.mpr ⟨lw_p8, List.forall_mem_cons.mpr ⟨lw_p9, List.forall_mem_cons.mpr ⟨lw_p10, List.forall_mem_cons.mpr ⟨lw_p11, List.forall_mem_cons.mpr ⟨lw_p12, List.forall_mem_cons.mpr ⟨lw_p13, List.forall_mem_cons.mpr ⟨lw_p14, List.forall_mem_cons.mpr ⟨lw_p15, fun _ h => absurd h List.not_mem_nil⟩⟩⟩⟩⟩⟩⟩⟩⟩⟩⟩⟩⟩⟩⟩⟩
theorem lw_p16 : lw_okq (⟨"NoFartherThanAThrow$Reader", "step", "()I"⟩, 3) := ⟨⟨by decide +kernel, by decide +kernel⟩, lw_t4 (List.mem_of_getElem? (i := 138) rfl), lw_t5 (List.mem_of_getElem? (i := 21) rfl), lw_t5 (List.mem_of_getElem? (i := 22) rfl)⟩
theorem lw_p17 : lw_okq (⟨"NoFartherThanAThrow$Reader", "withW", "(I)V"⟩, 3) := ⟨⟨by decide +kernel, by decide +kernel⟩, lw_t4 (List.mem_of_getElem? (i := 138) rfl), lw_t5 (List.mem_of_getElem? (i := 29) rfl), lw_t5 (List.mem_of_getElem? (i := 30) rfl)⟩
theorem lw_p18 : lw_okq (⟨"NoFartherThanAThrow", "must", "(II)V"⟩, 9) := ⟨⟨by decide +kernel, by decide +kernel⟩, lw_t1 (List.mem_of_getElem? (i := 37) rfl), lw_t5 (List.mem_of_getElem? (i := 49) rfl), lw_t5 (List.mem_of_getElem? (i := 50) rfl)⟩
theorem lw_p19 : lw_okq (⟨"NoFartherThanAThrow", "isSet", "(I)Z"⟩, 9) := ⟨⟨by decide +kernel, by decide +kernel⟩, lw_t1 (List.mem_of_getElem? (i := 37) rfl), lw_t5 (List.mem_of_getElem? (i := 107) rfl), lw_t5 (List.mem_of_getElem? (i := 108) rfl)⟩
theorem lw_p20 : lw_okq (⟨"NoFartherThanAThrow", "reachOf", "(II)[I"⟩, 9) := ⟨⟨by decide +kernel, by decide +kernel⟩, lw_t1 (List.mem_of_getElem? (i := 37) rfl), lw_t5 (List.mem_of_getElem? (i := 111) rfl), lw_t5 (List.mem_of_getElem? (i := 112) rfl)⟩
theorem lw_p21 : lw_okq (⟨"NoFartherThanAThrow", "isDone", "(III)Z"⟩, 9) := ⟨⟨by decide +kernel, by decide +kernel⟩, lw_t1 (List.mem_of_getElem? (i := 37) rfl), lw_t5 (List.mem_of_getElem? (i := 130) rfl), lw_t5 (List.mem_of_getElem? (i := 131) rfl)⟩
theorem lw_p22 : lw_okq (⟨"NoFartherThanAThrow", "mustEnd", "(II)V"⟩, 9) := ⟨⟨by decide +kernel, by decide +kernel⟩, lw_t1 (List.mem_of_getElem? (i := 37) rfl), lw_t5 (List.mem_of_getElem? (i := 134) rfl), lw_t5 (List.mem_of_getElem? (i := 135) rfl)⟩
theorem lw_p23 : lw_okq (⟨"NoFartherThanAThrow", "nextOf", "(IIII)I"⟩, 9) := ⟨⟨by decide +kernel, by decide +kernel⟩, lw_t1 (List.mem_of_getElem? (i := 37) rfl), lw_t5 (List.mem_of_getElem? (i := 152) rfl), lw_t5 (List.mem_of_getElem? (i := 153) rfl)⟩
theorem lw_p24 : lw_okq (⟨"NoFartherThanAThrow", "goesOn", "(IZ)I"⟩, 9) := ⟨⟨by decide +kernel, by decide +kernel⟩, lw_t1 (List.mem_of_getElem? (i := 37) rfl), lw_t5 (List.mem_of_getElem? (i := 161) rfl), lw_t5 (List.mem_of_getElem? (i := 162) rfl)⟩
theorem lw_p25 : lw_okq (⟨"NoFartherThanAThrow$Seeker", "gives", "(LNoFartherThanAThrow$World;I)V"⟩, 5) := ⟨⟨by decide +kernel, by decide +kernel⟩, lw_t1 (List.mem_of_getElem? (i := 63) rfl), lw_t5 (List.mem_of_getElem? (i := 174) rfl), lw_t5 (List.mem_of_getElem? (i := 175) rfl)⟩
theorem lw_p26 : lw_okq (⟨"NoFartherThanAThrow$Seeker", "isMet", "(LNoFartherThanAThrow$World;I)Z"⟩, 5) := ⟨⟨by decide +kernel, by decide +kernel⟩, lw_t1 (List.mem_of_getElem? (i := 63) rfl), lw_t5 (List.mem_of_getElem? (i := 178) rfl), lw_t5 (List.mem_of_getElem? (i := 179) rfl)⟩
theorem lw_p27 : lw_okq (⟨"NoFartherThanAThrow", "meanOf", "(III)I"⟩, 9) := ⟨⟨by decide +kernel, by decide +kernel⟩, lw_t1 (List.mem_of_getElem? (i := 37) rfl), lw_t5 (List.mem_of_getElem? (i := 212) rfl), lw_t5 (List.mem_of_getElem? (i := 213) rfl)⟩
theorem lw_p28 : lw_okq (⟨"NoFartherThanAThrow", "shelvesFollow", "()V"⟩, 9) := ⟨⟨by decide +kernel, by decide +kernel⟩, lw_t1 (List.mem_of_getElem? (i := 37) rfl), lw_t6 (List.mem_of_getElem? (i := 15) rfl), lw_t6 (List.mem_of_getElem? (i := 16) rfl)⟩
theorem lw_p29 : lw_okq (⟨"NoFartherThanAThrowModel", "isShelf", "(I)Z"⟩, 50) := ⟨⟨by decide +kernel, by decide +kernel⟩, lw_t6 (List.mem_of_getElem? (i := 123) rfl), lw_t7 (List.mem_of_getElem? (i := 44) rfl), lw_t7 (List.mem_of_getElem? (i := 45) rfl)⟩
theorem lw_p30 : lw_okq (⟨"NoFartherThanAThrowModel", "no", "(I)I"⟩, 50) := ⟨⟨by decide +kernel, by decide +kernel⟩, lw_t6 (List.mem_of_getElem? (i := 123) rfl), lw_t7 (List.mem_of_getElem? (i := 48) rfl), lw_t7 (List.mem_of_getElem? (i := 49) rfl)⟩
theorem lw_p31 : lw_okq (⟨"NoFartherThanAThrowModel", "isThing", "(I)Z"⟩, 50) := ⟨⟨by decide +kernel, by decide +kernel⟩, lw_t6 (List.mem_of_getElem? (i := 123) rfl), lw_t7 (List.mem_of_getElem? (i := 68) rfl), lw_t7 (List.mem_of_getElem? (i := 69) rfl)⟩
def lw_privs_2 : List (MethodName × Nat) := [(⟨"NoFartherThanAThrow$Reader", "step", "()I"⟩, 3), (⟨"NoFartherThanAThrow$Reader", "withW", "(I)V"⟩, 3), (⟨"NoFartherThanAThrow", "must", "(II)V"⟩, 9), (⟨"NoFartherThanAThrow", "isSet", "(I)Z"⟩, 9), (⟨"NoFartherThanAThrow", "reachOf", "(II)[I"⟩, 9), (⟨"NoFartherThanAThrow", "isDone", "(III)Z"⟩, 9), (⟨"NoFartherThanAThrow", "mustEnd", "(II)V"⟩, 9), (⟨"NoFartherThanAThrow", "nextOf", "(IIII)I"⟩, 9), (⟨"NoFartherThanAThrow", "goesOn", "(IZ)I"⟩, 9), (⟨"NoFartherThanAThrow$Seeker", "gives", "(LNoFartherThanAThrow$World;I)V"⟩, 5), (⟨"NoFartherThanAThrow$Seeker", "isMet", "(LNoFartherThanAThrow$World;I)Z"⟩, 5), (⟨"NoFartherThanAThrow", "meanOf", "(III)I"⟩, 9), (⟨"NoFartherThanAThrow", "shelvesFollow", "()V"⟩, 9), (⟨"NoFartherThanAThrowModel", "isShelf", "(I)Z"⟩, 50), (⟨"NoFartherThanAThrowModel", "no", "(I)I"⟩, 50), (⟨"NoFartherThanAThrowModel", "isThing", "(I)Z"⟩, 50)]
theorem lw_r2 : ∀ q ∈ lw_privs_2, lw_okq q := List.forall_mem_cons.mpr ⟨lw_p16, List.forall_mem_cons.mpr ⟨lw_p17, List.forall_mem_cons.mpr ⟨lw_p18, List.forall_mem_cons.mpr ⟨lw_p19, List.forall_mem_cons.mpr ⟨lw_p20, List.forall_mem_cons.mpr ⟨lw_p21, List.forall_mem_cons.mpr ⟨lw_p22, List.forall_mem_cons.mpr ⟨lw_p23, List.forall_mem_cons.mpr ⟨lw_p24, List.forall_mem_cons.mpr ⟨lw_p25, List.forall_mem_cons.mpr ⟨lw_p26, List.forall_mem_cons.mpr ⟨lw_p27, List.forall_mem_cons.mpr ⟨lw_p28, List.forall_mem_cons.mpr ⟨lw_p29, List.forall_mem_cons.mpr ⟨lw_p30, List.forall_mem_cons.mpr ⟨lw_p31, fun _ h => absurd h List.not_mem_nil⟩⟩⟩⟩⟩⟩⟩⟩⟩⟩⟩⟩⟩⟩⟩⟩
theorem lw_p32 : lw_okq (⟨"NoFartherThanAThrowModel", "farBy", "(II)I"⟩, 50) := ⟨⟨by decide +kernel, by decide +kernel⟩, lw_t6 (List.mem_of_getElem? (i := 123) rfl), lw_t7 (List.mem_of_getElem? (i := 80) rfl), lw_t7 (List.mem_of_getElem? (i := 81) rfl)⟩
theorem lw_p33 : lw_okq (⟨"NoFartherThanAThrowModel", "low", "(II)I"⟩, 50) := ⟨⟨by decide +kernel, by decide +kernel⟩, lw_t6 (List.mem_of_getElem? (i := 123) rfl), lw_t7 (List.mem_of_getElem? (i := 84) rfl), lw_t7 (List.mem_of_getElem? (i := 85) rfl)⟩
theorem lw_p34 : lw_okq (⟨"NoFartherThanAThrowModel", "isStep", "(I)Z"⟩, 50) := ⟨⟨by decide +kernel, by decide +kernel⟩, lw_t6 (List.mem_of_getElem? (i := 123) rfl), lw_t7 (List.mem_of_getElem? (i := 92) rfl), lw_t7 (List.mem_of_getElem? (i := 93) rfl)⟩
theorem lw_p35 : lw_okq (⟨"NoFartherThanAThrowModel", "isWet", "(I)Z"⟩, 50) := ⟨⟨by decide +kernel, by decide +kernel⟩, lw_t6 (List.mem_of_getElem? (i := 123) rfl), lw_t7 (List.mem_of_getElem? (i := 96) rfl), lw_t7 (List.mem_of_getElem? (i := 97) rfl)⟩
theorem lw_p36 : lw_okq (⟨"NoFartherThanAThrowModel", "things", "(IIII)I"⟩, 50) := ⟨⟨by decide +kernel, by decide +kernel⟩, lw_t6 (List.mem_of_getElem? (i := 123) rfl), lw_t7 (List.mem_of_getElem? (i := 100) rfl), lw_t7 (List.mem_of_getElem? (i := 101) rfl)⟩
theorem lw_p37 : lw_okq (⟨"NoFartherThanAThrowModel", "men", "(I)I"⟩, 50) := ⟨⟨by decide +kernel, by decide +kernel⟩, lw_t6 (List.mem_of_getElem? (i := 123) rfl), lw_t7 (List.mem_of_getElem? (i := 108) rfl), lw_t7 (List.mem_of_getElem? (i := 109) rfl)⟩
theorem lw_p38 : lw_okq (⟨"NoFartherThanAThrowModel", "wants", "(I)I"⟩, 50) := ⟨⟨by decide +kernel, by decide +kernel⟩, lw_t6 (List.mem_of_getElem? (i := 123) rfl), lw_t7 (List.mem_of_getElem? (i := 116) rfl), lw_t7 (List.mem_of_getElem? (i := 117) rfl)⟩
theorem lw_p39 : lw_okq (⟨"NoFartherThanAThrowModel", "intAt", "(II)I"⟩, 50) := ⟨⟨by decide +kernel, by decide +kernel⟩, lw_t6 (List.mem_of_getElem? (i := 123) rfl), lw_t7 (List.mem_of_getElem? (i := 120) rfl), lw_t7 (List.mem_of_getElem? (i := 121) rfl)⟩
theorem lw_p40 : lw_okq (⟨"NoFartherThanAThrowModel", "wanted", "(III)I"⟩, 50) := ⟨⟨by decide +kernel, by decide +kernel⟩, lw_t6 (List.mem_of_getElem? (i := 123) rfl), lw_t7 (List.mem_of_getElem? (i := 128) rfl), lw_t7 (List.mem_of_getElem? (i := 129) rfl)⟩
theorem lw_p41 : lw_okq (⟨"NoFartherThanAThrowModel", "isLong", "(I)Z"⟩, 50) := ⟨⟨by decide +kernel, by decide +kernel⟩, lw_t6 (List.mem_of_getElem? (i := 123) rfl), lw_t7 (List.mem_of_getElem? (i := 136) rfl), lw_t7 (List.mem_of_getElem? (i := 137) rfl)⟩
theorem lw_p42 : lw_okq (⟨"NoFartherThanAThrowModel", "isRiver", "(II)Z"⟩, 50) := ⟨⟨by decide +kernel, by decide +kernel⟩, lw_t6 (List.mem_of_getElem? (i := 123) rfl), lw_t7 (List.mem_of_getElem? (i := 144) rfl), lw_t7 (List.mem_of_getElem? (i := 145) rfl)⟩
theorem lw_p43 : lw_okq (⟨"NoFartherThanAThrowModel", "isMan", "(I)Z"⟩, 50) := ⟨⟨by decide +kernel, by decide +kernel⟩, lw_t6 (List.mem_of_getElem? (i := 123) rfl), lw_t7 (List.mem_of_getElem? (i := 156) rfl), lw_t7 (List.mem_of_getElem? (i := 157) rfl)⟩
theorem lw_p44 : lw_okq (⟨"NoFartherThanAThrowModel", "all", "([IZ)V"⟩, 50) := ⟨⟨by decide +kernel, by decide +kernel⟩, lw_t6 (List.mem_of_getElem? (i := 123) rfl), lw_t7 (List.mem_of_getElem? (i := 168) rfl), lw_t7 (List.mem_of_getElem? (i := 169) rfl)⟩
theorem lw_p45 : lw_okq (⟨"NoFartherThanAThrowModel", "keeps", "([II[IIZ)I"⟩, 50) := ⟨⟨by decide +kernel, by decide +kernel⟩, lw_t6 (List.mem_of_getElem? (i := 123) rfl), lw_t7 (List.mem_of_getElem? (i := 172) rfl), lw_t7 (List.mem_of_getElem? (i := 173) rfl)⟩
theorem lw_p46 : lw_okq (⟨"NoFartherThanAThrowModel", "item", "()Z"⟩, 50) := ⟨⟨by decide +kernel, by decide +kernel⟩, lw_t6 (List.mem_of_getElem? (i := 123) rfl), lw_t7 (List.mem_of_getElem? (i := 176) rfl), lw_t7 (List.mem_of_getElem? (i := 177) rfl)⟩
theorem lw_p47 : lw_okq (⟨"NoFartherThanAThrowModel", "isWordAt", "(I)Z"⟩, 50) := ⟨⟨by decide +kernel, by decide +kernel⟩, lw_t6 (List.mem_of_getElem? (i := 123) rfl), lw_t7 (List.mem_of_getElem? (i := 180) rfl), lw_t7 (List.mem_of_getElem? (i := 181) rfl)⟩
def lw_privs_3 : List (MethodName × Nat) := [(⟨"NoFartherThanAThrowModel", "farBy", "(II)I"⟩, 50), (⟨"NoFartherThanAThrowModel", "low", "(II)I"⟩, 50), (⟨"NoFartherThanAThrowModel", "isStep", "(I)Z"⟩, 50), (⟨"NoFartherThanAThrowModel", "isWet", "(I)Z"⟩, 50), (⟨"NoFartherThanAThrowModel", "things", "(IIII)I"⟩, 50), (⟨"NoFartherThanAThrowModel", "men", "(I)I"⟩, 50), (⟨"NoFartherThanAThrowModel", "wants", "(I)I"⟩, 50), (⟨"NoFartherThanAThrowModel", "intAt", "(II)I"⟩, 50), (⟨"NoFartherThanAThrowModel", "wanted", "(III)I"⟩, 50), (⟨"NoFartherThanAThrowModel", "isLong", "(I)Z"⟩, 50), (⟨"NoFartherThanAThrowModel", "isRiver", "(II)Z"⟩, 50), (⟨"NoFartherThanAThrowModel", "isMan", "(I)Z"⟩, 50), (⟨"NoFartherThanAThrowModel", "all", "([IZ)V"⟩, 50), (⟨"NoFartherThanAThrowModel", "keeps", "([II[IIZ)I"⟩, 50), (⟨"NoFartherThanAThrowModel", "item", "()Z"⟩, 50), (⟨"NoFartherThanAThrowModel", "isWordAt", "(I)Z"⟩, 50)]
theorem lw_r3 : ∀ q ∈ lw_privs_3, lw_okq q := List.forall_mem_cons.mpr ⟨lw_p32, List.forall_mem_cons.mpr ⟨lw_p33, List.forall_mem_cons.mpr ⟨lw_p34, List.forall_mem_cons.mpr ⟨lw_p35, List.forall_mem_cons.mpr ⟨lw_p36, List.forall_mem_cons.mpr ⟨lw_p37, List.forall_mem_cons.mpr ⟨lw_p38, List.forall_mem_cons.mpr ⟨lw_p39, List.forall_mem_cons.mpr ⟨lw_p40, List.forall_mem_cons.mpr ⟨lw_p41, List.forall_mem_cons.mpr ⟨lw_p42, List.forall_mem_cons.mpr ⟨lw_p43, List.forall_mem_cons.mpr ⟨lw_p44, List.forall_mem_cons.mpr ⟨lw_p45, List.forall_mem_cons.mpr ⟨lw_p46, List.forall_mem_cons.mpr ⟨lw_p47, fun _ h => absurd h List.not_mem_nil⟩⟩⟩⟩⟩⟩⟩⟩⟩⟩⟩⟩⟩⟩⟩⟩
theorem lw_p48 : lw_okq (⟨"NoFartherThanAThrowModel", "isFull", "(I)Z"⟩, 50) := ⟨⟨by decide +kernel, by decide +kernel⟩, lw_t6 (List.mem_of_getElem? (i := 123) rfl), lw_t7 (List.mem_of_getElem? (i := 184) rfl), lw_t7 (List.mem_of_getElem? (i := 185) rfl)⟩
theorem lw_p49 : lw_okq (⟨"NoFartherThanAThrowModel", "wrong", "(I)Z"⟩, 50) := ⟨⟨by decide +kernel, by decide +kernel⟩, lw_t6 (List.mem_of_getElem? (i := 123) rfl), lw_t7 (List.mem_of_getElem? (i := 188) rfl), lw_t7 (List.mem_of_getElem? (i := 189) rfl)⟩
theorem lw_p50 : lw_okq (⟨"NoFartherThanAThrowModel", "word", "()I"⟩, 50) := ⟨⟨by decide +kernel, by decide +kernel⟩, lw_t6 (List.mem_of_getElem? (i := 123) rfl), lw_t7 (List.mem_of_getElem? (i := 192) rfl), lw_t7 (List.mem_of_getElem? (i := 193) rfl)⟩
theorem lw_p51 : lw_okq (⟨"NoFartherThanAThrowModel", "number", "(II)Z"⟩, 50) := ⟨⟨by decide +kernel, by decide +kernel⟩, lw_t6 (List.mem_of_getElem? (i := 123) rfl), lw_t7 (List.mem_of_getElem? (i := 196) rfl), lw_t7 (List.mem_of_getElem? (i := 197) rfl)⟩
theorem lw_p52 : lw_okq (⟨"NoFartherThanAThrowModel", "isDigit", "()Z"⟩, 50) := ⟨⟨by decide +kernel, by decide +kernel⟩, lw_t6 (List.mem_of_getElem? (i := 123) rfl), lw_t7 (List.mem_of_getElem? (i := 200) rfl), lw_t7 (List.mem_of_getElem? (i := 201) rfl)⟩
theorem lw_p53 : lw_okq (⟨"NoFartherThanAThrowModel", "isFit", "(II)Z"⟩, 50) := ⟨⟨by decide +kernel, by decide +kernel⟩, lw_t6 (List.mem_of_getElem? (i := 123) rfl), lw_t7 (List.mem_of_getElem? (i := 204) rfl), lw_t7 (List.mem_of_getElem? (i := 205) rfl)⟩
theorem lw_p54 : lw_okq (⟨"NoFartherThanAThrowModel", "farOf", "(II)I"⟩, 50) := ⟨⟨by decide +kernel, by decide +kernel⟩, lw_t6 (List.mem_of_getElem? (i := 123) rfl), lw_t7 (List.mem_of_getElem? (i := 216) rfl), lw_t7 (List.mem_of_getElem? (i := 217) rfl)⟩
theorem lw_p55 : lw_okq (⟨"NoFartherThanAThrowModel", "near", "(I)I"⟩, 50) := ⟨⟨by decide +kernel, by decide +kernel⟩, lw_t6 (List.mem_of_getElem? (i := 123) rfl), lw_t7 (List.mem_of_getElem? (i := 224) rfl), lw_t7 (List.mem_of_getElem? (i := 225) rfl)⟩
theorem lw_p56 : lw_okq (⟨"NoFartherThanAThrowModel", "wrongBy", "(III)I"⟩, 50) := ⟨⟨by decide +kernel, by decide +kernel⟩, lw_t6 (List.mem_of_getElem? (i := 123) rfl), lw_t7 (List.mem_of_getElem? (i := 228) rfl), lw_t7 (List.mem_of_getElem? (i := 229) rfl)⟩
theorem lw_p57 : lw_okq (⟨"NoFartherThanAThrowModel", "carries", "(III)V"⟩, 50) := ⟨⟨by decide +kernel, by decide +kernel⟩, lw_t6 (List.mem_of_getElem? (i := 123) rfl), lw_t7 (List.mem_of_getElem? (i := 236) rfl), lw_t7 (List.mem_of_getElem? (i := 237) rfl)⟩
theorem lw_p58 : lw_okq (⟨"NoFartherThanAThrowModel", "tires", "(II)V"⟩, 50) := ⟨⟨by decide +kernel, by decide +kernel⟩, lw_t6 (List.mem_of_getElem? (i := 123) rfl), lw_t8 (List.mem_of_getElem? (i := 0) rfl), lw_t8 (List.mem_of_getElem? (i := 1) rfl)⟩
theorem lw_p59 : lw_okq (⟨"NoFartherThanAThrowModel", "isSet", "(I)Z"⟩, 50) := ⟨⟨by decide +kernel, by decide +kernel⟩, lw_t6 (List.mem_of_getElem? (i := 123) rfl), lw_t8 (List.mem_of_getElem? (i := 12) rfl), lw_t8 (List.mem_of_getElem? (i := 13) rfl)⟩
theorem lw_p60 : lw_okq (⟨"NoFartherThanAThrowModel", "rowsFor", "(II)V"⟩, 50) := ⟨⟨by decide +kernel, by decide +kernel⟩, lw_t6 (List.mem_of_getElem? (i := 123) rfl), lw_t8 (List.mem_of_getElem? (i := 16) rfl), lw_t8 (List.mem_of_getElem? (i := 17) rfl)⟩
theorem lw_p61 : lw_okq (⟨"NoFartherThanAThrowModel", "rows", "(III)V"⟩, 50) := ⟨⟨by decide +kernel, by decide +kernel⟩, lw_t6 (List.mem_of_getElem? (i := 123) rfl), lw_t8 (List.mem_of_getElem? (i := 20) rfl), lw_t8 (List.mem_of_getElem? (i := 21) rfl)⟩
theorem lw_p62 : lw_okq (⟨"NoFartherThanAThrowModel", "goes", "(III)I"⟩, 50) := ⟨⟨by decide +kernel, by decide +kernel⟩, lw_t6 (List.mem_of_getElem? (i := 123) rfl), lw_t8 (List.mem_of_getElem? (i := 24) rfl), lw_t8 (List.mem_of_getElem? (i := 25) rfl)⟩
theorem lw_p63 : lw_okq (⟨"NoFartherThanAThrowModel", "isOnward", "(II)Z"⟩, 50) := ⟨⟨by decide +kernel, by decide +kernel⟩, lw_t6 (List.mem_of_getElem? (i := 123) rfl), lw_t8 (List.mem_of_getElem? (i := 32) rfl), lw_t8 (List.mem_of_getElem? (i := 33) rfl)⟩
def lw_privs_4 : List (MethodName × Nat) := [(⟨"NoFartherThanAThrowModel", "isFull", "(I)Z"⟩, 50), (⟨"NoFartherThanAThrowModel", "wrong", "(I)Z"⟩, 50), (⟨"NoFartherThanAThrowModel", "word", "()I"⟩, 50), (⟨"NoFartherThanAThrowModel", "number", "(II)Z"⟩, 50), (⟨"NoFartherThanAThrowModel", "isDigit", "()Z"⟩, 50), (⟨"NoFartherThanAThrowModel", "isFit", "(II)Z"⟩, 50), (⟨"NoFartherThanAThrowModel", "farOf", "(II)I"⟩, 50), (⟨"NoFartherThanAThrowModel", "near", "(I)I"⟩, 50), (⟨"NoFartherThanAThrowModel", "wrongBy", "(III)I"⟩, 50), (⟨"NoFartherThanAThrowModel", "carries", "(III)V"⟩, 50), (⟨"NoFartherThanAThrowModel", "tires", "(II)V"⟩, 50), (⟨"NoFartherThanAThrowModel", "isSet", "(I)Z"⟩, 50), (⟨"NoFartherThanAThrowModel", "rowsFor", "(II)V"⟩, 50), (⟨"NoFartherThanAThrowModel", "rows", "(III)V"⟩, 50), (⟨"NoFartherThanAThrowModel", "goes", "(III)I"⟩, 50), (⟨"NoFartherThanAThrowModel", "isOnward", "(II)Z"⟩, 50)]
theorem lw_r4 : ∀ q ∈ lw_privs_4, lw_okq q := List.forall_mem_cons.mpr ⟨lw_p48, List.forall_mem_cons.mpr ⟨lw_p49, List.forall_mem_cons.mpr ⟨lw_p50, List.forall_mem_cons.mpr ⟨lw_p51, List.forall_mem_cons.mpr ⟨lw_p52, List.forall_mem_cons.mpr ⟨lw_p53, List.forall_mem_cons.mpr ⟨lw_p54, List.forall_mem_cons.mpr ⟨lw_p55, List.forall_mem_cons.mpr ⟨lw_p56, List.forall_mem_cons.mpr ⟨lw_p57, List.forall_mem_cons.mpr ⟨lw_p58, List.forall_mem_cons.mpr ⟨lw_p59, List.forall_mem_cons.mpr ⟨lw_p60, List.forall_mem_cons.mpr ⟨lw_p61, List.forall_mem_cons.mpr ⟨lw_p62, List.forall_mem_cons.mpr ⟨lw_p63, fun _ h => absurd h List.not_mem_nil⟩⟩⟩⟩⟩⟩⟩⟩⟩⟩⟩⟩⟩⟩⟩⟩
theorem lw_p64 : lw_okq (⟨"NoFartherThanAThrowModel", "count", "(I)I"⟩, 50) := ⟨⟨by decide +kernel, by decide +kernel⟩, lw_t6 (List.mem_of_getElem? (i := 123) rfl), lw_t8 (List.mem_of_getElem? (i := 40) rfl), lw_t8 (List.mem_of_getElem? (i := 41) rfl)⟩
theorem lw_p65 : lw_okq (⟨"NoFartherThanAThrowModel", "noTen", "(I)I"⟩, 50) := ⟨⟨by decide +kernel, by decide +kernel⟩, lw_t6 (List.mem_of_getElem? (i := 123) rfl), lw_t8 (List.mem_of_getElem? (i := 52) rfl), lw_t8 (List.mem_of_getElem? (i := 53) rfl)⟩
theorem lw_p66 : lw_okq (⟨"NoFartherThanAThrowModel", "shareAll", "()V"⟩, 50) := ⟨⟨by decide +kernel, by decide +kernel⟩, lw_t6 (List.mem_of_getElem? (i := 123) rfl), lw_t8 (List.mem_of_getElem? (i := 60) rfl), lw_t8 (List.mem_of_getElem? (i := 61) rfl)⟩
theorem lw_p67 : lw_okq (⟨"NoFartherThanAThrowModel", "shares", "(I)V"⟩, 50) := ⟨⟨by decide +kernel, by decide +kernel⟩, lw_t6 (List.mem_of_getElem? (i := 123) rfl), lw_t8 (List.mem_of_getElem? (i := 64) rfl), lw_t8 (List.mem_of_getElem? (i := 65) rfl)⟩
theorem lw_p68 : lw_okq (⟨"NoFartherThanAThrowModel", "worthOf", "()I"⟩, 50) := ⟨⟨by decide +kernel, by decide +kernel⟩, lw_t6 (List.mem_of_getElem? (i := 123) rfl), lw_t8 (List.mem_of_getElem? (i := 68) rfl), lw_t8 (List.mem_of_getElem? (i := 69) rfl)⟩
theorem lw_p69 : lw_okq (⟨"NoFartherThanAThrowModel", "isFar", "(I)Z"⟩, 50) := ⟨⟨by decide +kernel, by decide +kernel⟩, lw_t6 (List.mem_of_getElem? (i := 123) rfl), lw_t8 (List.mem_of_getElem? (i := 92) rfl), lw_t8 (List.mem_of_getElem? (i := 93) rfl)⟩
theorem lw_p70 : lw_okq (⟨"NoFartherThanAThrowModel", "caughtBy", "(III)I"⟩, 50) := ⟨⟨by decide +kernel, by decide +kernel⟩, lw_t6 (List.mem_of_getElem? (i := 123) rfl), lw_t8 (List.mem_of_getElem? (i := 96) rfl), lw_t8 (List.mem_of_getElem? (i := 97) rfl)⟩
theorem lw_p71 : lw_okq (⟨"NoFartherThanAThrowModel", "meanOf", "(III)I"⟩, 50) := ⟨⟨by decide +kernel, by decide +kernel⟩, lw_t6 (List.mem_of_getElem? (i := 123) rfl), lw_t8 (List.mem_of_getElem? (i := 104) rfl), lw_t8 (List.mem_of_getElem? (i := 105) rfl)⟩
theorem lw_p72 : lw_okq (⟨"NoFartherThanAThrowModel", "isThrow", "(III)Z"⟩, 50) := ⟨⟨by decide +kernel, by decide +kernel⟩, lw_t6 (List.mem_of_getElem? (i := 123) rfl), lw_t8 (List.mem_of_getElem? (i := 108) rfl), lw_t8 (List.mem_of_getElem? (i := 109) rfl)⟩
theorem lw_p73 : lw_okq (⟨"NoFartherThanAThrowModel", "draw", "(I)I"⟩, 50) := ⟨⟨by decide +kernel, by decide +kernel⟩, lw_t6 (List.mem_of_getElem? (i := 123) rfl), lw_t8 (List.mem_of_getElem? (i := 120) rfl), lw_t8 (List.mem_of_getElem? (i := 121) rfl)⟩
theorem lw_p74 : lw_okq (⟨"NoFartherThanAThrowModel", "going", "(II)I"⟩, 50) := ⟨⟨by decide +kernel, by decide +kernel⟩, lw_t6 (List.mem_of_getElem? (i := 123) rfl), lw_t8 (List.mem_of_getElem? (i := 141) rfl), lw_t8 (List.mem_of_getElem? (i := 142) rfl)⟩
theorem lw_p75 : lw_okq (⟨"NoFartherThanAThrowModel", "body", "(I)V"⟩, 50) := ⟨⟨by decide +kernel, by decide +kernel⟩, lw_t6 (List.mem_of_getElem? (i := 123) rfl), lw_t8 (List.mem_of_getElem? (i := 145) rfl), lw_t8 (List.mem_of_getElem? (i := 146) rfl)⟩
theorem lw_p76 : lw_okq (⟨"NoFartherThanAThrowModel", "resting", "(II)I"⟩, 50) := ⟨⟨by decide +kernel, by decide +kernel⟩, lw_t6 (List.mem_of_getElem? (i := 123) rfl), lw_t8 (List.mem_of_getElem? (i := 149) rfl), lw_t8 (List.mem_of_getElem? (i := 150) rfl)⟩
theorem lw_p77 : lw_okq (⟨"NoFartherThanAThrowModel", "falling", "(II)I"⟩, 50) := ⟨⟨by decide +kernel, by decide +kernel⟩, lw_t6 (List.mem_of_getElem? (i := 123) rfl), lw_t8 (List.mem_of_getElem? (i := 153) rfl), lw_t8 (List.mem_of_getElem? (i := 154) rfl)⟩
def lw_privs_5 : List (MethodName × Nat) := [(⟨"NoFartherThanAThrowModel", "count", "(I)I"⟩, 50), (⟨"NoFartherThanAThrowModel", "noTen", "(I)I"⟩, 50), (⟨"NoFartherThanAThrowModel", "shareAll", "()V"⟩, 50), (⟨"NoFartherThanAThrowModel", "shares", "(I)V"⟩, 50), (⟨"NoFartherThanAThrowModel", "worthOf", "()I"⟩, 50), (⟨"NoFartherThanAThrowModel", "isFar", "(I)Z"⟩, 50), (⟨"NoFartherThanAThrowModel", "caughtBy", "(III)I"⟩, 50), (⟨"NoFartherThanAThrowModel", "meanOf", "(III)I"⟩, 50), (⟨"NoFartherThanAThrowModel", "isThrow", "(III)Z"⟩, 50), (⟨"NoFartherThanAThrowModel", "draw", "(I)I"⟩, 50), (⟨"NoFartherThanAThrowModel", "going", "(II)I"⟩, 50), (⟨"NoFartherThanAThrowModel", "body", "(I)V"⟩, 50), (⟨"NoFartherThanAThrowModel", "resting", "(II)I"⟩, 50), (⟨"NoFartherThanAThrowModel", "falling", "(II)I"⟩, 50)]
theorem lw_r5 : ∀ q ∈ lw_privs_5, lw_okq q := List.forall_mem_cons.mpr ⟨lw_p64, List.forall_mem_cons.mpr ⟨lw_p65, List.forall_mem_cons.mpr ⟨lw_p66, List.forall_mem_cons.mpr ⟨lw_p67, List.forall_mem_cons.mpr ⟨lw_p68, List.forall_mem_cons.mpr ⟨lw_p69, List.forall_mem_cons.mpr ⟨lw_p70, List.forall_mem_cons.mpr ⟨lw_p71, List.forall_mem_cons.mpr ⟨lw_p72, List.forall_mem_cons.mpr ⟨lw_p73, List.forall_mem_cons.mpr ⟨lw_p74, List.forall_mem_cons.mpr ⟨lw_p75, List.forall_mem_cons.mpr ⟨lw_p76, List.forall_mem_cons.mpr ⟨lw_p77, fun _ h => absurd h List.not_mem_nil⟩⟩⟩⟩⟩⟩⟩⟩⟩⟩⟩⟩⟩⟩
def lw_privs : List (MethodName × Nat) := lw_privs_1 ++ (lw_privs_2 ++ (lw_privs_3 ++ (lw_privs_4 ++ (lw_privs_5))))
def lw_tbl : List Cond := k2_sels lw_privs ++ tables_1
theorem lw_privs_ok : ∀ q ∈ lw_privs, lw_okq q := by
  show ∀ q ∈ lw_privs_1 ++ (lw_privs_2 ++ (lw_privs_3 ++ (lw_privs_4 ++ (lw_privs_5)))), lw_okq q
  exact List.forall_mem_append.mpr ⟨lw_r1, List.forall_mem_append.mpr ⟨lw_r2, List.forall_mem_append.mpr ⟨lw_r3, List.forall_mem_append.mpr ⟨lw_r4, lw_r5⟩⟩⟩⟩
-- ===== ONE list of words for every method: the tables' words that hold all through a run =====
def lw_all : List Cond := lw_tbl.filter goodWord
/-- a word of the tables by its place: claim/WORDS.tsv -/
theorem lw_w {w : Cond} (i : Nat) (h : lw_tbl[i]? = some w) (g : goodWord w = true) : w ∈ lw_all := List.mem_filter.mpr ⟨List.mem_of_getElem? h, g⟩
theorem lw_all_tbl {w : Cond} (h : w ∈ lw_all) : w ∈ lw_tbl := (List.mem_filter.mp h).1
theorem lw_self : GoodIn lw_all lw_all := fun w h => ⟨h, good_of_word (List.mem_filter.mp h).2⟩
/-- a class's field words, by their places -/
theorem lw_in (ws : List Cond) (ps : List Nat) (hp : ws = ps.filterMap (fun i => lw_tbl[i]?)) (hg : ws.all goodWord = true) : ∀ w ∈ ws, w ∈ lw_all := by
  intro w h
  have h1 := List.all_eq_true.mp hg w h
  rw [hp] at h
  obtain ⟨i, -, hi⟩ := List.mem_filterMap.mp h
  exact lw_w i hi h1
/-- the words of a contract for the method y with code b, L locals, answer r -/
abbrev ws_ (y : MethodName) (b : ByteArray) (L : Nat) (r : Option FieldType) : List Cond := Cond.code y b L r :: lw_all
theorem lw_meth {y : MethodName} {b : ByteArray} {L : Nat} {r : Option FieldType} (h : Cond.code y b L r ∈ lw_all) : GoodIn lw_all (ws_ y b L r) := by
  intro w hw
  rcases List.mem_cons.mp hw with e | e
  · rw [e]
    exact lw_self _ h
  · exact lw_self _ e
theorem lw_app {a c : List Cond} (ha : ∀ w ∈ a, w ∈ lw_all) (hc : GoodIn lw_all c) : GoodIn lw_all (a ++ c) := by
  intro w hw
  rcases List.mem_append.mp hw with e | e
  · exact lw_self w (ha w e)
  · exact hc w e
/-- what a call through an object asks: cwV n hts (lw_V ..) -/
theorem lw_V {own : String} {idx : Nat} {C : String} {y : MethodName} {b : ByteArray} {L : Nat} {r : Option FieldType} (h1 : Cond.methodLink own idx y ∈ lw_all) (h2 : Cond.instanceMethod y ∈ lw_all) (h3 : Cond.selects C y y ∈ lw_all) (h4 : Cond.initialized C ∈ lw_all) (h5 : Cond.code y b L r ∈ lw_all) : GoodIn lw_all (wsV own idx C y (ws_ y b L r)) := by
  refine lw_app ?_ (lw_meth h5)
  intro w hw
  simp only [List.mem_cons, List.not_mem_nil, or_false] at hw
  rcases hw with e | e | e | e
  · rw [e]; exact h1
  · rw [e]; exact h2
  · rw [e]; exact h3
  · rw [e]; exact h4
/-- what a static call asks: va_cwS n hts (lw_S ..) -/
theorem lw_S {own : String} {idx : Nat} {y : MethodName} {b : ByteArray} {L : Nat} {r : Option FieldType} (h1 : Cond.methodLink own idx y ∈ lw_all) (h2 : Cond.static y ∈ lw_all) (h3 : Cond.initialized y.cls ∈ lw_all) (h4 : Cond.code y b L r ∈ lw_all) : GoodIn lw_all (va_wsS own idx y (ws_ y b L r)) := by
  refine lw_app ?_ (lw_meth h4)
  intro w hw
  simp only [List.mem_cons, List.not_mem_nil, or_false] at hw
  rcases hw with e | e | e
  · rw [e]; exact h1
  · rw [e]; exact h2
  · rw [e]; exact h3
/-- the words of a contract for a method WITH HANDLERS (hh: its table) -/
abbrev wsW_ (y : MethodName) (b : ByteArray) (L : Nat) (r : Option FieldType) (hh : List (Nat × Nat × Nat × Nat)) : List Cond := Cond.codeWith y b L r hh :: lw_all
theorem lw_methW {y : MethodName} {b : ByteArray} {L : Nat} {r : Option FieldType} {hh : List (Nat × Nat × Nat × Nat)} (h : Cond.codeWith y b L r hh ∈ lw_all) : GoodIn lw_all (wsW_ y b L r hh) := by
  intro w hw
  rcases List.mem_cons.mp hw with e | e
  · rw [e]
    exact lw_self _ h
  · exact lw_self _ e
/-- any list of words by their places (lw_in), good -/
theorem lw_good {ws : List Cond} (h : ∀ w ∈ ws, w ∈ lw_all) : GoodIn lw_all ws := fun w hw => lw_self w (h w hw)
/-- what a call of a method with handlers asks: vx_cwVW n hts (lw_VW ..), vx_cwSW n hts (lw_SW ..) -/
theorem lw_VW {own : String} {idx : Nat} {C : String} {y : MethodName} {b : ByteArray} {L : Nat} {r : Option FieldType} {hh : List (Nat × Nat × Nat × Nat)} (h1 : Cond.methodLink own idx y ∈ lw_all) (h2 : Cond.instanceMethod y ∈ lw_all) (h3 : Cond.selects C y y ∈ lw_all) (h4 : Cond.initialized C ∈ lw_all) (h5 : Cond.codeWith y b L r hh ∈ lw_all) : GoodIn lw_all (wsV own idx C y (wsW_ y b L r hh)) := by
  refine lw_app ?_ (lw_methW h5)
  intro w hw
  simp only [List.mem_cons, List.not_mem_nil, or_false] at hw
  rcases hw with e | e | e | e
  · rw [e]; exact h1
  · rw [e]; exact h2
  · rw [e]; exact h3
  · rw [e]; exact h4
theorem lw_SW {own : String} {idx : Nat} {y : MethodName} {b : ByteArray} {L : Nat} {r : Option FieldType} {hh : List (Nat × Nat × Nat × Nat)} (h1 : Cond.methodLink own idx y ∈ lw_all) (h2 : Cond.static y ∈ lw_all) (h3 : Cond.initialized y.cls ∈ lw_all) (h4 : Cond.codeWith y b L r hh ∈ lw_all) : GoodIn lw_all (va_wsS own idx y (wsW_ y b L r hh)) := by
  refine lw_app ?_ (lw_methW h4)
  intro w hw
  simp only [List.mem_cons, List.not_mem_nil, or_false] at hw
  rcases hw with e | e | e
  · rw [e]; exact h1
  · rw [e]; exact h2
  · rw [e]; exact h3
/-- a word by its place in its run of the tables -/
theorem lw_at {r : List Cond} (hr : ∀ w ∈ r, w ∈ lw_tbl) {w : Cond} (i : Nat) (h : r[i]? = some w) : w ∈ lw_tbl := hr w (List.mem_of_getElem? h)
theorem lw_g {w : Cond} (h : w ∈ lw_tbl) (g : goodWord w = true) : w ∈ lw_all := List.mem_filter.mpr ⟨h, g⟩
theorem lw_ms : ∀ w ∈ k2_sels lw_privs, w ∈ lw_tbl := fun w h => show w ∈ k2_sels lw_privs ++ tables_1 from List.mem_append_left _ h
theorem lw_m1 : ∀ w ∈ tables_1_1, w ∈ lw_tbl := fun w h => show w ∈ k2_sels lw_privs ++ tables_1 from List.mem_append_right (k2_sels lw_privs) (show w ∈ tables_1 from List.mem_append_left _ h)
theorem lw_m2 : ∀ w ∈ tables_1_2, w ∈ lw_tbl := fun w h => show w ∈ k2_sels lw_privs ++ tables_1 from List.mem_append_right (k2_sels lw_privs) (show w ∈ tables_1 from List.mem_append_right _ (List.mem_append_left _ h))
theorem lw_m3 : ∀ w ∈ tables_1_3, w ∈ lw_tbl := fun w h => show w ∈ k2_sels lw_privs ++ tables_1 from List.mem_append_right (k2_sels lw_privs) (show w ∈ tables_1 from List.mem_append_right _ (List.mem_append_right _ (List.mem_append_left _ h)))
theorem lw_m4 : ∀ w ∈ tables_1_4, w ∈ lw_tbl := fun w h => show w ∈ k2_sels lw_privs ++ tables_1 from List.mem_append_right (k2_sels lw_privs) (show w ∈ tables_1 from List.mem_append_right _ (List.mem_append_right _ (List.mem_append_right _ (List.mem_append_left _ h))))
theorem lw_m5 : ∀ w ∈ tables_1_5, w ∈ lw_tbl := fun w h => show w ∈ k2_sels lw_privs ++ tables_1 from List.mem_append_right (k2_sels lw_privs) (show w ∈ tables_1 from List.mem_append_right _ (List.mem_append_right _ (List.mem_append_right _ (List.mem_append_right _ (List.mem_append_left _ h)))))
theorem lw_m6 : ∀ w ∈ tables_1_6, w ∈ lw_tbl := fun w h => show w ∈ k2_sels lw_privs ++ tables_1 from List.mem_append_right (k2_sels lw_privs) (show w ∈ tables_1 from List.mem_append_right _ (List.mem_append_right _ (List.mem_append_right _ (List.mem_append_right _ (List.mem_append_right _ (List.mem_append_left _ h))))))
theorem lw_m7 : ∀ w ∈ tables_1_7, w ∈ lw_tbl := fun w h => show w ∈ k2_sels lw_privs ++ tables_1 from List.mem_append_right (k2_sels lw_privs) (show w ∈ tables_1 from List.mem_append_right _ (List.mem_append_right _ (List.mem_append_right _ (List.mem_append_right _ (List.mem_append_right _ (List.mem_append_right _ (List.mem_append_left _ h)))))))
theorem lw_m8 : ∀ w ∈ tables_1_8, w ∈ lw_tbl := fun w h => show w ∈ k2_sels lw_privs ++ tables_1 from List.mem_append_right (k2_sels lw_privs) (show w ∈ tables_1 from List.mem_append_right _ (List.mem_append_right _ (List.mem_append_right _ (List.mem_append_right _ (List.mem_append_right _ (List.mem_append_right _ (List.mem_append_right _ h)))))))
theorem qs0 : (Cond.selects "NoFartherThanAThrow" ⟨"NoFartherThanAThrow", "shelf", "(I)LNoFartherThanAThrow$Shelf;"⟩ ⟨"NoFartherThanAThrow", "shelf", "(I)LNoFartherThanAThrow$Shelf;"⟩) ∈ lw_all := lw_g (lw_at lw_ms 0 rfl) rfl
theorem qs1 : (Cond.selects "java/lang/Throwable" ⟨"java/lang/Throwable", "fillInStackTrace", "(I)Ljava/lang/Throwable;"⟩ ⟨"java/lang/Throwable", "fillInStackTrace", "(I)Ljava/lang/Throwable;"⟩) ∈ lw_all := lw_g (lw_at lw_ms 1 rfl) rfl
theorem qs2 : (Cond.selects "NoFartherThanAThrow" ⟨"NoFartherThanAThrow", "refused", "(LNoFartherThanAThrow$Refused;)I"⟩ ⟨"NoFartherThanAThrow", "refused", "(LNoFartherThanAThrow$Refused;)I"⟩) ∈ lw_all := lw_g (lw_at lw_ms 2 rfl) rfl
theorem qs3 : (Cond.selects "NoFartherThanAThrow" ⟨"NoFartherThanAThrow", "thingAt", "(I)LNoFartherThanAThrow$Thing;"⟩ ⟨"NoFartherThanAThrow", "thingAt", "(I)LNoFartherThanAThrow$Thing;"⟩) ∈ lw_all := lw_g (lw_at lw_ms 3 rfl) rfl
theorem qs4 : (Cond.selects "NoFartherThanAThrow" ⟨"NoFartherThanAThrow", "isThing", "(I)Z"⟩ ⟨"NoFartherThanAThrow", "isThing", "(I)Z"⟩) ∈ lw_all := lw_g (lw_at lw_ms 4 rfl) rfl
theorem qs5 : (Cond.selects "NoFartherThanAThrow" ⟨"NoFartherThanAThrow", "addMan", "(I)V"⟩ ⟨"NoFartherThanAThrow", "addMan", "(I)V"⟩) ∈ lw_all := lw_g (lw_at lw_ms 5 rfl) rfl
theorem qs6 : (Cond.selects "NoFartherThanAThrow" ⟨"NoFartherThanAThrow", "beyond", "()I"⟩ ⟨"NoFartherThanAThrow", "beyond", "()I"⟩) ∈ lw_all := lw_g (lw_at lw_ms 6 rfl) rfl
theorem qs7 : (Cond.selects "NoFartherThanAThrow" ⟨"NoFartherThanAThrow", "isMan", "(I)Z"⟩ ⟨"NoFartherThanAThrow", "isMan", "(I)Z"⟩) ∈ lw_all := lw_g (lw_at lw_ms 7 rfl) rfl
theorem qs8 : (Cond.selects "NoFartherThanAThrow$Reader" ⟨"NoFartherThanAThrow$Reader", "item", "()V"⟩ ⟨"NoFartherThanAThrow$Reader", "item", "()V"⟩) ∈ lw_all := lw_g (lw_at lw_ms 8 rfl) rfl
theorem qs9 : (Cond.selects "NoFartherThanAThrow$Reader" ⟨"NoFartherThanAThrow$Reader", "sees", "(I)Z"⟩ ⟨"NoFartherThanAThrow$Reader", "sees", "(I)Z"⟩) ∈ lw_all := lw_g (lw_at lw_ms 9 rfl) rfl
theorem qs10 : (Cond.selects "NoFartherThanAThrow$Reader" ⟨"NoFartherThanAThrow$Reader", "ends", "()Z"⟩ ⟨"NoFartherThanAThrow$Reader", "ends", "()Z"⟩) ∈ lw_all := lw_g (lw_at lw_ms 10 rfl) rfl
theorem qs11 : (Cond.selects "NoFartherThanAThrow$Reader" ⟨"NoFartherThanAThrow$Reader", "word", "(Ljava/lang/String;)V"⟩ ⟨"NoFartherThanAThrow$Reader", "word", "(Ljava/lang/String;)V"⟩) ∈ lw_all := lw_g (lw_at lw_ms 11 rfl) rfl
theorem qs12 : (Cond.selects "NoFartherThanAThrow$Reader" ⟨"NoFartherThanAThrow$Reader", "must", "(I)V"⟩ ⟨"NoFartherThanAThrow$Reader", "must", "(I)V"⟩) ∈ lw_all := lw_g (lw_at lw_ms 12 rfl) rfl
theorem qs13 : (Cond.selects "NoFartherThanAThrow$Reader" ⟨"NoFartherThanAThrow$Reader", "hasRoom", "(ZI)V"⟩ ⟨"NoFartherThanAThrow$Reader", "hasRoom", "(ZI)V"⟩) ∈ lw_all := lw_g (lw_at lw_ms 13 rfl) rfl
theorem qs14 : (Cond.selects "NoFartherThanAThrow$Reader" ⟨"NoFartherThanAThrow$Reader", "number", "(II)I"⟩ ⟨"NoFartherThanAThrow$Reader", "number", "(II)I"⟩) ∈ lw_all := lw_g (lw_at lw_ms 14 rfl) rfl
theorem qs15 : (Cond.selects "NoFartherThanAThrow$Reader" ⟨"NoFartherThanAThrow$Reader", "digit", "()Z"⟩ ⟨"NoFartherThanAThrow$Reader", "digit", "()Z"⟩) ∈ lw_all := lw_g (lw_at lw_ms 15 rfl) rfl
theorem qs16 : (Cond.selects "NoFartherThanAThrow$Reader" ⟨"NoFartherThanAThrow$Reader", "step", "()I"⟩ ⟨"NoFartherThanAThrow$Reader", "step", "()I"⟩) ∈ lw_all := lw_g (lw_at lw_ms 16 rfl) rfl
theorem qs17 : (Cond.selects "NoFartherThanAThrow$Reader" ⟨"NoFartherThanAThrow$Reader", "withW", "(I)V"⟩ ⟨"NoFartherThanAThrow$Reader", "withW", "(I)V"⟩) ∈ lw_all := lw_g (lw_at lw_ms 17 rfl) rfl
theorem qs18 : (Cond.selects "NoFartherThanAThrow" ⟨"NoFartherThanAThrow", "must", "(II)V"⟩ ⟨"NoFartherThanAThrow", "must", "(II)V"⟩) ∈ lw_all := lw_g (lw_at lw_ms 18 rfl) rfl
theorem qs19 : (Cond.selects "NoFartherThanAThrow" ⟨"NoFartherThanAThrow", "isSet", "(I)Z"⟩ ⟨"NoFartherThanAThrow", "isSet", "(I)Z"⟩) ∈ lw_all := lw_g (lw_at lw_ms 19 rfl) rfl
theorem qs20 : (Cond.selects "NoFartherThanAThrow" ⟨"NoFartherThanAThrow", "reachOf", "(II)[I"⟩ ⟨"NoFartherThanAThrow", "reachOf", "(II)[I"⟩) ∈ lw_all := lw_g (lw_at lw_ms 20 rfl) rfl
theorem qs21 : (Cond.selects "NoFartherThanAThrow" ⟨"NoFartherThanAThrow", "isDone", "(III)Z"⟩ ⟨"NoFartherThanAThrow", "isDone", "(III)Z"⟩) ∈ lw_all := lw_g (lw_at lw_ms 21 rfl) rfl
theorem qs22 : (Cond.selects "NoFartherThanAThrow" ⟨"NoFartherThanAThrow", "mustEnd", "(II)V"⟩ ⟨"NoFartherThanAThrow", "mustEnd", "(II)V"⟩) ∈ lw_all := lw_g (lw_at lw_ms 22 rfl) rfl
theorem qs23 : (Cond.selects "NoFartherThanAThrow" ⟨"NoFartherThanAThrow", "nextOf", "(IIII)I"⟩ ⟨"NoFartherThanAThrow", "nextOf", "(IIII)I"⟩) ∈ lw_all := lw_g (lw_at lw_ms 23 rfl) rfl
theorem qs24 : (Cond.selects "NoFartherThanAThrow" ⟨"NoFartherThanAThrow", "goesOn", "(IZ)I"⟩ ⟨"NoFartherThanAThrow", "goesOn", "(IZ)I"⟩) ∈ lw_all := lw_g (lw_at lw_ms 24 rfl) rfl
theorem qs25 : (Cond.selects "NoFartherThanAThrow$Seeker" ⟨"NoFartherThanAThrow$Seeker", "gives", "(LNoFartherThanAThrow$World;I)V"⟩ ⟨"NoFartherThanAThrow$Seeker", "gives", "(LNoFartherThanAThrow$World;I)V"⟩) ∈ lw_all := lw_g (lw_at lw_ms 25 rfl) rfl
theorem qs26 : (Cond.selects "NoFartherThanAThrow$Seeker" ⟨"NoFartherThanAThrow$Seeker", "isMet", "(LNoFartherThanAThrow$World;I)Z"⟩ ⟨"NoFartherThanAThrow$Seeker", "isMet", "(LNoFartherThanAThrow$World;I)Z"⟩) ∈ lw_all := lw_g (lw_at lw_ms 26 rfl) rfl
theorem qs27 : (Cond.selects "NoFartherThanAThrow" ⟨"NoFartherThanAThrow", "meanOf", "(III)I"⟩ ⟨"NoFartherThanAThrow", "meanOf", "(III)I"⟩) ∈ lw_all := lw_g (lw_at lw_ms 27 rfl) rfl
theorem qs28 : (Cond.selects "NoFartherThanAThrow" ⟨"NoFartherThanAThrow", "shelvesFollow", "()V"⟩ ⟨"NoFartherThanAThrow", "shelvesFollow", "()V"⟩) ∈ lw_all := lw_g (lw_at lw_ms 28 rfl) rfl
theorem qs29 : (Cond.selects "NoFartherThanAThrowModel" ⟨"NoFartherThanAThrowModel", "isShelf", "(I)Z"⟩ ⟨"NoFartherThanAThrowModel", "isShelf", "(I)Z"⟩) ∈ lw_all := lw_g (lw_at lw_ms 29 rfl) rfl
theorem qs30 : (Cond.selects "NoFartherThanAThrowModel" ⟨"NoFartherThanAThrowModel", "no", "(I)I"⟩ ⟨"NoFartherThanAThrowModel", "no", "(I)I"⟩) ∈ lw_all := lw_g (lw_at lw_ms 30 rfl) rfl
theorem qs31 : (Cond.selects "NoFartherThanAThrowModel" ⟨"NoFartherThanAThrowModel", "isThing", "(I)Z"⟩ ⟨"NoFartherThanAThrowModel", "isThing", "(I)Z"⟩) ∈ lw_all := lw_g (lw_at lw_ms 31 rfl) rfl
theorem qs32 : (Cond.selects "NoFartherThanAThrowModel" ⟨"NoFartherThanAThrowModel", "farBy", "(II)I"⟩ ⟨"NoFartherThanAThrowModel", "farBy", "(II)I"⟩) ∈ lw_all := lw_g (lw_at lw_ms 32 rfl) rfl
theorem qs33 : (Cond.selects "NoFartherThanAThrowModel" ⟨"NoFartherThanAThrowModel", "low", "(II)I"⟩ ⟨"NoFartherThanAThrowModel", "low", "(II)I"⟩) ∈ lw_all := lw_g (lw_at lw_ms 33 rfl) rfl
theorem qs34 : (Cond.selects "NoFartherThanAThrowModel" ⟨"NoFartherThanAThrowModel", "isStep", "(I)Z"⟩ ⟨"NoFartherThanAThrowModel", "isStep", "(I)Z"⟩) ∈ lw_all := lw_g (lw_at lw_ms 34 rfl) rfl
theorem qs35 : (Cond.selects "NoFartherThanAThrowModel" ⟨"NoFartherThanAThrowModel", "isWet", "(I)Z"⟩ ⟨"NoFartherThanAThrowModel", "isWet", "(I)Z"⟩) ∈ lw_all := lw_g (lw_at lw_ms 35 rfl) rfl
theorem qs36 : (Cond.selects "NoFartherThanAThrowModel" ⟨"NoFartherThanAThrowModel", "things", "(IIII)I"⟩ ⟨"NoFartherThanAThrowModel", "things", "(IIII)I"⟩) ∈ lw_all := lw_g (lw_at lw_ms 36 rfl) rfl
theorem qs37 : (Cond.selects "NoFartherThanAThrowModel" ⟨"NoFartherThanAThrowModel", "men", "(I)I"⟩ ⟨"NoFartherThanAThrowModel", "men", "(I)I"⟩) ∈ lw_all := lw_g (lw_at lw_ms 37 rfl) rfl
theorem qs38 : (Cond.selects "NoFartherThanAThrowModel" ⟨"NoFartherThanAThrowModel", "wants", "(I)I"⟩ ⟨"NoFartherThanAThrowModel", "wants", "(I)I"⟩) ∈ lw_all := lw_g (lw_at lw_ms 38 rfl) rfl
theorem qs39 : (Cond.selects "NoFartherThanAThrowModel" ⟨"NoFartherThanAThrowModel", "intAt", "(II)I"⟩ ⟨"NoFartherThanAThrowModel", "intAt", "(II)I"⟩) ∈ lw_all := lw_g (lw_at lw_ms 39 rfl) rfl
theorem qs40 : (Cond.selects "NoFartherThanAThrowModel" ⟨"NoFartherThanAThrowModel", "wanted", "(III)I"⟩ ⟨"NoFartherThanAThrowModel", "wanted", "(III)I"⟩) ∈ lw_all := lw_g (lw_at lw_ms 40 rfl) rfl
theorem qs41 : (Cond.selects "NoFartherThanAThrowModel" ⟨"NoFartherThanAThrowModel", "isLong", "(I)Z"⟩ ⟨"NoFartherThanAThrowModel", "isLong", "(I)Z"⟩) ∈ lw_all := lw_g (lw_at lw_ms 41 rfl) rfl
theorem qs42 : (Cond.selects "NoFartherThanAThrowModel" ⟨"NoFartherThanAThrowModel", "isRiver", "(II)Z"⟩ ⟨"NoFartherThanAThrowModel", "isRiver", "(II)Z"⟩) ∈ lw_all := lw_g (lw_at lw_ms 42 rfl) rfl
theorem qs43 : (Cond.selects "NoFartherThanAThrowModel" ⟨"NoFartherThanAThrowModel", "isMan", "(I)Z"⟩ ⟨"NoFartherThanAThrowModel", "isMan", "(I)Z"⟩) ∈ lw_all := lw_g (lw_at lw_ms 43 rfl) rfl
theorem qs44 : (Cond.selects "NoFartherThanAThrowModel" ⟨"NoFartherThanAThrowModel", "all", "([IZ)V"⟩ ⟨"NoFartherThanAThrowModel", "all", "([IZ)V"⟩) ∈ lw_all := lw_g (lw_at lw_ms 44 rfl) rfl
theorem qs45 : (Cond.selects "NoFartherThanAThrowModel" ⟨"NoFartherThanAThrowModel", "keeps", "([II[IIZ)I"⟩ ⟨"NoFartherThanAThrowModel", "keeps", "([II[IIZ)I"⟩) ∈ lw_all := lw_g (lw_at lw_ms 45 rfl) rfl
theorem qs46 : (Cond.selects "NoFartherThanAThrowModel" ⟨"NoFartherThanAThrowModel", "item", "()Z"⟩ ⟨"NoFartherThanAThrowModel", "item", "()Z"⟩) ∈ lw_all := lw_g (lw_at lw_ms 46 rfl) rfl
theorem qs47 : (Cond.selects "NoFartherThanAThrowModel" ⟨"NoFartherThanAThrowModel", "isWordAt", "(I)Z"⟩ ⟨"NoFartherThanAThrowModel", "isWordAt", "(I)Z"⟩) ∈ lw_all := lw_g (lw_at lw_ms 47 rfl) rfl
theorem qs48 : (Cond.selects "NoFartherThanAThrowModel" ⟨"NoFartherThanAThrowModel", "isFull", "(I)Z"⟩ ⟨"NoFartherThanAThrowModel", "isFull", "(I)Z"⟩) ∈ lw_all := lw_g (lw_at lw_ms 48 rfl) rfl
theorem qs49 : (Cond.selects "NoFartherThanAThrowModel" ⟨"NoFartherThanAThrowModel", "wrong", "(I)Z"⟩ ⟨"NoFartherThanAThrowModel", "wrong", "(I)Z"⟩) ∈ lw_all := lw_g (lw_at lw_ms 49 rfl) rfl
theorem qs50 : (Cond.selects "NoFartherThanAThrowModel" ⟨"NoFartherThanAThrowModel", "word", "()I"⟩ ⟨"NoFartherThanAThrowModel", "word", "()I"⟩) ∈ lw_all := lw_g (lw_at lw_ms 50 rfl) rfl
theorem qs51 : (Cond.selects "NoFartherThanAThrowModel" ⟨"NoFartherThanAThrowModel", "number", "(II)Z"⟩ ⟨"NoFartherThanAThrowModel", "number", "(II)Z"⟩) ∈ lw_all := lw_g (lw_at lw_ms 51 rfl) rfl
theorem qs52 : (Cond.selects "NoFartherThanAThrowModel" ⟨"NoFartherThanAThrowModel", "isDigit", "()Z"⟩ ⟨"NoFartherThanAThrowModel", "isDigit", "()Z"⟩) ∈ lw_all := lw_g (lw_at lw_ms 52 rfl) rfl
theorem qs53 : (Cond.selects "NoFartherThanAThrowModel" ⟨"NoFartherThanAThrowModel", "isFit", "(II)Z"⟩ ⟨"NoFartherThanAThrowModel", "isFit", "(II)Z"⟩) ∈ lw_all := lw_g (lw_at lw_ms 53 rfl) rfl
theorem qs54 : (Cond.selects "NoFartherThanAThrowModel" ⟨"NoFartherThanAThrowModel", "farOf", "(II)I"⟩ ⟨"NoFartherThanAThrowModel", "farOf", "(II)I"⟩) ∈ lw_all := lw_g (lw_at lw_ms 54 rfl) rfl
theorem qs55 : (Cond.selects "NoFartherThanAThrowModel" ⟨"NoFartherThanAThrowModel", "near", "(I)I"⟩ ⟨"NoFartherThanAThrowModel", "near", "(I)I"⟩) ∈ lw_all := lw_g (lw_at lw_ms 55 rfl) rfl
theorem qs56 : (Cond.selects "NoFartherThanAThrowModel" ⟨"NoFartherThanAThrowModel", "wrongBy", "(III)I"⟩ ⟨"NoFartherThanAThrowModel", "wrongBy", "(III)I"⟩) ∈ lw_all := lw_g (lw_at lw_ms 56 rfl) rfl
theorem qs57 : (Cond.selects "NoFartherThanAThrowModel" ⟨"NoFartherThanAThrowModel", "carries", "(III)V"⟩ ⟨"NoFartherThanAThrowModel", "carries", "(III)V"⟩) ∈ lw_all := lw_g (lw_at lw_ms 57 rfl) rfl
theorem qs58 : (Cond.selects "NoFartherThanAThrowModel" ⟨"NoFartherThanAThrowModel", "tires", "(II)V"⟩ ⟨"NoFartherThanAThrowModel", "tires", "(II)V"⟩) ∈ lw_all := lw_g (lw_at lw_ms 58 rfl) rfl
theorem qs59 : (Cond.selects "NoFartherThanAThrowModel" ⟨"NoFartherThanAThrowModel", "isSet", "(I)Z"⟩ ⟨"NoFartherThanAThrowModel", "isSet", "(I)Z"⟩) ∈ lw_all := lw_g (lw_at lw_ms 59 rfl) rfl
theorem qs60 : (Cond.selects "NoFartherThanAThrowModel" ⟨"NoFartherThanAThrowModel", "rowsFor", "(II)V"⟩ ⟨"NoFartherThanAThrowModel", "rowsFor", "(II)V"⟩) ∈ lw_all := lw_g (lw_at lw_ms 60 rfl) rfl
theorem qs61 : (Cond.selects "NoFartherThanAThrowModel" ⟨"NoFartherThanAThrowModel", "rows", "(III)V"⟩ ⟨"NoFartherThanAThrowModel", "rows", "(III)V"⟩) ∈ lw_all := lw_g (lw_at lw_ms 61 rfl) rfl
theorem qs62 : (Cond.selects "NoFartherThanAThrowModel" ⟨"NoFartherThanAThrowModel", "goes", "(III)I"⟩ ⟨"NoFartherThanAThrowModel", "goes", "(III)I"⟩) ∈ lw_all := lw_g (lw_at lw_ms 62 rfl) rfl
theorem qs63 : (Cond.selects "NoFartherThanAThrowModel" ⟨"NoFartherThanAThrowModel", "isOnward", "(II)Z"⟩ ⟨"NoFartherThanAThrowModel", "isOnward", "(II)Z"⟩) ∈ lw_all := lw_g (lw_at lw_ms 63 rfl) rfl
theorem qs64 : (Cond.selects "NoFartherThanAThrowModel" ⟨"NoFartherThanAThrowModel", "count", "(I)I"⟩ ⟨"NoFartherThanAThrowModel", "count", "(I)I"⟩) ∈ lw_all := lw_g (lw_at lw_ms 64 rfl) rfl
theorem qs65 : (Cond.selects "NoFartherThanAThrowModel" ⟨"NoFartherThanAThrowModel", "noTen", "(I)I"⟩ ⟨"NoFartherThanAThrowModel", "noTen", "(I)I"⟩) ∈ lw_all := lw_g (lw_at lw_ms 65 rfl) rfl
theorem qs66 : (Cond.selects "NoFartherThanAThrowModel" ⟨"NoFartherThanAThrowModel", "shareAll", "()V"⟩ ⟨"NoFartherThanAThrowModel", "shareAll", "()V"⟩) ∈ lw_all := lw_g (lw_at lw_ms 66 rfl) rfl
theorem qs67 : (Cond.selects "NoFartherThanAThrowModel" ⟨"NoFartherThanAThrowModel", "shares", "(I)V"⟩ ⟨"NoFartherThanAThrowModel", "shares", "(I)V"⟩) ∈ lw_all := lw_g (lw_at lw_ms 67 rfl) rfl
theorem qs68 : (Cond.selects "NoFartherThanAThrowModel" ⟨"NoFartherThanAThrowModel", "worthOf", "()I"⟩ ⟨"NoFartherThanAThrowModel", "worthOf", "()I"⟩) ∈ lw_all := lw_g (lw_at lw_ms 68 rfl) rfl
theorem qs69 : (Cond.selects "NoFartherThanAThrowModel" ⟨"NoFartherThanAThrowModel", "isFar", "(I)Z"⟩ ⟨"NoFartherThanAThrowModel", "isFar", "(I)Z"⟩) ∈ lw_all := lw_g (lw_at lw_ms 69 rfl) rfl
theorem qs70 : (Cond.selects "NoFartherThanAThrowModel" ⟨"NoFartherThanAThrowModel", "caughtBy", "(III)I"⟩ ⟨"NoFartherThanAThrowModel", "caughtBy", "(III)I"⟩) ∈ lw_all := lw_g (lw_at lw_ms 70 rfl) rfl
theorem qs71 : (Cond.selects "NoFartherThanAThrowModel" ⟨"NoFartherThanAThrowModel", "meanOf", "(III)I"⟩ ⟨"NoFartherThanAThrowModel", "meanOf", "(III)I"⟩) ∈ lw_all := lw_g (lw_at lw_ms 71 rfl) rfl
theorem qs72 : (Cond.selects "NoFartherThanAThrowModel" ⟨"NoFartherThanAThrowModel", "isThrow", "(III)Z"⟩ ⟨"NoFartherThanAThrowModel", "isThrow", "(III)Z"⟩) ∈ lw_all := lw_g (lw_at lw_ms 72 rfl) rfl
theorem qs73 : (Cond.selects "NoFartherThanAThrowModel" ⟨"NoFartherThanAThrowModel", "draw", "(I)I"⟩ ⟨"NoFartherThanAThrowModel", "draw", "(I)I"⟩) ∈ lw_all := lw_g (lw_at lw_ms 73 rfl) rfl
theorem qs74 : (Cond.selects "NoFartherThanAThrowModel" ⟨"NoFartherThanAThrowModel", "going", "(II)I"⟩ ⟨"NoFartherThanAThrowModel", "going", "(II)I"⟩) ∈ lw_all := lw_g (lw_at lw_ms 74 rfl) rfl
theorem qs75 : (Cond.selects "NoFartherThanAThrowModel" ⟨"NoFartherThanAThrowModel", "body", "(I)V"⟩ ⟨"NoFartherThanAThrowModel", "body", "(I)V"⟩) ∈ lw_all := lw_g (lw_at lw_ms 75 rfl) rfl
theorem qs76 : (Cond.selects "NoFartherThanAThrowModel" ⟨"NoFartherThanAThrowModel", "resting", "(II)I"⟩ ⟨"NoFartherThanAThrowModel", "resting", "(II)I"⟩) ∈ lw_all := lw_g (lw_at lw_ms 76 rfl) rfl
theorem qs77 : (Cond.selects "NoFartherThanAThrowModel" ⟨"NoFartherThanAThrowModel", "falling", "(II)I"⟩ ⟨"NoFartherThanAThrowModel", "falling", "(II)I"⟩) ∈ lw_all := lw_g (lw_at lw_ms 77 rfl) rfl
