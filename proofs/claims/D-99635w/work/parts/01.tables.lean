-- ===== PART A: goes FIRST, ahead of the names: the tables' words, and 'selects' of the private methods out of them =====
/-- a private method of a class that the tables say can be made, by its rows of tables_1 -/
def lw_okq (q : MethodName × Nat) : Prop := (q.1.cls ≠ "java/lang/invoke/MethodHandle" ∧ q.1.cls ≠ "java/lang/invoke/VarHandle") ∧ Cond.instantiable q.1.cls q.2 ∈ tables_1 ∧ Cond.privateMethod q.1 ∈ tables_1 ∧ Cond.instanceMethod q.1 ∈ tables_1
set_option maxRecDepth 100000
theorem lw_t1 {w : Cond} (h : w ∈ tables_1_1) : w ∈ tables_1 := List.mem_append_left _ h
theorem lw_t2 {w : Cond} (h : w ∈ tables_1_2) : w ∈ tables_1 := List.mem_append_right _ (List.mem_append_left _ h)
theorem lw_t3 {w : Cond} (h : w ∈ tables_1_3) : w ∈ tables_1 := List.mem_append_right _ (List.mem_append_right _ (List.mem_append_left _ h))
theorem lw_t4 {w : Cond} (h : w ∈ tables_1_4) : w ∈ tables_1 := List.mem_append_right _ (List.mem_append_right _ (List.mem_append_right _ (List.mem_append_left _ h)))
theorem lw_t5 {w : Cond} (h : w ∈ tables_1_5) : w ∈ tables_1 := List.mem_append_right _ (List.mem_append_right _ (List.mem_append_right _ (List.mem_append_right _ (List.mem_append_left _ h))))
theorem lw_t6 {w : Cond} (h : w ∈ tables_1_6) : w ∈ tables_1 := List.mem_append_right _ (List.mem_append_right _ (List.mem_append_right _ (List.mem_append_right _ (List.mem_append_right _ (List.mem_append_left _ h)))))
theorem lw_t7 {w : Cond} (h : w ∈ tables_1_7) : w ∈ tables_1 := List.mem_append_right _ (List.mem_append_right _ (List.mem_append_right _ (List.mem_append_right _ (List.mem_append_right _ (List.mem_append_right _ (List.mem_append_left _ h))))))
theorem lw_t8 {w : Cond} (h : w ∈ tables_1_8) : w ∈ tables_1 := List.mem_append_right _ (List.mem_append_right _ (List.mem_append_right _ (List.mem_append_right _ (List.mem_append_right _ (List.mem_append_right _ (List.mem_append_right _ (List.mem_append_left _ h)))))))
theorem lw_t9 {w : Cond} (h : w ∈ tables_1_9) : w ∈ tables_1 := List.mem_append_right _ (List.mem_append_right _ (List.mem_append_right _ (List.mem_append_right _ (List.mem_append_right _ (List.mem_append_right _ (List.mem_append_right _ (List.mem_append_right _ (List.mem_append_left _ h))))))))
theorem lw_t10 {w : Cond} (h : w ∈ tables_1_10) : w ∈ tables_1 := List.mem_append_right _ (List.mem_append_right _ (List.mem_append_right _ (List.mem_append_right _ (List.mem_append_right _ (List.mem_append_right _ (List.mem_append_right _ (List.mem_append_right _ (List.mem_append_right _ h))))))))
theorem lw_p0 : lw_okq (⟨"java/lang/Throwable", "fillInStackTrace", "(I)Ljava/lang/Throwable;"⟩, 6) := ⟨⟨by decide +kernel, by decide +kernel⟩, lw_t1 (List.mem_of_getElem? (i := 109) rfl), lw_t1 (List.mem_of_getElem? (i := 107) rfl), lw_t1 (List.mem_of_getElem? (i := 108) rfl)⟩
theorem lw_p1 : lw_okq (⟨"java/util/ArrayList", "add", "(Ljava/lang/Object;[Ljava/lang/Object;I)V"⟩, 3) := ⟨⟨by decide +kernel, by decide +kernel⟩, lw_t1 (List.mem_of_getElem? (i := 55) rfl), lw_t3 (List.mem_of_getElem? (i := 53) rfl), lw_t3 (List.mem_of_getElem? (i := 54) rfl)⟩
theorem lw_p2 : lw_okq (⟨"java/util/ArrayList", "grow", "()[Ljava/lang/Object;"⟩, 3) := ⟨⟨by decide +kernel, by decide +kernel⟩, lw_t1 (List.mem_of_getElem? (i := 55) rfl), lw_t3 (List.mem_of_getElem? (i := 57) rfl), lw_t3 (List.mem_of_getElem? (i := 58) rfl)⟩
theorem lw_p3 : lw_okq (⟨"java/util/ArrayList", "grow", "(I)[Ljava/lang/Object;"⟩, 3) := ⟨⟨by decide +kernel, by decide +kernel⟩, lw_t1 (List.mem_of_getElem? (i := 55) rfl), lw_t3 (List.mem_of_getElem? (i := 61) rfl), lw_t3 (List.mem_of_getElem? (i := 62) rfl)⟩
theorem lw_p4 : lw_okq (⟨"BlueBag", "lay", "(I)V"⟩, 14) := ⟨⟨by decide +kernel, by decide +kernel⟩, lw_t1 (List.mem_of_getElem? (i := 41) rfl), lw_t3 (List.mem_of_getElem? (i := 211) rfl), lw_t3 (List.mem_of_getElem? (i := 212) rfl)⟩
theorem lw_p5 : lw_okq (⟨"BlueBag", "does", "(Z)Z"⟩, 14) := ⟨⟨by decide +kernel, by decide +kernel⟩, lw_t1 (List.mem_of_getElem? (i := 41) rfl), lw_t3 (List.mem_of_getElem? (i := 226) rfl), lw_t3 (List.mem_of_getElem? (i := 227) rfl)⟩
theorem lw_p6 : lw_okq (⟨"java/util/ArrayList", "fastRemove", "([Ljava/lang/Object;I)V"⟩, 3) := ⟨⟨by decide +kernel, by decide +kernel⟩, lw_t1 (List.mem_of_getElem? (i := 55) rfl), lw_t3 (List.mem_of_getElem? (i := 238) rfl), lw_t3 (List.mem_of_getElem? (i := 239) rfl)⟩
theorem lw_p7 : lw_okq (⟨"BlueBag", "refuses", "(I)I"⟩, 14) := ⟨⟨by decide +kernel, by decide +kernel⟩, lw_t1 (List.mem_of_getElem? (i := 41) rfl), lw_t4 (List.mem_of_getElem? (i := 9) rfl), lw_t4 (List.mem_of_getElem? (i := 10) rfl)⟩
theorem lw_p8 : lw_okq (⟨"BlueBag$State", "sees", "(LBlueBag$Coast;I)LBlueBag$View;"⟩, 10) := ⟨⟨by decide +kernel, by decide +kernel⟩, lw_t3 (List.mem_of_getElem? (i := 1) rfl), lw_t4 (List.mem_of_getElem? (i := 29) rfl), lw_t4 (List.mem_of_getElem? (i := 30) rfl)⟩
theorem lw_p9 : lw_okq (⟨"BlueBag$State", "fades", "(LBlueBag$Coast;I)I"⟩, 10) := ⟨⟨by decide +kernel, by decide +kernel⟩, lw_t3 (List.mem_of_getElem? (i := 1) rfl), lw_t4 (List.mem_of_getElem? (i := 109) rfl), lw_t4 (List.mem_of_getElem? (i := 110) rfl)⟩
theorem lw_p10 : lw_okq (⟨"BlueBag", "tries", "(I)V"⟩, 14) := ⟨⟨by decide +kernel, by decide +kernel⟩, lw_t1 (List.mem_of_getElem? (i := 41) rfl), lw_t4 (List.mem_of_getElem? (i := 128) rfl), lw_t4 (List.mem_of_getElem? (i := 129) rfl)⟩
theorem lw_p11 : lw_okq (⟨"BlueBag", "unevenNext", "()I"⟩, 14) := ⟨⟨by decide +kernel, by decide +kernel⟩, lw_t1 (List.mem_of_getElem? (i := 41) rfl), lw_t4 (List.mem_of_getElem? (i := 136) rfl), lw_t4 (List.mem_of_getElem? (i := 137) rfl)⟩
theorem lw_p12 : lw_okq (⟨"BlueBag", "girls", "()I"⟩, 14) := ⟨⟨by decide +kernel, by decide +kernel⟩, lw_t1 (List.mem_of_getElem? (i := 41) rfl), lw_t4 (List.mem_of_getElem? (i := 148) rfl), lw_t4 (List.mem_of_getElem? (i := 149) rfl)⟩
theorem lw_p13 : lw_okq (⟨"BlueBag", "cells", "()I"⟩, 14) := ⟨⟨by decide +kernel, by decide +kernel⟩, lw_t1 (List.mem_of_getElem? (i := 41) rfl), lw_t4 (List.mem_of_getElem? (i := 159) rfl), lw_t4 (List.mem_of_getElem? (i := 160) rfl)⟩
theorem lw_p14 : lw_okq (⟨"BlueBag$Reader", "go", "()V"⟩, 12) := ⟨⟨by decide +kernel, by decide +kernel⟩, lw_t4 (List.mem_of_getElem? (i := 204) rfl), lw_t4 (List.mem_of_getElem? (i := 211) rfl), lw_t4 (List.mem_of_getElem? (i := 212) rfl)⟩
theorem lw_p15 : lw_okq (⟨"BlueBag$Reader", "byteAt", "(I)I"⟩, 12) := ⟨⟨by decide +kernel, by decide +kernel⟩, lw_t4 (List.mem_of_getElem? (i := 204) rfl), lw_t4 (List.mem_of_getElem? (i := 215) rfl), lw_t4 (List.mem_of_getElem? (i := 216) rfl)⟩
def lw_privs_1 : List (MethodName × Nat) := [(⟨"java/lang/Throwable", "fillInStackTrace", "(I)Ljava/lang/Throwable;"⟩, 6), (⟨"java/util/ArrayList", "add", "(Ljava/lang/Object;[Ljava/lang/Object;I)V"⟩, 3), (⟨"java/util/ArrayList", "grow", "()[Ljava/lang/Object;"⟩, 3), (⟨"java/util/ArrayList", "grow", "(I)[Ljava/lang/Object;"⟩, 3), (⟨"BlueBag", "lay", "(I)V"⟩, 14), (⟨"BlueBag", "does", "(Z)Z"⟩, 14), (⟨"java/util/ArrayList", "fastRemove", "([Ljava/lang/Object;I)V"⟩, 3), (⟨"BlueBag", "refuses", "(I)I"⟩, 14), (⟨"BlueBag$State", "sees", "(LBlueBag$Coast;I)LBlueBag$View;"⟩, 10), (⟨"BlueBag$State", "fades", "(LBlueBag$Coast;I)I"⟩, 10), (⟨"BlueBag", "tries", "(I)V"⟩, 14), (⟨"BlueBag", "unevenNext", "()I"⟩, 14), (⟨"BlueBag", "girls", "()I"⟩, 14), (⟨"BlueBag", "cells", "()I"⟩, 14), (⟨"BlueBag$Reader", "go", "()V"⟩, 12), (⟨"BlueBag$Reader", "byteAt", "(I)I"⟩, 12)]
theorem lw_r1 : ∀ q ∈ lw_privs_1, lw_okq q := List.forall_mem_cons.mpr ⟨lw_p0, List.forall_mem_cons.mpr ⟨lw_p1, List.forall_mem_cons.mpr ⟨lw_p2, List.forall_mem_cons.mpr ⟨lw_p3, List.forall_mem_cons.mpr ⟨lw_p4, List.forall_mem_cons.mpr ⟨lw_p5, List.forall_mem_cons.mpr ⟨lw_p6, List.forall_mem_cons.mpr ⟨lw_p7, List.forall_mem_cons.mpr ⟨lw_p8, List.forall_mem_cons.mpr ⟨lw_p9, List.forall_mem_cons.mpr ⟨lw_p10, List.forall_mem_cons.mpr ⟨lw_p11, List.forall_mem_cons.mpr ⟨lw_p12, List.forall_mem_cons.mpr ⟨lw_p13, List.forall_mem_cons.mpr ⟨lw_p14, List.forall_mem_cons.mpr ⟨lw_p15, fun _ h => absurd h List.not_mem_nil⟩⟩⟩⟩⟩⟩⟩⟩⟩⟩⟩⟩⟩⟩⟩⟩
theorem lw_p16 : lw_okq (⟨"BlueBag$Reader", "is", "(Ljava/lang/String;)Z"⟩, 12) := ⟨⟨by decide +kernel, by decide +kernel⟩, lw_t4 (List.mem_of_getElem? (i := 204) rfl), lw_t5 (List.mem_of_getElem? (i := 83) rfl), lw_t5 (List.mem_of_getElem? (i := 84) rfl)⟩
theorem lw_p17 : lw_okq (⟨"BlueBag$Reader", "check", "(ZI)V"⟩, 12) := ⟨⟨by decide +kernel, by decide +kernel⟩, lw_t4 (List.mem_of_getElem? (i := 204) rfl), lw_t5 (List.mem_of_getElem? (i := 94) rfl), lw_t5 (List.mem_of_getElem? (i := 95) rfl)⟩
theorem lw_p18 : lw_okq (⟨"BlueBag$Reader", "begins", "(Ljava/lang/String;I)Z"⟩, 12) := ⟨⟨by decide +kernel, by decide +kernel⟩, lw_t4 (List.mem_of_getElem? (i := 204) rfl), lw_t5 (List.mem_of_getElem? (i := 121) rfl), lw_t5 (List.mem_of_getElem? (i := 122) rfl)⟩
theorem lw_p19 : lw_okq (⟨"BlueBag$Reader", "sky", "(LBlueBag$Coast;)V"⟩, 12) := ⟨⟨by decide +kernel, by decide +kernel⟩, lw_t4 (List.mem_of_getElem? (i := 204) rfl), lw_t5 (List.mem_of_getElem? (i := 125) rfl), lw_t5 (List.mem_of_getElem? (i := 126) rfl)⟩
theorem lw_p20 : lw_okq (⟨"BlueBag$Reader", "number", "(II)I"⟩, 12) := ⟨⟨by decide +kernel, by decide +kernel⟩, lw_t4 (List.mem_of_getElem? (i := 204) rfl), lw_t5 (List.mem_of_getElem? (i := 129) rfl), lw_t5 (List.mem_of_getElem? (i := 130) rfl)⟩
theorem lw_p21 : lw_okq (⟨"BlueBag$Reader", "rule", "(I)LBlueBag$Expr;"⟩, 12) := ⟨⟨by decide +kernel, by decide +kernel⟩, lw_t4 (List.mem_of_getElem? (i := 204) rfl), lw_t5 (List.mem_of_getElem? (i := 138) rfl), lw_t5 (List.mem_of_getElem? (i := 139) rfl)⟩
theorem lw_p22 : lw_okq (⟨"BlueBag$Reader", "expr", "(I)LBlueBag$Expr;"⟩, 12) := ⟨⟨by decide +kernel, by decide +kernel⟩, lw_t4 (List.mem_of_getElem? (i := 204) rfl), lw_t5 (List.mem_of_getElem? (i := 142) rfl), lw_t5 (List.mem_of_getElem? (i := 143) rfl)⟩
theorem lw_p23 : lw_okq (⟨"BlueBag$Reader", "and", "(I)LBlueBag$Expr;"⟩, 12) := ⟨⟨by decide +kernel, by decide +kernel⟩, lw_t4 (List.mem_of_getElem? (i := 204) rfl), lw_t5 (List.mem_of_getElem? (i := 147) rfl), lw_t5 (List.mem_of_getElem? (i := 148) rfl)⟩
theorem lw_p24 : lw_okq (⟨"BlueBag$Reader", "not", "(I)LBlueBag$Expr;"⟩, 12) := ⟨⟨by decide +kernel, by decide +kernel⟩, lw_t4 (List.mem_of_getElem? (i := 204) rfl), lw_t5 (List.mem_of_getElem? (i := 151) rfl), lw_t5 (List.mem_of_getElem? (i := 152) rfl)⟩
theorem lw_p25 : lw_okq (⟨"BlueBag$Reader", "sum", "(I)LBlueBag$Expr;"⟩, 12) := ⟨⟨by decide +kernel, by decide +kernel⟩, lw_t4 (List.mem_of_getElem? (i := 204) rfl), lw_t5 (List.mem_of_getElem? (i := 156) rfl), lw_t5 (List.mem_of_getElem? (i := 157) rfl)⟩
theorem lw_p26 : lw_okq (⟨"BlueBag$Reader", "product", "(I)LBlueBag$Expr;"⟩, 12) := ⟨⟨by decide +kernel, by decide +kernel⟩, lw_t4 (List.mem_of_getElem? (i := 204) rfl), lw_t5 (List.mem_of_getElem? (i := 160) rfl), lw_t5 (List.mem_of_getElem? (i := 161) rfl)⟩
theorem lw_p27 : lw_okq (⟨"BlueBag$Reader", "part", "(I)LBlueBag$Expr;"⟩, 12) := ⟨⟨by decide +kernel, by decide +kernel⟩, lw_t4 (List.mem_of_getElem? (i := 204) rfl), lw_t5 (List.mem_of_getElem? (i := 164) rfl), lw_t5 (List.mem_of_getElem? (i := 165) rfl)⟩
theorem lw_p28 : lw_okq (⟨"BlueBag$Reader", "need", "(Ljava/lang/String;)V"⟩, 12) := ⟨⟨by decide +kernel, by decide +kernel⟩, lw_t4 (List.mem_of_getElem? (i := 204) rfl), lw_t5 (List.mem_of_getElem? (i := 182) rfl), lw_t5 (List.mem_of_getElem? (i := 183) rfl)⟩
theorem lw_p29 : lw_okq (⟨"BlueBag$Reader", "valueOf", "(Ljava/lang/String;)LBlueBag$Value;"⟩, 12) := ⟨⟨by decide +kernel, by decide +kernel⟩, lw_t4 (List.mem_of_getElem? (i := 204) rfl), lw_t5 (List.mem_of_getElem? (i := 186) rfl), lw_t5 (List.mem_of_getElem? (i := 187) rfl)⟩
theorem lw_p30 : lw_okq (⟨"BlueBag$Reader", "cells", "(LBlueBag$Coast;)V"⟩, 12) := ⟨⟨by decide +kernel, by decide +kernel⟩, lw_t4 (List.mem_of_getElem? (i := 204) rfl), lw_t6 (List.mem_of_getElem? (i := 23) rfl), lw_t6 (List.mem_of_getElem? (i := 24) rfl)⟩
theorem lw_p31 : lw_okq (⟨"BlueBag$Reader", "blue", "(LBlueBag$Coast;)V"⟩, 12) := ⟨⟨by decide +kernel, by decide +kernel⟩, lw_t4 (List.mem_of_getElem? (i := 204) rfl), lw_t6 (List.mem_of_getElem? (i := 27) rfl), lw_t6 (List.mem_of_getElem? (i := 28) rfl)⟩
def lw_privs_2 : List (MethodName × Nat) := [(⟨"BlueBag$Reader", "is", "(Ljava/lang/String;)Z"⟩, 12), (⟨"BlueBag$Reader", "check", "(ZI)V"⟩, 12), (⟨"BlueBag$Reader", "begins", "(Ljava/lang/String;I)Z"⟩, 12), (⟨"BlueBag$Reader", "sky", "(LBlueBag$Coast;)V"⟩, 12), (⟨"BlueBag$Reader", "number", "(II)I"⟩, 12), (⟨"BlueBag$Reader", "rule", "(I)LBlueBag$Expr;"⟩, 12), (⟨"BlueBag$Reader", "expr", "(I)LBlueBag$Expr;"⟩, 12), (⟨"BlueBag$Reader", "and", "(I)LBlueBag$Expr;"⟩, 12), (⟨"BlueBag$Reader", "not", "(I)LBlueBag$Expr;"⟩, 12), (⟨"BlueBag$Reader", "sum", "(I)LBlueBag$Expr;"⟩, 12), (⟨"BlueBag$Reader", "product", "(I)LBlueBag$Expr;"⟩, 12), (⟨"BlueBag$Reader", "part", "(I)LBlueBag$Expr;"⟩, 12), (⟨"BlueBag$Reader", "need", "(Ljava/lang/String;)V"⟩, 12), (⟨"BlueBag$Reader", "valueOf", "(Ljava/lang/String;)LBlueBag$Value;"⟩, 12), (⟨"BlueBag$Reader", "cells", "(LBlueBag$Coast;)V"⟩, 12), (⟨"BlueBag$Reader", "blue", "(LBlueBag$Coast;)V"⟩, 12)]
theorem lw_r2 : ∀ q ∈ lw_privs_2, lw_okq q := List.forall_mem_cons.mpr ⟨lw_p16, List.forall_mem_cons.mpr ⟨lw_p17, List.forall_mem_cons.mpr ⟨lw_p18, List.forall_mem_cons.mpr ⟨lw_p19, List.forall_mem_cons.mpr ⟨lw_p20, List.forall_mem_cons.mpr ⟨lw_p21, List.forall_mem_cons.mpr ⟨lw_p22, List.forall_mem_cons.mpr ⟨lw_p23, List.forall_mem_cons.mpr ⟨lw_p24, List.forall_mem_cons.mpr ⟨lw_p25, List.forall_mem_cons.mpr ⟨lw_p26, List.forall_mem_cons.mpr ⟨lw_p27, List.forall_mem_cons.mpr ⟨lw_p28, List.forall_mem_cons.mpr ⟨lw_p29, List.forall_mem_cons.mpr ⟨lw_p30, List.forall_mem_cons.mpr ⟨lw_p31, fun _ h => absurd h List.not_mem_nil⟩⟩⟩⟩⟩⟩⟩⟩⟩⟩⟩⟩⟩⟩⟩⟩
theorem lw_p32 : lw_okq (⟨"BlueBag$Reader", "cell", "(LBlueBag$Coast;)I"⟩, 12) := ⟨⟨by decide +kernel, by decide +kernel⟩, lw_t4 (List.mem_of_getElem? (i := 204) rfl), lw_t6 (List.mem_of_getElem? (i := 31) rfl), lw_t6 (List.mem_of_getElem? (i := 32) rfl)⟩
theorem lw_p33 : lw_okq (⟨"BlueBag$Reader", "pegs", "(LBlueBag$Coast;)V"⟩, 12) := ⟨⟨by decide +kernel, by decide +kernel⟩, lw_t4 (List.mem_of_getElem? (i := 204) rfl), lw_t6 (List.mem_of_getElem? (i := 37) rfl), lw_t6 (List.mem_of_getElem? (i := 38) rfl)⟩
theorem lw_p34 : lw_okq (⟨"BlueBag$Reader", "girl", "(LBlueBag$Coast;)LBlueBag$Girl;"⟩, 12) := ⟨⟨by decide +kernel, by decide +kernel⟩, lw_t4 (List.mem_of_getElem? (i := 204) rfl), lw_t6 (List.mem_of_getElem? (i := 44) rfl), lw_t6 (List.mem_of_getElem? (i := 45) rfl)⟩
theorem lw_p35 : lw_okq (⟨"BlueBag", "cellAt", "(I)V"⟩, 14) := ⟨⟨by decide +kernel, by decide +kernel⟩, lw_t1 (List.mem_of_getElem? (i := 41) rfl), lw_t6 (List.mem_of_getElem? (i := 112) rfl), lw_t6 (List.mem_of_getElem? (i := 113) rfl)⟩
theorem lw_p36 : lw_okq (⟨"BlueBag", "besideOf", "(I)I"⟩, 14) := ⟨⟨by decide +kernel, by decide +kernel⟩, lw_t1 (List.mem_of_getElem? (i := 41) rfl), lw_t6 (List.mem_of_getElem? (i := 116) rfl), lw_t6 (List.mem_of_getElem? (i := 117) rfl)⟩
theorem lw_p37 : lw_okq (⟨"BlueBag", "patchOf", "(II)I"⟩, 14) := ⟨⟨by decide +kernel, by decide +kernel⟩, lw_t1 (List.mem_of_getElem? (i := 41) rfl), lw_t6 (List.mem_of_getElem? (i := 121) rfl), lw_t6 (List.mem_of_getElem? (i := 122) rfl)⟩
theorem lw_p38 : lw_okq (⟨"BlueBag", "girlAt", "(I)LBlueBag$Girl;"⟩, 14) := ⟨⟨by decide +kernel, by decide +kernel⟩, lw_t1 (List.mem_of_getElem? (i := 41) rfl), lw_t6 (List.mem_of_getElem? (i := 133) rfl), lw_t6 (List.mem_of_getElem? (i := 134) rfl)⟩
theorem lw_p39 : lw_okq (⟨"BlueBag", "sends", "(I)V"⟩, 14) := ⟨⟨by decide +kernel, by decide +kernel⟩, lw_t1 (List.mem_of_getElem? (i := 41) rfl), lw_t7 (List.mem_of_getElem? (i := 15) rfl), lw_t7 (List.mem_of_getElem? (i := 16) rfl)⟩
theorem lw_p40 : lw_okq (⟨"BlueBag", "by", "(III)I"⟩, 14) := ⟨⟨by decide +kernel, by decide +kernel⟩, lw_t1 (List.mem_of_getElem? (i := 41) rfl), lw_t7 (List.mem_of_getElem? (i := 19) rfl), lw_t7 (List.mem_of_getElem? (i := 20) rfl)⟩
theorem lw_p41 : lw_okq (⟨"BlueBag", "allBy", "(IZ)I"⟩, 14) := ⟨⟨by decide +kernel, by decide +kernel⟩, lw_t1 (List.mem_of_getElem? (i := 41) rfl), lw_t7 (List.mem_of_getElem? (i := 51) rfl), lw_t7 (List.mem_of_getElem? (i := 52) rfl)⟩
theorem lw_p42 : lw_okq (⟨"BlueBag", "isSeen", "()Z"⟩, 14) := ⟨⟨by decide +kernel, by decide +kernel⟩, lw_t1 (List.mem_of_getElem? (i := 41) rfl), lw_t7 (List.mem_of_getElem? (i := 69) rfl), lw_t7 (List.mem_of_getElem? (i := 70) rfl)⟩
theorem lw_p43 : lw_okq (⟨"BlueBag", "guesses", "()I"⟩, 14) := ⟨⟨by decide +kernel, by decide +kernel⟩, lw_t1 (List.mem_of_getElem? (i := 41) rfl), lw_t7 (List.mem_of_getElem? (i := 73) rfl), lw_t7 (List.mem_of_getElem? (i := 74) rfl)⟩
theorem lw_p44 : lw_okq (⟨"BlueBag", "isGuess", "(I)Z"⟩, 14) := ⟨⟨by decide +kernel, by decide +kernel⟩, lw_t1 (List.mem_of_getElem? (i := 41) rfl), lw_t7 (List.mem_of_getElem? (i := 77) rfl), lw_t7 (List.mem_of_getElem? (i := 78) rfl)⟩
theorem lw_p45 : lw_okq (⟨"BlueBag", "unlike", "(II)I"⟩, 14) := ⟨⟨by decide +kernel, by decide +kernel⟩, lw_t1 (List.mem_of_getElem? (i := 41) rfl), lw_t7 (List.mem_of_getElem? (i := 88) rfl), lw_t7 (List.mem_of_getElem? (i := 89) rfl)⟩
theorem lw_p46 : lw_okq (⟨"BlueBag", "gains", "(IIZZ)I"⟩, 14) := ⟨⟨by decide +kernel, by decide +kernel⟩, lw_t1 (List.mem_of_getElem? (i := 41) rfl), lw_t7 (List.mem_of_getElem? (i := 99) rfl), lw_t7 (List.mem_of_getElem? (i := 100) rfl)⟩
theorem lw_p47 : lw_okq (⟨"BlueBag", "happens", "()V"⟩, 14) := ⟨⟨by decide +kernel, by decide +kernel⟩, lw_t1 (List.mem_of_getElem? (i := 41) rfl), lw_t7 (List.mem_of_getElem? (i := 110) rfl), lw_t7 (List.mem_of_getElem? (i := 111) rfl)⟩
def lw_privs_3 : List (MethodName × Nat) := [(⟨"BlueBag$Reader", "cell", "(LBlueBag$Coast;)I"⟩, 12), (⟨"BlueBag$Reader", "pegs", "(LBlueBag$Coast;)V"⟩, 12), (⟨"BlueBag$Reader", "girl", "(LBlueBag$Coast;)LBlueBag$Girl;"⟩, 12), (⟨"BlueBag", "cellAt", "(I)V"⟩, 14), (⟨"BlueBag", "besideOf", "(I)I"⟩, 14), (⟨"BlueBag", "patchOf", "(II)I"⟩, 14), (⟨"BlueBag", "girlAt", "(I)LBlueBag$Girl;"⟩, 14), (⟨"BlueBag", "sends", "(I)V"⟩, 14), (⟨"BlueBag", "by", "(III)I"⟩, 14), (⟨"BlueBag", "allBy", "(IZ)I"⟩, 14), (⟨"BlueBag", "isSeen", "()Z"⟩, 14), (⟨"BlueBag", "guesses", "()I"⟩, 14), (⟨"BlueBag", "isGuess", "(I)Z"⟩, 14), (⟨"BlueBag", "unlike", "(II)I"⟩, 14), (⟨"BlueBag", "gains", "(IIZZ)I"⟩, 14), (⟨"BlueBag", "happens", "()V"⟩, 14)]
theorem lw_r3 : ∀ q ∈ lw_privs_3, lw_okq q := List.forall_mem_cons.mpr ⟨lw_p32, List.forall_mem_cons.mpr ⟨lw_p33, List.forall_mem_cons.mpr ⟨lw_p34, List.forall_mem_cons.mpr ⟨lw_p35, List.forall_mem_cons.mpr ⟨lw_p36, List.forall_mem_cons.mpr ⟨lw_p37, List.forall_mem_cons.mpr ⟨lw_p38, List.forall_mem_cons.mpr ⟨lw_p39, List.forall_mem_cons.mpr ⟨lw_p40, List.forall_mem_cons.mpr ⟨lw_p41, List.forall_mem_cons.mpr ⟨lw_p42, List.forall_mem_cons.mpr ⟨lw_p43, List.forall_mem_cons.mpr ⟨lw_p44, List.forall_mem_cons.mpr ⟨lw_p45, List.forall_mem_cons.mpr ⟨lw_p46, List.forall_mem_cons.mpr ⟨lw_p47, fun _ h => absurd h List.not_mem_nil⟩⟩⟩⟩⟩⟩⟩⟩⟩⟩⟩⟩⟩⟩⟩⟩
theorem lw_p48 : lw_okq (⟨"BlueBag", "draw", "(I)I"⟩, 14) := ⟨⟨by decide +kernel, by decide +kernel⟩, lw_t1 (List.mem_of_getElem? (i := 41) rfl), lw_t7 (List.mem_of_getElem? (i := 114) rfl), lw_t7 (List.mem_of_getElem? (i := 115) rfl)⟩
theorem lw_p49 : lw_okq (⟨"BlueBagModel", "begin", "(I)V"⟩, 64) := ⟨⟨by decide +kernel, by decide +kernel⟩, lw_t7 (List.mem_of_getElem? (i := 120) rfl), lw_t7 (List.mem_of_getElem? (i := 136) rfl), lw_t7 (List.mem_of_getElem? (i := 137) rfl)⟩
theorem lw_p50 : lw_okq (⟨"BlueBagModel", "fail", "(I)I"⟩, 64) := ⟨⟨by decide +kernel, by decide +kernel⟩, lw_t7 (List.mem_of_getElem? (i := 120) rfl), lw_t8 (List.mem_of_getElem? (i := 105) rfl), lw_t8 (List.mem_of_getElem? (i := 106) rfl)⟩
theorem lw_p51 : lw_okq (⟨"BlueBagModel", "stepOn", "()V"⟩, 64) := ⟨⟨by decide +kernel, by decide +kernel⟩, lw_t7 (List.mem_of_getElem? (i := 120) rfl), lw_t8 (List.mem_of_getElem? (i := 109) rfl), lw_t8 (List.mem_of_getElem? (i := 110) rfl)⟩
theorem lw_p52 : lw_okq (⟨"BlueBagModel", "byteAt", "(I)I"⟩, 64) := ⟨⟨by decide +kernel, by decide +kernel⟩, lw_t7 (List.mem_of_getElem? (i := 120) rfl), lw_t8 (List.mem_of_getElem? (i := 113) rfl), lw_t8 (List.mem_of_getElem? (i := 114) rfl)⟩
theorem lw_p53 : lw_okq (⟨"BlueBagModel", "readLine", "(I)I"⟩, 64) := ⟨⟨by decide +kernel, by decide +kernel⟩, lw_t7 (List.mem_of_getElem? (i := 120) rfl), lw_t8 (List.mem_of_getElem? (i := 128) rfl), lw_t8 (List.mem_of_getElem? (i := 129) rfl)⟩
theorem lw_p54 : lw_okq (⟨"BlueBagModel", "which", "([Ljava/lang/String;)I"⟩, 64) := ⟨⟨by decide +kernel, by decide +kernel⟩, lw_t7 (List.mem_of_getElem? (i := 120) rfl), lw_t8 (List.mem_of_getElem? (i := 132) rfl), lw_t8 (List.mem_of_getElem? (i := 133) rfl)⟩
theorem lw_p55 : lw_okq (⟨"BlueBagModel", "is", "(Ljava/lang/String;)Z"⟩, 64) := ⟨⟨by decide +kernel, by decide +kernel⟩, lw_t7 (List.mem_of_getElem? (i := 120) rfl), lw_t8 (List.mem_of_getElem? (i := 136) rfl), lw_t8 (List.mem_of_getElem? (i := 137) rfl)⟩
theorem lw_p56 : lw_okq (⟨"BlueBagModel", "wrong", "(I)V"⟩, 64) := ⟨⟨by decide +kernel, by decide +kernel⟩, lw_t7 (List.mem_of_getElem? (i := 120) rfl), lw_t8 (List.mem_of_getElem? (i := 148) rfl), lw_t8 (List.mem_of_getElem? (i := 149) rfl)⟩
theorem lw_p57 : lw_okq (⟨"BlueBagModel", "sayOnce", "(I)V"⟩, 64) := ⟨⟨by decide +kernel, by decide +kernel⟩, lw_t7 (List.mem_of_getElem? (i := 120) rfl), lw_t8 (List.mem_of_getElem? (i := 152) rfl), lw_t8 (List.mem_of_getElem? (i := 153) rfl)⟩
theorem lw_p58 : lw_okq (⟨"BlueBagModel", "saySky", "()V"⟩, 64) := ⟨⟨by decide +kernel, by decide +kernel⟩, lw_t7 (List.mem_of_getElem? (i := 120) rfl), lw_t8 (List.mem_of_getElem? (i := 156) rfl), lw_t8 (List.mem_of_getElem? (i := 157) rfl)⟩
theorem lw_p59 : lw_okq (⟨"BlueBagModel", "readNumber", "(II)I"⟩, 64) := ⟨⟨by decide +kernel, by decide +kernel⟩, lw_t7 (List.mem_of_getElem? (i := 120) rfl), lw_t8 (List.mem_of_getElem? (i := 160) rfl), lw_t8 (List.mem_of_getElem? (i := 161) rfl)⟩
theorem lw_p60 : lw_okq (⟨"BlueBagModel", "numberNow", "(II)I"⟩, 64) := ⟨⟨by decide +kernel, by decide +kernel⟩, lw_t7 (List.mem_of_getElem? (i := 120) rfl), lw_t8 (List.mem_of_getElem? (i := 164) rfl), lw_t8 (List.mem_of_getElem? (i := 165) rfl)⟩
theorem lw_p61 : lw_okq (⟨"BlueBagModel", "sayRule", "(Z)V"⟩, 64) := ⟨⟨by decide +kernel, by decide +kernel⟩, lw_t7 (List.mem_of_getElem? (i := 120) rfl), lw_t8 (List.mem_of_getElem? (i := 168) rfl), lw_t8 (List.mem_of_getElem? (i := 169) rfl)⟩
theorem lw_p62 : lw_okq (⟨"BlueBagModel", "readExpression", "(I)V"⟩, 64) := ⟨⟨by decide +kernel, by decide +kernel⟩, lw_t7 (List.mem_of_getElem? (i := 120) rfl), lw_t8 (List.mem_of_getElem? (i := 172) rfl), lw_t8 (List.mem_of_getElem? (i := 173) rfl)⟩
theorem lw_p63 : lw_okq (⟨"BlueBagModel", "isMarked", "(I)Z"⟩, 64) := ⟨⟨by decide +kernel, by decide +kernel⟩, lw_t7 (List.mem_of_getElem? (i := 120) rfl), lw_t8 (List.mem_of_getElem? (i := 176) rfl), lw_t8 (List.mem_of_getElem? (i := 177) rfl)⟩
def lw_privs_4 : List (MethodName × Nat) := [(⟨"BlueBag", "draw", "(I)I"⟩, 14), (⟨"BlueBagModel", "begin", "(I)V"⟩, 64), (⟨"BlueBagModel", "fail", "(I)I"⟩, 64), (⟨"BlueBagModel", "stepOn", "()V"⟩, 64), (⟨"BlueBagModel", "byteAt", "(I)I"⟩, 64), (⟨"BlueBagModel", "readLine", "(I)I"⟩, 64), (⟨"BlueBagModel", "which", "([Ljava/lang/String;)I"⟩, 64), (⟨"BlueBagModel", "is", "(Ljava/lang/String;)Z"⟩, 64), (⟨"BlueBagModel", "wrong", "(I)V"⟩, 64), (⟨"BlueBagModel", "sayOnce", "(I)V"⟩, 64), (⟨"BlueBagModel", "saySky", "()V"⟩, 64), (⟨"BlueBagModel", "readNumber", "(II)I"⟩, 64), (⟨"BlueBagModel", "numberNow", "(II)I"⟩, 64), (⟨"BlueBagModel", "sayRule", "(Z)V"⟩, 64), (⟨"BlueBagModel", "readExpression", "(I)V"⟩, 64), (⟨"BlueBagModel", "isMarked", "(I)Z"⟩, 64)]
theorem lw_r4 : ∀ q ∈ lw_privs_4, lw_okq q := List.forall_mem_cons.mpr ⟨lw_p48, List.forall_mem_cons.mpr ⟨lw_p49, List.forall_mem_cons.mpr ⟨lw_p50, List.forall_mem_cons.mpr ⟨lw_p51, List.forall_mem_cons.mpr ⟨lw_p52, List.forall_mem_cons.mpr ⟨lw_p53, List.forall_mem_cons.mpr ⟨lw_p54, List.forall_mem_cons.mpr ⟨lw_p55, List.forall_mem_cons.mpr ⟨lw_p56, List.forall_mem_cons.mpr ⟨lw_p57, List.forall_mem_cons.mpr ⟨lw_p58, List.forall_mem_cons.mpr ⟨lw_p59, List.forall_mem_cons.mpr ⟨lw_p60, List.forall_mem_cons.mpr ⟨lw_p61, List.forall_mem_cons.mpr ⟨lw_p62, List.forall_mem_cons.mpr ⟨lw_p63, fun _ h => absurd h List.not_mem_nil⟩⟩⟩⟩⟩⟩⟩⟩⟩⟩⟩⟩⟩⟩⟩⟩
theorem lw_p64 : lw_okq (⟨"BlueBagModel", "readAnd", "(I)V"⟩, 64) := ⟨⟨by decide +kernel, by decide +kernel⟩, lw_t7 (List.mem_of_getElem? (i := 120) rfl), lw_t8 (List.mem_of_getElem? (i := 180) rfl), lw_t8 (List.mem_of_getElem? (i := 181) rfl)⟩
theorem lw_p65 : lw_okq (⟨"BlueBagModel", "readNot", "(I)V"⟩, 64) := ⟨⟨by decide +kernel, by decide +kernel⟩, lw_t7 (List.mem_of_getElem? (i := 120) rfl), lw_t8 (List.mem_of_getElem? (i := 184) rfl), lw_t8 (List.mem_of_getElem? (i := 185) rfl)⟩
theorem lw_p66 : lw_okq (⟨"BlueBagModel", "readSum", "(I)V"⟩, 64) := ⟨⟨by decide +kernel, by decide +kernel⟩, lw_t7 (List.mem_of_getElem? (i := 120) rfl), lw_t8 (List.mem_of_getElem? (i := 189) rfl), lw_t8 (List.mem_of_getElem? (i := 190) rfl)⟩
theorem lw_p67 : lw_okq (⟨"BlueBagModel", "readProduct", "(I)V"⟩, 64) := ⟨⟨by decide +kernel, by decide +kernel⟩, lw_t7 (List.mem_of_getElem? (i := 120) rfl), lw_t8 (List.mem_of_getElem? (i := 193) rfl), lw_t8 (List.mem_of_getElem? (i := 194) rfl)⟩
theorem lw_p68 : lw_okq (⟨"BlueBagModel", "readPart", "(I)V"⟩, 64) := ⟨⟨by decide +kernel, by decide +kernel⟩, lw_t7 (List.mem_of_getElem? (i := 120) rfl), lw_t8 (List.mem_of_getElem? (i := 197) rfl), lw_t8 (List.mem_of_getElem? (i := 198) rfl)⟩
theorem lw_p69 : lw_okq (⟨"BlueBagModel", "lay", "(I)V"⟩, 64) := ⟨⟨by decide +kernel, by decide +kernel⟩, lw_t7 (List.mem_of_getElem? (i := 120) rfl), lw_t8 (List.mem_of_getElem? (i := 201) rfl), lw_t8 (List.mem_of_getElem? (i := 202) rfl)⟩
theorem lw_p70 : lw_okq (⟨"BlueBagModel", "mark", "(I)V"⟩, 64) := ⟨⟨by decide +kernel, by decide +kernel⟩, lw_t7 (List.mem_of_getElem? (i := 120) rfl), lw_t8 (List.mem_of_getElem? (i := 205) rfl), lw_t8 (List.mem_of_getElem? (i := 206) rfl)⟩
theorem lw_p71 : lw_okq (⟨"BlueBagModel", "sayWoman", "(I)V"⟩, 64) := ⟨⟨by decide +kernel, by decide +kernel⟩, lw_t7 (List.mem_of_getElem? (i := 120) rfl), lw_t8 (List.mem_of_getElem? (i := 211) rfl), lw_t8 (List.mem_of_getElem? (i := 212) rfl)⟩
theorem lw_p72 : lw_okq (⟨"BlueBagModel", "cellNow", "(I)I"⟩, 64) := ⟨⟨by decide +kernel, by decide +kernel⟩, lw_t7 (List.mem_of_getElem? (i := 120) rfl), lw_t8 (List.mem_of_getElem? (i := 215) rfl), lw_t8 (List.mem_of_getElem? (i := 216) rfl)⟩
theorem lw_p73 : lw_okq (⟨"BlueBagModel", "sayBlue", "()V"⟩, 64) := ⟨⟨by decide +kernel, by decide +kernel⟩, lw_t7 (List.mem_of_getElem? (i := 120) rfl), lw_t8 (List.mem_of_getElem? (i := 222) rfl), lw_t8 (List.mem_of_getElem? (i := 223) rfl)⟩
theorem lw_p74 : lw_okq (⟨"BlueBagModel", "sayPegs", "()V"⟩, 64) := ⟨⟨by decide +kernel, by decide +kernel⟩, lw_t7 (List.mem_of_getElem? (i := 120) rfl), lw_t8 (List.mem_of_getElem? (i := 227) rfl), lw_t8 (List.mem_of_getElem? (i := 228) rfl)⟩
theorem lw_p75 : lw_okq (⟨"BlueBagModel", "takeOver", "()V"⟩, 64) := ⟨⟨by decide +kernel, by decide +kernel⟩, lw_t7 (List.mem_of_getElem? (i := 120) rfl), lw_t8 (List.mem_of_getElem? (i := 231) rfl), lw_t8 (List.mem_of_getElem? (i := 232) rfl)⟩
theorem lw_p76 : lw_okq (⟨"BlueBagModel", "cells", "()I"⟩, 64) := ⟨⟨by decide +kernel, by decide +kernel⟩, lw_t7 (List.mem_of_getElem? (i := 120) rfl), lw_t9 (List.mem_of_getElem? (i := 6) rfl), lw_t9 (List.mem_of_getElem? (i := 7) rfl)⟩
theorem lw_p77 : lw_okq (⟨"BlueBagModel", "allBlue", "()I"⟩, 64) := ⟨⟨by decide +kernel, by decide +kernel⟩, lw_t7 (List.mem_of_getElem? (i := 120) rfl), lw_t9 (List.mem_of_getElem? (i := 10) rfl), lw_t9 (List.mem_of_getElem? (i := 11) rfl)⟩
theorem lw_p78 : lw_okq (⟨"BlueBagModel", "isCell", "(I)Z"⟩, 64) := ⟨⟨by decide +kernel, by decide +kernel⟩, lw_t7 (List.mem_of_getElem? (i := 120) rfl), lw_t9 (List.mem_of_getElem? (i := 18) rfl), lw_t9 (List.mem_of_getElem? (i := 19) rfl)⟩
theorem lw_p79 : lw_okq (⟨"BlueBagModel", "besideOf", "(I)I"⟩, 64) := ⟨⟨by decide +kernel, by decide +kernel⟩, lw_t7 (List.mem_of_getElem? (i := 120) rfl), lw_t9 (List.mem_of_getElem? (i := 25) rfl), lw_t9 (List.mem_of_getElem? (i := 26) rfl)⟩
def lw_privs_5 : List (MethodName × Nat) := [(⟨"BlueBagModel", "readAnd", "(I)V"⟩, 64), (⟨"BlueBagModel", "readNot", "(I)V"⟩, 64), (⟨"BlueBagModel", "readSum", "(I)V"⟩, 64), (⟨"BlueBagModel", "readProduct", "(I)V"⟩, 64), (⟨"BlueBagModel", "readPart", "(I)V"⟩, 64), (⟨"BlueBagModel", "lay", "(I)V"⟩, 64), (⟨"BlueBagModel", "mark", "(I)V"⟩, 64), (⟨"BlueBagModel", "sayWoman", "(I)V"⟩, 64), (⟨"BlueBagModel", "cellNow", "(I)I"⟩, 64), (⟨"BlueBagModel", "sayBlue", "()V"⟩, 64), (⟨"BlueBagModel", "sayPegs", "()V"⟩, 64), (⟨"BlueBagModel", "takeOver", "()V"⟩, 64), (⟨"BlueBagModel", "cells", "()I"⟩, 64), (⟨"BlueBagModel", "allBlue", "()I"⟩, 64), (⟨"BlueBagModel", "isCell", "(I)Z"⟩, 64), (⟨"BlueBagModel", "besideOf", "(I)I"⟩, 64)]
theorem lw_r5 : ∀ q ∈ lw_privs_5, lw_okq q := List.forall_mem_cons.mpr ⟨lw_p64, List.forall_mem_cons.mpr ⟨lw_p65, List.forall_mem_cons.mpr ⟨lw_p66, List.forall_mem_cons.mpr ⟨lw_p67, List.forall_mem_cons.mpr ⟨lw_p68, List.forall_mem_cons.mpr ⟨lw_p69, List.forall_mem_cons.mpr ⟨lw_p70, List.forall_mem_cons.mpr ⟨lw_p71, List.forall_mem_cons.mpr ⟨lw_p72, List.forall_mem_cons.mpr ⟨lw_p73, List.forall_mem_cons.mpr ⟨lw_p74, List.forall_mem_cons.mpr ⟨lw_p75, List.forall_mem_cons.mpr ⟨lw_p76, List.forall_mem_cons.mpr ⟨lw_p77, List.forall_mem_cons.mpr ⟨lw_p78, List.forall_mem_cons.mpr ⟨lw_p79, fun _ h => absurd h List.not_mem_nil⟩⟩⟩⟩⟩⟩⟩⟩⟩⟩⟩⟩⟩⟩⟩⟩
theorem lw_p80 : lw_okq (⟨"BlueBagModel", "farOf", "(II)I"⟩, 64) := ⟨⟨by decide +kernel, by decide +kernel⟩, lw_t7 (List.mem_of_getElem? (i := 120) rfl), lw_t9 (List.mem_of_getElem? (i := 29) rfl), lw_t9 (List.mem_of_getElem? (i := 30) rfl)⟩
theorem lw_p81 : lw_okq (⟨"BlueBagModel", "columnOf", "(I)I"⟩, 64) := ⟨⟨by decide +kernel, by decide +kernel⟩, lw_t7 (List.mem_of_getElem? (i := 120) rfl), lw_t9 (List.mem_of_getElem? (i := 33) rfl), lw_t9 (List.mem_of_getElem? (i := 34) rfl)⟩
theorem lw_p82 : lw_okq (⟨"BlueBagModel", "rowOf", "(I)I"⟩, 64) := ⟨⟨by decide +kernel, by decide +kernel⟩, lw_t7 (List.mem_of_getElem? (i := 120) rfl), lw_t9 (List.mem_of_getElem? (i := 38) rfl), lw_t9 (List.mem_of_getElem? (i := 39) rfl)⟩
theorem lw_p83 : lw_okq (⟨"BlueBagModel", "girlsAt", "(I)I"⟩, 64) := ⟨⟨by decide +kernel, by decide +kernel⟩, lw_t7 (List.mem_of_getElem? (i := 120) rfl), lw_t9 (List.mem_of_getElem? (i := 42) rfl), lw_t9 (List.mem_of_getElem? (i := 43) rfl)⟩
theorem lw_p84 : lw_okq (⟨"BlueBagModel", "patchOf", "(II)I"⟩, 64) := ⟨⟨by decide +kernel, by decide +kernel⟩, lw_t7 (List.mem_of_getElem? (i := 120) rfl), lw_t9 (List.mem_of_getElem? (i := 46) rfl), lw_t9 (List.mem_of_getElem? (i := 47) rfl)⟩
theorem lw_p85 : lw_okq (⟨"BlueBagModel", "isGirl", "(I)Z"⟩, 64) := ⟨⟨by decide +kernel, by decide +kernel⟩, lw_t7 (List.mem_of_getElem? (i := 120) rfl), lw_t9 (List.mem_of_getElem? (i := 54) rfl), lw_t9 (List.mem_of_getElem? (i := 55) rfl)⟩
theorem lw_p86 : lw_okq (⟨"BlueBagModel", "dyesOf", "(II)I"⟩, 64) := ⟨⟨by decide +kernel, by decide +kernel⟩, lw_t7 (List.mem_of_getElem? (i := 120) rfl), lw_t9 (List.mem_of_getElem? (i := 59) rfl), lw_t9 (List.mem_of_getElem? (i := 60) rfl)⟩
theorem lw_p87 : lw_okq (⟨"BlueBagModel", "ask", "(I)V"⟩, 64) := ⟨⟨by decide +kernel, by decide +kernel⟩, lw_t7 (List.mem_of_getElem? (i := 120) rfl), lw_t9 (List.mem_of_getElem? (i := 63) rfl), lw_t9 (List.mem_of_getElem? (i := 64) rfl)⟩
theorem lw_p88 : lw_okq (⟨"BlueBagModel", "blueBeside", "(I)I"⟩, 64) := ⟨⟨by decide +kernel, by decide +kernel⟩, lw_t7 (List.mem_of_getElem? (i := 120) rfl), lw_t9 (List.mem_of_getElem? (i := 67) rfl), lw_t9 (List.mem_of_getElem? (i := 68) rfl)⟩
theorem lw_p89 : lw_okq (⟨"BlueBagModel", "valueNow", "([II)I"⟩, 64) := ⟨⟨by decide +kernel, by decide +kernel⟩, lw_t7 (List.mem_of_getElem? (i := 120) rfl), lw_t9 (List.mem_of_getElem? (i := 71) rfl), lw_t9 (List.mem_of_getElem? (i := 72) rfl)⟩
theorem lw_p90 : lw_okq (⟨"BlueBagModel", "refuse", "(I)I"⟩, 64) := ⟨⟨by decide +kernel, by decide +kernel⟩, lw_t7 (List.mem_of_getElem? (i := 120) rfl), lw_t9 (List.mem_of_getElem? (i := 83) rfl), lw_t9 (List.mem_of_getElem? (i := 84) rfl)⟩
theorem lw_p91 : lw_okq (⟨"BlueBagModel", "keep", "()V"⟩, 64) := ⟨⟨by decide +kernel, by decide +kernel⟩, lw_t7 (List.mem_of_getElem? (i := 120) rfl), lw_t9 (List.mem_of_getElem? (i := 87) rfl), lw_t9 (List.mem_of_getElem? (i := 88) rfl)⟩
theorem lw_p92 : lw_okq (⟨"BlueBagModel", "pack", "([II)V"⟩, 64) := ⟨⟨by decide +kernel, by decide +kernel⟩, lw_t7 (List.mem_of_getElem? (i := 120) rfl), lw_t9 (List.mem_of_getElem? (i := 91) rfl), lw_t9 (List.mem_of_getElem? (i := 92) rfl)⟩
theorem lw_p93 : lw_okq (⟨"BlueBagModel", "goOn", "(I)V"⟩, 64) := ⟨⟨by decide +kernel, by decide +kernel⟩, lw_t7 (List.mem_of_getElem? (i := 120) rfl), lw_t9 (List.mem_of_getElem? (i := 95) rfl), lw_t9 (List.mem_of_getElem? (i := 96) rfl)⟩
theorem lw_p94 : lw_okq (⟨"BlueBagModel", "aDay", "()V"⟩, 64) := ⟨⟨by decide +kernel, by decide +kernel⟩, lw_t7 (List.mem_of_getElem? (i := 120) rfl), lw_t9 (List.mem_of_getElem? (i := 99) rfl), lw_t9 (List.mem_of_getElem? (i := 100) rfl)⟩
theorem lw_p95 : lw_okq (⟨"BlueBagModel", "swish", "(II)V"⟩, 64) := ⟨⟨by decide +kernel, by decide +kernel⟩, lw_t7 (List.mem_of_getElem? (i := 120) rfl), lw_t9 (List.mem_of_getElem? (i := 103) rfl), lw_t9 (List.mem_of_getElem? (i := 104) rfl)⟩
def lw_privs_6 : List (MethodName × Nat) := [(⟨"BlueBagModel", "farOf", "(II)I"⟩, 64), (⟨"BlueBagModel", "columnOf", "(I)I"⟩, 64), (⟨"BlueBagModel", "rowOf", "(I)I"⟩, 64), (⟨"BlueBagModel", "girlsAt", "(I)I"⟩, 64), (⟨"BlueBagModel", "patchOf", "(II)I"⟩, 64), (⟨"BlueBagModel", "isGirl", "(I)Z"⟩, 64), (⟨"BlueBagModel", "dyesOf", "(II)I"⟩, 64), (⟨"BlueBagModel", "ask", "(I)V"⟩, 64), (⟨"BlueBagModel", "blueBeside", "(I)I"⟩, 64), (⟨"BlueBagModel", "valueNow", "([II)I"⟩, 64), (⟨"BlueBagModel", "refuse", "(I)I"⟩, 64), (⟨"BlueBagModel", "keep", "()V"⟩, 64), (⟨"BlueBagModel", "pack", "([II)V"⟩, 64), (⟨"BlueBagModel", "goOn", "(I)V"⟩, 64), (⟨"BlueBagModel", "aDay", "()V"⟩, 64), (⟨"BlueBagModel", "swish", "(II)V"⟩, 64)]
theorem lw_r6 : ∀ q ∈ lw_privs_6, lw_okq q := List.forall_mem_cons.mpr ⟨lw_p80, List.forall_mem_cons.mpr ⟨lw_p81, List.forall_mem_cons.mpr ⟨lw_p82, List.forall_mem_cons.mpr ⟨lw_p83, List.forall_mem_cons.mpr ⟨lw_p84, List.forall_mem_cons.mpr ⟨lw_p85, List.forall_mem_cons.mpr ⟨lw_p86, List.forall_mem_cons.mpr ⟨lw_p87, List.forall_mem_cons.mpr ⟨lw_p88, List.forall_mem_cons.mpr ⟨lw_p89, List.forall_mem_cons.mpr ⟨lw_p90, List.forall_mem_cons.mpr ⟨lw_p91, List.forall_mem_cons.mpr ⟨lw_p92, List.forall_mem_cons.mpr ⟨lw_p93, List.forall_mem_cons.mpr ⟨lw_p94, List.forall_mem_cons.mpr ⟨lw_p95, fun _ h => absurd h List.not_mem_nil⟩⟩⟩⟩⟩⟩⟩⟩⟩⟩⟩⟩⟩⟩⟩⟩
theorem lw_p96 : lw_okq (⟨"BlueBagModel", "dye", "(II)V"⟩, 64) := ⟨⟨by decide +kernel, by decide +kernel⟩, lw_t7 (List.mem_of_getElem? (i := 120) rfl), lw_t9 (List.mem_of_getElem? (i := 107) rfl), lw_t9 (List.mem_of_getElem? (i := 108) rfl)⟩
theorem lw_p97 : lw_okq (⟨"BlueBagModel", "fadesOf", "(I)I"⟩, 64) := ⟨⟨by decide +kernel, by decide +kernel⟩, lw_t7 (List.mem_of_getElem? (i := 120) rfl), lw_t9 (List.mem_of_getElem? (i := 114) rfl), lw_t9 (List.mem_of_getElem? (i := 115) rfl)⟩
theorem lw_p98 : lw_okq (⟨"BlueBagModel", "failing", "(I)Z"⟩, 64) := ⟨⟨by decide +kernel, by decide +kernel⟩, lw_t7 (List.mem_of_getElem? (i := 120) rfl), lw_t9 (List.mem_of_getElem? (i := 122) rfl), lw_t9 (List.mem_of_getElem? (i := 123) rfl)⟩
theorem lw_p99 : lw_okq (⟨"BlueBagModel", "unpack", "([II)V"⟩, 64) := ⟨⟨by decide +kernel, by decide +kernel⟩, lw_t7 (List.mem_of_getElem? (i := 120) rfl), lw_t9 (List.mem_of_getElem? (i := 143) rfl), lw_t9 (List.mem_of_getElem? (i := 144) rfl)⟩
theorem lw_p100 : lw_okq (⟨"BlueBagModel", "uneven", "()I"⟩, 64) := ⟨⟨by decide +kernel, by decide +kernel⟩, lw_t7 (List.mem_of_getElem? (i := 120) rfl), lw_t9 (List.mem_of_getElem? (i := 157) rfl), lw_t9 (List.mem_of_getElem? (i := 158) rfl)⟩
theorem lw_p101 : lw_okq (⟨"BlueBagModel", "extreme", "(Z)I"⟩, 64) := ⟨⟨by decide +kernel, by decide +kernel⟩, lw_t7 (List.mem_of_getElem? (i := 120) rfl), lw_t9 (List.mem_of_getElem? (i := 161) rfl), lw_t9 (List.mem_of_getElem? (i := 162) rfl)⟩
theorem lw_p102 : lw_okq (⟨"BlueBagModel", "streakFrom", "(I)I"⟩, 64) := ⟨⟨by decide +kernel, by decide +kernel⟩, lw_t7 (List.mem_of_getElem? (i := 120) rfl), lw_t9 (List.mem_of_getElem? (i := 192) rfl), lw_t9 (List.mem_of_getElem? (i := 193) rfl)⟩
theorem lw_p103 : lw_okq (⟨"BlueBagModel", "unevenNext", "()I"⟩, 64) := ⟨⟨by decide +kernel, by decide +kernel⟩, lw_t7 (List.mem_of_getElem? (i := 120) rfl), lw_t9 (List.mem_of_getElem? (i := 213) rfl), lw_t9 (List.mem_of_getElem? (i := 214) rfl)⟩
theorem lw_p104 : lw_okq (⟨"BlueBagModel", "tellLeast", "(I)V"⟩, 64) := ⟨⟨by decide +kernel, by decide +kernel⟩, lw_t7 (List.mem_of_getElem? (i := 120) rfl), lw_t10 (List.mem_of_getElem? (i := 1) rfl), lw_t10 (List.mem_of_getElem? (i := 2) rfl)⟩
theorem lw_p105 : lw_okq (⟨"BlueBagModel", "with", "(III)I"⟩, 64) := ⟨⟨by decide +kernel, by decide +kernel⟩, lw_t7 (List.mem_of_getElem? (i := 120) rfl), lw_t10 (List.mem_of_getElem? (i := 5) rfl), lw_t10 (List.mem_of_getElem? (i := 6) rfl)⟩
theorem lw_p106 : lw_okq (⟨"BlueBagModel", "isAsSeen", "()Z"⟩, 64) := ⟨⟨by decide +kernel, by decide +kernel⟩, lw_t7 (List.mem_of_getElem? (i := 120) rfl), lw_t10 (List.mem_of_getElem? (i := 18) rfl), lw_t10 (List.mem_of_getElem? (i := 19) rfl)⟩
theorem lw_p107 : lw_okq (⟨"BlueBagModel", "tellFits", "()V"⟩, 64) := ⟨⟨by decide +kernel, by decide +kernel⟩, lw_t7 (List.mem_of_getElem? (i := 120) rfl), lw_t10 (List.mem_of_getElem? (i := 22) rfl), lw_t10 (List.mem_of_getElem? (i := 23) rfl)⟩
theorem lw_p108 : lw_okq (⟨"BlueBagModel", "unlike", "(I)I"⟩, 64) := ⟨⟨by decide +kernel, by decide +kernel⟩, lw_t7 (List.mem_of_getElem? (i := 120) rfl), lw_t10 (List.mem_of_getElem? (i := 30) rfl), lw_t10 (List.mem_of_getElem? (i := 31) rfl)⟩
theorem lw_p109 : lw_okq (⟨"BlueBagModel", "tellGains", "(II)V"⟩, 64) := ⟨⟨by decide +kernel, by decide +kernel⟩, lw_t7 (List.mem_of_getElem? (i := 120) rfl), lw_t10 (List.mem_of_getElem? (i := 42) rfl), lw_t10 (List.mem_of_getElem? (i := 43) rfl)⟩
theorem lw_p110 : lw_okq (⟨"BlueBagModel", "something", "()V"⟩, 64) := ⟨⟨by decide +kernel, by decide +kernel⟩, lw_t7 (List.mem_of_getElem? (i := 120) rfl), lw_t10 (List.mem_of_getElem? (i := 50) rfl), lw_t10 (List.mem_of_getElem? (i := 51) rfl)⟩
theorem lw_p111 : lw_okq (⟨"BlueBagModel", "drawOf", "(I)I"⟩, 64) := ⟨⟨by decide +kernel, by decide +kernel⟩, lw_t7 (List.mem_of_getElem? (i := 120) rfl), lw_t10 (List.mem_of_getElem? (i := 54) rfl), lw_t10 (List.mem_of_getElem? (i := 55) rfl)⟩
def lw_privs_7 : List (MethodName × Nat) := [(⟨"BlueBagModel", "dye", "(II)V"⟩, 64), (⟨"BlueBagModel", "fadesOf", "(I)I"⟩, 64), (⟨"BlueBagModel", "failing", "(I)Z"⟩, 64), (⟨"BlueBagModel", "unpack", "([II)V"⟩, 64), (⟨"BlueBagModel", "uneven", "()I"⟩, 64), (⟨"BlueBagModel", "extreme", "(Z)I"⟩, 64), (⟨"BlueBagModel", "streakFrom", "(I)I"⟩, 64), (⟨"BlueBagModel", "unevenNext", "()I"⟩, 64), (⟨"BlueBagModel", "tellLeast", "(I)V"⟩, 64), (⟨"BlueBagModel", "with", "(III)I"⟩, 64), (⟨"BlueBagModel", "isAsSeen", "()Z"⟩, 64), (⟨"BlueBagModel", "tellFits", "()V"⟩, 64), (⟨"BlueBagModel", "unlike", "(I)I"⟩, 64), (⟨"BlueBagModel", "tellGains", "(II)V"⟩, 64), (⟨"BlueBagModel", "something", "()V"⟩, 64), (⟨"BlueBagModel", "drawOf", "(I)I"⟩, 64)]
theorem lw_r7 : ∀ q ∈ lw_privs_7, lw_okq q := List.forall_mem_cons.mpr ⟨lw_p96, List.forall_mem_cons.mpr ⟨lw_p97, List.forall_mem_cons.mpr ⟨lw_p98, List.forall_mem_cons.mpr ⟨lw_p99, List.forall_mem_cons.mpr ⟨lw_p100, List.forall_mem_cons.mpr ⟨lw_p101, List.forall_mem_cons.mpr ⟨lw_p102, List.forall_mem_cons.mpr ⟨lw_p103, List.forall_mem_cons.mpr ⟨lw_p104, List.forall_mem_cons.mpr ⟨lw_p105, List.forall_mem_cons.mpr ⟨lw_p106, List.forall_mem_cons.mpr ⟨lw_p107, List.forall_mem_cons.mpr ⟨lw_p108, List.forall_mem_cons.mpr ⟨lw_p109, List.forall_mem_cons.mpr ⟨lw_p110, List.forall_mem_cons.mpr ⟨lw_p111, fun _ h => absurd h List.not_mem_nil⟩⟩⟩⟩⟩⟩⟩⟩⟩⟩⟩⟩⟩⟩⟩⟩
def lw_privs : List (MethodName × Nat) := lw_privs_1 ++ (lw_privs_2 ++ (lw_privs_3 ++ (lw_privs_4 ++ (lw_privs_5 ++ (lw_privs_6 ++ (lw_privs_7))))))
def lw_tbl : List Cond := k2_sels lw_privs ++ tables_1
theorem lw_privs_ok : ∀ q ∈ lw_privs, lw_okq q := by
  show ∀ q ∈ lw_privs_1 ++ (lw_privs_2 ++ (lw_privs_3 ++ (lw_privs_4 ++ (lw_privs_5 ++ (lw_privs_6 ++ (lw_privs_7)))))), lw_okq q
  exact List.forall_mem_append.mpr ⟨lw_r1, List.forall_mem_append.mpr ⟨lw_r2, List.forall_mem_append.mpr ⟨lw_r3, List.forall_mem_append.mpr ⟨lw_r4, List.forall_mem_append.mpr ⟨lw_r5, List.forall_mem_append.mpr ⟨lw_r6, lw_r7⟩⟩⟩⟩⟩⟩
-- ===== ONE list of words for every method: the tables' words that hold all through a run =====
def lw_all : List Cond := lw_tbl.filter goodWord
/-- a word of the tables by its place: claim/WORDS.tsv -/
theorem lw_w {w : Cond} (i : Nat) (h : lw_tbl[i]? = some w) (g : goodWord w = true) : w ∈ lw_all := List.mem_filter.mpr ⟨List.mem_of_getElem? h, g⟩
theorem lw_all_tbl {w : Cond} (h : w ∈ lw_all) : w ∈ lw_tbl := (List.mem_filter.mp h).1
theorem lw_self : GoodIn lw_all lw_all := fun w h => ⟨h, good_of_word (List.mem_filter.mp h).2⟩
/-- a class's field words, by their places -/
theorem lw_in (ws : List Cond) (ps : List Nat) (hp : ws = ps.filterMap (fun i => lw_tbl[i]?)) (hg : ws.all goodWord = true) : ∀ w ∈ ws, w ∈ lw_all := by
  intro w h
  have h1 := List.all_eq_true.mp hg w h
  rw [hp] at h
  obtain ⟨i, -, hi⟩ := List.mem_filterMap.mp h
  exact lw_w i hi h1
/-- the words of a contract for the method y with code b, L locals, answer r -/
abbrev ws_ (y : MethodName) (b : ByteArray) (L : Nat) (r : Option FieldType) : List Cond := Cond.code y b L r :: lw_all
theorem lw_meth {y : MethodName} {b : ByteArray} {L : Nat} {r : Option FieldType} (h : Cond.code y b L r ∈ lw_all) : GoodIn lw_all (ws_ y b L r) := by
  intro w hw
  rcases List.mem_cons.mp hw with e | e
  · rw [e]
    exact lw_self _ h
  · exact lw_self _ e
theorem lw_app {a c : List Cond} (ha : ∀ w ∈ a, w ∈ lw_all) (hc : GoodIn lw_all c) : GoodIn lw_all (a ++ c) := by
  intro w hw
  rcases List.mem_append.mp hw with e | e
  · exact lw_self w (ha w e)
  · exact hc w e
/-- what a call through an object asks: cwV n hts (lw_V ..) -/
theorem lw_V {own : String} {idx : Nat} {C : String} {y : MethodName} {b : ByteArray} {L : Nat} {r : Option FieldType} (h1 : Cond.methodLink own idx y ∈ lw_all) (h2 : Cond.instanceMethod y ∈ lw_all) (h3 : Cond.selects C y y ∈ lw_all) (h4 : Cond.initialized C ∈ lw_all) (h5 : Cond.code y b L r ∈ lw_all) : GoodIn lw_all (wsV own idx C y (ws_ y b L r)) := by
  refine lw_app ?_ (lw_meth h5)
  intro w hw
  simp only [List.mem_cons, List.not_mem_nil, or_false] at hw
  rcases hw with e | e | e | e
  · rw [e]; exact h1
  · rw [e]; exact h2
  · rw [e]; exact h3
  · rw [e]; exact h4
/-- what a static call asks: va_cwS n hts (lw_S ..) -/
theorem lw_S {own : String} {idx : Nat} {y : MethodName} {b : ByteArray} {L : Nat} {r : Option FieldType} (h1 : Cond.methodLink own idx y ∈ lw_all) (h2 : Cond.static y ∈ lw_all) (h3 : Cond.initialized y.cls ∈ lw_all) (h4 : Cond.code y b L r ∈ lw_all) : GoodIn lw_all (va_wsS own idx y (ws_ y b L r)) := by
  refine lw_app ?_ (lw_meth h4)
  intro w hw
  simp only [List.mem_cons, List.not_mem_nil, or_false] at hw
  rcases hw with e | e | e
  · rw [e]; exact h1
  · rw [e]; exact h2
  · rw [e]; exact h3
/-- the words of a contract for a method WITH HANDLERS (hh: its table) -/
abbrev wsW_ (y : MethodName) (b : ByteArray) (L : Nat) (r : Option FieldType) (hh : List (Nat × Nat × Nat × Nat)) : List Cond := Cond.codeWith y b L r hh :: lw_all
theorem lw_methW {y : MethodName} {b : ByteArray} {L : Nat} {r : Option FieldType} {hh : List (Nat × Nat × Nat × Nat)} (h : Cond.codeWith y b L r hh ∈ lw_all) : GoodIn lw_all (wsW_ y b L r hh) := by
  intro w hw
  rcases List.mem_cons.mp hw with e | e
  · rw [e]
    exact lw_self _ h
  · exact lw_self _ e
/-- any list of words by their places (lw_in), good -/
theorem lw_good {ws : List Cond} (h : ∀ w ∈ ws, w ∈ lw_all) : GoodIn lw_all ws := fun w hw => lw_self w (h w hw)
/-- what a call of a method with handlers asks: vx_cwVW n hts (lw_VW ..), vx_cwSW n hts (lw_SW ..) -/
theorem lw_VW {own : String} {idx : Nat} {C : String} {y : MethodName} {b : ByteArray} {L : Nat} {r : Option FieldType} {hh : List (Nat × Nat × Nat × Nat)} (h1 : Cond.methodLink own idx y ∈ lw_all) (h2 : Cond.instanceMethod y ∈ lw_all) (h3 : Cond.selects C y y ∈ lw_all) (h4 : Cond.initialized C ∈ lw_all) (h5 : Cond.codeWith y b L r hh ∈ lw_all) : GoodIn lw_all (wsV own idx C y (wsW_ y b L r hh)) := by
  refine lw_app ?_ (lw_methW h5)
  intro w hw
  simp only [List.mem_cons, List.not_mem_nil, or_false] at hw
  rcases hw with e | e | e | e
  · rw [e]; exact h1
  · rw [e]; exact h2
  · rw [e]; exact h3
  · rw [e]; exact h4
theorem lw_SW {own : String} {idx : Nat} {y : MethodName} {b : ByteArray} {L : Nat} {r : Option FieldType} {hh : List (Nat × Nat × Nat × Nat)} (h1 : Cond.methodLink own idx y ∈ lw_all) (h2 : Cond.static y ∈ lw_all) (h3 : Cond.initialized y.cls ∈ lw_all) (h4 : Cond.codeWith y b L r hh ∈ lw_all) : GoodIn lw_all (va_wsS own idx y (wsW_ y b L r hh)) := by
  refine lw_app ?_ (lw_methW h4)
  intro w hw
  simp only [List.mem_cons, List.not_mem_nil, or_false] at hw
  rcases hw with e | e | e
  · rw [e]; exact h1
  · rw [e]; exact h2
  · rw [e]; exact h3
/-- a word by its place in its run of the tables -/
theorem lw_at {r : List Cond} (hr : ∀ w ∈ r, w ∈ lw_tbl) {w : Cond} (i : Nat) (h : r[i]? = some w) : w ∈ lw_tbl := hr w (List.mem_of_getElem? h)
theorem lw_g {w : Cond} (h : w ∈ lw_tbl) (g : goodWord w = true) : w ∈ lw_all := List.mem_filter.mpr ⟨h, g⟩
theorem lw_ms : ∀ w ∈ k2_sels lw_privs, w ∈ lw_tbl := fun w h => show w ∈ k2_sels lw_privs ++ tables_1 from List.mem_append_left _ h
theorem lw_m1 : ∀ w ∈ tables_1_1, w ∈ lw_tbl := fun w h => show w ∈ k2_sels lw_privs ++ tables_1 from List.mem_append_right (k2_sels lw_privs) (show w ∈ tables_1 from List.mem_append_left _ h)
theorem lw_m2 : ∀ w ∈ tables_1_2, w ∈ lw_tbl := fun w h => show w ∈ k2_sels lw_privs ++ tables_1 from List.mem_append_right (k2_sels lw_privs) (show w ∈ tables_1 from List.mem_append_right _ (List.mem_append_left _ h))
theorem lw_m3 : ∀ w ∈ tables_1_3, w ∈ lw_tbl := fun w h => show w ∈ k2_sels lw_privs ++ tables_1 from List.mem_append_right (k2_sels lw_privs) (show w ∈ tables_1 from List.mem_append_right _ (List.mem_append_right _ (List.mem_append_left _ h)))
theorem lw_m4 : ∀ w ∈ tables_1_4, w ∈ lw_tbl := fun w h => show w ∈ k2_sels lw_privs ++ tables_1 from List.mem_append_right (k2_sels lw_privs) (show w ∈ tables_1 from List.mem_append_right _ (List.mem_append_right _ (List.mem_append_right _ (List.mem_append_left _ h))))
theorem lw_m5 : ∀ w ∈ tables_1_5, w ∈ lw_tbl := fun w h => show w ∈ k2_sels lw_privs ++ tables_1 from List.mem_append_right (k2_sels lw_privs) (show w ∈ tables_1 from List.mem_append_right _ (List.mem_append_right _ (List.mem_append_right _ (List.mem_append_right _ (List.mem_append_left _ h)))))
theorem lw_m6 : ∀ w ∈ tables_1_6, w ∈ lw_tbl := fun w h => show w ∈ k2_sels lw_privs ++ tables_1 from List.mem_append_right (k2_sels lw_privs) (show w ∈ tables_1 from List.mem_append_right _ (List.mem_append_right _ (List.mem_append_right _ (List.mem_append_right _ (List.mem_append_right _ (List.mem_append_left _ h))))))
theorem lw_m7 : ∀ w ∈ tables_1_7, w ∈ lw_tbl := fun w h => show w ∈ k2_sels lw_privs ++ tables_1 from List.mem_append_right (k2_sels lw_privs) (show w ∈ tables_1 from List.mem_append_right _ (List.mem_append_right _ (List.mem_append_right _ (List.mem_append_right _ (List.mem_append_right _ (List.mem_append_right _ (List.mem_append_left _ h)))))))
theorem lw_m8 : ∀ w ∈ tables_1_8, w ∈ lw_tbl := fun w h => show w ∈ k2_sels lw_privs ++ tables_1 from List.mem_append_right (k2_sels lw_privs) (show w ∈ tables_1 from List.mem_append_right _ (List.mem_append_right _ (List.mem_append_right _ (List.mem_append_right _ (List.mem_append_right _ (List.mem_append_right _ (List.mem_append_right _ (List.mem_append_left _ h))))))))
theorem lw_m9 : ∀ w ∈ tables_1_9, w ∈ lw_tbl := fun w h => show w ∈ k2_sels lw_privs ++ tables_1 from List.mem_append_right (k2_sels lw_privs) (show w ∈ tables_1 from List.mem_append_right _ (List.mem_append_right _ (List.mem_append_right _ (List.mem_append_right _ (List.mem_append_right _ (List.mem_append_right _ (List.mem_append_right _ (List.mem_append_right _ (List.mem_append_left _ h)))))))))
theorem lw_m10 : ∀ w ∈ tables_1_10, w ∈ lw_tbl := fun w h => show w ∈ k2_sels lw_privs ++ tables_1 from List.mem_append_right (k2_sels lw_privs) (show w ∈ tables_1 from List.mem_append_right _ (List.mem_append_right _ (List.mem_append_right _ (List.mem_append_right _ (List.mem_append_right _ (List.mem_append_right _ (List.mem_append_right _ (List.mem_append_right _ (List.mem_append_right _ h)))))))))
theorem qs0 : (Cond.selects "java/lang/Throwable" ⟨"java/lang/Throwable", "fillInStackTrace", "(I)Ljava/lang/Throwable;"⟩ ⟨"java/lang/Throwable", "fillInStackTrace", "(I)Ljava/lang/Throwable;"⟩) ∈ lw_all := lw_g (lw_at lw_ms 0 rfl) rfl
theorem qs1 : (Cond.selects "java/util/ArrayList" ⟨"java/util/ArrayList", "add", "(Ljava/lang/Object;[Ljava/lang/Object;I)V"⟩ ⟨"java/util/ArrayList", "add", "(Ljava/lang/Object;[Ljava/lang/Object;I)V"⟩) ∈ lw_all := lw_g (lw_at lw_ms 1 rfl) rfl
theorem qs2 : (Cond.selects "java/util/ArrayList" ⟨"java/util/ArrayList", "grow", "()[Ljava/lang/Object;"⟩ ⟨"java/util/ArrayList", "grow", "()[Ljava/lang/Object;"⟩) ∈ lw_all := lw_g (lw_at lw_ms 2 rfl) rfl
theorem qs3 : (Cond.selects "java/util/ArrayList" ⟨"java/util/ArrayList", "grow", "(I)[Ljava/lang/Object;"⟩ ⟨"java/util/ArrayList", "grow", "(I)[Ljava/lang/Object;"⟩) ∈ lw_all := lw_g (lw_at lw_ms 3 rfl) rfl
theorem qs4 : (Cond.selects "BlueBag" ⟨"BlueBag", "lay", "(I)V"⟩ ⟨"BlueBag", "lay", "(I)V"⟩) ∈ lw_all := lw_g (lw_at lw_ms 4 rfl) rfl
theorem qs5 : (Cond.selects "BlueBag" ⟨"BlueBag", "does", "(Z)Z"⟩ ⟨"BlueBag", "does", "(Z)Z"⟩) ∈ lw_all := lw_g (lw_at lw_ms 5 rfl) rfl
theorem qs6 : (Cond.selects "java/util/ArrayList" ⟨"java/util/ArrayList", "fastRemove", "([Ljava/lang/Object;I)V"⟩ ⟨"java/util/ArrayList", "fastRemove", "([Ljava/lang/Object;I)V"⟩) ∈ lw_all := lw_g (lw_at lw_ms 6 rfl) rfl
theorem qs7 : (Cond.selects "BlueBag" ⟨"BlueBag", "refuses", "(I)I"⟩ ⟨"BlueBag", "refuses", "(I)I"⟩) ∈ lw_all := lw_g (lw_at lw_ms 7 rfl) rfl
theorem qs8 : (Cond.selects "BlueBag$State" ⟨"BlueBag$State", "sees", "(LBlueBag$Coast;I)LBlueBag$View;"⟩ ⟨"BlueBag$State", "sees", "(LBlueBag$Coast;I)LBlueBag$View;"⟩) ∈ lw_all := lw_g (lw_at lw_ms 8 rfl) rfl
theorem qs9 : (Cond.selects "BlueBag$State" ⟨"BlueBag$State", "fades", "(LBlueBag$Coast;I)I"⟩ ⟨"BlueBag$State", "fades", "(LBlueBag$Coast;I)I"⟩) ∈ lw_all := lw_g (lw_at lw_ms 9 rfl) rfl
theorem qs10 : (Cond.selects "BlueBag" ⟨"BlueBag", "tries", "(I)V"⟩ ⟨"BlueBag", "tries", "(I)V"⟩) ∈ lw_all := lw_g (lw_at lw_ms 10 rfl) rfl
theorem qs11 : (Cond.selects "BlueBag" ⟨"BlueBag", "unevenNext", "()I"⟩ ⟨"BlueBag", "unevenNext", "()I"⟩) ∈ lw_all := lw_g (lw_at lw_ms 11 rfl) rfl
theorem qs12 : (Cond.selects "BlueBag" ⟨"BlueBag", "girls", "()I"⟩ ⟨"BlueBag", "girls", "()I"⟩) ∈ lw_all := lw_g (lw_at lw_ms 12 rfl) rfl
theorem qs13 : (Cond.selects "BlueBag" ⟨"BlueBag", "cells", "()I"⟩ ⟨"BlueBag", "cells", "()I"⟩) ∈ lw_all := lw_g (lw_at lw_ms 13 rfl) rfl
theorem qs14 : (Cond.selects "BlueBag$Reader" ⟨"BlueBag$Reader", "go", "()V"⟩ ⟨"BlueBag$Reader", "go", "()V"⟩) ∈ lw_all := lw_g (lw_at lw_ms 14 rfl) rfl
theorem qs15 : (Cond.selects "BlueBag$Reader" ⟨"BlueBag$Reader", "byteAt", "(I)I"⟩ ⟨"BlueBag$Reader", "byteAt", "(I)I"⟩) ∈ lw_all := lw_g (lw_at lw_ms 15 rfl) rfl
theorem qs16 : (Cond.selects "BlueBag$Reader" ⟨"BlueBag$Reader", "is", "(Ljava/lang/String;)Z"⟩ ⟨"BlueBag$Reader", "is", "(Ljava/lang/String;)Z"⟩) ∈ lw_all := lw_g (lw_at lw_ms 16 rfl) rfl
theorem qs17 : (Cond.selects "BlueBag$Reader" ⟨"BlueBag$Reader", "check", "(ZI)V"⟩ ⟨"BlueBag$Reader", "check", "(ZI)V"⟩) ∈ lw_all := lw_g (lw_at lw_ms 17 rfl) rfl
theorem qs18 : (Cond.selects "BlueBag$Reader" ⟨"BlueBag$Reader", "begins", "(Ljava/lang/String;I)Z"⟩ ⟨"BlueBag$Reader", "begins", "(Ljava/lang/String;I)Z"⟩) ∈ lw_all := lw_g (lw_at lw_ms 18 rfl) rfl
theorem qs19 : (Cond.selects "BlueBag$Reader" ⟨"BlueBag$Reader", "sky", "(LBlueBag$Coast;)V"⟩ ⟨"BlueBag$Reader", "sky", "(LBlueBag$Coast;)V"⟩) ∈ lw_all := lw_g (lw_at lw_ms 19 rfl) rfl
theorem qs20 : (Cond.selects "BlueBag$Reader" ⟨"BlueBag$Reader", "number", "(II)I"⟩ ⟨"BlueBag$Reader", "number", "(II)I"⟩) ∈ lw_all := lw_g (lw_at lw_ms 20 rfl) rfl
theorem qs21 : (Cond.selects "BlueBag$Reader" ⟨"BlueBag$Reader", "rule", "(I)LBlueBag$Expr;"⟩ ⟨"BlueBag$Reader", "rule", "(I)LBlueBag$Expr;"⟩) ∈ lw_all := lw_g (lw_at lw_ms 21 rfl) rfl
theorem qs22 : (Cond.selects "BlueBag$Reader" ⟨"BlueBag$Reader", "expr", "(I)LBlueBag$Expr;"⟩ ⟨"BlueBag$Reader", "expr", "(I)LBlueBag$Expr;"⟩) ∈ lw_all := lw_g (lw_at lw_ms 22 rfl) rfl
theorem qs23 : (Cond.selects "BlueBag$Reader" ⟨"BlueBag$Reader", "and", "(I)LBlueBag$Expr;"⟩ ⟨"BlueBag$Reader", "and", "(I)LBlueBag$Expr;"⟩) ∈ lw_all := lw_g (lw_at lw_ms 23 rfl) rfl
theorem qs24 : (Cond.selects "BlueBag$Reader" ⟨"BlueBag$Reader", "not", "(I)LBlueBag$Expr;"⟩ ⟨"BlueBag$Reader", "not", "(I)LBlueBag$Expr;"⟩) ∈ lw_all := lw_g (lw_at lw_ms 24 rfl) rfl
theorem qs25 : (Cond.selects "BlueBag$Reader" ⟨"BlueBag$Reader", "sum", "(I)LBlueBag$Expr;"⟩ ⟨"BlueBag$Reader", "sum", "(I)LBlueBag$Expr;"⟩) ∈ lw_all := lw_g (lw_at lw_ms 25 rfl) rfl
theorem qs26 : (Cond.selects "BlueBag$Reader" ⟨"BlueBag$Reader", "product", "(I)LBlueBag$Expr;"⟩ ⟨"BlueBag$Reader", "product", "(I)LBlueBag$Expr;"⟩) ∈ lw_all := lw_g (lw_at lw_ms 26 rfl) rfl
theorem qs27 : (Cond.selects "BlueBag$Reader" ⟨"BlueBag$Reader", "part", "(I)LBlueBag$Expr;"⟩ ⟨"BlueBag$Reader", "part", "(I)LBlueBag$Expr;"⟩) ∈ lw_all := lw_g (lw_at lw_ms 27 rfl) rfl
theorem qs28 : (Cond.selects "BlueBag$Reader" ⟨"BlueBag$Reader", "need", "(Ljava/lang/String;)V"⟩ ⟨"BlueBag$Reader", "need", "(Ljava/lang/String;)V"⟩) ∈ lw_all := lw_g (lw_at lw_ms 28 rfl) rfl
theorem qs29 : (Cond.selects "BlueBag$Reader" ⟨"BlueBag$Reader", "valueOf", "(Ljava/lang/String;)LBlueBag$Value;"⟩ ⟨"BlueBag$Reader", "valueOf", "(Ljava/lang/String;)LBlueBag$Value;"⟩) ∈ lw_all := lw_g (lw_at lw_ms 29 rfl) rfl
theorem qs30 : (Cond.selects "BlueBag$Reader" ⟨"BlueBag$Reader", "cells", "(LBlueBag$Coast;)V"⟩ ⟨"BlueBag$Reader", "cells", "(LBlueBag$Coast;)V"⟩) ∈ lw_all := lw_g (lw_at lw_ms 30 rfl) rfl
theorem qs31 : (Cond.selects "BlueBag$Reader" ⟨"BlueBag$Reader", "blue", "(LBlueBag$Coast;)V"⟩ ⟨"BlueBag$Reader", "blue", "(LBlueBag$Coast;)V"⟩) ∈ lw_all := lw_g (lw_at lw_ms 31 rfl) rfl
theorem qs32 : (Cond.selects "BlueBag$Reader" ⟨"BlueBag$Reader", "cell", "(LBlueBag$Coast;)I"⟩ ⟨"BlueBag$Reader", "cell", "(LBlueBag$Coast;)I"⟩) ∈ lw_all := lw_g (lw_at lw_ms 32 rfl) rfl
theorem qs33 : (Cond.selects "BlueBag$Reader" ⟨"BlueBag$Reader", "pegs", "(LBlueBag$Coast;)V"⟩ ⟨"BlueBag$Reader", "pegs", "(LBlueBag$Coast;)V"⟩) ∈ lw_all := lw_g (lw_at lw_ms 33 rfl) rfl
theorem qs34 : (Cond.selects "BlueBag$Reader" ⟨"BlueBag$Reader", "girl", "(LBlueBag$Coast;)LBlueBag$Girl;"⟩ ⟨"BlueBag$Reader", "girl", "(LBlueBag$Coast;)LBlueBag$Girl;"⟩) ∈ lw_all := lw_g (lw_at lw_ms 34 rfl) rfl
theorem qs35 : (Cond.selects "BlueBag" ⟨"BlueBag", "cellAt", "(I)V"⟩ ⟨"BlueBag", "cellAt", "(I)V"⟩) ∈ lw_all := lw_g (lw_at lw_ms 35 rfl) rfl
theorem qs36 : (Cond.selects "BlueBag" ⟨"BlueBag", "besideOf", "(I)I"⟩ ⟨"BlueBag", "besideOf", "(I)I"⟩) ∈ lw_all := lw_g (lw_at lw_ms 36 rfl) rfl
theorem qs37 : (Cond.selects "BlueBag" ⟨"BlueBag", "patchOf", "(II)I"⟩ ⟨"BlueBag", "patchOf", "(II)I"⟩) ∈ lw_all := lw_g (lw_at lw_ms 37 rfl) rfl
theorem qs38 : (Cond.selects "BlueBag" ⟨"BlueBag", "girlAt", "(I)LBlueBag$Girl;"⟩ ⟨"BlueBag", "girlAt", "(I)LBlueBag$Girl;"⟩) ∈ lw_all := lw_g (lw_at lw_ms 38 rfl) rfl
theorem qs39 : (Cond.selects "BlueBag" ⟨"BlueBag", "sends", "(I)V"⟩ ⟨"BlueBag", "sends", "(I)V"⟩) ∈ lw_all := lw_g (lw_at lw_ms 39 rfl) rfl
theorem qs40 : (Cond.selects "BlueBag" ⟨"BlueBag", "by", "(III)I"⟩ ⟨"BlueBag", "by", "(III)I"⟩) ∈ lw_all := lw_g (lw_at lw_ms 40 rfl) rfl
theorem qs41 : (Cond.selects "BlueBag" ⟨"BlueBag", "allBy", "(IZ)I"⟩ ⟨"BlueBag", "allBy", "(IZ)I"⟩) ∈ lw_all := lw_g (lw_at lw_ms 41 rfl) rfl
theorem qs42 : (Cond.selects "BlueBag" ⟨"BlueBag", "isSeen", "()Z"⟩ ⟨"BlueBag", "isSeen", "()Z"⟩) ∈ lw_all := lw_g (lw_at lw_ms 42 rfl) rfl
theorem qs43 : (Cond.selects "BlueBag" ⟨"BlueBag", "guesses", "()I"⟩ ⟨"BlueBag", "guesses", "()I"⟩) ∈ lw_all := lw_g (lw_at lw_ms 43 rfl) rfl
theorem qs44 : (Cond.selects "BlueBag" ⟨"BlueBag", "isGuess", "(I)Z"⟩ ⟨"BlueBag", "isGuess", "(I)Z"⟩) ∈ lw_all := lw_g (lw_at lw_ms 44 rfl) rfl
theorem qs45 : (Cond.selects "BlueBag" ⟨"BlueBag", "unlike", "(II)I"⟩ ⟨"BlueBag", "unlike", "(II)I"⟩) ∈ lw_all := lw_g (lw_at lw_ms 45 rfl) rfl
theorem qs46 : (Cond.selects "BlueBag" ⟨"BlueBag", "gains", "(IIZZ)I"⟩ ⟨"BlueBag", "gains", "(IIZZ)I"⟩) ∈ lw_all := lw_g (lw_at lw_ms 46 rfl) rfl
theorem qs47 : (Cond.selects "BlueBag" ⟨"BlueBag", "happens", "()V"⟩ ⟨"BlueBag", "happens", "()V"⟩) ∈ lw_all := lw_g (lw_at lw_ms 47 rfl) rfl
theorem qs48 : (Cond.selects "BlueBag" ⟨"BlueBag", "draw", "(I)I"⟩ ⟨"BlueBag", "draw", "(I)I"⟩) ∈ lw_all := lw_g (lw_at lw_ms 48 rfl) rfl
theorem qs49 : (Cond.selects "BlueBagModel" ⟨"BlueBagModel", "begin", "(I)V"⟩ ⟨"BlueBagModel", "begin", "(I)V"⟩) ∈ lw_all := lw_g (lw_at lw_ms 49 rfl) rfl
theorem qs50 : (Cond.selects "BlueBagModel" ⟨"BlueBagModel", "fail", "(I)I"⟩ ⟨"BlueBagModel", "fail", "(I)I"⟩) ∈ lw_all := lw_g (lw_at lw_ms 50 rfl) rfl
theorem qs51 : (Cond.selects "BlueBagModel" ⟨"BlueBagModel", "stepOn", "()V"⟩ ⟨"BlueBagModel", "stepOn", "()V"⟩) ∈ lw_all := lw_g (lw_at lw_ms 51 rfl) rfl
theorem qs52 : (Cond.selects "BlueBagModel" ⟨"BlueBagModel", "byteAt", "(I)I"⟩ ⟨"BlueBagModel", "byteAt", "(I)I"⟩) ∈ lw_all := lw_g (lw_at lw_ms 52 rfl) rfl
theorem qs53 : (Cond.selects "BlueBagModel" ⟨"BlueBagModel", "readLine", "(I)I"⟩ ⟨"BlueBagModel", "readLine", "(I)I"⟩) ∈ lw_all := lw_g (lw_at lw_ms 53 rfl) rfl
theorem qs54 : (Cond.selects "BlueBagModel" ⟨"BlueBagModel", "which", "([Ljava/lang/String;)I"⟩ ⟨"BlueBagModel", "which", "([Ljava/lang/String;)I"⟩) ∈ lw_all := lw_g (lw_at lw_ms 54 rfl) rfl
theorem qs55 : (Cond.selects "BlueBagModel" ⟨"BlueBagModel", "is", "(Ljava/lang/String;)Z"⟩ ⟨"BlueBagModel", "is", "(Ljava/lang/String;)Z"⟩) ∈ lw_all := lw_g (lw_at lw_ms 55 rfl) rfl
theorem qs56 : (Cond.selects "BlueBagModel" ⟨"BlueBagModel", "wrong", "(I)V"⟩ ⟨"BlueBagModel", "wrong", "(I)V"⟩) ∈ lw_all := lw_g (lw_at lw_ms 56 rfl) rfl
theorem qs57 : (Cond.selects "BlueBagModel" ⟨"BlueBagModel", "sayOnce", "(I)V"⟩ ⟨"BlueBagModel", "sayOnce", "(I)V"⟩) ∈ lw_all := lw_g (lw_at lw_ms 57 rfl) rfl
theorem qs58 : (Cond.selects "BlueBagModel" ⟨"BlueBagModel", "saySky", "()V"⟩ ⟨"BlueBagModel", "saySky", "()V"⟩) ∈ lw_all := lw_g (lw_at lw_ms 58 rfl) rfl
theorem qs59 : (Cond.selects "BlueBagModel" ⟨"BlueBagModel", "readNumber", "(II)I"⟩ ⟨"BlueBagModel", "readNumber", "(II)I"⟩) ∈ lw_all := lw_g (lw_at lw_ms 59 rfl) rfl
theorem qs60 : (Cond.selects "BlueBagModel" ⟨"BlueBagModel", "numberNow", "(II)I"⟩ ⟨"BlueBagModel", "numberNow", "(II)I"⟩) ∈ lw_all := lw_g (lw_at lw_ms 60 rfl) rfl
theorem qs61 : (Cond.selects "BlueBagModel" ⟨"BlueBagModel", "sayRule", "(Z)V"⟩ ⟨"BlueBagModel", "sayRule", "(Z)V"⟩) ∈ lw_all := lw_g (lw_at lw_ms 61 rfl) rfl
theorem qs62 : (Cond.selects "BlueBagModel" ⟨"BlueBagModel", "readExpression", "(I)V"⟩ ⟨"BlueBagModel", "readExpression", "(I)V"⟩) ∈ lw_all := lw_g (lw_at lw_ms 62 rfl) rfl
theorem qs63 : (Cond.selects "BlueBagModel" ⟨"BlueBagModel", "isMarked", "(I)Z"⟩ ⟨"BlueBagModel", "isMarked", "(I)Z"⟩) ∈ lw_all := lw_g (lw_at lw_ms 63 rfl) rfl
theorem qs64 : (Cond.selects "BlueBagModel" ⟨"BlueBagModel", "readAnd", "(I)V"⟩ ⟨"BlueBagModel", "readAnd", "(I)V"⟩) ∈ lw_all := lw_g (lw_at lw_ms 64 rfl) rfl
theorem qs65 : (Cond.selects "BlueBagModel" ⟨"BlueBagModel", "readNot", "(I)V"⟩ ⟨"BlueBagModel", "readNot", "(I)V"⟩) ∈ lw_all := lw_g (lw_at lw_ms 65 rfl) rfl
theorem qs66 : (Cond.selects "BlueBagModel" ⟨"BlueBagModel", "readSum", "(I)V"⟩ ⟨"BlueBagModel", "readSum", "(I)V"⟩) ∈ lw_all := lw_g (lw_at lw_ms 66 rfl) rfl
theorem qs67 : (Cond.selects "BlueBagModel" ⟨"BlueBagModel", "readProduct", "(I)V"⟩ ⟨"BlueBagModel", "readProduct", "(I)V"⟩) ∈ lw_all := lw_g (lw_at lw_ms 67 rfl) rfl
theorem qs68 : (Cond.selects "BlueBagModel" ⟨"BlueBagModel", "readPart", "(I)V"⟩ ⟨"BlueBagModel", "readPart", "(I)V"⟩) ∈ lw_all := lw_g (lw_at lw_ms 68 rfl) rfl
theorem qs69 : (Cond.selects "BlueBagModel" ⟨"BlueBagModel", "lay", "(I)V"⟩ ⟨"BlueBagModel", "lay", "(I)V"⟩) ∈ lw_all := lw_g (lw_at lw_ms 69 rfl) rfl
theorem qs70 : (Cond.selects "BlueBagModel" ⟨"BlueBagModel", "mark", "(I)V"⟩ ⟨"BlueBagModel", "mark", "(I)V"⟩) ∈ lw_all := lw_g (lw_at lw_ms 70 rfl) rfl
theorem qs71 : (Cond.selects "BlueBagModel" ⟨"BlueBagModel", "sayWoman", "(I)V"⟩ ⟨"BlueBagModel", "sayWoman", "(I)V"⟩) ∈ lw_all := lw_g (lw_at lw_ms 71 rfl) rfl
theorem qs72 : (Cond.selects "BlueBagModel" ⟨"BlueBagModel", "cellNow", "(I)I"⟩ ⟨"BlueBagModel", "cellNow", "(I)I"⟩) ∈ lw_all := lw_g (lw_at lw_ms 72 rfl) rfl
theorem qs73 : (Cond.selects "BlueBagModel" ⟨"BlueBagModel", "sayBlue", "()V"⟩ ⟨"BlueBagModel", "sayBlue", "()V"⟩) ∈ lw_all := lw_g (lw_at lw_ms 73 rfl) rfl
theorem qs74 : (Cond.selects "BlueBagModel" ⟨"BlueBagModel", "sayPegs", "()V"⟩ ⟨"BlueBagModel", "sayPegs", "()V"⟩) ∈ lw_all := lw_g (lw_at lw_ms 74 rfl) rfl
theorem qs75 : (Cond.selects "BlueBagModel" ⟨"BlueBagModel", "takeOver", "()V"⟩ ⟨"BlueBagModel", "takeOver", "()V"⟩) ∈ lw_all := lw_g (lw_at lw_ms 75 rfl) rfl
theorem qs76 : (Cond.selects "BlueBagModel" ⟨"BlueBagModel", "cells", "()I"⟩ ⟨"BlueBagModel", "cells", "()I"⟩) ∈ lw_all := lw_g (lw_at lw_ms 76 rfl) rfl
theorem qs77 : (Cond.selects "BlueBagModel" ⟨"BlueBagModel", "allBlue", "()I"⟩ ⟨"BlueBagModel", "allBlue", "()I"⟩) ∈ lw_all := lw_g (lw_at lw_ms 77 rfl) rfl
theorem qs78 : (Cond.selects "BlueBagModel" ⟨"BlueBagModel", "isCell", "(I)Z"⟩ ⟨"BlueBagModel", "isCell", "(I)Z"⟩) ∈ lw_all := lw_g (lw_at lw_ms 78 rfl) rfl
theorem qs79 : (Cond.selects "BlueBagModel" ⟨"BlueBagModel", "besideOf", "(I)I"⟩ ⟨"BlueBagModel", "besideOf", "(I)I"⟩) ∈ lw_all := lw_g (lw_at lw_ms 79 rfl) rfl
theorem qs80 : (Cond.selects "BlueBagModel" ⟨"BlueBagModel", "farOf", "(II)I"⟩ ⟨"BlueBagModel", "farOf", "(II)I"⟩) ∈ lw_all := lw_g (lw_at lw_ms 80 rfl) rfl
theorem qs81 : (Cond.selects "BlueBagModel" ⟨"BlueBagModel", "columnOf", "(I)I"⟩ ⟨"BlueBagModel", "columnOf", "(I)I"⟩) ∈ lw_all := lw_g (lw_at lw_ms 81 rfl) rfl
theorem qs82 : (Cond.selects "BlueBagModel" ⟨"BlueBagModel", "rowOf", "(I)I"⟩ ⟨"BlueBagModel", "rowOf", "(I)I"⟩) ∈ lw_all := lw_g (lw_at lw_ms 82 rfl) rfl
theorem qs83 : (Cond.selects "BlueBagModel" ⟨"BlueBagModel", "girlsAt", "(I)I"⟩ ⟨"BlueBagModel", "girlsAt", "(I)I"⟩) ∈ lw_all := lw_g (lw_at lw_ms 83 rfl) rfl
theorem qs84 : (Cond.selects "BlueBagModel" ⟨"BlueBagModel", "patchOf", "(II)I"⟩ ⟨"BlueBagModel", "patchOf", "(II)I"⟩) ∈ lw_all := lw_g (lw_at lw_ms 84 rfl) rfl
theorem qs85 : (Cond.selects "BlueBagModel" ⟨"BlueBagModel", "isGirl", "(I)Z"⟩ ⟨"BlueBagModel", "isGirl", "(I)Z"⟩) ∈ lw_all := lw_g (lw_at lw_ms 85 rfl) rfl
theorem qs86 : (Cond.selects "BlueBagModel" ⟨"BlueBagModel", "dyesOf", "(II)I"⟩ ⟨"BlueBagModel", "dyesOf", "(II)I"⟩) ∈ lw_all := lw_g (lw_at lw_ms 86 rfl) rfl
theorem qs87 : (Cond.selects "BlueBagModel" ⟨"BlueBagModel", "ask", "(I)V"⟩ ⟨"BlueBagModel", "ask", "(I)V"⟩) ∈ lw_all := lw_g (lw_at lw_ms 87 rfl) rfl
theorem qs88 : (Cond.selects "BlueBagModel" ⟨"BlueBagModel", "blueBeside", "(I)I"⟩ ⟨"BlueBagModel", "blueBeside", "(I)I"⟩) ∈ lw_all := lw_g (lw_at lw_ms 88 rfl) rfl
theorem qs89 : (Cond.selects "BlueBagModel" ⟨"BlueBagModel", "valueNow", "([II)I"⟩ ⟨"BlueBagModel", "valueNow", "([II)I"⟩) ∈ lw_all := lw_g (lw_at lw_ms 89 rfl) rfl
theorem qs90 : (Cond.selects "BlueBagModel" ⟨"BlueBagModel", "refuse", "(I)I"⟩ ⟨"BlueBagModel", "refuse", "(I)I"⟩) ∈ lw_all := lw_g (lw_at lw_ms 90 rfl) rfl
theorem qs91 : (Cond.selects "BlueBagModel" ⟨"BlueBagModel", "keep", "()V"⟩ ⟨"BlueBagModel", "keep", "()V"⟩) ∈ lw_all := lw_g (lw_at lw_ms 91 rfl) rfl
theorem qs92 : (Cond.selects "BlueBagModel" ⟨"BlueBagModel", "pack", "([II)V"⟩ ⟨"BlueBagModel", "pack", "([II)V"⟩) ∈ lw_all := lw_g (lw_at lw_ms 92 rfl) rfl
theorem qs93 : (Cond.selects "BlueBagModel" ⟨"BlueBagModel", "goOn", "(I)V"⟩ ⟨"BlueBagModel", "goOn", "(I)V"⟩) ∈ lw_all := lw_g (lw_at lw_ms 93 rfl) rfl
theorem qs94 : (Cond.selects "BlueBagModel" ⟨"BlueBagModel", "aDay", "()V"⟩ ⟨"BlueBagModel", "aDay", "()V"⟩) ∈ lw_all := lw_g (lw_at lw_ms 94 rfl) rfl
theorem qs95 : (Cond.selects "BlueBagModel" ⟨"BlueBagModel", "swish", "(II)V"⟩ ⟨"BlueBagModel", "swish", "(II)V"⟩) ∈ lw_all := lw_g (lw_at lw_ms 95 rfl) rfl
theorem qs96 : (Cond.selects "BlueBagModel" ⟨"BlueBagModel", "dye", "(II)V"⟩ ⟨"BlueBagModel", "dye", "(II)V"⟩) ∈ lw_all := lw_g (lw_at lw_ms 96 rfl) rfl
theorem qs97 : (Cond.selects "BlueBagModel" ⟨"BlueBagModel", "fadesOf", "(I)I"⟩ ⟨"BlueBagModel", "fadesOf", "(I)I"⟩) ∈ lw_all := lw_g (lw_at lw_ms 97 rfl) rfl
theorem qs98 : (Cond.selects "BlueBagModel" ⟨"BlueBagModel", "failing", "(I)Z"⟩ ⟨"BlueBagModel", "failing", "(I)Z"⟩) ∈ lw_all := lw_g (lw_at lw_ms 98 rfl) rfl
theorem qs99 : (Cond.selects "BlueBagModel" ⟨"BlueBagModel", "unpack", "([II)V"⟩ ⟨"BlueBagModel", "unpack", "([II)V"⟩) ∈ lw_all := lw_g (lw_at lw_ms 99 rfl) rfl
theorem qs100 : (Cond.selects "BlueBagModel" ⟨"BlueBagModel", "uneven", "()I"⟩ ⟨"BlueBagModel", "uneven", "()I"⟩) ∈ lw_all := lw_g (lw_at lw_ms 100 rfl) rfl
theorem qs101 : (Cond.selects "BlueBagModel" ⟨"BlueBagModel", "extreme", "(Z)I"⟩ ⟨"BlueBagModel", "extreme", "(Z)I"⟩) ∈ lw_all := lw_g (lw_at lw_ms 101 rfl) rfl
theorem qs102 : (Cond.selects "BlueBagModel" ⟨"BlueBagModel", "streakFrom", "(I)I"⟩ ⟨"BlueBagModel", "streakFrom", "(I)I"⟩) ∈ lw_all := lw_g (lw_at lw_ms 102 rfl) rfl
theorem qs103 : (Cond.selects "BlueBagModel" ⟨"BlueBagModel", "unevenNext", "()I"⟩ ⟨"BlueBagModel", "unevenNext", "()I"⟩) ∈ lw_all := lw_g (lw_at lw_ms 103 rfl) rfl
theorem qs104 : (Cond.selects "BlueBagModel" ⟨"BlueBagModel", "tellLeast", "(I)V"⟩ ⟨"BlueBagModel", "tellLeast", "(I)V"⟩) ∈ lw_all := lw_g (lw_at lw_ms 104 rfl) rfl
theorem qs105 : (Cond.selects "BlueBagModel" ⟨"BlueBagModel", "with", "(III)I"⟩ ⟨"BlueBagModel", "with", "(III)I"⟩) ∈ lw_all := lw_g (lw_at lw_ms 105 rfl) rfl
theorem qs106 : (Cond.selects "BlueBagModel" ⟨"BlueBagModel", "isAsSeen", "()Z"⟩ ⟨"BlueBagModel", "isAsSeen", "()Z"⟩) ∈ lw_all := lw_g (lw_at lw_ms 106 rfl) rfl
theorem qs107 : (Cond.selects "BlueBagModel" ⟨"BlueBagModel", "tellFits", "()V"⟩ ⟨"BlueBagModel", "tellFits", "()V"⟩) ∈ lw_all := lw_g (lw_at lw_ms 107 rfl) rfl
theorem qs108 : (Cond.selects "BlueBagModel" ⟨"BlueBagModel", "unlike", "(I)I"⟩ ⟨"BlueBagModel", "unlike", "(I)I"⟩) ∈ lw_all := lw_g (lw_at lw_ms 108 rfl) rfl
theorem qs109 : (Cond.selects "BlueBagModel" ⟨"BlueBagModel", "tellGains", "(II)V"⟩ ⟨"BlueBagModel", "tellGains", "(II)V"⟩) ∈ lw_all := lw_g (lw_at lw_ms 109 rfl) rfl
theorem qs110 : (Cond.selects "BlueBagModel" ⟨"BlueBagModel", "something", "()V"⟩ ⟨"BlueBagModel", "something", "()V"⟩) ∈ lw_all := lw_g (lw_at lw_ms 110 rfl) rfl
theorem qs111 : (Cond.selects "BlueBagModel" ⟨"BlueBagModel", "drawOf", "(I)I"⟩ ⟨"BlueBagModel", "drawOf", "(I)I"⟩) ∈ lw_all := lw_g (lw_at lw_ms 111 rfl) rfl
