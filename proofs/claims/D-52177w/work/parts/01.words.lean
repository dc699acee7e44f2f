-- ===== PART A: goes FIRST, ahead of the names: the tables' words, and 'selects' of the private methods out of them =====
/-- a private method of a class that the tables say can be made, by its rows of tables_1 -/
def lw_okq (q : MethodName × Nat) : Prop := (q.1.cls ≠ "java/lang/invoke/MethodHandle" ∧ q.1.cls ≠ "java/lang/invoke/VarHandle") ∧ Cond.instantiable q.1.cls q.2 ∈ tables_1 ∧ Cond.privateMethod q.1 ∈ tables_1 ∧ Cond.instanceMethod q.1 ∈ tables_1
set_option maxRecDepth 100000
theorem lw_t1 {w : Cond} (h : w ∈ tables_1_1) : w ∈ tables_1 := List.mem_append_left _ h
theorem lw_t2 {w : Cond} (h : w ∈ tables_1_2) : w ∈ tables_1 := List.mem_append_right _ (List.mem_append_left _ h)
theorem lw_t3 {w : Cond} (h : w ∈ tables_1_3) : w ∈ tables_1 := List.mem_append_right _ (List.mem_append_right _ (List.mem_append_left _ h))
theorem lw_t4 {w : Cond} (h : w ∈ tables_1_4) : w ∈ tables_1 := List.mem_append_right _ (List.mem_append_right _ (List.mem_append_right _ (List.mem_append_left _ h)))
theorem lw_t5 {w : Cond} (h : w ∈ tables_1_5) : w ∈ tables_1 := List.mem_append_right _ (List.mem_append_right _ (List.mem_append_right _ (List.mem_append_right _ (List.mem_append_left _ h))))
theorem lw_t6 {w : Cond} (h : w ∈ tables_1_6) : w ∈ tables_1 := List.mem_append_right _ (List.mem_append_right _ (List.mem_append_right _ (List.mem_append_right _ (List.mem_append_right _ (List.mem_append_left _ h)))))
theorem lw_t7 {w : Cond} (h : w ∈ tables_1_7) : w ∈ tables_1 := List.mem_append_right _ (List.mem_append_right _ (List.mem_append_right _ (List.mem_append_right _ (List.mem_append_right _ (List.mem_append_right _ (List.mem_append_left _ h))))))
theorem lw_t8 {w : Cond} (h : w ∈ tables_1_8) : w ∈ tables_1 := List.mem_append_right _ (List.mem_append_right _ (List.mem_append_right _ (List.mem_append_right _ (List.mem_append_right _ (List.mem_append_right _ (List.mem_append_right _ (List.mem_append_left _ h)))))))
theorem lw_t9 {w : Cond} (h : w ∈ tables_1_9) : w ∈ tables_1 := List.mem_append_right _ (List.mem_append_right _ (List.mem_append_right _ (List.mem_append_right _ (List.mem_append_right _ (List.mem_append_right _ (List.mem_append_right _ (List.mem_append_right _ (List.mem_append_left _ h))))))))
theorem lw_t10 {w : Cond} (h : w ∈ tables_1_10) : w ∈ tables_1 := List.mem_append_right _ (List.mem_append_right _ (List.mem_append_right _ (List.mem_append_right _ (List.mem_append_right _ (List.mem_append_right _ (List.mem_append_right _ (List.mem_append_right _ (List.mem_append_right _ (List.mem_append_left _ h)))))))))
theorem lw_t11 {w : Cond} (h : w ∈ tables_1_11) : w ∈ tables_1 := List.mem_append_right _ (List.mem_append_right _ (List.mem_append_right _ (List.mem_append_right _ (List.mem_append_right _ (List.mem_append_right _ (List.mem_append_right _ (List.mem_append_right _ (List.mem_append_right _ (List.mem_append_right _ (List.mem_append_left _ h))))))))))
theorem lw_t12 {w : Cond} (h : w ∈ tables_1_12) : w ∈ tables_1 := List.mem_append_right _ (List.mem_append_right _ (List.mem_append_right _ (List.mem_append_right _ (List.mem_append_right _ (List.mem_append_right _ (List.mem_append_right _ (List.mem_append_right _ (List.mem_append_right _ (List.mem_append_right _ (List.mem_append_right _ (List.mem_append_left _ h)))))))))))
theorem lw_t13 {w : Cond} (h : w ∈ tables_1_13) : w ∈ tables_1 := List.mem_append_right _ (List.mem_append_right _ (List.mem_append_right _ (List.mem_append_right _ (List.mem_append_right _ (List.mem_append_right _ (List.mem_append_right _ (List.mem_append_right _ (List.mem_append_right _ (List.mem_append_right _ (List.mem_append_right _ (List.mem_append_right _ (List.mem_append_left _ h))))))))))))
theorem lw_t14 {w : Cond} (h : w ∈ tables_1_14) : w ∈ tables_1 := List.mem_append_right _ (List.mem_append_right _ (List.mem_append_right _ (List.mem_append_right _ (List.mem_append_right _ (List.mem_append_right _ (List.mem_append_right _ (List.mem_append_right _ (List.mem_append_right _ (List.mem_append_right _ (List.mem_append_right _ (List.mem_append_right _ (List.mem_append_right _ h))))))))))))
theorem lw_p0 : lw_okq (⟨"ShadowSpell$Scanner", "next", "(I)LShadowSpell$Token;"⟩, 2) := ⟨⟨by decide +kernel, by decide +kernel⟩, lw_t1 (List.mem_of_getElem? (i := 209) rfl), lw_t1 (List.mem_of_getElem? (i := 235) rfl), lw_t1 (List.mem_of_getElem? (i := 236) rfl)⟩
theorem lw_p1 : lw_okq (⟨"java/lang/Throwable", "fillInStackTrace", "(I)Ljava/lang/Throwable;"⟩, 6) := ⟨⟨by decide +kernel, by decide +kernel⟩, lw_t2 (List.mem_of_getElem? (i := 212) rfl), lw_t2 (List.mem_of_getElem? (i := 210) rfl), lw_t2 (List.mem_of_getElem? (i := 211) rfl)⟩
theorem lw_p2 : lw_okq (⟨"java/util/ArrayList", "add", "(Ljava/lang/Object;[Ljava/lang/Object;I)V"⟩, 3) := ⟨⟨by decide +kernel, by decide +kernel⟩, lw_t1 (List.mem_of_getElem? (i := 97) rfl), lw_t3 (List.mem_of_getElem? (i := 179) rfl), lw_t3 (List.mem_of_getElem? (i := 180) rfl)⟩
theorem lw_p3 : lw_okq (⟨"java/util/ArrayList", "grow", "()[Ljava/lang/Object;"⟩, 3) := ⟨⟨by decide +kernel, by decide +kernel⟩, lw_t1 (List.mem_of_getElem? (i := 97) rfl), lw_t3 (List.mem_of_getElem? (i := 183) rfl), lw_t3 (List.mem_of_getElem? (i := 184) rfl)⟩
theorem lw_p4 : lw_okq (⟨"java/util/ArrayList", "grow", "(I)[Ljava/lang/Object;"⟩, 3) := ⟨⟨by decide +kernel, by decide +kernel⟩, lw_t1 (List.mem_of_getElem? (i := 97) rfl), lw_t3 (List.mem_of_getElem? (i := 187) rfl), lw_t3 (List.mem_of_getElem? (i := 188) rfl)⟩
theorem lw_p5 : lw_okq (⟨"ShadowSpell$Reader", "text", "()V"⟩, 7) := ⟨⟨by decide +kernel, by decide +kernel⟩, lw_t1 (List.mem_of_getElem? (i := 207) rfl), lw_t4 (List.mem_of_getElem? (i := 86) rfl), lw_t4 (List.mem_of_getElem? (i := 87) rfl)⟩
theorem lw_p6 : lw_okq (⟨"ShadowSpell$Reader", "now", "()LShadowSpell$Token;"⟩, 7) := ⟨⟨by decide +kernel, by decide +kernel⟩, lw_t1 (List.mem_of_getElem? (i := 207) rfl), lw_t4 (List.mem_of_getElem? (i := 90) rfl), lw_t4 (List.mem_of_getElem? (i := 91) rfl)⟩
theorem lw_p7 : lw_okq (⟨"ShadowSpell$Reader", "takeIf", "(Ljava/lang/String;)Z"⟩, 7) := ⟨⟨by decide +kernel, by decide +kernel⟩, lw_t1 (List.mem_of_getElem? (i := 207) rfl), lw_t4 (List.mem_of_getElem? (i := 115) rfl), lw_t4 (List.mem_of_getElem? (i := 116) rfl)⟩
theorem lw_p8 : lw_okq (⟨"ShadowSpell$Reader", "planet", "()V"⟩, 7) := ⟨⟨by decide +kernel, by decide +kernel⟩, lw_t1 (List.mem_of_getElem? (i := 207) rfl), lw_t4 (List.mem_of_getElem? (i := 126) rfl), lw_t4 (List.mem_of_getElem? (i := 127) rfl)⟩
theorem lw_p9 : lw_okq (⟨"ShadowSpell$Reader", "name", "(Ljava/util/HashMap;I)LShadowSpell$Token;"⟩, 7) := ⟨⟨by decide +kernel, by decide +kernel⟩, lw_t1 (List.mem_of_getElem? (i := 207) rfl), lw_t4 (List.mem_of_getElem? (i := 130) rfl), lw_t4 (List.mem_of_getElem? (i := 131) rfl)⟩
theorem lw_p10 : lw_okq (⟨"ShadowSpell$Reader", "take", "(LShadowSpell$Sort;)LShadowSpell$Token;"⟩, 7) := ⟨⟨by decide +kernel, by decide +kernel⟩, lw_t1 (List.mem_of_getElem? (i := 207) rfl), lw_t4 (List.mem_of_getElem? (i := 135) rfl), lw_t4 (List.mem_of_getElem? (i := 136) rfl)⟩
theorem lw_p11 : lw_okq (⟨"ShadowSpell$Reader", "wrong", "()LShadowSpell$Fault;"⟩, 7) := ⟨⟨by decide +kernel, by decide +kernel⟩, lw_t1 (List.mem_of_getElem? (i := 207) rfl), lw_t4 (List.mem_of_getElem? (i := 139) rfl), lw_t4 (List.mem_of_getElem? (i := 140) rfl)⟩
theorem lw_p12 : lw_okq (⟨"ShadowSpell$Reader", "check", "(IZLShadowSpell$Token;)V"⟩, 7) := ⟨⟨by decide +kernel, by decide +kernel⟩, lw_t1 (List.mem_of_getElem? (i := 207) rfl), lw_t6 (List.mem_of_getElem? (i := 182) rfl), lw_t6 (List.mem_of_getElem? (i := 183) rfl)⟩
theorem lw_p13 : lw_okq (⟨"ShadowSpell$Reader", "take", "(Ljava/lang/String;)V"⟩, 7) := ⟨⟨by decide +kernel, by decide +kernel⟩, lw_t1 (List.mem_of_getElem? (i := 207) rfl), lw_t6 (List.mem_of_getElem? (i := 191) rfl), lw_t6 (List.mem_of_getElem? (i := 192) rfl)⟩
theorem lw_p14 : lw_okq (⟨"ShadowSpell$Reader", "number", "(II)I"⟩, 7) := ⟨⟨by decide +kernel, by decide +kernel⟩, lw_t1 (List.mem_of_getElem? (i := 207) rfl), lw_t6 (List.mem_of_getElem? (i := 195) rfl), lw_t6 (List.mem_of_getElem? (i := 196) rfl)⟩
theorem lw_p15 : lw_okq (⟨"ShadowSpell$Reader", "put", "(Ljava/util/HashMap;LShadowSpell$Token;)V"⟩, 7) := ⟨⟨by decide +kernel, by decide +kernel⟩, lw_t1 (List.mem_of_getElem? (i := 207) rfl), lw_t6 (List.mem_of_getElem? (i := 221) rfl), lw_t6 (List.mem_of_getElem? (i := 222) rfl)⟩
def lw_privs_1 : List (MethodName × Nat) := [(⟨"ShadowSpell$Scanner", "next", "(I)LShadowSpell$Token;"⟩, 2), (⟨"java/lang/Throwable", "fillInStackTrace", "(I)Ljava/lang/Throwable;"⟩, 6), (⟨"java/util/ArrayList", "add", "(Ljava/lang/Object;[Ljava/lang/Object;I)V"⟩, 3), (⟨"java/util/ArrayList", "grow", "()[Ljava/lang/Object;"⟩, 3), (⟨"java/util/ArrayList", "grow", "(I)[Ljava/lang/Object;"⟩, 3), (⟨"ShadowSpell$Reader", "text", "()V"⟩, 7), (⟨"ShadowSpell$Reader", "now", "()LShadowSpell$Token;"⟩, 7), (⟨"ShadowSpell$Reader", "takeIf", "(Ljava/lang/String;)Z"⟩, 7), (⟨"ShadowSpell$Reader", "planet", "()V"⟩, 7), (⟨"ShadowSpell$Reader", "name", "(Ljava/util/HashMap;I)LShadowSpell$Token;"⟩, 7), (⟨"ShadowSpell$Reader", "take", "(LShadowSpell$Sort;)LShadowSpell$Token;"⟩, 7), (⟨"ShadowSpell$Reader", "wrong", "()LShadowSpell$Fault;"⟩, 7), (⟨"ShadowSpell$Reader", "check", "(IZLShadowSpell$Token;)V"⟩, 7), (⟨"ShadowSpell$Reader", "take", "(Ljava/lang/String;)V"⟩, 7), (⟨"ShadowSpell$Reader", "number", "(II)I"⟩, 7), (⟨"ShadowSpell$Reader", "put", "(Ljava/util/HashMap;LShadowSpell$Token;)V"⟩, 7)]
theorem lw_r1 : ∀ q ∈ lw_privs_1, lw_okq q := List.forall_mem_cons.mpr ⟨lw_p0, List.forall_mem_cons.mpr ⟨lw_p1, List.forall_mem_cons.mpr ⟨lw_p2, List.forall_mem_cons.mpr ⟨lw_p3, List.forall_mem_cons.mpr ⟨lw_p4, List.forall_mem_cons.mpr ⟨lw_p5, List.forall_mem_cons.mpr ⟨lw_p6, List.forall_mem_cons.mpr ⟨lw_p7, List.forall_mem_cons.mpr ⟨lw_p8, List.forall_mem_cons.mpr ⟨lw_p9, List.forall_mem_cons.mpr ⟨lw_p10, List.forall_mem_cons.mpr ⟨lw_p11, List.forall_mem_cons.mpr ⟨lw_p12, List.forall_mem_cons.mpr ⟨lw_p13, List.forall_mem_cons.mpr ⟨lw_p14, List.forall_mem_cons.mpr ⟨lw_p15, fun _ h => absurd h List.not_mem_nil⟩⟩⟩⟩⟩⟩⟩⟩⟩⟩⟩⟩⟩⟩⟩⟩
theorem lw_p16 : lw_okq (⟨"ShadowSpell$Reader", "alphabet", "()V"⟩, 7) := ⟨⟨by decide +kernel, by decide +kernel⟩, lw_t1 (List.mem_of_getElem? (i := 207) rfl), lw_t7 (List.mem_of_getElem? (i := 190) rfl), lw_t7 (List.mem_of_getElem? (i := 191) rfl)⟩
theorem lw_p17 : lw_okq (⟨"ShadowSpell$Reader", "rule", "()V"⟩, 7) := ⟨⟨by decide +kernel, by decide +kernel⟩, lw_t1 (List.mem_of_getElem? (i := 207) rfl), lw_t7 (List.mem_of_getElem? (i := 211) rfl), lw_t7 (List.mem_of_getElem? (i := 212) rfl)⟩
theorem lw_p18 : lw_okq (⟨"ShadowSpell$Reader", "test", "()LShadowSpell$Test;"⟩, 7) := ⟨⟨by decide +kernel, by decide +kernel⟩, lw_t1 (List.mem_of_getElem? (i := 207) rfl), lw_t7 (List.mem_of_getElem? (i := 216) rfl), lw_t7 (List.mem_of_getElem? (i := 217) rfl)⟩
theorem lw_p19 : lw_okq (⟨"ShadowSpell$Reader", "both", "()LShadowSpell$Test;"⟩, 7) := ⟨⟨by decide +kernel, by decide +kernel⟩, lw_t1 (List.mem_of_getElem? (i := 207) rfl), lw_t7 (List.mem_of_getElem? (i := 236) rfl), lw_t7 (List.mem_of_getElem? (i := 237) rfl)⟩
theorem lw_p20 : lw_okq (⟨"ShadowSpell$Reader", "single", "()LShadowSpell$Test;"⟩, 7) := ⟨⟨by decide +kernel, by decide +kernel⟩, lw_t1 (List.mem_of_getElem? (i := 207) rfl), lw_t8 (List.mem_of_getElem? (i := 0) rfl), lw_t8 (List.mem_of_getElem? (i := 1) rfl)⟩
theorem lw_p21 : lw_okq (⟨"ShadowSpell$Reader", "deeper", "(Ljava/lang/String;)V"⟩, 7) := ⟨⟨by decide +kernel, by decide +kernel⟩, lw_t1 (List.mem_of_getElem? (i := 207) rfl), lw_t8 (List.mem_of_getElem? (i := 5) rfl), lw_t8 (List.mem_of_getElem? (i := 6) rfl)⟩
theorem lw_p22 : lw_okq (⟨"ShadowSpell$Reader", "close", "(Ljava/lang/String;)V"⟩, 7) := ⟨⟨by decide +kernel, by decide +kernel⟩, lw_t1 (List.mem_of_getElem? (i := 207) rfl), lw_t8 (List.mem_of_getElem? (i := 21) rfl), lw_t8 (List.mem_of_getElem? (i := 22) rfl)⟩
theorem lw_p23 : lw_okq (⟨"ShadowSpell$Reader", "known", "(Ljava/util/HashMap;)I"⟩, 7) := ⟨⟨by decide +kernel, by decide +kernel⟩, lw_t1 (List.mem_of_getElem? (i := 207) rfl), lw_t8 (List.mem_of_getElem? (i := 27) rfl), lw_t8 (List.mem_of_getElem? (i := 28) rfl)⟩
theorem lw_p24 : lw_okq (⟨"ShadowSpell$Reader", "other", "(I)I"⟩, 7) := ⟨⟨by decide +kernel, by decide +kernel⟩, lw_t1 (List.mem_of_getElem? (i := 207) rfl), lw_t8 (List.mem_of_getElem? (i := 76) rfl), lw_t8 (List.mem_of_getElem? (i := 77) rfl)⟩
theorem lw_p25 : lw_okq (⟨"ShadowSpell$Reader", "sum", "()LShadowSpell$Sum;"⟩, 7) := ⟨⟨by decide +kernel, by decide +kernel⟩, lw_t1 (List.mem_of_getElem? (i := 207) rfl), lw_t8 (List.mem_of_getElem? (i := 94) rfl), lw_t8 (List.mem_of_getElem? (i := 95) rfl)⟩
theorem lw_p26 : lw_okq (⟨"ShadowSpell$Reader", "product", "()LShadowSpell$Sum;"⟩, 7) := ⟨⟨by decide +kernel, by decide +kernel⟩, lw_t1 (List.mem_of_getElem? (i := 207) rfl), lw_t8 (List.mem_of_getElem? (i := 98) rfl), lw_t8 (List.mem_of_getElem? (i := 99) rfl)⟩
theorem lw_p27 : lw_okq (⟨"ShadowSpell$Reader", "value", "()LShadowSpell$Sum;"⟩, 7) := ⟨⟨by decide +kernel, by decide +kernel⟩, lw_t1 (List.mem_of_getElem? (i := 207) rfl), lw_t8 (List.mem_of_getElem? (i := 102) rfl), lw_t8 (List.mem_of_getElem? (i := 103) rfl)⟩
theorem lw_p28 : lw_okq (⟨"ShadowSpell$Sky", "isAt", "(LShadowSpell$Tape;I)Z"⟩, 5) := ⟨⟨by decide +kernel, by decide +kernel⟩, lw_t1 (List.mem_of_getElem? (i := 91) rfl), lw_t9 (List.mem_of_getElem? (i := 100) rfl), lw_t9 (List.mem_of_getElem? (i := 101) rfl)⟩
theorem lw_p29 : lw_okq (⟨"ShadowSpell$Sky", "write", "(LShadowSpell$Rule;)V"⟩, 5) := ⟨⟨by decide +kernel, by decide +kernel⟩, lw_t1 (List.mem_of_getElem? (i := 91) rfl), lw_t10 (List.mem_of_getElem? (i := 51) rfl), lw_t10 (List.mem_of_getElem? (i := 52) rfl)⟩
theorem lw_p30 : lw_okq (⟨"ShadowSpellModel", "no", "(I)I"⟩, 15) := ⟨⟨by decide +kernel, by decide +kernel⟩, lw_t11 (List.mem_of_getElem? (i := 214) rfl), lw_t12 (List.mem_of_getElem? (i := 141) rfl), lw_t12 (List.mem_of_getElem? (i := 142) rfl)⟩
theorem lw_p31 : lw_okq (⟨"ShadowSpellModel", "read", "()I"⟩, 15) := ⟨⟨by decide +kernel, by decide +kernel⟩, lw_t11 (List.mem_of_getElem? (i := 214) rfl), lw_t12 (List.mem_of_getElem? (i := 156) rfl), lw_t12 (List.mem_of_getElem? (i := 157) rfl)⟩
def lw_privs_2 : List (MethodName × Nat) := [(⟨"ShadowSpell$Reader", "alphabet", "()V"⟩, 7), (⟨"ShadowSpell$Reader", "rule", "()V"⟩, 7), (⟨"ShadowSpell$Reader", "test", "()LShadowSpell$Test;"⟩, 7), (⟨"ShadowSpell$Reader", "both", "()LShadowSpell$Test;"⟩, 7), (⟨"ShadowSpell$Reader", "single", "()LShadowSpell$Test;"⟩, 7), (⟨"ShadowSpell$Reader", "deeper", "(Ljava/lang/String;)V"⟩, 7), (⟨"ShadowSpell$Reader", "close", "(Ljava/lang/String;)V"⟩, 7), (⟨"ShadowSpell$Reader", "known", "(Ljava/util/HashMap;)I"⟩, 7), (⟨"ShadowSpell$Reader", "other", "(I)I"⟩, 7), (⟨"ShadowSpell$Reader", "sum", "()LShadowSpell$Sum;"⟩, 7), (⟨"ShadowSpell$Reader", "product", "()LShadowSpell$Sum;"⟩, 7), (⟨"ShadowSpell$Reader", "value", "()LShadowSpell$Sum;"⟩, 7), (⟨"ShadowSpell$Sky", "isAt", "(LShadowSpell$Tape;I)Z"⟩, 5), (⟨"ShadowSpell$Sky", "write", "(LShadowSpell$Rule;)V"⟩, 5), (⟨"ShadowSpellModel", "no", "(I)I"⟩, 15), (⟨"ShadowSpellModel", "read", "()I"⟩, 15)]
theorem lw_r2 : ∀ q ∈ lw_privs_2, lw_okq q := List.forall_mem_cons.mpr ⟨lw_p16, List.forall_mem_cons.mpr ⟨lw_p17, List.forall_mem_cons.mpr ⟨lw_p18, List.forall_mem_cons.mpr ⟨lw_p19, List.forall_mem_cons.mpr ⟨lw_p20, List.forall_mem_cons.mpr ⟨lw_p21, List.forall_mem_cons.mpr ⟨lw_p22, List.forall_mem_cons.mpr ⟨lw_p23, List.forall_mem_cons.mpr ⟨lw_p24, List.forall_mem_cons.mpr ⟨lw_p25, List.forall_mem_cons.mpr ⟨lw_p26, List.forall_mem_cons.mpr ⟨lw_p27, List.forall_mem_cons.mpr ⟨lw_p28, List.forall_mem_cons.mpr ⟨lw_p29, List.forall_mem_cons.mpr ⟨lw_p30, List.forall_mem_cons.mpr ⟨lw_p31, fun _ h => absurd h List.not_mem_nil⟩⟩⟩⟩⟩⟩⟩⟩⟩⟩⟩⟩⟩⟩⟩⟩
theorem lw_p32 : lw_okq (⟨"ShadowSpellModel", "cutIntoTokens", "()V"⟩, 15) := ⟨⟨by decide +kernel, by decide +kernel⟩, lw_t11 (List.mem_of_getElem? (i := 214) rfl), lw_t12 (List.mem_of_getElem? (i := 160) rfl), lw_t12 (List.mem_of_getElem? (i := 161) rfl)⟩
theorem lw_p33 : lw_okq (⟨"ShadowSpellModel", "byteOf", "(I)I"⟩, 15) := ⟨⟨by decide +kernel, by decide +kernel⟩, lw_t11 (List.mem_of_getElem? (i := 214) rfl), lw_t12 (List.mem_of_getElem? (i := 164) rfl), lw_t12 (List.mem_of_getElem? (i := 165) rfl)⟩
theorem lw_p34 : lw_okq (⟨"ShadowSpellModel", "kindAt", "(II)I"⟩, 15) := ⟨⟨by decide +kernel, by decide +kernel⟩, lw_t11 (List.mem_of_getElem? (i := 214) rfl), lw_t12 (List.mem_of_getElem? (i := 168) rfl), lw_t12 (List.mem_of_getElem? (i := 169) rfl)⟩
theorem lw_p35 : lw_okq (⟨"ShadowSpellModel", "word", "(II)I"⟩, 15) := ⟨⟨by decide +kernel, by decide +kernel⟩, lw_t11 (List.mem_of_getElem? (i := 214) rfl), lw_t12 (List.mem_of_getElem? (i := 178) rfl), lw_t12 (List.mem_of_getElem? (i := 179) rfl)⟩
theorem lw_p36 : lw_okq (⟨"ShadowSpellModel", "isText", "()Z"⟩, 15) := ⟨⟨by decide +kernel, by decide +kernel⟩, lw_t11 (List.mem_of_getElem? (i := 214) rfl), lw_t12 (List.mem_of_getElem? (i := 186) rfl), lw_t12 (List.mem_of_getElem? (i := 187) rfl)⟩
theorem lw_p37 : lw_okq (⟨"ShadowSpellModel", "is", "(I)Z"⟩, 15) := ⟨⟨by decide +kernel, by decide +kernel⟩, lw_t11 (List.mem_of_getElem? (i := 214) rfl), lw_t12 (List.mem_of_getElem? (i := 190) rfl), lw_t12 (List.mem_of_getElem? (i := 191) rfl)⟩
theorem lw_p38 : lw_okq (⟨"ShadowSpellModel", "isPlanetLine", "()Z"⟩, 15) := ⟨⟨by decide +kernel, by decide +kernel⟩, lw_t11 (List.mem_of_getElem? (i := 214) rfl), lw_t12 (List.mem_of_getElem? (i := 194) rfl), lw_t12 (List.mem_of_getElem? (i := 195) rfl)⟩
theorem lw_p39 : lw_okq (⟨"ShadowSpellModel", "eatAs", "(II)Z"⟩, 15) := ⟨⟨by decide +kernel, by decide +kernel⟩, lw_t11 (List.mem_of_getElem? (i := 214) rfl), lw_t12 (List.mem_of_getElem? (i := 198) rfl), lw_t12 (List.mem_of_getElem? (i := 199) rfl)⟩
theorem lw_p40 : lw_okq (⟨"ShadowSpellModel", "eat", "(I)Z"⟩, 15) := ⟨⟨by decide +kernel, by decide +kernel⟩, lw_t11 (List.mem_of_getElem? (i := 214) rfl), lw_t12 (List.mem_of_getElem? (i := 202) rfl), lw_t12 (List.mem_of_getElem? (i := 203) rfl)⟩
theorem lw_p41 : lw_okq (⟨"ShadowSpellModel", "eatSign", "(C)Z"⟩, 15) := ⟨⟨by decide +kernel, by decide +kernel⟩, lw_t11 (List.mem_of_getElem? (i := 214) rfl), lw_t12 (List.mem_of_getElem? (i := 206) rfl), lw_t12 (List.mem_of_getElem? (i := 207) rfl)⟩
theorem lw_p42 : lw_okq (⟨"ShadowSpellModel", "isAlphabetLine", "()Z"⟩, 15) := ⟨⟨by decide +kernel, by decide +kernel⟩, lw_t11 (List.mem_of_getElem? (i := 214) rfl), lw_t12 (List.mem_of_getElem? (i := 210) rfl), lw_t12 (List.mem_of_getElem? (i := 211) rfl)⟩
theorem lw_p43 : lw_okq (⟨"ShadowSpellModel", "isRule", "()Z"⟩, 15) := ⟨⟨by decide +kernel, by decide +kernel⟩, lw_t11 (List.mem_of_getElem? (i := 214) rfl), lw_t12 (List.mem_of_getElem? (i := 214) rfl), lw_t12 (List.mem_of_getElem? (i := 215) rfl)⟩
theorem lw_p44 : lw_okq (⟨"ShadowSpellModel", "isTest", "()Z"⟩, 15) := ⟨⟨by decide +kernel, by decide +kernel⟩, lw_t11 (List.mem_of_getElem? (i := 214) rfl), lw_t12 (List.mem_of_getElem? (i := 219) rfl), lw_t12 (List.mem_of_getElem? (i := 220) rfl)⟩
theorem lw_p45 : lw_okq (⟨"ShadowSpellModel", "isBoth", "()Z"⟩, 15) := ⟨⟨by decide +kernel, by decide +kernel⟩, lw_t11 (List.mem_of_getElem? (i := 214) rfl), lw_t12 (List.mem_of_getElem? (i := 223) rfl), lw_t12 (List.mem_of_getElem? (i := 224) rfl)⟩
theorem lw_p46 : lw_okq (⟨"ShadowSpellModel", "isSingle", "()Z"⟩, 15) := ⟨⟨by decide +kernel, by decide +kernel⟩, lw_t11 (List.mem_of_getElem? (i := 214) rfl), lw_t12 (List.mem_of_getElem? (i := 227) rfl), lw_t12 (List.mem_of_getElem? (i := 228) rfl)⟩
theorem lw_p47 : lw_okq (⟨"ShadowSpellModel", "isIn", "()Z"⟩, 15) := ⟨⟨by decide +kernel, by decide +kernel⟩, lw_t11 (List.mem_of_getElem? (i := 214) rfl), lw_t12 (List.mem_of_getElem? (i := 231) rfl), lw_t12 (List.mem_of_getElem? (i := 232) rfl)⟩
def lw_privs_3 : List (MethodName × Nat) := [(⟨"ShadowSpellModel", "cutIntoTokens", "()V"⟩, 15), (⟨"ShadowSpellModel", "byteOf", "(I)I"⟩, 15), (⟨"ShadowSpellModel", "kindAt", "(II)I"⟩, 15), (⟨"ShadowSpellModel", "word", "(II)I"⟩, 15), (⟨"ShadowSpellModel", "isText", "()Z"⟩, 15), (⟨"ShadowSpellModel", "is", "(I)Z"⟩, 15), (⟨"ShadowSpellModel", "isPlanetLine", "()Z"⟩, 15), (⟨"ShadowSpellModel", "eatAs", "(II)Z"⟩, 15), (⟨"ShadowSpellModel", "eat", "(I)Z"⟩, 15), (⟨"ShadowSpellModel", "eatSign", "(C)Z"⟩, 15), (⟨"ShadowSpellModel", "isAlphabetLine", "()Z"⟩, 15), (⟨"ShadowSpellModel", "isRule", "()Z"⟩, 15), (⟨"ShadowSpellModel", "isTest", "()Z"⟩, 15), (⟨"ShadowSpellModel", "isBoth", "()Z"⟩, 15), (⟨"ShadowSpellModel", "isSingle", "()Z"⟩, 15), (⟨"ShadowSpellModel", "isIn", "()Z"⟩, 15)]
theorem lw_r3 : ∀ q ∈ lw_privs_3, lw_okq q := List.forall_mem_cons.mpr ⟨lw_p32, List.forall_mem_cons.mpr ⟨lw_p33, List.forall_mem_cons.mpr ⟨lw_p34, List.forall_mem_cons.mpr ⟨lw_p35, List.forall_mem_cons.mpr ⟨lw_p36, List.forall_mem_cons.mpr ⟨lw_p37, List.forall_mem_cons.mpr ⟨lw_p38, List.forall_mem_cons.mpr ⟨lw_p39, List.forall_mem_cons.mpr ⟨lw_p40, List.forall_mem_cons.mpr ⟨lw_p41, List.forall_mem_cons.mpr ⟨lw_p42, List.forall_mem_cons.mpr ⟨lw_p43, List.forall_mem_cons.mpr ⟨lw_p44, List.forall_mem_cons.mpr ⟨lw_p45, List.forall_mem_cons.mpr ⟨lw_p46, List.forall_mem_cons.mpr ⟨lw_p47, fun _ h => absurd h List.not_mem_nil⟩⟩⟩⟩⟩⟩⟩⟩⟩⟩⟩⟩⟩⟩⟩⟩
theorem lw_p48 : lw_okq (⟨"ShadowSpellModel", "put", "(I)V"⟩, 15) := ⟨⟨by decide +kernel, by decide +kernel⟩, lw_t11 (List.mem_of_getElem? (i := 214) rfl), lw_t12 (List.mem_of_getElem? (i := 235) rfl), lw_t12 (List.mem_of_getElem? (i := 236) rfl)⟩
theorem lw_p49 : lw_okq (⟨"ShadowSpellModel", "isSign", "(C)Z"⟩, 15) := ⟨⟨by decide +kernel, by decide +kernel⟩, lw_t11 (List.mem_of_getElem? (i := 214) rfl), lw_t12 (List.mem_of_getElem? (i := 239) rfl), lw_t13 (List.mem_of_getElem? (i := 0) rfl)⟩
theorem lw_p50 : lw_okq (⟨"ShadowSpellModel", "isPair", "(I)Z"⟩, 15) := ⟨⟨by decide +kernel, by decide +kernel⟩, lw_t11 (List.mem_of_getElem? (i := 214) rfl), lw_t13 (List.mem_of_getElem? (i := 3) rfl), lw_t13 (List.mem_of_getElem? (i := 4) rfl)⟩
theorem lw_p51 : lw_okq (⟨"ShadowSpellModel", "putToken", "(I)V"⟩, 15) := ⟨⟨by decide +kernel, by decide +kernel⟩, lw_t11 (List.mem_of_getElem? (i := 214) rfl), lw_t13 (List.mem_of_getElem? (i := 7) rfl), lw_t13 (List.mem_of_getElem? (i := 8) rfl)⟩
theorem lw_p52 : lw_okq (⟨"ShadowSpellModel", "isOne", "(I)Z"⟩, 15) := ⟨⟨by decide +kernel, by decide +kernel⟩, lw_t11 (List.mem_of_getElem? (i := 214) rfl), lw_t13 (List.mem_of_getElem? (i := 11) rfl), lw_t13 (List.mem_of_getElem? (i := 12) rfl)⟩
theorem lw_p53 : lw_okq (⟨"ShadowSpellModel", "isCompared", "()Z"⟩, 15) := ⟨⟨by decide +kernel, by decide +kernel⟩, lw_t11 (List.mem_of_getElem? (i := 214) rfl), lw_t13 (List.mem_of_getElem? (i := 15) rfl), lw_t13 (List.mem_of_getElem? (i := 16) rfl)⟩
theorem lw_p54 : lw_okq (⟨"ShadowSpellModel", "isSum", "()Z"⟩, 15) := ⟨⟨by decide +kernel, by decide +kernel⟩, lw_t11 (List.mem_of_getElem? (i := 214) rfl), lw_t13 (List.mem_of_getElem? (i := 19) rfl), lw_t13 (List.mem_of_getElem? (i := 20) rfl)⟩
theorem lw_p55 : lw_okq (⟨"ShadowSpellModel", "isProduct", "()Z"⟩, 15) := ⟨⟨by decide +kernel, by decide +kernel⟩, lw_t11 (List.mem_of_getElem? (i := 214) rfl), lw_t13 (List.mem_of_getElem? (i := 23) rfl), lw_t13 (List.mem_of_getElem? (i := 24) rfl)⟩
theorem lw_p56 : lw_okq (⟨"ShadowSpellModel", "isValue", "()Z"⟩, 15) := ⟨⟨by decide +kernel, by decide +kernel⟩, lw_t11 (List.mem_of_getElem? (i := 214) rfl), lw_t13 (List.mem_of_getElem? (i := 27) rfl), lw_t13 (List.mem_of_getElem? (i := 28) rfl)⟩
theorem lw_p57 : lw_okq (⟨"ShadowSpellModel", "numberAt", "(I)I"⟩, 15) := ⟨⟨by decide +kernel, by decide +kernel⟩, lw_t11 (List.mem_of_getElem? (i := 214) rfl), lw_t13 (List.mem_of_getElem? (i := 31) rfl), lw_t13 (List.mem_of_getElem? (i := 32) rfl)⟩
theorem lw_p58 : lw_okq (⟨"ShadowSpellModel", "errorOf", "(I)I"⟩, 15) := ⟨⟨by decide +kernel, by decide +kernel⟩, lw_t11 (List.mem_of_getElem? (i := 214) rfl), lw_t13 (List.mem_of_getElem? (i := 35) rfl), lw_t13 (List.mem_of_getElem? (i := 36) rfl)⟩
theorem lw_p59 : lw_okq (⟨"ShadowSpellModel", "told", "(II)I"⟩, 15) := ⟨⟨by decide +kernel, by decide +kernel⟩, lw_t11 (List.mem_of_getElem? (i := 214) rfl), lw_t13 (List.mem_of_getElem? (i := 39) rfl), lw_t13 (List.mem_of_getElem? (i := 40) rfl)⟩
theorem lw_p60 : lw_okq (⟨"ShadowSpellModel", "isSame", "(II)Z"⟩, 15) := ⟨⟨by decide +kernel, by decide +kernel⟩, lw_t11 (List.mem_of_getElem? (i := 214) rfl), lw_t13 (List.mem_of_getElem? (i := 43) rfl), lw_t13 (List.mem_of_getElem? (i := 44) rfl)⟩
theorem lw_p61 : lw_okq (⟨"ShadowSpellModel", "areLetters", "(I)Z"⟩, 15) := ⟨⟨by decide +kernel, by decide +kernel⟩, lw_t11 (List.mem_of_getElem? (i := 214) rfl), lw_t13 (List.mem_of_getElem? (i := 47) rfl), lw_t13 (List.mem_of_getElem? (i := 48) rfl)⟩
theorem lw_p62 : lw_okq (⟨"ShadowSpellModel", "counted", "(I)I"⟩, 15) := ⟨⟨by decide +kernel, by decide +kernel⟩, lw_t11 (List.mem_of_getElem? (i := 214) rfl), lw_t13 (List.mem_of_getElem? (i := 63) rfl), lw_t13 (List.mem_of_getElem? (i := 64) rfl)⟩
theorem lw_p63 : lw_okq (⟨"ShadowSpellModel", "isPlanet", "(I)Z"⟩, 15) := ⟨⟨by decide +kernel, by decide +kernel⟩, lw_t11 (List.mem_of_getElem? (i := 214) rfl), lw_t13 (List.mem_of_getElem? (i := 88) rfl), lw_t13 (List.mem_of_getElem? (i := 89) rfl)⟩
def lw_privs_4 : List (MethodName × Nat) := [(⟨"ShadowSpellModel", "put", "(I)V"⟩, 15), (⟨"ShadowSpellModel", "isSign", "(C)Z"⟩, 15), (⟨"ShadowSpellModel", "isPair", "(I)Z"⟩, 15), (⟨"ShadowSpellModel", "putToken", "(I)V"⟩, 15), (⟨"ShadowSpellModel", "isOne", "(I)Z"⟩, 15), (⟨"ShadowSpellModel", "isCompared", "()Z"⟩, 15), (⟨"ShadowSpellModel", "isSum", "()Z"⟩, 15), (⟨"ShadowSpellModel", "isProduct", "()Z"⟩, 15), (⟨"ShadowSpellModel", "isValue", "()Z"⟩, 15), (⟨"ShadowSpellModel", "numberAt", "(I)I"⟩, 15), (⟨"ShadowSpellModel", "errorOf", "(I)I"⟩, 15), (⟨"ShadowSpellModel", "told", "(II)I"⟩, 15), (⟨"ShadowSpellModel", "isSame", "(II)Z"⟩, 15), (⟨"ShadowSpellModel", "areLetters", "(I)Z"⟩, 15), (⟨"ShadowSpellModel", "counted", "(I)I"⟩, 15), (⟨"ShadowSpellModel", "isPlanet", "(I)Z"⟩, 15)]
theorem lw_r4 : ∀ q ∈ lw_privs_4, lw_okq q := List.forall_mem_cons.mpr ⟨lw_p48, List.forall_mem_cons.mpr ⟨lw_p49, List.forall_mem_cons.mpr ⟨lw_p50, List.forall_mem_cons.mpr ⟨lw_p51, List.forall_mem_cons.mpr ⟨lw_p52, List.forall_mem_cons.mpr ⟨lw_p53, List.forall_mem_cons.mpr ⟨lw_p54, List.forall_mem_cons.mpr ⟨lw_p55, List.forall_mem_cons.mpr ⟨lw_p56, List.forall_mem_cons.mpr ⟨lw_p57, List.forall_mem_cons.mpr ⟨lw_p58, List.forall_mem_cons.mpr ⟨lw_p59, List.forall_mem_cons.mpr ⟨lw_p60, List.forall_mem_cons.mpr ⟨lw_p61, List.forall_mem_cons.mpr ⟨lw_p62, List.forall_mem_cons.mpr ⟨lw_p63, fun _ h => absurd h List.not_mem_nil⟩⟩⟩⟩⟩⟩⟩⟩⟩⟩⟩⟩⟩⟩⟩⟩
theorem lw_p64 : lw_okq (⟨"ShadowSpellModel", "planetTold", "(II)I"⟩, 15) := ⟨⟨by decide +kernel, by decide +kernel⟩, lw_t11 (List.mem_of_getElem? (i := 214) rfl), lw_t13 (List.mem_of_getElem? (i := 92) rfl), lw_t13 (List.mem_of_getElem? (i := 93) rfl)⟩
theorem lw_p65 : lw_okq (⟨"ShadowSpellModel", "isAlphabet", "(I)Z"⟩, 15) := ⟨⟨by decide +kernel, by decide +kernel⟩, lw_t11 (List.mem_of_getElem? (i := 214) rfl), lw_t13 (List.mem_of_getElem? (i := 114) rfl), lw_t13 (List.mem_of_getElem? (i := 115) rfl)⟩
theorem lw_p66 : lw_okq (⟨"ShadowSpellModel$State", "carryOut", "(II)I"⟩, 9) := ⟨⟨by decide +kernel, by decide +kernel⟩, lw_t12 (List.mem_of_getElem? (i := 44) rfl), lw_t13 (List.mem_of_getElem? (i := 135) rfl), lw_t13 (List.mem_of_getElem? (i := 136) rfl)⟩
theorem lw_p67 : lw_okq (⟨"ShadowSpellModel$State", "pushed", "(III)I"⟩, 9) := ⟨⟨by decide +kernel, by decide +kernel⟩, lw_t12 (List.mem_of_getElem? (i := 44) rfl), lw_t13 (List.mem_of_getElem? (i := 142) rfl), lw_t13 (List.mem_of_getElem? (i := 143) rfl)⟩
theorem lw_p68 : lw_okq (⟨"ShadowSpellModel", "numberOf", "(II)I"⟩, 15) := ⟨⟨by decide +kernel, by decide +kernel⟩, lw_t11 (List.mem_of_getElem? (i := 214) rfl), lw_t13 (List.mem_of_getElem? (i := 171) rfl), lw_t13 (List.mem_of_getElem? (i := 172) rfl)⟩
theorem lw_p69 : lw_okq (⟨"ShadowSpellModel$State", "copy", "([I[I)V"⟩, 9) := ⟨⟨by decide +kernel, by decide +kernel⟩, lw_t12 (List.mem_of_getElem? (i := 44) rfl), lw_t13 (List.mem_of_getElem? (i := 183) rfl), lw_t13 (List.mem_of_getElem? (i := 184) rfl)⟩
theorem lw_p70 : lw_okq (⟨"ShadowSpellModel", "wroteInAll", "()I"⟩, 15) := ⟨⟨by decide +kernel, by decide +kernel⟩, lw_t11 (List.mem_of_getElem? (i := 214) rfl), lw_t13 (List.mem_of_getElem? (i := 213) rfl), lw_t13 (List.mem_of_getElem? (i := 214) rfl)⟩
def lw_privs_5 : List (MethodName × Nat) := [(⟨"ShadowSpellModel", "planetTold", "(II)I"⟩, 15), (⟨"ShadowSpellModel", "isAlphabet", "(I)Z"⟩, 15), (⟨"ShadowSpellModel$State", "carryOut", "(II)I"⟩, 9), (⟨"ShadowSpellModel$State", "pushed", "(III)I"⟩, 9), (⟨"ShadowSpellModel", "numberOf", "(II)I"⟩, 15), (⟨"ShadowSpellModel$State", "copy", "([I[I)V"⟩, 9), (⟨"ShadowSpellModel", "wroteInAll", "()I"⟩, 15)]
theorem lw_r5 : ∀ q ∈ lw_privs_5, lw_okq q := List.forall_mem_cons.mpr ⟨lw_p64, List.forall_mem_cons.mpr ⟨lw_p65, List.forall_mem_cons.mpr ⟨lw_p66, List.forall_mem_cons.mpr ⟨lw_p67, List.forall_mem_cons.mpr ⟨lw_p68, List.forall_mem_cons.mpr ⟨lw_p69, List.forall_mem_cons.mpr ⟨lw_p70, fun _ h => absurd h List.not_mem_nil⟩⟩⟩⟩⟩⟩⟩
def lw_privs : List (MethodName × Nat) := lw_privs_1 ++ (lw_privs_2 ++ (lw_privs_3 ++ (lw_privs_4 ++ (lw_privs_5))))
def lw_tbl : List Cond := k2_sels lw_privs ++ tables_1
theorem lw_privs_ok : ∀ q ∈ lw_privs, lw_okq q := by
  show ∀ q ∈ lw_privs_1 ++ (lw_privs_2 ++ (lw_privs_3 ++ (lw_privs_4 ++ (lw_privs_5)))), lw_okq q
  exact List.forall_mem_append.mpr ⟨lw_r1, List.forall_mem_append.mpr ⟨lw_r2, List.forall_mem_append.mpr ⟨lw_r3, List.forall_mem_append.mpr ⟨lw_r4, lw_r5⟩⟩⟩⟩
-- ===== ONE list of words for every method: the tables' words that hold all through a run =====
def lw_all : List Cond := lw_tbl.filter goodWord
/-- a word of the tables by its place: claim/WORDS.tsv -/
theorem lw_w {w : Cond} (i : Nat) (h : lw_tbl[i]? = some w) (g : goodWord w = true) : w ∈ lw_all := List.mem_filter.mpr ⟨List.mem_of_getElem? h, g⟩
theorem lw_all_tbl {w : Cond} (h : w ∈ lw_all) : w ∈ lw_tbl := (List.mem_filter.mp h).1
theorem lw_self : GoodIn lw_all lw_all := fun w h => ⟨h, good_of_word (List.mem_filter.mp h).2⟩
/-- a class's field words, by their places -/
theorem lw_in (ws : List Cond) (ps : List Nat) (hp : ws = ps.filterMap (fun i => lw_tbl[i]?)) (hg : ws.all goodWord = true) : ∀ w ∈ ws, w ∈ lw_all := by
  intro w h
  have h1 := List.all_eq_true.mp hg w h
  rw [hp] at h
  obtain ⟨i, -, hi⟩ := List.mem_filterMap.mp h
  exact lw_w i hi h1
/-- the words of a contract for the method y with code b, L locals, answer r -/
abbrev ws_ (y : MethodName) (b : ByteArray) (L : Nat) (r : Option FieldType) : List Cond := Cond.code y b L r :: lw_all
theorem lw_meth {y : MethodName} {b : ByteArray} {L : Nat} {r : Option FieldType} (h : Cond.code y b L r ∈ lw_all) : GoodIn lw_all (ws_ y b L r) := by
  intro w hw
  rcases List.mem_cons.mp hw with e | e
  · rw [e]
    exact lw_self _ h
  · exact lw_self _ e
theorem lw_app {a c : List Cond} (ha : ∀ w ∈ a, w ∈ lw_all) (hc : GoodIn lw_all c) : GoodIn lw_all (a ++ c) := by
  intro w hw
  rcases List.mem_append.mp hw with e | e
  · exact lw_self w (ha w e)
  · exact hc w e
/-- what a call through an object asks: cwV n hts (lw_V ..) -/
theorem lw_V {own : String} {idx : Nat} {C : String} {y : MethodName} {b : ByteArray} {L : Nat} {r : Option FieldType} (h1 : Cond.methodLink own idx y ∈ lw_all) (h2 : Cond.instanceMethod y ∈ lw_all) (h3 : Cond.selects C y y ∈ lw_all) (h4 : Cond.initialized C ∈ lw_all) (h5 : Cond.code y b L r ∈ lw_all) : GoodIn lw_all (wsV own idx C y (ws_ y b L r)) := by
  refine lw_app ?_ (lw_meth h5)
  intro w hw
  simp only [List.mem_cons, List.not_mem_nil, or_false] at hw
  rcases hw with e | e | e | e
  · rw [e]; exact h1
  · rw [e]; exact h2
  · rw [e]; exact h3
  · rw [e]; exact h4
/-- what a static call asks: va_cwS n hts (lw_S ..) -/
theorem lw_S {own : String} {idx : Nat} {y : MethodName} {b : ByteArray} {L : Nat} {r : Option FieldType} (h1 : Cond.methodLink own idx y ∈ lw_all) (h2 : Cond.static y ∈ lw_all) (h3 : Cond.initialized y.cls ∈ lw_all) (h4 : Cond.code y b L r ∈ lw_all) : GoodIn lw_all (va_wsS own idx y (ws_ y b L r)) := by
  refine lw_app ?_ (lw_meth h4)
  intro w hw
  simp only [List.mem_cons, List.not_mem_nil, or_false] at hw
  rcases hw with e | e | e
  · rw [e]; exact h1
  · rw [e]; exact h2
  · rw [e]; exact h3
/-- the words of a contract for a method WITH HANDLERS (hh: its table) -/
abbrev wsW_ (y : MethodName) (b : ByteArray) (L : Nat) (r : Option FieldType) (hh : List (Nat × Nat × Nat × Nat)) : List Cond := Cond.codeWith y b L r hh :: lw_all
theorem lw_methW {y : MethodName} {b : ByteArray} {L : Nat} {r : Option FieldType} {hh : List (Nat × Nat × Nat × Nat)} (h : Cond.codeWith y b L r hh ∈ lw_all) : GoodIn lw_all (wsW_ y b L r hh) := by
  intro w hw
  rcases List.mem_cons.mp hw with e | e
  · rw [e]
    exact lw_self _ h
  · exact lw_self _ e
/-- any list of words by their places (lw_in), good -/
theorem lw_good {ws : List Cond} (h : ∀ w ∈ ws, w ∈ lw_all) : GoodIn lw_all ws := fun w hw => lw_self w (h w hw)
/-- what a call of a method with handlers asks: vx_cwVW n hts (lw_VW ..), vx_cwSW n hts (lw_SW ..) -/
theorem lw_VW {own : String} {idx : Nat} {C : String} {y : MethodName} {b : ByteArray} {L : Nat} {r : Option FieldType} {hh : List (Nat × Nat × Nat × Nat)} (h1 : Cond.methodLink own idx y ∈ lw_all) (h2 : Cond.instanceMethod y ∈ lw_all) (h3 : Cond.selects C y y ∈ lw_all) (h4 : Cond.initialized C ∈ lw_all) (h5 : Cond.codeWith y b L r hh ∈ lw_all) : GoodIn lw_all (wsV own idx C y (wsW_ y b L r hh)) := by
  refine lw_app ?_ (lw_methW h5)
  intro w hw
  simp only [List.mem_cons, List.not_mem_nil, or_false] at hw
  rcases hw with e | e | e | e
  · rw [e]; exact h1
  · rw [e]; exact h2
  · rw [e]; exact h3
  · rw [e]; exact h4
theorem lw_SW {own : String} {idx : Nat} {y : MethodName} {b : ByteArray} {L : Nat} {r : Option FieldType} {hh : List (Nat × Nat × Nat × Nat)} (h1 : Cond.methodLink own idx y ∈ lw_all) (h2 : Cond.static y ∈ lw_all) (h3 : Cond.initialized y.cls ∈ lw_all) (h4 : Cond.codeWith y b L r hh ∈ lw_all) : GoodIn lw_all (va_wsS own idx y (wsW_ y b L r hh)) := by
  refine lw_app ?_ (lw_methW h4)
  intro w hw
  simp only [List.mem_cons, List.not_mem_nil, or_false] at hw
  rcases hw with e | e | e
  · rw [e]; exact h1
  · rw [e]; exact h2
  · rw [e]; exact h3
/-- a word by its place in its run of the tables -/
theorem lw_at {r : List Cond} (hr : ∀ w ∈ r, w ∈ lw_tbl) {w : Cond} (i : Nat) (h : r[i]? = some w) : w ∈ lw_tbl := hr w (List.mem_of_getElem? h)
theorem lw_g {w : Cond} (h : w ∈ lw_tbl) (g : goodWord w = true) : w ∈ lw_all := List.mem_filter.mpr ⟨h, g⟩
theorem lw_ms : ∀ w ∈ k2_sels lw_privs, w ∈ lw_tbl := fun w h => show w ∈ k2_sels lw_privs ++ tables_1 from List.mem_append_left _ h
theorem lw_m1 : ∀ w ∈ tables_1_1, w ∈ lw_tbl := fun w h => show w ∈ k2_sels lw_privs ++ tables_1 from List.mem_append_right (k2_sels lw_privs) (show w ∈ tables_1 from List.mem_append_left _ h)
theorem lw_m2 : ∀ w ∈ tables_1_2, w ∈ lw_tbl := fun w h => show w ∈ k2_sels lw_privs ++ tables_1 from List.mem_append_right (k2_sels lw_privs) (show w ∈ tables_1 from List.mem_append_right _ (List.mem_append_left _ h))
theorem lw_m3 : ∀ w ∈ tables_1_3, w ∈ lw_tbl := fun w h => show w ∈ k2_sels lw_privs ++ tables_1 from List.mem_append_right (k2_sels lw_privs) (show w ∈ tables_1 from List.mem_append_right _ (List.mem_append_right _ (List.mem_append_left _ h)))
theorem lw_m4 : ∀ w ∈ tables_1_4, w ∈ lw_tbl := fun w h => show w ∈ k2_sels lw_privs ++ tables_1 from List.mem_append_right (k2_sels lw_privs) (show w ∈ tables_1 from List.mem_append_right _ (List.mem_append_right _ (List.mem_append_right _ (List.mem_append_left _ h))))
theorem lw_m5 : ∀ w ∈ tables_1_5, w ∈ lw_tbl := fun w h => show w ∈ k2_sels lw_privs ++ tables_1 from List.mem_append_right (k2_sels lw_privs) (show w ∈ tables_1 from List.mem_append_right _ (List.mem_append_right _ (List.mem_append_right _ (List.mem_append_right _ (List.mem_append_left _ h)))))
theorem lw_m6 : ∀ w ∈ tables_1_6, w ∈ lw_tbl := fun w h => show w ∈ k2_sels lw_privs ++ tables_1 from List.mem_append_right (k2_sels lw_privs) (show w ∈ tables_1 from List.mem_append_right _ (List.mem_append_right _ (List.mem_append_right _ (List.mem_append_right _ (List.mem_append_right _ (List.mem_append_left _ h))))))
theorem lw_m7 : ∀ w ∈ tables_1_7, w ∈ lw_tbl := fun w h => show w ∈ k2_sels lw_privs ++ tables_1 from List.mem_append_right (k2_sels lw_privs) (show w ∈ tables_1 from List.mem_append_right _ (List.mem_append_right _ (List.mem_append_right _ (List.mem_append_right _ (List.mem_append_right _ (List.mem_append_right _ (List.mem_append_left _ h)))))))
theorem lw_m8 : ∀ w ∈ tables_1_8, w ∈ lw_tbl := fun w h => show w ∈ k2_sels lw_privs ++ tables_1 from List.mem_append_right (k2_sels lw_privs) (show w ∈ tables_1 from List.mem_append_right _ (List.mem_append_right _ (List.mem_append_right _ (List.mem_append_right _ (List.mem_append_right _ (List.mem_append_right _ (List.mem_append_right _ (List.mem_append_left _ h))))))))
theorem lw_m9 : ∀ w ∈ tables_1_9, w ∈ lw_tbl := fun w h => show w ∈ k2_sels lw_privs ++ tables_1 from List.mem_append_right (k2_sels lw_privs) (show w ∈ tables_1 from List.mem_append_right _ (List.mem_append_right _ (List.mem_append_right _ (List.mem_append_right _ (List.mem_append_right _ (List.mem_append_right _ (List.mem_append_right _ (List.mem_append_right _ (List.mem_append_left _ h)))))))))
theorem lw_m10 : ∀ w ∈ tables_1_10, w ∈ lw_tbl := fun w h => show w ∈ k2_sels lw_privs ++ tables_1 from List.mem_append_right (k2_sels lw_privs) (show w ∈ tables_1 from List.mem_append_right _ (List.mem_append_right _ (List.mem_append_right _ (List.mem_append_right _ (List.mem_append_right _ (List.mem_append_right _ (List.mem_append_right _ (List.mem_append_right _ (List.mem_append_right _ (List.mem_append_left _ h))))))))))
theorem lw_m11 : ∀ w ∈ tables_1_11, w ∈ lw_tbl := fun w h => show w ∈ k2_sels lw_privs ++ tables_1 from List.mem_append_right (k2_sels lw_privs) (show w ∈ tables_1 from List.mem_append_right _ (List.mem_append_right _ (List.mem_append_right _ (List.mem_append_right _ (List.mem_append_right _ (List.mem_append_right _ (List.mem_append_right _ (List.mem_append_right _ (List.mem_append_right _ (List.mem_append_right _ (List.mem_append_left _ h)))))))))))
theorem lw_m12 : ∀ w ∈ tables_1_12, w ∈ lw_tbl := fun w h => show w ∈ k2_sels lw_privs ++ tables_1 from List.mem_append_right (k2_sels lw_privs) (show w ∈ tables_1 from List.mem_append_right _ (List.mem_append_right _ (List.mem_append_right _ (List.mem_append_right _ (List.mem_append_right _ (List.mem_append_right _ (List.mem_append_right _ (List.mem_append_right _ (List.mem_append_right _ (List.mem_append_right _ (List.mem_append_right _ (List.mem_append_left _ h))))))))))))
theorem lw_m13 : ∀ w ∈ tables_1_13, w ∈ lw_tbl := fun w h => show w ∈ k2_sels lw_privs ++ tables_1 from List.mem_append_right (k2_sels lw_privs) (show w ∈ tables_1 from List.mem_append_right _ (List.mem_append_right _ (List.mem_append_right _ (List.mem_append_right _ (List.mem_append_right _ (List.mem_append_right _ (List.mem_append_right _ (List.mem_append_right _ (List.mem_append_right _ (List.mem_append_right _ (List.mem_append_right _ (List.mem_append_right _ (List.mem_append_left _ h)))))))))))))
theorem lw_m14 : ∀ w ∈ tables_1_14, w ∈ lw_tbl := fun w h => show w ∈ k2_sels lw_privs ++ tables_1 from List.mem_append_right (k2_sels lw_privs) (show w ∈ tables_1 from List.mem_append_right _ (List.mem_append_right _ (List.mem_append_right _ (List.mem_append_right _ (List.mem_append_right _ (List.mem_append_right _ (List.mem_append_right _ (List.mem_append_right _ (List.mem_append_right _ (List.mem_append_right _ (List.mem_append_right _ (List.mem_append_right _ (List.mem_append_right _ h)))))))))))))
theorem qs0 : (Cond.selects "ShadowSpell$Scanner" ⟨"ShadowSpell$Scanner", "next", "(I)LShadowSpell$Token;"⟩ ⟨"ShadowSpell$Scanner", "next", "(I)LShadowSpell$Token;"⟩) ∈ lw_all := lw_g (lw_at lw_ms 0 rfl) rfl
theorem qs1 : (Cond.selects "java/lang/Throwable" ⟨"java/lang/Throwable", "fillInStackTrace", "(I)Ljava/lang/Throwable;"⟩ ⟨"java/lang/Throwable", "fillInStackTrace", "(I)Ljava/lang/Throwable;"⟩) ∈ lw_all := lw_g (lw_at lw_ms 1 rfl) rfl
theorem qs2 : (Cond.selects "java/util/ArrayList" ⟨"java/util/ArrayList", "add", "(Ljava/lang/Object;[Ljava/lang/Object;I)V"⟩ ⟨"java/util/ArrayList", "add", "(Ljava/lang/Object;[Ljava/lang/Object;I)V"⟩) ∈ lw_all := lw_g (lw_at lw_ms 2 rfl) rfl
theorem qs3 : (Cond.selects "java/util/ArrayList" ⟨"java/util/ArrayList", "grow", "()[Ljava/lang/Object;"⟩ ⟨"java/util/ArrayList", "grow", "()[Ljava/lang/Object;"⟩) ∈ lw_all := lw_g (lw_at lw_ms 3 rfl) rfl
theorem qs4 : (Cond.selects "java/util/ArrayList" ⟨"java/util/ArrayList", "grow", "(I)[Ljava/lang/Object;"⟩ ⟨"java/util/ArrayList", "grow", "(I)[Ljava/lang/Object;"⟩) ∈ lw_all := lw_g (lw_at lw_ms 4 rfl) rfl
theorem qs5 : (Cond.selects "ShadowSpell$Reader" ⟨"ShadowSpell$Reader", "text", "()V"⟩ ⟨"ShadowSpell$Reader", "text", "()V"⟩) ∈ lw_all := lw_g (lw_at lw_ms 5 rfl) rfl
theorem qs6 : (Cond.selects "ShadowSpell$Reader" ⟨"ShadowSpell$Reader", "now", "()LShadowSpell$Token;"⟩ ⟨"ShadowSpell$Reader", "now", "()LShadowSpell$Token;"⟩) ∈ lw_all := lw_g (lw_at lw_ms 6 rfl) rfl
theorem qs7 : (Cond.selects "ShadowSpell$Reader" ⟨"ShadowSpell$Reader", "takeIf", "(Ljava/lang/String;)Z"⟩ ⟨"ShadowSpell$Reader", "takeIf", "(Ljava/lang/String;)Z"⟩) ∈ lw_all := lw_g (lw_at lw_ms 7 rfl) rfl
theorem qs8 : (Cond.selects "ShadowSpell$Reader" ⟨"ShadowSpell$Reader", "planet", "()V"⟩ ⟨"ShadowSpell$Reader", "planet", "()V"⟩) ∈ lw_all := lw_g (lw_at lw_ms 8 rfl) rfl
theorem qs9 : (Cond.selects "ShadowSpell$Reader" ⟨"ShadowSpell$Reader", "name", "(Ljava/util/HashMap;I)LShadowSpell$Token;"⟩ ⟨"ShadowSpell$Reader", "name", "(Ljava/util/HashMap;I)LShadowSpell$Token;"⟩) ∈ lw_all := lw_g (lw_at lw_ms 9 rfl) rfl
theorem qs10 : (Cond.selects "ShadowSpell$Reader" ⟨"ShadowSpell$Reader", "take", "(LShadowSpell$Sort;)LShadowSpell$Token;"⟩ ⟨"ShadowSpell$Reader", "take", "(LShadowSpell$Sort;)LShadowSpell$Token;"⟩) ∈ lw_all := lw_g (lw_at lw_ms 10 rfl) rfl
theorem qs11 : (Cond.selects "ShadowSpell$Reader" ⟨"ShadowSpell$Reader", "wrong", "()LShadowSpell$Fault;"⟩ ⟨"ShadowSpell$Reader", "wrong", "()LShadowSpell$Fault;"⟩) ∈ lw_all := lw_g (lw_at lw_ms 11 rfl) rfl
theorem qs12 : (Cond.selects "ShadowSpell$Reader" ⟨"ShadowSpell$Reader", "check", "(IZLShadowSpell$Token;)V"⟩ ⟨"ShadowSpell$Reader", "check", "(IZLShadowSpell$Token;)V"⟩) ∈ lw_all := lw_g (lw_at lw_ms 12 rfl) rfl
theorem qs13 : (Cond.selects "ShadowSpell$Reader" ⟨"ShadowSpell$Reader", "take", "(Ljava/lang/String;)V"⟩ ⟨"ShadowSpell$Reader", "take", "(Ljava/lang/String;)V"⟩) ∈ lw_all := lw_g (lw_at lw_ms 13 rfl) rfl
theorem qs14 : (Cond.selects "ShadowSpell$Reader" ⟨"ShadowSpell$Reader", "number", "(II)I"⟩ ⟨"ShadowSpell$Reader", "number", "(II)I"⟩) ∈ lw_all := lw_g (lw_at lw_ms 14 rfl) rfl
theorem qs15 : (Cond.selects "ShadowSpell$Reader" ⟨"ShadowSpell$Reader", "put", "(Ljava/util/HashMap;LShadowSpell$Token;)V"⟩ ⟨"ShadowSpell$Reader", "put", "(Ljava/util/HashMap;LShadowSpell$Token;)V"⟩) ∈ lw_all := lw_g (lw_at lw_ms 15 rfl) rfl
theorem qs16 : (Cond.selects "ShadowSpell$Reader" ⟨"ShadowSpell$Reader", "alphabet", "()V"⟩ ⟨"ShadowSpell$Reader", "alphabet", "()V"⟩) ∈ lw_all := lw_g (lw_at lw_ms 16 rfl) rfl
theorem qs17 : (Cond.selects "ShadowSpell$Reader" ⟨"ShadowSpell$Reader", "rule", "()V"⟩ ⟨"ShadowSpell$Reader", "rule", "()V"⟩) ∈ lw_all := lw_g (lw_at lw_ms 17 rfl) rfl
theorem qs18 : (Cond.selects "ShadowSpell$Reader" ⟨"ShadowSpell$Reader", "test", "()LShadowSpell$Test;"⟩ ⟨"ShadowSpell$Reader", "test", "()LShadowSpell$Test;"⟩) ∈ lw_all := lw_g (lw_at lw_ms 18 rfl) rfl
theorem qs19 : (Cond.selects "ShadowSpell$Reader" ⟨"ShadowSpell$Reader", "both", "()LShadowSpell$Test;"⟩ ⟨"ShadowSpell$Reader", "both", "()LShadowSpell$Test;"⟩) ∈ lw_all := lw_g (lw_at lw_ms 19 rfl) rfl
theorem qs20 : (Cond.selects "ShadowSpell$Reader" ⟨"ShadowSpell$Reader", "single", "()LShadowSpell$Test;"⟩ ⟨"ShadowSpell$Reader", "single", "()LShadowSpell$Test;"⟩) ∈ lw_all := lw_g (lw_at lw_ms 20 rfl) rfl
theorem qs21 : (Cond.selects "ShadowSpell$Reader" ⟨"ShadowSpell$Reader", "deeper", "(Ljava/lang/String;)V"⟩ ⟨"ShadowSpell$Reader", "deeper", "(Ljava/lang/String;)V"⟩) ∈ lw_all := lw_g (lw_at lw_ms 21 rfl) rfl
theorem qs22 : (Cond.selects "ShadowSpell$Reader" ⟨"ShadowSpell$Reader", "close", "(Ljava/lang/String;)V"⟩ ⟨"ShadowSpell$Reader", "close", "(Ljava/lang/String;)V"⟩) ∈ lw_all := lw_g (lw_at lw_ms 22 rfl) rfl
theorem qs23 : (Cond.selects "ShadowSpell$Reader" ⟨"ShadowSpell$Reader", "known", "(Ljava/util/HashMap;)I"⟩ ⟨"ShadowSpell$Reader", "known", "(Ljava/util/HashMap;)I"⟩) ∈ lw_all := lw_g (lw_at lw_ms 23 rfl) rfl
theorem qs24 : (Cond.selects "ShadowSpell$Reader" ⟨"ShadowSpell$Reader", "other", "(I)I"⟩ ⟨"ShadowSpell$Reader", "other", "(I)I"⟩) ∈ lw_all := lw_g (lw_at lw_ms 24 rfl) rfl
theorem qs25 : (Cond.selects "ShadowSpell$Reader" ⟨"ShadowSpell$Reader", "sum", "()LShadowSpell$Sum;"⟩ ⟨"ShadowSpell$Reader", "sum", "()LShadowSpell$Sum;"⟩) ∈ lw_all := lw_g (lw_at lw_ms 25 rfl) rfl
theorem qs26 : (Cond.selects "ShadowSpell$Reader" ⟨"ShadowSpell$Reader", "product", "()LShadowSpell$Sum;"⟩ ⟨"ShadowSpell$Reader", "product", "()LShadowSpell$Sum;"⟩) ∈ lw_all := lw_g (lw_at lw_ms 26 rfl) rfl
theorem qs27 : (Cond.selects "ShadowSpell$Reader" ⟨"ShadowSpell$Reader", "value", "()LShadowSpell$Sum;"⟩ ⟨"ShadowSpell$Reader", "value", "()LShadowSpell$Sum;"⟩) ∈ lw_all := lw_g (lw_at lw_ms 27 rfl) rfl
theorem qs28 : (Cond.selects "ShadowSpell$Sky" ⟨"ShadowSpell$Sky", "isAt", "(LShadowSpell$Tape;I)Z"⟩ ⟨"ShadowSpell$Sky", "isAt", "(LShadowSpell$Tape;I)Z"⟩) ∈ lw_all := lw_g (lw_at lw_ms 28 rfl) rfl
theorem qs29 : (Cond.selects "ShadowSpell$Sky" ⟨"ShadowSpell$Sky", "write", "(LShadowSpell$Rule;)V"⟩ ⟨"ShadowSpell$Sky", "write", "(LShadowSpell$Rule;)V"⟩) ∈ lw_all := lw_g (lw_at lw_ms 29 rfl) rfl
theorem qs30 : (Cond.selects "ShadowSpellModel" ⟨"ShadowSpellModel", "no", "(I)I"⟩ ⟨"ShadowSpellModel", "no", "(I)I"⟩) ∈ lw_all := lw_g (lw_at lw_ms 30 rfl) rfl
theorem qs31 : (Cond.selects "ShadowSpellModel" ⟨"ShadowSpellModel", "read", "()I"⟩ ⟨"ShadowSpellModel", "read", "()I"⟩) ∈ lw_all := lw_g (lw_at lw_ms 31 rfl) rfl
theorem qs32 : (Cond.selects "ShadowSpellModel" ⟨"ShadowSpellModel", "cutIntoTokens", "()V"⟩ ⟨"ShadowSpellModel", "cutIntoTokens", "()V"⟩) ∈ lw_all := lw_g (lw_at lw_ms 32 rfl) rfl
theorem qs33 : (Cond.selects "ShadowSpellModel" ⟨"ShadowSpellModel", "byteOf", "(I)I"⟩ ⟨"ShadowSpellModel", "byteOf", "(I)I"⟩) ∈ lw_all := lw_g (lw_at lw_ms 33 rfl) rfl
theorem qs34 : (Cond.selects "ShadowSpellModel" ⟨"ShadowSpellModel", "kindAt", "(II)I"⟩ ⟨"ShadowSpellModel", "kindAt", "(II)I"⟩) ∈ lw_all := lw_g (lw_at lw_ms 34 rfl) rfl
theorem qs35 : (Cond.selects "ShadowSpellModel" ⟨"ShadowSpellModel", "word", "(II)I"⟩ ⟨"ShadowSpellModel", "word", "(II)I"⟩) ∈ lw_all := lw_g (lw_at lw_ms 35 rfl) rfl
theorem qs36 : (Cond.selects "ShadowSpellModel" ⟨"ShadowSpellModel", "isText", "()Z"⟩ ⟨"ShadowSpellModel", "isText", "()Z"⟩) ∈ lw_all := lw_g (lw_at lw_ms 36 rfl) rfl
theorem qs37 : (Cond.selects "ShadowSpellModel" ⟨"ShadowSpellModel", "is", "(I)Z"⟩ ⟨"ShadowSpellModel", "is", "(I)Z"⟩) ∈ lw_all := lw_g (lw_at lw_ms 37 rfl) rfl
theorem qs38 : (Cond.selects "ShadowSpellModel" ⟨"ShadowSpellModel", "isPlanetLine", "()Z"⟩ ⟨"ShadowSpellModel", "isPlanetLine", "()Z"⟩) ∈ lw_all := lw_g (lw_at lw_ms 38 rfl) rfl
theorem qs39 : (Cond.selects "ShadowSpellModel" ⟨"ShadowSpellModel", "eatAs", "(II)Z"⟩ ⟨"ShadowSpellModel", "eatAs", "(II)Z"⟩) ∈ lw_all := lw_g (lw_at lw_ms 39 rfl) rfl
theorem qs40 : (Cond.selects "ShadowSpellModel" ⟨"ShadowSpellModel", "eat", "(I)Z"⟩ ⟨"ShadowSpellModel", "eat", "(I)Z"⟩) ∈ lw_all := lw_g (lw_at lw_ms 40 rfl) rfl
theorem qs41 : (Cond.selects "ShadowSpellModel" ⟨"ShadowSpellModel", "eatSign", "(C)Z"⟩ ⟨"ShadowSpellModel", "eatSign", "(C)Z"⟩) ∈ lw_all := lw_g (lw_at lw_ms 41 rfl) rfl
theorem qs42 : (Cond.selects "ShadowSpellModel" ⟨"ShadowSpellModel", "isAlphabetLine", "()Z"⟩ ⟨"ShadowSpellModel", "isAlphabetLine", "()Z"⟩) ∈ lw_all := lw_g (lw_at lw_ms 42 rfl) rfl
theorem qs43 : (Cond.selects "ShadowSpellModel" ⟨"ShadowSpellModel", "isRule", "()Z"⟩ ⟨"ShadowSpellModel", "isRule", "()Z"⟩) ∈ lw_all := lw_g (lw_at lw_ms 43 rfl) rfl
theorem qs44 : (Cond.selects "ShadowSpellModel" ⟨"ShadowSpellModel", "isTest", "()Z"⟩ ⟨"ShadowSpellModel", "isTest", "()Z"⟩) ∈ lw_all := lw_g (lw_at lw_ms 44 rfl) rfl
theorem qs45 : (Cond.selects "ShadowSpellModel" ⟨"ShadowSpellModel", "isBoth", "()Z"⟩ ⟨"ShadowSpellModel", "isBoth", "()Z"⟩) ∈ lw_all := lw_g (lw_at lw_ms 45 rfl) rfl
theorem qs46 : (Cond.selects "ShadowSpellModel" ⟨"ShadowSpellModel", "isSingle", "()Z"⟩ ⟨"ShadowSpellModel", "isSingle", "()Z"⟩) ∈ lw_all := lw_g (lw_at lw_ms 46 rfl) rfl
theorem qs47 : (Cond.selects "ShadowSpellModel" ⟨"ShadowSpellModel", "isIn", "()Z"⟩ ⟨"ShadowSpellModel", "isIn", "()Z"⟩) ∈ lw_all := lw_g (lw_at lw_ms 47 rfl) rfl
theorem qs48 : (Cond.selects "ShadowSpellModel" ⟨"ShadowSpellModel", "put", "(I)V"⟩ ⟨"ShadowSpellModel", "put", "(I)V"⟩) ∈ lw_all := lw_g (lw_at lw_ms 48 rfl) rfl
theorem qs49 : (Cond.selects "ShadowSpellModel" ⟨"ShadowSpellModel", "isSign", "(C)Z"⟩ ⟨"ShadowSpellModel", "isSign", "(C)Z"⟩) ∈ lw_all := lw_g (lw_at lw_ms 49 rfl) rfl
theorem qs50 : (Cond.selects "ShadowSpellModel" ⟨"ShadowSpellModel", "isPair", "(I)Z"⟩ ⟨"ShadowSpellModel", "isPair", "(I)Z"⟩) ∈ lw_all := lw_g (lw_at lw_ms 50 rfl) rfl
theorem qs51 : (Cond.selects "ShadowSpellModel" ⟨"ShadowSpellModel", "putToken", "(I)V"⟩ ⟨"ShadowSpellModel", "putToken", "(I)V"⟩) ∈ lw_all := lw_g (lw_at lw_ms 51 rfl) rfl
theorem qs52 : (Cond.selects "ShadowSpellModel" ⟨"ShadowSpellModel", "isOne", "(I)Z"⟩ ⟨"ShadowSpellModel", "isOne", "(I)Z"⟩) ∈ lw_all := lw_g (lw_at lw_ms 52 rfl) rfl
theorem qs53 : (Cond.selects "ShadowSpellModel" ⟨"ShadowSpellModel", "isCompared", "()Z"⟩ ⟨"ShadowSpellModel", "isCompared", "()Z"⟩) ∈ lw_all := lw_g (lw_at lw_ms 53 rfl) rfl
theorem qs54 : (Cond.selects "ShadowSpellModel" ⟨"ShadowSpellModel", "isSum", "()Z"⟩ ⟨"ShadowSpellModel", "isSum", "()Z"⟩) ∈ lw_all := lw_g (lw_at lw_ms 54 rfl) rfl
theorem qs55 : (Cond.selects "ShadowSpellModel" ⟨"ShadowSpellModel", "isProduct", "()Z"⟩ ⟨"ShadowSpellModel", "isProduct", "()Z"⟩) ∈ lw_all := lw_g (lw_at lw_ms 55 rfl) rfl
theorem qs56 : (Cond.selects "ShadowSpellModel" ⟨"ShadowSpellModel", "isValue", "()Z"⟩ ⟨"ShadowSpellModel", "isValue", "()Z"⟩) ∈ lw_all := lw_g (lw_at lw_ms 56 rfl) rfl
theorem qs57 : (Cond.selects "ShadowSpellModel" ⟨"ShadowSpellModel", "numberAt", "(I)I"⟩ ⟨"ShadowSpellModel", "numberAt", "(I)I"⟩) ∈ lw_all := lw_g (lw_at lw_ms 57 rfl) rfl
theorem qs58 : (Cond.selects "ShadowSpellModel" ⟨"ShadowSpellModel", "errorOf", "(I)I"⟩ ⟨"ShadowSpellModel", "errorOf", "(I)I"⟩) ∈ lw_all := lw_g (lw_at lw_ms 58 rfl) rfl
theorem qs59 : (Cond.selects "ShadowSpellModel" ⟨"ShadowSpellModel", "told", "(II)I"⟩ ⟨"ShadowSpellModel", "told", "(II)I"⟩) ∈ lw_all := lw_g (lw_at lw_ms 59 rfl) rfl
theorem qs60 : (Cond.selects "ShadowSpellModel" ⟨"ShadowSpellModel", "isSame", "(II)Z"⟩ ⟨"ShadowSpellModel", "isSame", "(II)Z"⟩) ∈ lw_all := lw_g (lw_at lw_ms 60 rfl) rfl
theorem qs61 : (Cond.selects "ShadowSpellModel" ⟨"ShadowSpellModel", "areLetters", "(I)Z"⟩ ⟨"ShadowSpellModel", "areLetters", "(I)Z"⟩) ∈ lw_all := lw_g (lw_at lw_ms 61 rfl) rfl
theorem qs62 : (Cond.selects "ShadowSpellModel" ⟨"ShadowSpellModel", "counted", "(I)I"⟩ ⟨"ShadowSpellModel", "counted", "(I)I"⟩) ∈ lw_all := lw_g (lw_at lw_ms 62 rfl) rfl
theorem qs63 : (Cond.selects "ShadowSpellModel" ⟨"ShadowSpellModel", "isPlanet", "(I)Z"⟩ ⟨"ShadowSpellModel", "isPlanet", "(I)Z"⟩) ∈ lw_all := lw_g (lw_at lw_ms 63 rfl) rfl
theorem qs64 : (Cond.selects "ShadowSpellModel" ⟨"ShadowSpellModel", "planetTold", "(II)I"⟩ ⟨"ShadowSpellModel", "planetTold", "(II)I"⟩) ∈ lw_all := lw_g (lw_at lw_ms 64 rfl) rfl
theorem qs65 : (Cond.selects "ShadowSpellModel" ⟨"ShadowSpellModel", "isAlphabet", "(I)Z"⟩ ⟨"ShadowSpellModel", "isAlphabet", "(I)Z"⟩) ∈ lw_all := lw_g (lw_at lw_ms 65 rfl) rfl
theorem qs66 : (Cond.selects "ShadowSpellModel$State" ⟨"ShadowSpellModel$State", "carryOut", "(II)I"⟩ ⟨"ShadowSpellModel$State", "carryOut", "(II)I"⟩) ∈ lw_all := lw_g (lw_at lw_ms 66 rfl) rfl
theorem qs67 : (Cond.selects "ShadowSpellModel$State" ⟨"ShadowSpellModel$State", "pushed", "(III)I"⟩ ⟨"ShadowSpellModel$State", "pushed", "(III)I"⟩) ∈ lw_all := lw_g (lw_at lw_ms 67 rfl) rfl
theorem qs68 : (Cond.selects "ShadowSpellModel" ⟨"ShadowSpellModel", "numberOf", "(II)I"⟩ ⟨"ShadowSpellModel", "numberOf", "(II)I"⟩) ∈ lw_all := lw_g (lw_at lw_ms 68 rfl) rfl
theorem qs69 : (Cond.selects "ShadowSpellModel$State" ⟨"ShadowSpellModel$State", "copy", "([I[I)V"⟩ ⟨"ShadowSpellModel$State", "copy", "([I[I)V"⟩) ∈ lw_all := lw_g (lw_at lw_ms 69 rfl) rfl
theorem qs70 : (Cond.selects "ShadowSpellModel" ⟨"ShadowSpellModel", "wroteInAll", "()I"⟩ ⟨"ShadowSpellModel", "wroteInAll", "()I"⟩) ∈ lw_all := lw_g (lw_at lw_ms 70 rfl) rfl
