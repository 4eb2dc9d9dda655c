-- ===== PART A: goes FIRST, ahead of the names: the tables' words, and 'selects' of the private methods out of them =====
/-- a private method of a class that the tables say can be made, by its rows of tables_1 -/
def lw_okq (q : MethodName × Nat) : Prop := (q.1.cls ≠ "java/lang/invoke/MethodHandle" ∧ q.1.cls ≠ "java/lang/invoke/VarHandle") ∧ Cond.instantiable q.1.cls q.2 ∈ tables_1 ∧ Cond.privateMethod q.1 ∈ tables_1 ∧ Cond.instanceMethod q.1 ∈ tables_1
set_option maxRecDepth 100000
theorem lw_t1 {w : Cond} (h : w ∈ tables_1_1) : w ∈ tables_1 := List.mem_append_left _ h
theorem lw_t2 {w : Cond} (h : w ∈ tables_1_2) : w ∈ tables_1 := List.mem_append_right _ (List.mem_append_left _ h)
theorem lw_t3 {w : Cond} (h : w ∈ tables_1_3) : w ∈ tables_1 := List.mem_append_right _ (List.mem_append_right _ (List.mem_append_left _ h))
theorem lw_t4 {w : Cond} (h : w ∈ tables_1_4) : w ∈ tables_1 := List.mem_append_right _ (List.mem_append_right _ (List.mem_append_right _ (List.mem_append_left _ h)))
theorem lw_t5 {w : Cond} (h : w ∈ tables_1_5) : w ∈ tables_1 := List.mem_append_right _ (List.mem_append_right _ (List.mem_append_right _ (List.mem_append_right _ (List.mem_append_left _ h))))
theorem lw_t6 {w : Cond} (h : w ∈ tables_1_6) : w ∈ tables_1 := List.mem_append_right _ (List.mem_append_right _ (List.mem_append_right _ (List.mem_append_right _ (List.mem_append_right _ (List.mem_append_left _ h)))))
theorem lw_t7 {w : Cond} (h : w ∈ tables_1_7) : w ∈ tables_1 := List.mem_append_right _ (List.mem_append_right _ (List.mem_append_right _ (List.mem_append_right _ (List.mem_append_right _ (List.mem_append_right _ (List.mem_append_left _ h))))))
theorem lw_t8 {w : Cond} (h : w ∈ tables_1_8) : w ∈ tables_1 := List.mem_append_right _ (List.mem_append_right _ (List.mem_append_right _ (List.mem_append_right _ (List.mem_append_right _ (List.mem_append_right _ (List.mem_append_right _ (List.mem_append_left _ h)))))))
theorem lw_t9 {w : Cond} (h : w ∈ tables_1_9) : w ∈ tables_1 := List.mem_append_right _ (List.mem_append_right _ (List.mem_append_right _ (List.mem_append_right _ (List.mem_append_right _ (List.mem_append_right _ (List.mem_append_right _ (List.mem_append_right _ h)))))))
theorem lw_p0 : lw_okq (⟨"java/lang/Throwable", "fillInStackTrace", "(I)Ljava/lang/Throwable;"⟩, 6) := ⟨⟨by decide +kernel, by decide +kernel⟩, lw_t1 (List.mem_of_getElem? (i := 87) rfl), lw_t1 (List.mem_of_getElem? (i := 85) rfl), lw_t1 (List.mem_of_getElem? (i := 86) rfl)⟩
theorem lw_p1 : lw_okq (⟨"BeeYard", "want", "(ZI)V"⟩, 16) := ⟨⟨by decide +kernel, by decide +kernel⟩, lw_t1 (List.mem_of_getElem? (i := 31) rfl), lw_t2 (List.mem_of_getElem? (i := 119) rfl), lw_t2 (List.mem_of_getElem? (i := 120) rfl)⟩
theorem lw_p2 : lw_okq (⟨"BeeYard", "no", "(LBeeYard$Refused;)Z"⟩, 16) := ⟨⟨by decide +kernel, by decide +kernel⟩, lw_t1 (List.mem_of_getElem? (i := 31) rfl), lw_t2 (List.mem_of_getElem? (i := 130) rfl), lw_t2 (List.mem_of_getElem? (i := 131) rfl)⟩
theorem lw_p3 : lw_okq (⟨"BeeYard", "on", "(I)Ljava/lang/Object;"⟩, 16) := ⟨⟨by decide +kernel, by decide +kernel⟩, lw_t1 (List.mem_of_getElem? (i := 31) rfl), lw_t2 (List.mem_of_getElem? (i := 158) rfl), lw_t2 (List.mem_of_getElem? (i := 159) rfl)⟩
theorem lw_p4 : lw_okq (⟨"BeeYard", "none", "(LBeeYard$Refused;)I"⟩, 16) := ⟨⟨by decide +kernel, by decide +kernel⟩, lw_t1 (List.mem_of_getElem? (i := 31) rfl), lw_t2 (List.mem_of_getElem? (i := 177) rfl), lw_t2 (List.mem_of_getElem? (i := 178) rfl)⟩
theorem lw_p5 : lw_okq (⟨"BeeYard", "lay", "(I)V"⟩, 16) := ⟨⟨by decide +kernel, by decide +kernel⟩, lw_t1 (List.mem_of_getElem? (i := 31) rfl), lw_t2 (List.mem_of_getElem? (i := 196) rfl), lw_t2 (List.mem_of_getElem? (i := 197) rfl)⟩
theorem lw_p6 : lw_okq (⟨"BeeYard", "opens", "(II)Z"⟩, 16) := ⟨⟨by decide +kernel, by decide +kernel⟩, lw_t1 (List.mem_of_getElem? (i := 31) rfl), lw_t2 (List.mem_of_getElem? (i := 204) rfl), lw_t2 (List.mem_of_getElem? (i := 205) rfl)⟩
theorem lw_p7 : lw_okq (⟨"BeeYard$Reader", "next", "()V"⟩, 7) := ⟨⟨by decide +kernel, by decide +kernel⟩, lw_t2 (List.mem_of_getElem? (i := 208) rfl), lw_t2 (List.mem_of_getElem? (i := 214) rfl), lw_t2 (List.mem_of_getElem? (i := 215) rfl)⟩
theorem lw_p8 : lw_okq (⟨"BeeYard$Reader", "isLetter", "(I)Z"⟩, 7) := ⟨⟨by decide +kernel, by decide +kernel⟩, lw_t2 (List.mem_of_getElem? (i := 208) rfl), lw_t2 (List.mem_of_getElem? (i := 218) rfl), lw_t2 (List.mem_of_getElem? (i := 219) rfl)⟩
theorem lw_p9 : lw_okq (⟨"BeeYard$Reader", "isDigit", "(I)Z"⟩, 7) := ⟨⟨by decide +kernel, by decide +kernel⟩, lw_t2 (List.mem_of_getElem? (i := 208) rfl), lw_t2 (List.mem_of_getElem? (i := 222) rfl), lw_t2 (List.mem_of_getElem? (i := 223) rfl)⟩
theorem lw_p10 : lw_okq (⟨"BeeYard$Reader", "isWord", "(Ljava/lang/String;)Z"⟩, 7) := ⟨⟨by decide +kernel, by decide +kernel⟩, lw_t2 (List.mem_of_getElem? (i := 208) rfl), lw_t3 (List.mem_of_getElem? (i := 14) rfl), lw_t3 (List.mem_of_getElem? (i := 15) rfl)⟩
theorem lw_p11 : lw_okq (⟨"BeeYard$Reader", "newHive", "(LBeeYard$Yard;)V"⟩, 7) := ⟨⟨by decide +kernel, by decide +kernel⟩, lw_t2 (List.mem_of_getElem? (i := 208) rfl), lw_t3 (List.mem_of_getElem? (i := 66) rfl), lw_t3 (List.mem_of_getElem? (i := 67) rfl)⟩
theorem lw_p12 : lw_okq (⟨"BeeYard$Reader", "fresh", "(LBeeYard$Yard;)J"⟩, 7) := ⟨⟨by decide +kernel, by decide +kernel⟩, lw_t2 (List.mem_of_getElem? (i := 208) rfl), lw_t3 (List.mem_of_getElem? (i := 74) rfl), lw_t3 (List.mem_of_getElem? (i := 75) rfl)⟩
theorem lw_p13 : lw_okq (⟨"BeeYard$Reader", "name", "()J"⟩, 7) := ⟨⟨by decide +kernel, by decide +kernel⟩, lw_t2 (List.mem_of_getElem? (i := 208) rfl), lw_t3 (List.mem_of_getElem? (i := 78) rfl), lw_t3 (List.mem_of_getElem? (i := 79) rfl)⟩
theorem lw_p14 : lw_okq (⟨"BeeYard$Reader", "isKept", "()Z"⟩, 7) := ⟨⟨by decide +kernel, by decide +kernel⟩, lw_t2 (List.mem_of_getElem? (i := 208) rfl), lw_t3 (List.mem_of_getElem? (i := 82) rfl), lw_t3 (List.mem_of_getElem? (i := 83) rfl)⟩
theorem lw_p15 : lw_okq (⟨"BeeYard$Reader", "acts", "()I"⟩, 7) := ⟨⟨by decide +kernel, by decide +kernel⟩, lw_t2 (List.mem_of_getElem? (i := 208) rfl), lw_t3 (List.mem_of_getElem? (i := 94) rfl), lw_t3 (List.mem_of_getElem? (i := 95) rfl)⟩
def lw_privs_1 : List (MethodName × Nat) := [(⟨"java/lang/Throwable", "fillInStackTrace", "(I)Ljava/lang/Throwable;"⟩, 6), (⟨"BeeYard", "want", "(ZI)V"⟩, 16), (⟨"BeeYard", "no", "(LBeeYard$Refused;)Z"⟩, 16), (⟨"BeeYard", "on", "(I)Ljava/lang/Object;"⟩, 16), (⟨"BeeYard", "none", "(LBeeYard$Refused;)I"⟩, 16), (⟨"BeeYard", "lay", "(I)V"⟩, 16), (⟨"BeeYard", "opens", "(II)Z"⟩, 16), (⟨"BeeYard$Reader", "next", "()V"⟩, 7), (⟨"BeeYard$Reader", "isLetter", "(I)Z"⟩, 7), (⟨"BeeYard$Reader", "isDigit", "(I)Z"⟩, 7), (⟨"BeeYard$Reader", "isWord", "(Ljava/lang/String;)Z"⟩, 7), (⟨"BeeYard$Reader", "newHive", "(LBeeYard$Yard;)V"⟩, 7), (⟨"BeeYard$Reader", "fresh", "(LBeeYard$Yard;)J"⟩, 7), (⟨"BeeYard$Reader", "name", "()J"⟩, 7), (⟨"BeeYard$Reader", "isKept", "()Z"⟩, 7), (⟨"BeeYard$Reader", "acts", "()I"⟩, 7)]
theorem lw_r1 : ∀ q ∈ lw_privs_1, lw_okq q := List.forall_mem_cons.mpr ⟨lw_p0, List.forall_mem_cons.mpr ⟨lw_p1, List.forall_mem_cons.mpr ⟨lw_p2, List.forall_mem_cons.mpr ⟨lw_p3, List.forall_mem_cons.mpr ⟨lw_p4, List.forall_mem_cons.mpr ⟨lw_p5, List.forall_mem_cons.mpr ⟨lw_p6, List.forall_mem_cons.mpr ⟨lw_p7, List.forall_mem_cons.mpr ⟨lw_p8, List.forall_mem_cons.mpr ⟨lw_p9, List.forall_mem_cons.mpr ⟨lw_p10, List.forall_mem_cons.mpr ⟨lw_p11, List.forall_mem_cons.mpr ⟨lw_p12, List.forall_mem_cons.mpr ⟨lw_p13, List.forall_mem_cons.mpr ⟨lw_p14, List.forall_mem_cons.mpr ⟨lw_p15, fun _ h => absurd h List.not_mem_nil⟩⟩⟩⟩⟩⟩⟩⟩⟩⟩⟩⟩⟩⟩⟩⟩
theorem lw_p16 : lw_okq (⟨"BeeYard$Reader", "tests", "()I"⟩, 7) := ⟨⟨by decide +kernel, by decide +kernel⟩, lw_t2 (List.mem_of_getElem? (i := 208) rfl), lw_t3 (List.mem_of_getElem? (i := 105) rfl), lw_t3 (List.mem_of_getElem? (i := 106) rfl)⟩
theorem lw_p17 : lw_okq (⟨"BeeYard$Reader", "wrong", "()LBeeYard$Bad;"⟩, 7) := ⟨⟨by decide +kernel, by decide +kernel⟩, lw_t2 (List.mem_of_getElem? (i := 208) rfl), lw_t3 (List.mem_of_getElem? (i := 116) rfl), lw_t3 (List.mem_of_getElem? (i := 117) rfl)⟩
theorem lw_p18 : lw_okq (⟨"BeeYard$Reader", "behind", "(Ljava/lang/String;II)I"⟩, 7) := ⟨⟨by decide +kernel, by decide +kernel⟩, lw_t2 (List.mem_of_getElem? (i := 208) rfl), lw_t3 (List.mem_of_getElem? (i := 134) rfl), lw_t3 (List.mem_of_getElem? (i := 135) rfl)⟩
theorem lw_p19 : lw_okq (⟨"BeeYard$Reader", "number", "(II)I"⟩, 7) := ⟨⟨by decide +kernel, by decide +kernel⟩, lw_t2 (List.mem_of_getElem? (i := 208) rfl), lw_t3 (List.mem_of_getElem? (i := 138) rfl), lw_t3 (List.mem_of_getElem? (i := 139) rfl)⟩
theorem lw_p20 : lw_okq (⟨"BeeYard$Hive", "frameOf", "(I)[S"⟩, 11) := ⟨⟨by decide +kernel, by decide +kernel⟩, lw_t3 (List.mem_of_getElem? (i := 142) rfl), lw_t3 (List.mem_of_getElem? (i := 217) rfl), lw_t3 (List.mem_of_getElem? (i := 218) rfl)⟩
theorem lw_p21 : lw_okq (⟨"BeeYard$Hive", "put", "(II)V"⟩, 11) := ⟨⟨by decide +kernel, by decide +kernel⟩, lw_t3 (List.mem_of_getElem? (i := 142) rfl), lw_t3 (List.mem_of_getElem? (i := 224) rfl), lw_t3 (List.mem_of_getElem? (i := 225) rfl)⟩
theorem lw_p22 : lw_okq (⟨"BeeYard$Reader", "newDrone", "(LBeeYard$Yard;)V"⟩, 7) := ⟨⟨by decide +kernel, by decide +kernel⟩, lw_t2 (List.mem_of_getElem? (i := 208) rfl), lw_t3 (List.mem_of_getElem? (i := 228) rfl), lw_t3 (List.mem_of_getElem? (i := 229) rfl)⟩
theorem lw_p23 : lw_okq (⟨"BeeYard$Reader", "mother", "(LBeeYard$Yard;)I"⟩, 7) := ⟨⟨by decide +kernel, by decide +kernel⟩, lw_t2 (List.mem_of_getElem? (i := 208) rfl), lw_t3 (List.mem_of_getElem? (i := 232) rfl), lw_t3 (List.mem_of_getElem? (i := 233) rfl)⟩
theorem lw_p24 : lw_okq (⟨"BeeYard$Reader", "known", "(I)I"⟩, 7) := ⟨⟨by decide +kernel, by decide +kernel⟩, lw_t2 (List.mem_of_getElem? (i := 208) rfl), lw_t3 (List.mem_of_getElem? (i := 236) rfl), lw_t3 (List.mem_of_getElem? (i := 237) rfl)⟩
theorem lw_p25 : lw_okq (⟨"BeeYard$Reader", "newQueen", "(LBeeYard$Yard;)V"⟩, 7) := ⟨⟨by decide +kernel, by decide +kernel⟩, lw_t2 (List.mem_of_getElem? (i := 208) rfl), lw_t4 (List.mem_of_getElem? (i := 8) rfl), lw_t4 (List.mem_of_getElem? (i := 9) rfl)⟩
theorem lw_p26 : lw_okq (⟨"BeeYard$Reader", "close", "()V"⟩, 7) := ⟨⟨by decide +kernel, by decide +kernel⟩, lw_t2 (List.mem_of_getElem? (i := 208) rfl), lw_t4 (List.mem_of_getElem? (i := 12) rfl), lw_t4 (List.mem_of_getElem? (i := 13) rfl)⟩
theorem lw_p27 : lw_okq (⟨"BeeYard$Reader", "isSign", "(C)Z"⟩, 7) := ⟨⟨by decide +kernel, by decide +kernel⟩, lw_t2 (List.mem_of_getElem? (i := 208) rfl), lw_t4 (List.mem_of_getElem? (i := 16) rfl), lw_t4 (List.mem_of_getElem? (i := 17) rfl)⟩
theorem lw_p28 : lw_okq (⟨"BeeYard", "faulty", "(LBeeYard$Bad;)I"⟩, 16) := ⟨⟨by decide +kernel, by decide +kernel⟩, lw_t1 (List.mem_of_getElem? (i := 31) rfl), lw_t4 (List.mem_of_getElem? (i := 43) rfl), lw_t4 (List.mem_of_getElem? (i := 44) rfl)⟩
theorem lw_p29 : lw_okq (⟨"BeeYard", "yard", "()LBeeYard$Yard;"⟩, 16) := ⟨⟨by decide +kernel, by decide +kernel⟩, lw_t1 (List.mem_of_getElem? (i := 31) rfl), lw_t4 (List.mem_of_getElem? (i := 75) rfl), lw_t4 (List.mem_of_getElem? (i := 76) rfl)⟩
theorem lw_p30 : lw_okq (⟨"BeeYard$Reader", "step", "(LBeeYard$Yard;LBeeYard$Block;I)V"⟩, 7) := ⟨⟨by decide +kernel, by decide +kernel⟩, lw_t2 (List.mem_of_getElem? (i := 208) rfl), lw_t4 (List.mem_of_getElem? (i := 83) rfl), lw_t4 (List.mem_of_getElem? (i := 84) rfl)⟩
theorem lw_p31 : lw_okq (⟨"BeeYard$Reader", "block", "(LBeeYard$Yard;ZI)LBeeYard$Block;"⟩, 7) := ⟨⟨by decide +kernel, by decide +kernel⟩, lw_t2 (List.mem_of_getElem? (i := 208) rfl), lw_t4 (List.mem_of_getElem? (i := 87) rfl), lw_t4 (List.mem_of_getElem? (i := 88) rfl)⟩
def lw_privs_2 : List (MethodName × Nat) := [(⟨"BeeYard$Reader", "tests", "()I"⟩, 7), (⟨"BeeYard$Reader", "wrong", "()LBeeYard$Bad;"⟩, 7), (⟨"BeeYard$Reader", "behind", "(Ljava/lang/String;II)I"⟩, 7), (⟨"BeeYard$Reader", "number", "(II)I"⟩, 7), (⟨"BeeYard$Hive", "frameOf", "(I)[S"⟩, 11), (⟨"BeeYard$Hive", "put", "(II)V"⟩, 11), (⟨"BeeYard$Reader", "newDrone", "(LBeeYard$Yard;)V"⟩, 7), (⟨"BeeYard$Reader", "mother", "(LBeeYard$Yard;)I"⟩, 7), (⟨"BeeYard$Reader", "known", "(I)I"⟩, 7), (⟨"BeeYard$Reader", "newQueen", "(LBeeYard$Yard;)V"⟩, 7), (⟨"BeeYard$Reader", "close", "()V"⟩, 7), (⟨"BeeYard$Reader", "isSign", "(C)Z"⟩, 7), (⟨"BeeYard", "faulty", "(LBeeYard$Bad;)I"⟩, 16), (⟨"BeeYard", "yard", "()LBeeYard$Yard;"⟩, 16), (⟨"BeeYard$Reader", "step", "(LBeeYard$Yard;LBeeYard$Block;I)V"⟩, 7), (⟨"BeeYard$Reader", "block", "(LBeeYard$Yard;ZI)LBeeYard$Block;"⟩, 7)]
theorem lw_r2 : ∀ q ∈ lw_privs_2, lw_okq q := List.forall_mem_cons.mpr ⟨lw_p16, List.forall_mem_cons.mpr ⟨lw_p17, List.forall_mem_cons.mpr ⟨lw_p18, List.forall_mem_cons.mpr ⟨lw_p19, List.forall_mem_cons.mpr ⟨lw_p20, List.forall_mem_cons.mpr ⟨lw_p21, List.forall_mem_cons.mpr ⟨lw_p22, List.forall_mem_cons.mpr ⟨lw_p23, List.forall_mem_cons.mpr ⟨lw_p24, List.forall_mem_cons.mpr ⟨lw_p25, List.forall_mem_cons.mpr ⟨lw_p26, List.forall_mem_cons.mpr ⟨lw_p27, List.forall_mem_cons.mpr ⟨lw_p28, List.forall_mem_cons.mpr ⟨lw_p29, List.forall_mem_cons.mpr ⟨lw_p30, List.forall_mem_cons.mpr ⟨lw_p31, fun _ h => absurd h List.not_mem_nil⟩⟩⟩⟩⟩⟩⟩⟩⟩⟩⟩⟩⟩⟩⟩⟩
theorem lw_p32 : lw_okq (⟨"BeeYard$Reader", "when", "(LBeeYard$Yard;)LBeeYard$When;"⟩, 7) := ⟨⟨by decide +kernel, by decide +kernel⟩, lw_t2 (List.mem_of_getElem? (i := 208) rfl), lw_t4 (List.mem_of_getElem? (i := 91) rfl), lw_t4 (List.mem_of_getElem? (i := 92) rfl)⟩
theorem lw_p33 : lw_okq (⟨"BeeYard$Reader", "hive", "(LBeeYard$Yard;)I"⟩, 7) := ⟨⟨by decide +kernel, by decide +kernel⟩, lw_t2 (List.mem_of_getElem? (i := 208) rfl), lw_t4 (List.mem_of_getElem? (i := 95) rfl), lw_t4 (List.mem_of_getElem? (i := 96) rfl)⟩
theorem lw_p34 : lw_okq (⟨"BeeYard$Reader", "plain", "(LBeeYard$Yard;)LBeeYard$Step;"⟩, 7) := ⟨⟨by decide +kernel, by decide +kernel⟩, lw_t2 (List.mem_of_getElem? (i := 208) rfl), lw_t4 (List.mem_of_getElem? (i := 122) rfl), lw_t4 (List.mem_of_getElem? (i := 123) rfl)⟩
theorem lw_p35 : lw_okq (⟨"BeeYard", "lines", "()LBeeYard$Lines;"⟩, 16) := ⟨⟨by decide +kernel, by decide +kernel⟩, lw_t1 (List.mem_of_getElem? (i := 31) rfl), lw_t4 (List.mem_of_getElem? (i := 167) rfl), lw_t4 (List.mem_of_getElem? (i := 168) rfl)⟩
theorem lw_p36 : lw_okq (⟨"BeeYard", "isHive", "(I)Z"⟩, 16) := ⟨⟨by decide +kernel, by decide +kernel⟩, lw_t1 (List.mem_of_getElem? (i := 31) rfl), lw_t4 (List.mem_of_getElem? (i := 175) rfl), lw_t4 (List.mem_of_getElem? (i := 176) rfl)⟩
theorem lw_p37 : lw_okq (⟨"BeeYard", "at", "(I)LBeeYard$Hive;"⟩, 16) := ⟨⟨by decide +kernel, by decide +kernel⟩, lw_t1 (List.mem_of_getElem? (i := 31) rfl), lw_t4 (List.mem_of_getElem? (i := 180) rfl), lw_t4 (List.mem_of_getElem? (i := 181) rfl)⟩
theorem lw_p38 : lw_okq (⟨"BeeYard", "answer", "(I)I"⟩, 16) := ⟨⟨by decide +kernel, by decide +kernel⟩, lw_t1 (List.mem_of_getElem? (i := 31) rfl), lw_t4 (List.mem_of_getElem? (i := 193) rfl), lw_t4 (List.mem_of_getElem? (i := 194) rfl)⟩
theorem lw_p39 : lw_okq (⟨"BeeYard", "isFrame", "(II)Z"⟩, 16) := ⟨⟨by decide +kernel, by decide +kernel⟩, lw_t1 (List.mem_of_getElem? (i := 31) rfl), lw_t4 (List.mem_of_getElem? (i := 214) rfl), lw_t4 (List.mem_of_getElem? (i := 215) rfl)⟩
theorem lw_p40 : lw_okq (⟨"BeeYard$Hive", "eats", "(I)I"⟩, 11) := ⟨⟨by decide +kernel, by decide +kernel⟩, lw_t3 (List.mem_of_getElem? (i := 142) rfl), lw_t5 (List.mem_of_getElem? (i := 18) rfl), lw_t5 (List.mem_of_getElem? (i := 19) rfl)⟩
theorem lw_p41 : lw_okq (⟨"BeeYard", "areTwo", "(II)Z"⟩, 16) := ⟨⟨by decide +kernel, by decide +kernel⟩, lw_t1 (List.mem_of_getElem? (i := 31) rfl), lw_t5 (List.mem_of_getElem? (i := 55) rfl), lw_t5 (List.mem_of_getElem? (i := 56) rfl)⟩
theorem lw_p42 : lw_okq (⟨"BeeYard", "isQueen", "(I)Z"⟩, 16) := ⟨⟨by decide +kernel, by decide +kernel⟩, lw_t1 (List.mem_of_getElem? (i := 31) rfl), lw_t5 (List.mem_of_getElem? (i := 75) rfl), lw_t5 (List.mem_of_getElem? (i := 76) rfl)⟩
theorem lw_p43 : lw_okq (⟨"BeeYard$Lines", "kinOrNone", "(II)I"⟩, 8) := ⟨⟨by decide +kernel, by decide +kernel⟩, lw_t1 (List.mem_of_getElem? (i := 152) rfl), lw_t5 (List.mem_of_getElem? (i := 115) rfl), lw_t5 (List.mem_of_getElem? (i := 116) rfl)⟩
theorem lw_p44 : lw_okq (⟨"BeeYard", "fraction", "(JJ)I"⟩, 16) := ⟨⟨by decide +kernel, by decide +kernel⟩, lw_t1 (List.mem_of_getElem? (i := 31) rfl), lw_t5 (List.mem_of_getElem? (i := 121) rfl), lw_t5 (List.mem_of_getElem? (i := 122) rfl)⟩
theorem lw_p45 : lw_okq (⟨"BeeYard", "isInLine", "(II)Z"⟩, 16) := ⟨⟨by decide +kernel, by decide +kernel⟩, lw_t1 (List.mem_of_getElem? (i := 31) rfl), lw_t5 (List.mem_of_getElem? (i := 147) rfl), lw_t5 (List.mem_of_getElem? (i := 148) rfl)⟩
theorem lw_p46 : lw_okq (⟨"BeeYard", "starve", "(LBeeYard$Hive;I)I"⟩, 16) := ⟨⟨by decide +kernel, by decide +kernel⟩, lw_t1 (List.mem_of_getElem? (i := 31) rfl), lw_t5 (List.mem_of_getElem? (i := 225) rfl), lw_t5 (List.mem_of_getElem? (i := 226) rfl)⟩
theorem lw_p47 : lw_okq (⟨"BeeYard$Act", "can", "(LBeeYard$Living;)Z"⟩, 5) := ⟨⟨by decide +kernel, by decide +kernel⟩, lw_t4 (List.mem_of_getElem? (i := 126) rfl), lw_t6 (List.mem_of_getElem? (i := 59) rfl), lw_t6 (List.mem_of_getElem? (i := 60) rfl)⟩
def lw_privs_3 : List (MethodName × Nat) := [(⟨"BeeYard$Reader", "when", "(LBeeYard$Yard;)LBeeYard$When;"⟩, 7), (⟨"BeeYard$Reader", "hive", "(LBeeYard$Yard;)I"⟩, 7), (⟨"BeeYard$Reader", "plain", "(LBeeYard$Yard;)LBeeYard$Step;"⟩, 7), (⟨"BeeYard", "lines", "()LBeeYard$Lines;"⟩, 16), (⟨"BeeYard", "isHive", "(I)Z"⟩, 16), (⟨"BeeYard", "at", "(I)LBeeYard$Hive;"⟩, 16), (⟨"BeeYard", "answer", "(I)I"⟩, 16), (⟨"BeeYard", "isFrame", "(II)Z"⟩, 16), (⟨"BeeYard$Hive", "eats", "(I)I"⟩, 11), (⟨"BeeYard", "areTwo", "(II)Z"⟩, 16), (⟨"BeeYard", "isQueen", "(I)Z"⟩, 16), (⟨"BeeYard$Lines", "kinOrNone", "(II)I"⟩, 8), (⟨"BeeYard", "fraction", "(JJ)I"⟩, 16), (⟨"BeeYard", "isInLine", "(II)Z"⟩, 16), (⟨"BeeYard", "starve", "(LBeeYard$Hive;I)I"⟩, 16), (⟨"BeeYard$Act", "can", "(LBeeYard$Living;)Z"⟩, 5)]
theorem lw_r3 : ∀ q ∈ lw_privs_3, lw_okq q := List.forall_mem_cons.mpr ⟨lw_p32, List.forall_mem_cons.mpr ⟨lw_p33, List.forall_mem_cons.mpr ⟨lw_p34, List.forall_mem_cons.mpr ⟨lw_p35, List.forall_mem_cons.mpr ⟨lw_p36, List.forall_mem_cons.mpr ⟨lw_p37, List.forall_mem_cons.mpr ⟨lw_p38, List.forall_mem_cons.mpr ⟨lw_p39, List.forall_mem_cons.mpr ⟨lw_p40, List.forall_mem_cons.mpr ⟨lw_p41, List.forall_mem_cons.mpr ⟨lw_p42, List.forall_mem_cons.mpr ⟨lw_p43, List.forall_mem_cons.mpr ⟨lw_p44, List.forall_mem_cons.mpr ⟨lw_p45, List.forall_mem_cons.mpr ⟨lw_p46, List.forall_mem_cons.mpr ⟨lw_p47, fun _ h => absurd h List.not_mem_nil⟩⟩⟩⟩⟩⟩⟩⟩⟩⟩⟩⟩⟩⟩⟩⟩
theorem lw_p48 : lw_okq (⟨"BeeYard$When", "is", "(LBeeYard$Hive;)Z"⟩, 6) := ⟨⟨by decide +kernel, by decide +kernel⟩, lw_t4 (List.mem_of_getElem? (i := 99) rfl), lw_t6 (List.mem_of_getElem? (i := 81) rfl), lw_t6 (List.mem_of_getElem? (i := 82) rfl)⟩
theorem lw_p49 : lw_okq (⟨"BeeYardModel", "plain", "(I)V"⟩, 36) := ⟨⟨by decide +kernel, by decide +kernel⟩, lw_t6 (List.mem_of_getElem? (i := 113) rfl), lw_t6 (List.mem_of_getElem? (i := 119) rfl), lw_t6 (List.mem_of_getElem? (i := 120) rfl)⟩
theorem lw_p50 : lw_okq (⟨"BeeYardModel", "is", "(I)Z"⟩, 36) := ⟨⟨by decide +kernel, by decide +kernel⟩, lw_t6 (List.mem_of_getElem? (i := 113) rfl), lw_t7 (List.mem_of_getElem? (i := 11) rfl), lw_t7 (List.mem_of_getElem? (i := 12) rfl)⟩
theorem lw_p51 : lw_okq (⟨"BeeYardModel", "wrongPlace", "(II)I"⟩, 36) := ⟨⟨by decide +kernel, by decide +kernel⟩, lw_t6 (List.mem_of_getElem? (i := 113) rfl), lw_t7 (List.mem_of_getElem? (i := 19) rfl), lw_t7 (List.mem_of_getElem? (i := 20) rfl)⟩
theorem lw_p52 : lw_okq (⟨"BeeYardModel", "four", "(I)V"⟩, 36) := ⟨⟨by decide +kernel, by decide +kernel⟩, lw_t6 (List.mem_of_getElem? (i := 113) rfl), lw_t7 (List.mem_of_getElem? (i := 39) rfl), lw_t7 (List.mem_of_getElem? (i := 40) rfl)⟩
theorem lw_p53 : lw_okq (⟨"BeeYardModel", "begins", "(II)Z"⟩, 36) := ⟨⟨by decide +kernel, by decide +kernel⟩, lw_t6 (List.mem_of_getElem? (i := 113) rfl), lw_t7 (List.mem_of_getElem? (i := 51) rfl), lw_t7 (List.mem_of_getElem? (i := 52) rfl)⟩
theorem lw_p54 : lw_okq (⟨"BeeYardModel", "ahead", "()V"⟩, 36) := ⟨⟨by decide +kernel, by decide +kernel⟩, lw_t6 (List.mem_of_getElem? (i := 113) rfl), lw_t7 (List.mem_of_getElem? (i := 55) rfl), lw_t7 (List.mem_of_getElem? (i := 56) rfl)⟩
theorem lw_p55 : lw_okq (⟨"BeeYardModel", "byteAt", "(I)I"⟩, 36) := ⟨⟨by decide +kernel, by decide +kernel⟩, lw_t6 (List.mem_of_getElem? (i := 113) rfl), lw_t7 (List.mem_of_getElem? (i := 59) rfl), lw_t7 (List.mem_of_getElem? (i := 60) rfl)⟩
theorem lw_p56 : lw_okq (⟨"BeeYardModel", "refuse", "(I)I"⟩, 36) := ⟨⟨by decide +kernel, by decide +kernel⟩, lw_t6 (List.mem_of_getElem? (i := 113) rfl), lw_t7 (List.mem_of_getElem? (i := 71) rfl), lw_t7 (List.mem_of_getElem? (i := 72) rfl)⟩
theorem lw_p57 : lw_okq (⟨"BeeYardModel", "yardPart", "()Z"⟩, 36) := ⟨⟨by decide +kernel, by decide +kernel⟩, lw_t6 (List.mem_of_getElem? (i := 113) rfl), lw_t7 (List.mem_of_getElem? (i := 75) rfl), lw_t7 (List.mem_of_getElem? (i := 76) rfl)⟩
theorem lw_p58 : lw_okq (⟨"BeeYardModel", "inWords", "(Ljava/lang/String;)I"⟩, 36) := ⟨⟨by decide +kernel, by decide +kernel⟩, lw_t6 (List.mem_of_getElem? (i := 113) rfl), lw_t7 (List.mem_of_getElem? (i := 80) rfl), lw_t7 (List.mem_of_getElem? (i := 81) rfl)⟩
theorem lw_p59 : lw_okq (⟨"BeeYardModel", "aHive", "()Z"⟩, 36) := ⟨⟨by decide +kernel, by decide +kernel⟩, lw_t6 (List.mem_of_getElem? (i := 113) rfl), lw_t7 (List.mem_of_getElem? (i := 86) rfl), lw_t7 (List.mem_of_getElem? (i := 87) rfl)⟩
theorem lw_p60 : lw_okq (⟨"BeeYardModel", "newOne", "(III)Z"⟩, 36) := ⟨⟨by decide +kernel, by decide +kernel⟩, lw_t6 (List.mem_of_getElem? (i := 113) rfl), lw_t7 (List.mem_of_getElem? (i := 90) rfl), lw_t7 (List.mem_of_getElem? (i := 91) rfl)⟩
theorem lw_p61 : lw_okq (⟨"BeeYardModel", "fails", "(I)Z"⟩, 36) := ⟨⟨by decide +kernel, by decide +kernel⟩, lw_t6 (List.mem_of_getElem? (i := 113) rfl), lw_t7 (List.mem_of_getElem? (i := 94) rfl), lw_t7 (List.mem_of_getElem? (i := 95) rfl)⟩
theorem lw_p62 : lw_okq (⟨"BeeYardModel", "isName", "(Ljava/lang/String;)Z"⟩, 36) := ⟨⟨by decide +kernel, by decide +kernel⟩, lw_t6 (List.mem_of_getElem? (i := 113) rfl), lw_t7 (List.mem_of_getElem? (i := 98) rfl), lw_t7 (List.mem_of_getElem? (i := 99) rfl)⟩
theorem lw_p63 : lw_okq (⟨"BeeYardModel", "findHere", "(II)I"⟩, 36) := ⟨⟨by decide +kernel, by decide +kernel⟩, lw_t6 (List.mem_of_getElem? (i := 113) rfl), lw_t7 (List.mem_of_getElem? (i := 102) rfl), lw_t7 (List.mem_of_getElem? (i := 103) rfl)⟩
def lw_privs_4 : List (MethodName × Nat) := [(⟨"BeeYard$When", "is", "(LBeeYard$Hive;)Z"⟩, 6), (⟨"BeeYardModel", "plain", "(I)V"⟩, 36), (⟨"BeeYardModel", "is", "(I)Z"⟩, 36), (⟨"BeeYardModel", "wrongPlace", "(II)I"⟩, 36), (⟨"BeeYardModel", "four", "(I)V"⟩, 36), (⟨"BeeYardModel", "begins", "(II)Z"⟩, 36), (⟨"BeeYardModel", "ahead", "()V"⟩, 36), (⟨"BeeYardModel", "byteAt", "(I)I"⟩, 36), (⟨"BeeYardModel", "refuse", "(I)I"⟩, 36), (⟨"BeeYardModel", "yardPart", "()Z"⟩, 36), (⟨"BeeYardModel", "inWords", "(Ljava/lang/String;)I"⟩, 36), (⟨"BeeYardModel", "aHive", "()Z"⟩, 36), (⟨"BeeYardModel", "newOne", "(III)Z"⟩, 36), (⟨"BeeYardModel", "fails", "(I)Z"⟩, 36), (⟨"BeeYardModel", "isName", "(Ljava/lang/String;)Z"⟩, 36), (⟨"BeeYardModel", "findHere", "(II)I"⟩, 36)]
theorem lw_r4 : ∀ q ∈ lw_privs_4, lw_okq q := List.forall_mem_cons.mpr ⟨lw_p48, List.forall_mem_cons.mpr ⟨lw_p49, List.forall_mem_cons.mpr ⟨lw_p50, List.forall_mem_cons.mpr ⟨lw_p51, List.forall_mem_cons.mpr ⟨lw_p52, List.forall_mem_cons.mpr ⟨lw_p53, List.forall_mem_cons.mpr ⟨lw_p54, List.forall_mem_cons.mpr ⟨lw_p55, List.forall_mem_cons.mpr ⟨lw_p56, List.forall_mem_cons.mpr ⟨lw_p57, List.forall_mem_cons.mpr ⟨lw_p58, List.forall_mem_cons.mpr ⟨lw_p59, List.forall_mem_cons.mpr ⟨lw_p60, List.forall_mem_cons.mpr ⟨lw_p61, List.forall_mem_cons.mpr ⟨lw_p62, List.forall_mem_cons.mpr ⟨lw_p63, fun _ h => absurd h List.not_mem_nil⟩⟩⟩⟩⟩⟩⟩⟩⟩⟩⟩⟩⟩⟩⟩⟩
theorem lw_p64 : lw_okq (⟨"BeeYardModel", "nameHere", "()J"⟩, 36) := ⟨⟨by decide +kernel, by decide +kernel⟩, lw_t6 (List.mem_of_getElem? (i := 113) rfl), lw_t7 (List.mem_of_getElem? (i := 106) rfl), lw_t7 (List.mem_of_getElem? (i := 107) rfl)⟩
theorem lw_p65 : lw_okq (⟨"BeeYardModel", "wantWord", "(Ljava/lang/String;I)Z"⟩, 36) := ⟨⟨by decide +kernel, by decide +kernel⟩, lw_t6 (List.mem_of_getElem? (i := 113) rfl), lw_t7 (List.mem_of_getElem? (i := 110) rfl), lw_t7 (List.mem_of_getElem? (i := 111) rfl)⟩
theorem lw_p66 : lw_okq (⟨"BeeYardModel", "number", "(III)Z"⟩, 36) := ⟨⟨by decide +kernel, by decide +kernel⟩, lw_t6 (List.mem_of_getElem? (i := 113) rfl), lw_t7 (List.mem_of_getElem? (i := 114) rfl), lw_t7 (List.mem_of_getElem? (i := 115) rfl)⟩
theorem lw_p67 : lw_okq (⟨"BeeYardModel", "isThere", "(I)Z"⟩, 36) := ⟨⟨by decide +kernel, by decide +kernel⟩, lw_t6 (List.mem_of_getElem? (i := 113) rfl), lw_t7 (List.mem_of_getElem? (i := 118) rfl), lw_t7 (List.mem_of_getElem? (i := 119) rfl)⟩
theorem lw_p68 : lw_okq (⟨"BeeYardModel", "stores", "(II)I"⟩, 36) := ⟨⟨by decide +kernel, by decide +kernel⟩, lw_t6 (List.mem_of_getElem? (i := 113) rfl), lw_t7 (List.mem_of_getElem? (i := 122) rfl), lw_t7 (List.mem_of_getElem? (i := 123) rfl)⟩
theorem lw_p69 : lw_okq (⟨"BeeYardModel", "laysFrames", "(I)V"⟩, 36) := ⟨⟨by decide +kernel, by decide +kernel⟩, lw_t6 (List.mem_of_getElem? (i := 113) rfl), lw_t7 (List.mem_of_getElem? (i := 126) rfl), lw_t7 (List.mem_of_getElem? (i := 127) rfl)⟩
theorem lw_p70 : lw_okq (⟨"BeeYardModel", "fieldOf", "(II)I"⟩, 36) := ⟨⟨by decide +kernel, by decide +kernel⟩, lw_t6 (List.mem_of_getElem? (i := 113) rfl), lw_t7 (List.mem_of_getElem? (i := 133) rfl), lw_t7 (List.mem_of_getElem? (i := 134) rfl)⟩
theorem lw_p71 : lw_okq (⟨"BeeYardModel", "aDrone", "()Z"⟩, 36) := ⟨⟨by decide +kernel, by decide +kernel⟩, lw_t6 (List.mem_of_getElem? (i := 113) rfl), lw_t7 (List.mem_of_getElem? (i := 137) rfl), lw_t7 (List.mem_of_getElem? (i := 138) rfl)⟩
theorem lw_p72 : lw_okq (⟨"BeeYardModel", "oldOne", "(III)Z"⟩, 36) := ⟨⟨by decide +kernel, by decide +kernel⟩, lw_t6 (List.mem_of_getElem? (i := 113) rfl), lw_t7 (List.mem_of_getElem? (i := 141) rfl), lw_t7 (List.mem_of_getElem? (i := 142) rfl)⟩
theorem lw_p73 : lw_okq (⟨"BeeYardModel", "aQueen", "()Z"⟩, 36) := ⟨⟨by decide +kernel, by decide +kernel⟩, lw_t6 (List.mem_of_getElem? (i := 113) rfl), lw_t7 (List.mem_of_getElem? (i := 145) rfl), lw_t7 (List.mem_of_getElem? (i := 146) rfl)⟩
theorem lw_p74 : lw_okq (⟨"BeeYardModel", "wantSign", "(I)Z"⟩, 36) := ⟨⟨by decide +kernel, by decide +kernel⟩, lw_t6 (List.mem_of_getElem? (i := 113) rfl), lw_t7 (List.mem_of_getElem? (i := 149) rfl), lw_t7 (List.mem_of_getElem? (i := 150) rfl)⟩
theorem lw_p75 : lw_okq (⟨"BeeYardModel", "isSign", "(I)Z"⟩, 36) := ⟨⟨by decide +kernel, by decide +kernel⟩, lw_t6 (List.mem_of_getElem? (i := 113) rfl), lw_t7 (List.mem_of_getElem? (i := 153) rfl), lw_t7 (List.mem_of_getElem? (i := 154) rfl)⟩
theorem lw_p76 : lw_okq (⟨"BeeYardModel", "taken", "(I)I"⟩, 36) := ⟨⟨by decide +kernel, by decide +kernel⟩, lw_t6 (List.mem_of_getElem? (i := 113) rfl), lw_t7 (List.mem_of_getElem? (i := 157) rfl), lw_t7 (List.mem_of_getElem? (i := 158) rfl)⟩
theorem lw_p77 : lw_okq (⟨"BeeYardModel", "gives", "(I)I"⟩, 36) := ⟨⟨by decide +kernel, by decide +kernel⟩, lw_t6 (List.mem_of_getElem? (i := 113) rfl), lw_t7 (List.mem_of_getElem? (i := 161) rfl), lw_t7 (List.mem_of_getElem? (i := 162) rfl)⟩
theorem lw_p78 : lw_okq (⟨"BeeYardModel", "step", "()Z"⟩, 36) := ⟨⟨by decide +kernel, by decide +kernel⟩, lw_t6 (List.mem_of_getElem? (i := 113) rfl), lw_t7 (List.mem_of_getElem? (i := 169) rfl), lw_t7 (List.mem_of_getElem? (i := 170) rfl)⟩
theorem lw_p79 : lw_okq (⟨"BeeYardModel", "seasonOrder", "(II)Z"⟩, 36) := ⟨⟨by decide +kernel, by decide +kernel⟩, lw_t6 (List.mem_of_getElem? (i := 113) rfl), lw_t7 (List.mem_of_getElem? (i := 173) rfl), lw_t7 (List.mem_of_getElem? (i := 174) rfl)⟩
def lw_privs_5 : List (MethodName × Nat) := [(⟨"BeeYardModel", "nameHere", "()J"⟩, 36), (⟨"BeeYardModel", "wantWord", "(Ljava/lang/String;I)Z"⟩, 36), (⟨"BeeYardModel", "number", "(III)Z"⟩, 36), (⟨"BeeYardModel", "isThere", "(I)Z"⟩, 36), (⟨"BeeYardModel", "stores", "(II)I"⟩, 36), (⟨"BeeYardModel", "laysFrames", "(I)V"⟩, 36), (⟨"BeeYardModel", "fieldOf", "(II)I"⟩, 36), (⟨"BeeYardModel", "aDrone", "()Z"⟩, 36), (⟨"BeeYardModel", "oldOne", "(III)Z"⟩, 36), (⟨"BeeYardModel", "aQueen", "()Z"⟩, 36), (⟨"BeeYardModel", "wantSign", "(I)Z"⟩, 36), (⟨"BeeYardModel", "isSign", "(I)Z"⟩, 36), (⟨"BeeYardModel", "taken", "(I)I"⟩, 36), (⟨"BeeYardModel", "gives", "(I)I"⟩, 36), (⟨"BeeYardModel", "step", "()Z"⟩, 36), (⟨"BeeYardModel", "seasonOrder", "(II)Z"⟩, 36)]
theorem lw_r5 : ∀ q ∈ lw_privs_5, lw_okq q := List.forall_mem_cons.mpr ⟨lw_p64, List.forall_mem_cons.mpr ⟨lw_p65, List.forall_mem_cons.mpr ⟨lw_p66, List.forall_mem_cons.mpr ⟨lw_p67, List.forall_mem_cons.mpr ⟨lw_p68, List.forall_mem_cons.mpr ⟨lw_p69, List.forall_mem_cons.mpr ⟨lw_p70, List.forall_mem_cons.mpr ⟨lw_p71, List.forall_mem_cons.mpr ⟨lw_p72, List.forall_mem_cons.mpr ⟨lw_p73, List.forall_mem_cons.mpr ⟨lw_p74, List.forall_mem_cons.mpr ⟨lw_p75, List.forall_mem_cons.mpr ⟨lw_p76, List.forall_mem_cons.mpr ⟨lw_p77, List.forall_mem_cons.mpr ⟨lw_p78, List.forall_mem_cons.mpr ⟨lw_p79, fun _ h => absurd h List.not_mem_nil⟩⟩⟩⟩⟩⟩⟩⟩⟩⟩⟩⟩⟩⟩⟩⟩
theorem lw_p80 : lw_okq (⟨"BeeYardModel", "hiveTo", "(I)Z"⟩, 36) := ⟨⟨by decide +kernel, by decide +kernel⟩, lw_t6 (List.mem_of_getElem? (i := 113) rfl), lw_t7 (List.mem_of_getElem? (i := 177) rfl), lw_t7 (List.mem_of_getElem? (i := 178) rfl)⟩
theorem lw_p81 : lw_okq (⟨"BeeYardModel", "frameTo", "(II)Z"⟩, 36) := ⟨⟨by decide +kernel, by decide +kernel⟩, lw_t6 (List.mem_of_getElem? (i := 113) rfl), lw_t7 (List.mem_of_getElem? (i := 181) rfl), lw_t7 (List.mem_of_getElem? (i := 182) rfl)⟩
theorem lw_p82 : lw_okq (⟨"BeeYardModel", "test", "(I)Z"⟩, 36) := ⟨⟨by decide +kernel, by decide +kernel⟩, lw_t6 (List.mem_of_getElem? (i := 113) rfl), lw_t7 (List.mem_of_getElem? (i := 188) rfl), lw_t7 (List.mem_of_getElem? (i := 189) rfl)⟩
theorem lw_p83 : lw_okq (⟨"BeeYardModel", "isHive", "(I)Z"⟩, 36) := ⟨⟨by decide +kernel, by decide +kernel⟩, lw_t6 (List.mem_of_getElem? (i := 113) rfl), lw_t7 (List.mem_of_getElem? (i := 200) rfl), lw_t7 (List.mem_of_getElem? (i := 201) rfl)⟩
theorem lw_p84 : lw_okq (⟨"BeeYardModel", "orNone", "(I)I"⟩, 36) := ⟨⟨by decide +kernel, by decide +kernel⟩, lw_t6 (List.mem_of_getElem? (i := 113) rfl), lw_t7 (List.mem_of_getElem? (i := 204) rfl), lw_t7 (List.mem_of_getElem? (i := 205) rfl)⟩
theorem lw_p85 : lw_okq (⟨"BeeYardModel", "sumOf", "(II)I"⟩, 36) := ⟨⟨by decide +kernel, by decide +kernel⟩, lw_t6 (List.mem_of_getElem? (i := 113) rfl), lw_t7 (List.mem_of_getElem? (i := 208) rfl), lw_t7 (List.mem_of_getElem? (i := 209) rfl)⟩
theorem lw_p86 : lw_okq (⟨"BeeYardModel", "isOne", "(I)Z"⟩, 36) := ⟨⟨by decide +kernel, by decide +kernel⟩, lw_t6 (List.mem_of_getElem? (i := 113) rfl), lw_t7 (List.mem_of_getElem? (i := 216) rfl), lw_t7 (List.mem_of_getElem? (i := 217) rfl)⟩
theorem lw_p87 : lw_okq (⟨"BeeYardModel", "isQueen", "(I)Z"⟩, 36) := ⟨⟨by decide +kernel, by decide +kernel⟩, lw_t6 (List.mem_of_getElem? (i := 113) rfl), lw_t7 (List.mem_of_getElem? (i := 220) rfl), lw_t7 (List.mem_of_getElem? (i := 221) rfl)⟩
theorem lw_p88 : lw_okq (⟨"BeeYardModel", "motherOf", "(I)I"⟩, 36) := ⟨⟨by decide +kernel, by decide +kernel⟩, lw_t6 (List.mem_of_getElem? (i := 113) rfl), lw_t7 (List.mem_of_getElem? (i := 224) rfl), lw_t7 (List.mem_of_getElem? (i := 225) rfl)⟩
theorem lw_p89 : lw_okq (⟨"BeeYardModel", "fatherOf", "(I)I"⟩, 36) := ⟨⟨by decide +kernel, by decide +kernel⟩, lw_t6 (List.mem_of_getElem? (i := 113) rfl), lw_t7 (List.mem_of_getElem? (i := 228) rfl), lw_t7 (List.mem_of_getElem? (i := 229) rfl)⟩
theorem lw_p90 : lw_okq (⟨"BeeYardModel", "hiveOf", "(I)I"⟩, 36) := ⟨⟨by decide +kernel, by decide +kernel⟩, lw_t6 (List.mem_of_getElem? (i := 113) rfl), lw_t7 (List.mem_of_getElem? (i := 232) rfl), lw_t7 (List.mem_of_getElem? (i := 233) rfl)⟩
theorem lw_p91 : lw_okq (⟨"BeeYardModel", "isFrame", "(II)Z"⟩, 36) := ⟨⟨by decide +kernel, by decide +kernel⟩, lw_t6 (List.mem_of_getElem? (i := 113) rfl), lw_t8 (List.mem_of_getElem? (i := 0) rfl), lw_t8 (List.mem_of_getElem? (i := 1) rfl)⟩
theorem lw_p92 : lw_okq (⟨"BeeYardModel", "frameRow", "(II)I"⟩, 36) := ⟨⟨by decide +kernel, by decide +kernel⟩, lw_t6 (List.mem_of_getElem? (i := 113) rfl), lw_t8 (List.mem_of_getElem? (i := 12) rfl), lw_t8 (List.mem_of_getElem? (i := 13) rfl)⟩
theorem lw_p93 : lw_okq (⟨"BeeYardModel", "passes", "()V"⟩, 36) := ⟨⟨by decide +kernel, by decide +kernel⟩, lw_t6 (List.mem_of_getElem? (i := 113) rfl), lw_t8 (List.mem_of_getElem? (i := 29) rfl), lw_t8 (List.mem_of_getElem? (i := 30) rfl)⟩
theorem lw_p94 : lw_okq (⟨"BeeYardModel", "laysIn", "(I)I"⟩, 36) := ⟨⟨by decide +kernel, by decide +kernel⟩, lw_t6 (List.mem_of_getElem? (i := 113) rfl), lw_t8 (List.mem_of_getElem? (i := 33) rfl), lw_t8 (List.mem_of_getElem? (i := 34) rfl)⟩
theorem lw_p95 : lw_okq (⟨"BeeYardModel", "dayOf", "(II)V"⟩, 36) := ⟨⟨by decide +kernel, by decide +kernel⟩, lw_t6 (List.mem_of_getElem? (i := 113) rfl), lw_t8 (List.mem_of_getElem? (i := 37) rfl), lw_t8 (List.mem_of_getElem? (i := 38) rfl)⟩
def lw_privs_6 : List (MethodName × Nat) := [(⟨"BeeYardModel", "hiveTo", "(I)Z"⟩, 36), (⟨"BeeYardModel", "frameTo", "(II)Z"⟩, 36), (⟨"BeeYardModel", "test", "(I)Z"⟩, 36), (⟨"BeeYardModel", "isHive", "(I)Z"⟩, 36), (⟨"BeeYardModel", "orNone", "(I)I"⟩, 36), (⟨"BeeYardModel", "sumOf", "(II)I"⟩, 36), (⟨"BeeYardModel", "isOne", "(I)Z"⟩, 36), (⟨"BeeYardModel", "isQueen", "(I)Z"⟩, 36), (⟨"BeeYardModel", "motherOf", "(I)I"⟩, 36), (⟨"BeeYardModel", "fatherOf", "(I)I"⟩, 36), (⟨"BeeYardModel", "hiveOf", "(I)I"⟩, 36), (⟨"BeeYardModel", "isFrame", "(II)Z"⟩, 36), (⟨"BeeYardModel", "frameRow", "(II)I"⟩, 36), (⟨"BeeYardModel", "passes", "()V"⟩, 36), (⟨"BeeYardModel", "laysIn", "(I)I"⟩, 36), (⟨"BeeYardModel", "dayOf", "(II)V"⟩, 36)]
theorem lw_r6 : ∀ q ∈ lw_privs_6, lw_okq q := List.forall_mem_cons.mpr ⟨lw_p80, List.forall_mem_cons.mpr ⟨lw_p81, List.forall_mem_cons.mpr ⟨lw_p82, List.forall_mem_cons.mpr ⟨lw_p83, List.forall_mem_cons.mpr ⟨lw_p84, List.forall_mem_cons.mpr ⟨lw_p85, List.forall_mem_cons.mpr ⟨lw_p86, List.forall_mem_cons.mpr ⟨lw_p87, List.forall_mem_cons.mpr ⟨lw_p88, List.forall_mem_cons.mpr ⟨lw_p89, List.forall_mem_cons.mpr ⟨lw_p90, List.forall_mem_cons.mpr ⟨lw_p91, List.forall_mem_cons.mpr ⟨lw_p92, List.forall_mem_cons.mpr ⟨lw_p93, List.forall_mem_cons.mpr ⟨lw_p94, List.forall_mem_cons.mpr ⟨lw_p95, fun _ h => absurd h List.not_mem_nil⟩⟩⟩⟩⟩⟩⟩⟩⟩⟩⟩⟩⟩⟩⟩⟩
theorem lw_p96 : lw_okq (⟨"BeeYardModel", "brings", "(II)I"⟩, 36) := ⟨⟨by decide +kernel, by decide +kernel⟩, lw_t6 (List.mem_of_getElem? (i := 113) rfl), lw_t8 (List.mem_of_getElem? (i := 50) rfl), lw_t8 (List.mem_of_getElem? (i := 51) rfl)⟩
theorem lw_p97 : lw_okq (⟨"BeeYardModel", "harvests", "(II)I"⟩, 36) := ⟨⟨by decide +kernel, by decide +kernel⟩, lw_t6 (List.mem_of_getElem? (i := 113) rfl), lw_t8 (List.mem_of_getElem? (i := 58) rfl), lw_t8 (List.mem_of_getElem? (i := 59) rfl)⟩
theorem lw_p98 : lw_okq (⟨"BeeYardModel", "mayMove", "(IIII)Z"⟩, 36) := ⟨⟨by decide +kernel, by decide +kernel⟩, lw_t6 (List.mem_of_getElem? (i := 113) rfl), lw_t8 (List.mem_of_getElem? (i := 66) rfl), lw_t8 (List.mem_of_getElem? (i := 67) rfl)⟩
theorem lw_p99 : lw_okq (⟨"BeeYardModel", "moves", "(II)V"⟩, 36) := ⟨⟨by decide +kernel, by decide +kernel⟩, lw_t6 (List.mem_of_getElem? (i := 113) rfl), lw_t8 (List.mem_of_getElem? (i := 70) rfl), lw_t8 (List.mem_of_getElem? (i := 71) rfl)⟩
theorem lw_p100 : lw_okq (⟨"BeeYardModel", "maySeat", "(II)Z"⟩, 36) := ⟨⟨by decide +kernel, by decide +kernel⟩, lw_t6 (List.mem_of_getElem? (i := 113) rfl), lw_t8 (List.mem_of_getElem? (i := 87) rfl), lw_t8 (List.mem_of_getElem? (i := 88) rfl)⟩
theorem lw_p101 : lw_okq (⟨"BeeYardModel", "isCrowded", "(I)Z"⟩, 36) := ⟨⟨by decide +kernel, by decide +kernel⟩, lw_t6 (List.mem_of_getElem? (i := 113) rfl), lw_t8 (List.mem_of_getElem? (i := 95) rfl), lw_t8 (List.mem_of_getElem? (i := 96) rfl)⟩
theorem lw_p102 : lw_okq (⟨"BeeYardModel", "laysKin", "()V"⟩, 36) := ⟨⟨by decide +kernel, by decide +kernel⟩, lw_t6 (List.mem_of_getElem? (i := 113) rfl), lw_t8 (List.mem_of_getElem? (i := 115) rfl), lw_t8 (List.mem_of_getElem? (i := 116) rfl)⟩
theorem lw_p103 : lw_okq (⟨"BeeYardModel", "atTold", "(I)I"⟩, 36) := ⟨⟨by decide +kernel, by decide +kernel⟩, lw_t6 (List.mem_of_getElem? (i := 113) rfl), lw_t8 (List.mem_of_getElem? (i := 119) rfl), lw_t8 (List.mem_of_getElem? (i := 120) rfl)⟩
theorem lw_p104 : lw_okq (⟨"BeeYardModel", "toldAs", "(I)I"⟩, 36) := ⟨⟨by decide +kernel, by decide +kernel⟩, lw_t6 (List.mem_of_getElem? (i := 113) rfl), lw_t8 (List.mem_of_getElem? (i := 123) rfl), lw_t8 (List.mem_of_getElem? (i := 124) rfl)⟩
theorem lw_p105 : lw_okq (⟨"BeeYardModel", "kinOf", "(II)J"⟩, 36) := ⟨⟨by decide +kernel, by decide +kernel⟩, lw_t6 (List.mem_of_getElem? (i := 113) rfl), lw_t8 (List.mem_of_getElem? (i := 127) rfl), lw_t8 (List.mem_of_getElem? (i := 128) rfl)⟩
theorem lw_p106 : lw_okq (⟨"BeeYardModel", "tellsBy", "(JJ)Z"⟩, 36) := ⟨⟨by decide +kernel, by decide +kernel⟩, lw_t6 (List.mem_of_getElem? (i := 113) rfl), lw_t8 (List.mem_of_getElem? (i := 133) rfl), lw_t8 (List.mem_of_getElem? (i := 134) rfl)⟩
theorem lw_p107 : lw_okq (⟨"BeeYardModel", "honeyIn", "(I)I"⟩, 36) := ⟨⟨by decide +kernel, by decide +kernel⟩, lw_t6 (List.mem_of_getElem? (i := 113) rfl), lw_t8 (List.mem_of_getElem? (i := 165) rfl), lw_t8 (List.mem_of_getElem? (i := 166) rfl)⟩
theorem lw_p108 : lw_okq (⟨"BeeYardModel", "tries", "(I)V"⟩, 36) := ⟨⟨by decide +kernel, by decide +kernel⟩, lw_t6 (List.mem_of_getElem? (i := 113) rfl), lw_t8 (List.mem_of_getElem? (i := 181) rfl), lw_t8 (List.mem_of_getElem? (i := 182) rfl)⟩
theorem lw_p109 : lw_okq (⟨"BeeYardModel", "lives", "(I)V"⟩, 36) := ⟨⟨by decide +kernel, by decide +kernel⟩, lw_t6 (List.mem_of_getElem? (i := 113) rfl), lw_t9 (List.mem_of_getElem? (i := 1) rfl), lw_t9 (List.mem_of_getElem? (i := 2) rfl)⟩
theorem lw_p110 : lw_okq (⟨"BeeYardModel", "does", "(I)Z"⟩, 36) := ⟨⟨by decide +kernel, by decide +kernel⟩, lw_t6 (List.mem_of_getElem? (i := 113) rfl), lw_t9 (List.mem_of_getElem? (i := 5) rfl), lw_t9 (List.mem_of_getElem? (i := 6) rfl)⟩
theorem lw_p111 : lw_okq (⟨"BeeYardModel", "draw", "(I)I"⟩, 36) := ⟨⟨by decide +kernel, by decide +kernel⟩, lw_t6 (List.mem_of_getElem? (i := 113) rfl), lw_t9 (List.mem_of_getElem? (i := 9) rfl), lw_t9 (List.mem_of_getElem? (i := 10) rfl)⟩
def lw_privs_7 : List (MethodName × Nat) := [(⟨"BeeYardModel", "brings", "(II)I"⟩, 36), (⟨"BeeYardModel", "harvests", "(II)I"⟩, 36), (⟨"BeeYardModel", "mayMove", "(IIII)Z"⟩, 36), (⟨"BeeYardModel", "moves", "(II)V"⟩, 36), (⟨"BeeYardModel", "maySeat", "(II)Z"⟩, 36), (⟨"BeeYardModel", "isCrowded", "(I)Z"⟩, 36), (⟨"BeeYardModel", "laysKin", "()V"⟩, 36), (⟨"BeeYardModel", "atTold", "(I)I"⟩, 36), (⟨"BeeYardModel", "toldAs", "(I)I"⟩, 36), (⟨"BeeYardModel", "kinOf", "(II)J"⟩, 36), (⟨"BeeYardModel", "tellsBy", "(JJ)Z"⟩, 36), (⟨"BeeYardModel", "honeyIn", "(I)I"⟩, 36), (⟨"BeeYardModel", "tries", "(I)V"⟩, 36), (⟨"BeeYardModel", "lives", "(I)V"⟩, 36), (⟨"BeeYardModel", "does", "(I)Z"⟩, 36), (⟨"BeeYardModel", "draw", "(I)I"⟩, 36)]
theorem lw_r7 : ∀ q ∈ lw_privs_7, lw_okq q := List.forall_mem_cons.mpr ⟨lw_p96, List.forall_mem_cons.mpr ⟨lw_p97, List.forall_mem_cons.mpr ⟨lw_p98, List.forall_mem_cons.mpr ⟨lw_p99, List.forall_mem_cons.mpr ⟨lw_p100, List.forall_mem_cons.mpr ⟨lw_p101, List.forall_mem_cons.mpr ⟨lw_p102, List.forall_mem_cons.mpr ⟨lw_p103, List.forall_mem_cons.mpr ⟨lw_p104, List.forall_mem_cons.mpr ⟨lw_p105, List.forall_mem_cons.mpr ⟨lw_p106, List.forall_mem_cons.mpr ⟨lw_p107, List.forall_mem_cons.mpr ⟨lw_p108, List.forall_mem_cons.mpr ⟨lw_p109, List.forall_mem_cons.mpr ⟨lw_p110, List.forall_mem_cons.mpr ⟨lw_p111, fun _ h => absurd h List.not_mem_nil⟩⟩⟩⟩⟩⟩⟩⟩⟩⟩⟩⟩⟩⟩⟩⟩
theorem lw_p112 : lw_okq (⟨"BeeYardModel", "holds", "(I)Z"⟩, 36) := ⟨⟨by decide +kernel, by decide +kernel⟩, lw_t6 (List.mem_of_getElem? (i := 113) rfl), lw_t9 (List.mem_of_getElem? (i := 14) rfl), lw_t9 (List.mem_of_getElem? (i := 15) rfl)⟩
theorem lw_p113 : lw_okq (⟨"BeeYardModel", "behindEnds", "(I)I"⟩, 36) := ⟨⟨by decide +kernel, by decide +kernel⟩, lw_t6 (List.mem_of_getElem? (i := 113) rfl), lw_t9 (List.mem_of_getElem? (i := 18) rfl), lw_t9 (List.mem_of_getElem? (i := 19) rfl)⟩
theorem lw_p114 : lw_okq (⟨"BeeYardModel", "copies", "(II)V"⟩, 36) := ⟨⟨by decide +kernel, by decide +kernel⟩, lw_t6 (List.mem_of_getElem? (i := 113) rfl), lw_t9 (List.mem_of_getElem? (i := 35) rfl), lw_t9 (List.mem_of_getElem? (i := 36) rfl)⟩
def lw_privs_8 : List (MethodName × Nat) := [(⟨"BeeYardModel", "holds", "(I)Z"⟩, 36), (⟨"BeeYardModel", "behindEnds", "(I)I"⟩, 36), (⟨"BeeYardModel", "copies", "(II)V"⟩, 36)]
theorem lw_r8 : ∀ q ∈ lw_privs_8, lw_okq q := List.forall_mem_cons.mpr ⟨lw_p112, List.forall_mem_cons.mpr ⟨lw_p113, List.forall_mem_cons.mpr ⟨lw_p114, fun _ h => absurd h List.not_mem_nil⟩⟩⟩
def lw_privs : List (MethodName × Nat) := lw_privs_1 ++ (lw_privs_2 ++ (lw_privs_3 ++ (lw_privs_4 ++ (lw_privs_5 ++ (lw_privs_6 ++ (lw_privs_7 ++ (lw_privs_8)))))))
def lw_tbl : List Cond := k2_sels lw_privs ++ tables_1
theorem lw_privs_ok : ∀ q ∈ lw_privs, lw_okq q := by
  show ∀ q ∈ lw_privs_1 ++ (lw_privs_2 ++ (lw_privs_3 ++ (lw_privs_4 ++ (lw_privs_5 ++ (lw_privs_6 ++ (lw_privs_7 ++ (lw_privs_8))))))), lw_okq q
  exact List.forall_mem_append.mpr ⟨lw_r1, List.forall_mem_append.mpr ⟨lw_r2, List.forall_mem_append.mpr ⟨lw_r3, List.forall_mem_append.mpr ⟨lw_r4, List.forall_mem_append.mpr ⟨lw_r5, List.forall_mem_append.mpr ⟨lw_r6, List.forall_mem_append.mpr ⟨lw_r7, lw_r8⟩⟩⟩⟩⟩⟩⟩
-- ===== ONE list of words for every method: the tables' words that hold all through a run =====
def lw_all : List Cond := lw_tbl.filter goodWord
/-- a word of the tables by its place: claim/WORDS.tsv -/
theorem lw_w {w : Cond} (i : Nat) (h : lw_tbl[i]? = some w) (g : goodWord w = true) : w ∈ lw_all := List.mem_filter.mpr ⟨List.mem_of_getElem? h, g⟩
theorem lw_all_tbl {w : Cond} (h : w ∈ lw_all) : w ∈ lw_tbl := (List.mem_filter.mp h).1
theorem lw_self : GoodIn lw_all lw_all := fun w h => ⟨h, good_of_word (List.mem_filter.mp h).2⟩
/-- a class's field words, by their places -/
theorem lw_in (ws : List Cond) (ps : List Nat) (hp : ws = ps.filterMap (fun i => lw_tbl[i]?)) (hg : ws.all goodWord = true) : ∀ w ∈ ws, w ∈ lw_all := by
  intro w h
  have h1 := List.all_eq_true.mp hg w h
  rw [hp] at h
  obtain ⟨i, -, hi⟩ := List.mem_filterMap.mp h
  exact lw_w i hi h1
/-- the words of a contract for the method y with code b, L locals, answer r -/
abbrev ws_ (y : MethodName) (b : ByteArray) (L : Nat) (r : Option FieldType) : List Cond := Cond.code y b L r :: lw_all
theorem lw_meth {y : MethodName} {b : ByteArray} {L : Nat} {r : Option FieldType} (h : Cond.code y b L r ∈ lw_all) : GoodIn lw_all (ws_ y b L r) := by
  intro w hw
  rcases List.mem_cons.mp hw with e | e
  · rw [e]
    exact lw_self _ h
  · exact lw_self _ e
theorem lw_app {a c : List Cond} (ha : ∀ w ∈ a, w ∈ lw_all) (hc : GoodIn lw_all c) : GoodIn lw_all (a ++ c) := by
  intro w hw
  rcases List.mem_append.mp hw with e | e
  · exact lw_self w (ha w e)
  · exact hc w e
/-- what a call through an object asks: cwV n hts (lw_V ..) -/
theorem lw_V {own : String} {idx : Nat} {C : String} {y : MethodName} {b : ByteArray} {L : Nat} {r : Option FieldType} (h1 : Cond.methodLink own idx y ∈ lw_all) (h2 : Cond.instanceMethod y ∈ lw_all) (h3 : Cond.selects C y y ∈ lw_all) (h4 : Cond.initialized C ∈ lw_all) (h5 : Cond.code y b L r ∈ lw_all) : GoodIn lw_all (wsV own idx C y (ws_ y b L r)) := by
  refine lw_app ?_ (lw_meth h5)
  intro w hw
  simp only [List.mem_cons, List.not_mem_nil, or_false] at hw
  rcases hw with e | e | e | e
  · rw [e]; exact h1
  · rw [e]; exact h2
  · rw [e]; exact h3
  · rw [e]; exact h4
/-- what a static call asks: va_cwS n hts (lw_S ..) -/
theorem lw_S {own : String} {idx : Nat} {y : MethodName} {b : ByteArray} {L : Nat} {r : Option FieldType} (h1 : Cond.methodLink own idx y ∈ lw_all) (h2 : Cond.static y ∈ lw_all) (h3 : Cond.initialized y.cls ∈ lw_all) (h4 : Cond.code y b L r ∈ lw_all) : GoodIn lw_all (va_wsS own idx y (ws_ y b L r)) := by
  refine lw_app ?_ (lw_meth h4)
  intro w hw
  simp only [List.mem_cons, List.not_mem_nil, or_false] at hw
  rcases hw with e | e | e
  · rw [e]; exact h1
  · rw [e]; exact h2
  · rw [e]; exact h3
/-- the words of a contract for a method WITH HANDLERS (hh: its table) -/
abbrev wsW_ (y : MethodName) (b : ByteArray) (L : Nat) (r : Option FieldType) (hh : List (Nat × Nat × Nat × Nat)) : List Cond := Cond.codeWith y b L r hh :: lw_all
theorem lw_methW {y : MethodName} {b : ByteArray} {L : Nat} {r : Option FieldType} {hh : List (Nat × Nat × Nat × Nat)} (h : Cond.codeWith y b L r hh ∈ lw_all) : GoodIn lw_all (wsW_ y b L r hh) := by
  intro w hw
  rcases List.mem_cons.mp hw with e | e
  · rw [e]
    exact lw_self _ h
  · exact lw_self _ e
/-- any list of words by their places (lw_in), good -/
theorem lw_good {ws : List Cond} (h : ∀ w ∈ ws, w ∈ lw_all) : GoodIn lw_all ws := fun w hw => lw_self w (h w hw)
/-- what a call of a method with handlers asks: vx_cwVW n hts (lw_VW ..), vx_cwSW n hts (lw_SW ..) -/
theorem lw_VW {own : String} {idx : Nat} {C : String} {y : MethodName} {b : ByteArray} {L : Nat} {r : Option FieldType} {hh : List (Nat × Nat × Nat × Nat)} (h1 : Cond.methodLink own idx y ∈ lw_all) (h2 : Cond.instanceMethod y ∈ lw_all) (h3 : Cond.selects C y y ∈ lw_all) (h4 : Cond.initialized C ∈ lw_all) (h5 : Cond.codeWith y b L r hh ∈ lw_all) : GoodIn lw_all (wsV own idx C y (wsW_ y b L r hh)) := by
  refine lw_app ?_ (lw_methW h5)
  intro w hw
  simp only [List.mem_cons, List.not_mem_nil, or_false] at hw
  rcases hw with e | e | e | e
  · rw [e]; exact h1
  · rw [e]; exact h2
  · rw [e]; exact h3
  · rw [e]; exact h4
theorem lw_SW {own : String} {idx : Nat} {y : MethodName} {b : ByteArray} {L : Nat} {r : Option FieldType} {hh : List (Nat × Nat × Nat × Nat)} (h1 : Cond.methodLink own idx y ∈ lw_all) (h2 : Cond.static y ∈ lw_all) (h3 : Cond.initialized y.cls ∈ lw_all) (h4 : Cond.codeWith y b L r hh ∈ lw_all) : GoodIn lw_all (va_wsS own idx y (wsW_ y b L r hh)) := by
  refine lw_app ?_ (lw_methW h4)
  intro w hw
  simp only [List.mem_cons, List.not_mem_nil, or_false] at hw
  rcases hw with e | e | e
  · rw [e]; exact h1
  · rw [e]; exact h2
  · rw [e]; exact h3
/-- a word by its place in its run of the tables -/
theorem lw_at {r : List Cond} (hr : ∀ w ∈ r, w ∈ lw_tbl) {w : Cond} (i : Nat) (h : r[i]? = some w) : w ∈ lw_tbl := hr w (List.mem_of_getElem? h)
theorem lw_g {w : Cond} (h : w ∈ lw_tbl) (g : goodWord w = true) : w ∈ lw_all := List.mem_filter.mpr ⟨h, g⟩
theorem lw_ms : ∀ w ∈ k2_sels lw_privs, w ∈ lw_tbl := fun w h => show w ∈ k2_sels lw_privs ++ tables_1 from List.mem_append_left _ h
theorem lw_m1 : ∀ w ∈ tables_1_1, w ∈ lw_tbl := fun w h => show w ∈ k2_sels lw_privs ++ tables_1 from List.mem_append_right (k2_sels lw_privs) (show w ∈ tables_1 from List.mem_append_left _ h)
theorem lw_m2 : ∀ w ∈ tables_1_2, w ∈ lw_tbl := fun w h => show w ∈ k2_sels lw_privs ++ tables_1 from List.mem_append_right (k2_sels lw_privs) (show w ∈ tables_1 from List.mem_append_right _ (List.mem_append_left _ h))
theorem lw_m3 : ∀ w ∈ tables_1_3, w ∈ lw_tbl := fun w h => show w ∈ k2_sels lw_privs ++ tables_1 from List.mem_append_right (k2_sels lw_privs) (show w ∈ tables_1 from List.mem_append_right _ (List.mem_append_right _ (List.mem_append_left _ h)))
theorem lw_m4 : ∀ w ∈ tables_1_4, w ∈ lw_tbl := fun w h => show w ∈ k2_sels lw_privs ++ tables_1 from List.mem_append_right (k2_sels lw_privs) (show w ∈ tables_1 from List.mem_append_right _ (List.mem_append_right _ (List.mem_append_right _ (List.mem_append_left _ h))))
theorem lw_m5 : ∀ w ∈ tables_1_5, w ∈ lw_tbl := fun w h => show w ∈ k2_sels lw_privs ++ tables_1 from List.mem_append_right (k2_sels lw_privs) (show w ∈ tables_1 from List.mem_append_right _ (List.mem_append_right _ (List.mem_append_right _ (List.mem_append_right _ (List.mem_append_left _ h)))))
theorem lw_m6 : ∀ w ∈ tables_1_6, w ∈ lw_tbl := fun w h => show w ∈ k2_sels lw_privs ++ tables_1 from List.mem_append_right (k2_sels lw_privs) (show w ∈ tables_1 from List.mem_append_right _ (List.mem_append_right _ (List.mem_append_right _ (List.mem_append_right _ (List.mem_append_right _ (List.mem_append_left _ h))))))
theorem lw_m7 : ∀ w ∈ tables_1_7, w ∈ lw_tbl := fun w h => show w ∈ k2_sels lw_privs ++ tables_1 from List.mem_append_right (k2_sels lw_privs) (show w ∈ tables_1 from List.mem_append_right _ (List.mem_append_right _ (List.mem_append_right _ (List.mem_append_right _ (List.mem_append_right _ (List.mem_append_right _ (List.mem_append_left _ h)))))))
theorem lw_m8 : ∀ w ∈ tables_1_8, w ∈ lw_tbl := fun w h => show w ∈ k2_sels lw_privs ++ tables_1 from List.mem_append_right (k2_sels lw_privs) (show w ∈ tables_1 from List.mem_append_right _ (List.mem_append_right _ (List.mem_append_right _ (List.mem_append_right _ (List.mem_append_right _ (List.mem_append_right _ (List.mem_append_right _ (List.mem_append_left _ h))))))))
theorem lw_m9 : ∀ w ∈ tables_1_9, w ∈ lw_tbl := fun w h => show w ∈ k2_sels lw_privs ++ tables_1 from List.mem_append_right (k2_sels lw_privs) (show w ∈ tables_1 from List.mem_append_right _ (List.mem_append_right _ (List.mem_append_right _ (List.mem_append_right _ (List.mem_append_right _ (List.mem_append_right _ (List.mem_append_right _ (List.mem_append_right _ h))))))))
theorem qs0 : (Cond.selects "java/lang/Throwable" ⟨"java/lang/Throwable", "fillInStackTrace", "(I)Ljava/lang/Throwable;"⟩ ⟨"java/lang/Throwable", "fillInStackTrace", "(I)Ljava/lang/Throwable;"⟩) ∈ lw_all := lw_g (lw_at lw_ms 0 rfl) rfl
theorem qs1 : (Cond.selects "BeeYard" ⟨"BeeYard", "want", "(ZI)V"⟩ ⟨"BeeYard", "want", "(ZI)V"⟩) ∈ lw_all := lw_g (lw_at lw_ms 1 rfl) rfl
theorem qs2 : (Cond.selects "BeeYard" ⟨"BeeYard", "no", "(LBeeYard$Refused;)Z"⟩ ⟨"BeeYard", "no", "(LBeeYard$Refused;)Z"⟩) ∈ lw_all := lw_g (lw_at lw_ms 2 rfl) rfl
theorem qs3 : (Cond.selects "BeeYard" ⟨"BeeYard", "on", "(I)Ljava/lang/Object;"⟩ ⟨"BeeYard", "on", "(I)Ljava/lang/Object;"⟩) ∈ lw_all := lw_g (lw_at lw_ms 3 rfl) rfl
theorem qs4 : (Cond.selects "BeeYard" ⟨"BeeYard", "none", "(LBeeYard$Refused;)I"⟩ ⟨"BeeYard", "none", "(LBeeYard$Refused;)I"⟩) ∈ lw_all := lw_g (lw_at lw_ms 4 rfl) rfl
theorem qs5 : (Cond.selects "BeeYard" ⟨"BeeYard", "lay", "(I)V"⟩ ⟨"BeeYard", "lay", "(I)V"⟩) ∈ lw_all := lw_g (lw_at lw_ms 5 rfl) rfl
theorem qs6 : (Cond.selects "BeeYard" ⟨"BeeYard", "opens", "(II)Z"⟩ ⟨"BeeYard", "opens", "(II)Z"⟩) ∈ lw_all := lw_g (lw_at lw_ms 6 rfl) rfl
theorem qs7 : (Cond.selects "BeeYard$Reader" ⟨"BeeYard$Reader", "next", "()V"⟩ ⟨"BeeYard$Reader", "next", "()V"⟩) ∈ lw_all := lw_g (lw_at lw_ms 7 rfl) rfl
theorem qs8 : (Cond.selects "BeeYard$Reader" ⟨"BeeYard$Reader", "isLetter", "(I)Z"⟩ ⟨"BeeYard$Reader", "isLetter", "(I)Z"⟩) ∈ lw_all := lw_g (lw_at lw_ms 8 rfl) rfl
theorem qs9 : (Cond.selects "BeeYard$Reader" ⟨"BeeYard$Reader", "isDigit", "(I)Z"⟩ ⟨"BeeYard$Reader", "isDigit", "(I)Z"⟩) ∈ lw_all := lw_g (lw_at lw_ms 9 rfl) rfl
theorem qs10 : (Cond.selects "BeeYard$Reader" ⟨"BeeYard$Reader", "isWord", "(Ljava/lang/String;)Z"⟩ ⟨"BeeYard$Reader", "isWord", "(Ljava/lang/String;)Z"⟩) ∈ lw_all := lw_g (lw_at lw_ms 10 rfl) rfl
theorem qs11 : (Cond.selects "BeeYard$Reader" ⟨"BeeYard$Reader", "newHive", "(LBeeYard$Yard;)V"⟩ ⟨"BeeYard$Reader", "newHive", "(LBeeYard$Yard;)V"⟩) ∈ lw_all := lw_g (lw_at lw_ms 11 rfl) rfl
theorem qs12 : (Cond.selects "BeeYard$Reader" ⟨"BeeYard$Reader", "fresh", "(LBeeYard$Yard;)J"⟩ ⟨"BeeYard$Reader", "fresh", "(LBeeYard$Yard;)J"⟩) ∈ lw_all := lw_g (lw_at lw_ms 12 rfl) rfl
theorem qs13 : (Cond.selects "BeeYard$Reader" ⟨"BeeYard$Reader", "name", "()J"⟩ ⟨"BeeYard$Reader", "name", "()J"⟩) ∈ lw_all := lw_g (lw_at lw_ms 13 rfl) rfl
theorem qs14 : (Cond.selects "BeeYard$Reader" ⟨"BeeYard$Reader", "isKept", "()Z"⟩ ⟨"BeeYard$Reader", "isKept", "()Z"⟩) ∈ lw_all := lw_g (lw_at lw_ms 14 rfl) rfl
theorem qs15 : (Cond.selects "BeeYard$Reader" ⟨"BeeYard$Reader", "acts", "()I"⟩ ⟨"BeeYard$Reader", "acts", "()I"⟩) ∈ lw_all := lw_g (lw_at lw_ms 15 rfl) rfl
theorem qs16 : (Cond.selects "BeeYard$Reader" ⟨"BeeYard$Reader", "tests", "()I"⟩ ⟨"BeeYard$Reader", "tests", "()I"⟩) ∈ lw_all := lw_g (lw_at lw_ms 16 rfl) rfl
theorem qs17 : (Cond.selects "BeeYard$Reader" ⟨"BeeYard$Reader", "wrong", "()LBeeYard$Bad;"⟩ ⟨"BeeYard$Reader", "wrong", "()LBeeYard$Bad;"⟩) ∈ lw_all := lw_g (lw_at lw_ms 17 rfl) rfl
theorem qs18 : (Cond.selects "BeeYard$Reader" ⟨"BeeYard$Reader", "behind", "(Ljava/lang/String;II)I"⟩ ⟨"BeeYard$Reader", "behind", "(Ljava/lang/String;II)I"⟩) ∈ lw_all := lw_g (lw_at lw_ms 18 rfl) rfl
theorem qs19 : (Cond.selects "BeeYard$Reader" ⟨"BeeYard$Reader", "number", "(II)I"⟩ ⟨"BeeYard$Reader", "number", "(II)I"⟩) ∈ lw_all := lw_g (lw_at lw_ms 19 rfl) rfl
theorem qs20 : (Cond.selects "BeeYard$Hive" ⟨"BeeYard$Hive", "frameOf", "(I)[S"⟩ ⟨"BeeYard$Hive", "frameOf", "(I)[S"⟩) ∈ lw_all := lw_g (lw_at lw_ms 20 rfl) rfl
theorem qs21 : (Cond.selects "BeeYard$Hive" ⟨"BeeYard$Hive", "put", "(II)V"⟩ ⟨"BeeYard$Hive", "put", "(II)V"⟩) ∈ lw_all := lw_g (lw_at lw_ms 21 rfl) rfl
theorem qs22 : (Cond.selects "BeeYard$Reader" ⟨"BeeYard$Reader", "newDrone", "(LBeeYard$Yard;)V"⟩ ⟨"BeeYard$Reader", "newDrone", "(LBeeYard$Yard;)V"⟩) ∈ lw_all := lw_g (lw_at lw_ms 22 rfl) rfl
theorem qs23 : (Cond.selects "BeeYard$Reader" ⟨"BeeYard$Reader", "mother", "(LBeeYard$Yard;)I"⟩ ⟨"BeeYard$Reader", "mother", "(LBeeYard$Yard;)I"⟩) ∈ lw_all := lw_g (lw_at lw_ms 23 rfl) rfl
theorem qs24 : (Cond.selects "BeeYard$Reader" ⟨"BeeYard$Reader", "known", "(I)I"⟩ ⟨"BeeYard$Reader", "known", "(I)I"⟩) ∈ lw_all := lw_g (lw_at lw_ms 24 rfl) rfl
theorem qs25 : (Cond.selects "BeeYard$Reader" ⟨"BeeYard$Reader", "newQueen", "(LBeeYard$Yard;)V"⟩ ⟨"BeeYard$Reader", "newQueen", "(LBeeYard$Yard;)V"⟩) ∈ lw_all := lw_g (lw_at lw_ms 25 rfl) rfl
theorem qs26 : (Cond.selects "BeeYard$Reader" ⟨"BeeYard$Reader", "close", "()V"⟩ ⟨"BeeYard$Reader", "close", "()V"⟩) ∈ lw_all := lw_g (lw_at lw_ms 26 rfl) rfl
theorem qs27 : (Cond.selects "BeeYard$Reader" ⟨"BeeYard$Reader", "isSign", "(C)Z"⟩ ⟨"BeeYard$Reader", "isSign", "(C)Z"⟩) ∈ lw_all := lw_g (lw_at lw_ms 27 rfl) rfl
theorem qs28 : (Cond.selects "BeeYard" ⟨"BeeYard", "faulty", "(LBeeYard$Bad;)I"⟩ ⟨"BeeYard", "faulty", "(LBeeYard$Bad;)I"⟩) ∈ lw_all := lw_g (lw_at lw_ms 28 rfl) rfl
theorem qs29 : (Cond.selects "BeeYard" ⟨"BeeYard", "yard", "()LBeeYard$Yard;"⟩ ⟨"BeeYard", "yard", "()LBeeYard$Yard;"⟩) ∈ lw_all := lw_g (lw_at lw_ms 29 rfl) rfl
theorem qs30 : (Cond.selects "BeeYard$Reader" ⟨"BeeYard$Reader", "step", "(LBeeYard$Yard;LBeeYard$Block;I)V"⟩ ⟨"BeeYard$Reader", "step", "(LBeeYard$Yard;LBeeYard$Block;I)V"⟩) ∈ lw_all := lw_g (lw_at lw_ms 30 rfl) rfl
theorem qs31 : (Cond.selects "BeeYard$Reader" ⟨"BeeYard$Reader", "block", "(LBeeYard$Yard;ZI)LBeeYard$Block;"⟩ ⟨"BeeYard$Reader", "block", "(LBeeYard$Yard;ZI)LBeeYard$Block;"⟩) ∈ lw_all := lw_g (lw_at lw_ms 31 rfl) rfl
theorem qs32 : (Cond.selects "BeeYard$Reader" ⟨"BeeYard$Reader", "when", "(LBeeYard$Yard;)LBeeYard$When;"⟩ ⟨"BeeYard$Reader", "when", "(LBeeYard$Yard;)LBeeYard$When;"⟩) ∈ lw_all := lw_g (lw_at lw_ms 32 rfl) rfl
theorem qs33 : (Cond.selects "BeeYard$Reader" ⟨"BeeYard$Reader", "hive", "(LBeeYard$Yard;)I"⟩ ⟨"BeeYard$Reader", "hive", "(LBeeYard$Yard;)I"⟩) ∈ lw_all := lw_g (lw_at lw_ms 33 rfl) rfl
theorem qs34 : (Cond.selects "BeeYard$Reader" ⟨"BeeYard$Reader", "plain", "(LBeeYard$Yard;)LBeeYard$Step;"⟩ ⟨"BeeYard$Reader", "plain", "(LBeeYard$Yard;)LBeeYard$Step;"⟩) ∈ lw_all := lw_g (lw_at lw_ms 34 rfl) rfl
theorem qs35 : (Cond.selects "BeeYard" ⟨"BeeYard", "lines", "()LBeeYard$Lines;"⟩ ⟨"BeeYard", "lines", "()LBeeYard$Lines;"⟩) ∈ lw_all := lw_g (lw_at lw_ms 35 rfl) rfl
theorem qs36 : (Cond.selects "BeeYard" ⟨"BeeYard", "isHive", "(I)Z"⟩ ⟨"BeeYard", "isHive", "(I)Z"⟩) ∈ lw_all := lw_g (lw_at lw_ms 36 rfl) rfl
theorem qs37 : (Cond.selects "BeeYard" ⟨"BeeYard", "at", "(I)LBeeYard$Hive;"⟩ ⟨"BeeYard", "at", "(I)LBeeYard$Hive;"⟩) ∈ lw_all := lw_g (lw_at lw_ms 37 rfl) rfl
theorem qs38 : (Cond.selects "BeeYard" ⟨"BeeYard", "answer", "(I)I"⟩ ⟨"BeeYard", "answer", "(I)I"⟩) ∈ lw_all := lw_g (lw_at lw_ms 38 rfl) rfl
theorem qs39 : (Cond.selects "BeeYard" ⟨"BeeYard", "isFrame", "(II)Z"⟩ ⟨"BeeYard", "isFrame", "(II)Z"⟩) ∈ lw_all := lw_g (lw_at lw_ms 39 rfl) rfl
theorem qs40 : (Cond.selects "BeeYard$Hive" ⟨"BeeYard$Hive", "eats", "(I)I"⟩ ⟨"BeeYard$Hive", "eats", "(I)I"⟩) ∈ lw_all := lw_g (lw_at lw_ms 40 rfl) rfl
theorem qs41 : (Cond.selects "BeeYard" ⟨"BeeYard", "areTwo", "(II)Z"⟩ ⟨"BeeYard", "areTwo", "(II)Z"⟩) ∈ lw_all := lw_g (lw_at lw_ms 41 rfl) rfl
theorem qs42 : (Cond.selects "BeeYard" ⟨"BeeYard", "isQueen", "(I)Z"⟩ ⟨"BeeYard", "isQueen", "(I)Z"⟩) ∈ lw_all := lw_g (lw_at lw_ms 42 rfl) rfl
theorem qs43 : (Cond.selects "BeeYard$Lines" ⟨"BeeYard$Lines", "kinOrNone", "(II)I"⟩ ⟨"BeeYard$Lines", "kinOrNone", "(II)I"⟩) ∈ lw_all := lw_g (lw_at lw_ms 43 rfl) rfl
theorem qs44 : (Cond.selects "BeeYard" ⟨"BeeYard", "fraction", "(JJ)I"⟩ ⟨"BeeYard", "fraction", "(JJ)I"⟩) ∈ lw_all := lw_g (lw_at lw_ms 44 rfl) rfl
theorem qs45 : (Cond.selects "BeeYard" ⟨"BeeYard", "isInLine", "(II)Z"⟩ ⟨"BeeYard", "isInLine", "(II)Z"⟩) ∈ lw_all := lw_g (lw_at lw_ms 45 rfl) rfl
theorem qs46 : (Cond.selects "BeeYard" ⟨"BeeYard", "starve", "(LBeeYard$Hive;I)I"⟩ ⟨"BeeYard", "starve", "(LBeeYard$Hive;I)I"⟩) ∈ lw_all := lw_g (lw_at lw_ms 46 rfl) rfl
theorem qs47 : (Cond.selects "BeeYard$Act" ⟨"BeeYard$Act", "can", "(LBeeYard$Living;)Z"⟩ ⟨"BeeYard$Act", "can", "(LBeeYard$Living;)Z"⟩) ∈ lw_all := lw_g (lw_at lw_ms 47 rfl) rfl
theorem qs48 : (Cond.selects "BeeYard$When" ⟨"BeeYard$When", "is", "(LBeeYard$Hive;)Z"⟩ ⟨"BeeYard$When", "is", "(LBeeYard$Hive;)Z"⟩) ∈ lw_all := lw_g (lw_at lw_ms 48 rfl) rfl
theorem qs49 : (Cond.selects "BeeYardModel" ⟨"BeeYardModel", "plain", "(I)V"⟩ ⟨"BeeYardModel", "plain", "(I)V"⟩) ∈ lw_all := lw_g (lw_at lw_ms 49 rfl) rfl
theorem qs50 : (Cond.selects "BeeYardModel" ⟨"BeeYardModel", "is", "(I)Z"⟩ ⟨"BeeYardModel", "is", "(I)Z"⟩) ∈ lw_all := lw_g (lw_at lw_ms 50 rfl) rfl
theorem qs51 : (Cond.selects "BeeYardModel" ⟨"BeeYardModel", "wrongPlace", "(II)I"⟩ ⟨"BeeYardModel", "wrongPlace", "(II)I"⟩) ∈ lw_all := lw_g (lw_at lw_ms 51 rfl) rfl
theorem qs52 : (Cond.selects "BeeYardModel" ⟨"BeeYardModel", "four", "(I)V"⟩ ⟨"BeeYardModel", "four", "(I)V"⟩) ∈ lw_all := lw_g (lw_at lw_ms 52 rfl) rfl
theorem qs53 : (Cond.selects "BeeYardModel" ⟨"BeeYardModel", "begins", "(II)Z"⟩ ⟨"BeeYardModel", "begins", "(II)Z"⟩) ∈ lw_all := lw_g (lw_at lw_ms 53 rfl) rfl
theorem qs54 : (Cond.selects "BeeYardModel" ⟨"BeeYardModel", "ahead", "()V"⟩ ⟨"BeeYardModel", "ahead", "()V"⟩) ∈ lw_all := lw_g (lw_at lw_ms 54 rfl) rfl
theorem qs55 : (Cond.selects "BeeYardModel" ⟨"BeeYardModel", "byteAt", "(I)I"⟩ ⟨"BeeYardModel", "byteAt", "(I)I"⟩) ∈ lw_all := lw_g (lw_at lw_ms 55 rfl) rfl
theorem qs56 : (Cond.selects "BeeYardModel" ⟨"BeeYardModel", "refuse", "(I)I"⟩ ⟨"BeeYardModel", "refuse", "(I)I"⟩) ∈ lw_all := lw_g (lw_at lw_ms 56 rfl) rfl
theorem qs57 : (Cond.selects "BeeYardModel" ⟨"BeeYardModel", "yardPart", "()Z"⟩ ⟨"BeeYardModel", "yardPart", "()Z"⟩) ∈ lw_all := lw_g (lw_at lw_ms 57 rfl) rfl
theorem qs58 : (Cond.selects "BeeYardModel" ⟨"BeeYardModel", "inWords", "(Ljava/lang/String;)I"⟩ ⟨"BeeYardModel", "inWords", "(Ljava/lang/String;)I"⟩) ∈ lw_all := lw_g (lw_at lw_ms 58 rfl) rfl
theorem qs59 : (Cond.selects "BeeYardModel" ⟨"BeeYardModel", "aHive", "()Z"⟩ ⟨"BeeYardModel", "aHive", "()Z"⟩) ∈ lw_all := lw_g (lw_at lw_ms 59 rfl) rfl
theorem qs60 : (Cond.selects "BeeYardModel" ⟨"BeeYardModel", "newOne", "(III)Z"⟩ ⟨"BeeYardModel", "newOne", "(III)Z"⟩) ∈ lw_all := lw_g (lw_at lw_ms 60 rfl) rfl
theorem qs61 : (Cond.selects "BeeYardModel" ⟨"BeeYardModel", "fails", "(I)Z"⟩ ⟨"BeeYardModel", "fails", "(I)Z"⟩) ∈ lw_all := lw_g (lw_at lw_ms 61 rfl) rfl
theorem qs62 : (Cond.selects "BeeYardModel" ⟨"BeeYardModel", "isName", "(Ljava/lang/String;)Z"⟩ ⟨"BeeYardModel", "isName", "(Ljava/lang/String;)Z"⟩) ∈ lw_all := lw_g (lw_at lw_ms 62 rfl) rfl
theorem qs63 : (Cond.selects "BeeYardModel" ⟨"BeeYardModel", "findHere", "(II)I"⟩ ⟨"BeeYardModel", "findHere", "(II)I"⟩) ∈ lw_all := lw_g (lw_at lw_ms 63 rfl) rfl
theorem qs64 : (Cond.selects "BeeYardModel" ⟨"BeeYardModel", "nameHere", "()J"⟩ ⟨"BeeYardModel", "nameHere", "()J"⟩) ∈ lw_all := lw_g (lw_at lw_ms 64 rfl) rfl
theorem qs65 : (Cond.selects "BeeYardModel" ⟨"BeeYardModel", "wantWord", "(Ljava/lang/String;I)Z"⟩ ⟨"BeeYardModel", "wantWord", "(Ljava/lang/String;I)Z"⟩) ∈ lw_all := lw_g (lw_at lw_ms 65 rfl) rfl
theorem qs66 : (Cond.selects "BeeYardModel" ⟨"BeeYardModel", "number", "(III)Z"⟩ ⟨"BeeYardModel", "number", "(III)Z"⟩) ∈ lw_all := lw_g (lw_at lw_ms 66 rfl) rfl
theorem qs67 : (Cond.selects "BeeYardModel" ⟨"BeeYardModel", "isThere", "(I)Z"⟩ ⟨"BeeYardModel", "isThere", "(I)Z"⟩) ∈ lw_all := lw_g (lw_at lw_ms 67 rfl) rfl
theorem qs68 : (Cond.selects "BeeYardModel" ⟨"BeeYardModel", "stores", "(II)I"⟩ ⟨"BeeYardModel", "stores", "(II)I"⟩) ∈ lw_all := lw_g (lw_at lw_ms 68 rfl) rfl
theorem qs69 : (Cond.selects "BeeYardModel" ⟨"BeeYardModel", "laysFrames", "(I)V"⟩ ⟨"BeeYardModel", "laysFrames", "(I)V"⟩) ∈ lw_all := lw_g (lw_at lw_ms 69 rfl) rfl
theorem qs70 : (Cond.selects "BeeYardModel" ⟨"BeeYardModel", "fieldOf", "(II)I"⟩ ⟨"BeeYardModel", "fieldOf", "(II)I"⟩) ∈ lw_all := lw_g (lw_at lw_ms 70 rfl) rfl
theorem qs71 : (Cond.selects "BeeYardModel" ⟨"BeeYardModel", "aDrone", "()Z"⟩ ⟨"BeeYardModel", "aDrone", "()Z"⟩) ∈ lw_all := lw_g (lw_at lw_ms 71 rfl) rfl
theorem qs72 : (Cond.selects "BeeYardModel" ⟨"BeeYardModel", "oldOne", "(III)Z"⟩ ⟨"BeeYardModel", "oldOne", "(III)Z"⟩) ∈ lw_all := lw_g (lw_at lw_ms 72 rfl) rfl
theorem qs73 : (Cond.selects "BeeYardModel" ⟨"BeeYardModel", "aQueen", "()Z"⟩ ⟨"BeeYardModel", "aQueen", "()Z"⟩) ∈ lw_all := lw_g (lw_at lw_ms 73 rfl) rfl
theorem qs74 : (Cond.selects "BeeYardModel" ⟨"BeeYardModel", "wantSign", "(I)Z"⟩ ⟨"BeeYardModel", "wantSign", "(I)Z"⟩) ∈ lw_all := lw_g (lw_at lw_ms 74 rfl) rfl
theorem qs75 : (Cond.selects "BeeYardModel" ⟨"BeeYardModel", "isSign", "(I)Z"⟩ ⟨"BeeYardModel", "isSign", "(I)Z"⟩) ∈ lw_all := lw_g (lw_at lw_ms 75 rfl) rfl
theorem qs76 : (Cond.selects "BeeYardModel" ⟨"BeeYardModel", "taken", "(I)I"⟩ ⟨"BeeYardModel", "taken", "(I)I"⟩) ∈ lw_all := lw_g (lw_at lw_ms 76 rfl) rfl
theorem qs77 : (Cond.selects "BeeYardModel" ⟨"BeeYardModel", "gives", "(I)I"⟩ ⟨"BeeYardModel", "gives", "(I)I"⟩) ∈ lw_all := lw_g (lw_at lw_ms 77 rfl) rfl
theorem qs78 : (Cond.selects "BeeYardModel" ⟨"BeeYardModel", "step", "()Z"⟩ ⟨"BeeYardModel", "step", "()Z"⟩) ∈ lw_all := lw_g (lw_at lw_ms 78 rfl) rfl
theorem qs79 : (Cond.selects "BeeYardModel" ⟨"BeeYardModel", "seasonOrder", "(II)Z"⟩ ⟨"BeeYardModel", "seasonOrder", "(II)Z"⟩) ∈ lw_all := lw_g (lw_at lw_ms 79 rfl) rfl
theorem qs80 : (Cond.selects "BeeYardModel" ⟨"BeeYardModel", "hiveTo", "(I)Z"⟩ ⟨"BeeYardModel", "hiveTo", "(I)Z"⟩) ∈ lw_all := lw_g (lw_at lw_ms 80 rfl) rfl
theorem qs81 : (Cond.selects "BeeYardModel" ⟨"BeeYardModel", "frameTo", "(II)Z"⟩ ⟨"BeeYardModel", "frameTo", "(II)Z"⟩) ∈ lw_all := lw_g (lw_at lw_ms 81 rfl) rfl
theorem qs82 : (Cond.selects "BeeYardModel" ⟨"BeeYardModel", "test", "(I)Z"⟩ ⟨"BeeYardModel", "test", "(I)Z"⟩) ∈ lw_all := lw_g (lw_at lw_ms 82 rfl) rfl
theorem qs83 : (Cond.selects "BeeYardModel" ⟨"BeeYardModel", "isHive", "(I)Z"⟩ ⟨"BeeYardModel", "isHive", "(I)Z"⟩) ∈ lw_all := lw_g (lw_at lw_ms 83 rfl) rfl
theorem qs84 : (Cond.selects "BeeYardModel" ⟨"BeeYardModel", "orNone", "(I)I"⟩ ⟨"BeeYardModel", "orNone", "(I)I"⟩) ∈ lw_all := lw_g (lw_at lw_ms 84 rfl) rfl
theorem qs85 : (Cond.selects "BeeYardModel" ⟨"BeeYardModel", "sumOf", "(II)I"⟩ ⟨"BeeYardModel", "sumOf", "(II)I"⟩) ∈ lw_all := lw_g (lw_at lw_ms 85 rfl) rfl
theorem qs86 : (Cond.selects "BeeYardModel" ⟨"BeeYardModel", "isOne", "(I)Z"⟩ ⟨"BeeYardModel", "isOne", "(I)Z"⟩) ∈ lw_all := lw_g (lw_at lw_ms 86 rfl) rfl
theorem qs87 : (Cond.selects "BeeYardModel" ⟨"BeeYardModel", "isQueen", "(I)Z"⟩ ⟨"BeeYardModel", "isQueen", "(I)Z"⟩) ∈ lw_all := lw_g (lw_at lw_ms 87 rfl) rfl
theorem qs88 : (Cond.selects "BeeYardModel" ⟨"BeeYardModel", "motherOf", "(I)I"⟩ ⟨"BeeYardModel", "motherOf", "(I)I"⟩) ∈ lw_all := lw_g (lw_at lw_ms 88 rfl) rfl
theorem qs89 : (Cond.selects "BeeYardModel" ⟨"BeeYardModel", "fatherOf", "(I)I"⟩ ⟨"BeeYardModel", "fatherOf", "(I)I"⟩) ∈ lw_all := lw_g (lw_at lw_ms 89 rfl) rfl
theorem qs90 : (Cond.selects "BeeYardModel" ⟨"BeeYardModel", "hiveOf", "(I)I"⟩ ⟨"BeeYardModel", "hiveOf", "(I)I"⟩) ∈ lw_all := lw_g (lw_at lw_ms 90 rfl) rfl
theorem qs91 : (Cond.selects "BeeYardModel" ⟨"BeeYardModel", "isFrame", "(II)Z"⟩ ⟨"BeeYardModel", "isFrame", "(II)Z"⟩) ∈ lw_all := lw_g (lw_at lw_ms 91 rfl) rfl
theorem qs92 : (Cond.selects "BeeYardModel" ⟨"BeeYardModel", "frameRow", "(II)I"⟩ ⟨"BeeYardModel", "frameRow", "(II)I"⟩) ∈ lw_all := lw_g (lw_at lw_ms 92 rfl) rfl
theorem qs93 : (Cond.selects "BeeYardModel" ⟨"BeeYardModel", "passes", "()V"⟩ ⟨"BeeYardModel", "passes", "()V"⟩) ∈ lw_all := lw_g (lw_at lw_ms 93 rfl) rfl
theorem qs94 : (Cond.selects "BeeYardModel" ⟨"BeeYardModel", "laysIn", "(I)I"⟩ ⟨"BeeYardModel", "laysIn", "(I)I"⟩) ∈ lw_all := lw_g (lw_at lw_ms 94 rfl) rfl
theorem qs95 : (Cond.selects "BeeYardModel" ⟨"BeeYardModel", "dayOf", "(II)V"⟩ ⟨"BeeYardModel", "dayOf", "(II)V"⟩) ∈ lw_all := lw_g (lw_at lw_ms 95 rfl) rfl
theorem qs96 : (Cond.selects "BeeYardModel" ⟨"BeeYardModel", "brings", "(II)I"⟩ ⟨"BeeYardModel", "brings", "(II)I"⟩) ∈ lw_all := lw_g (lw_at lw_ms 96 rfl) rfl
theorem qs97 : (Cond.selects "BeeYardModel" ⟨"BeeYardModel", "harvests", "(II)I"⟩ ⟨"BeeYardModel", "harvests", "(II)I"⟩) ∈ lw_all := lw_g (lw_at lw_ms 97 rfl) rfl
theorem qs98 : (Cond.selects "BeeYardModel" ⟨"BeeYardModel", "mayMove", "(IIII)Z"⟩ ⟨"BeeYardModel", "mayMove", "(IIII)Z"⟩) ∈ lw_all := lw_g (lw_at lw_ms 98 rfl) rfl
theorem qs99 : (Cond.selects "BeeYardModel" ⟨"BeeYardModel", "moves", "(II)V"⟩ ⟨"BeeYardModel", "moves", "(II)V"⟩) ∈ lw_all := lw_g (lw_at lw_ms 99 rfl) rfl
theorem qs100 : (Cond.selects "BeeYardModel" ⟨"BeeYardModel", "maySeat", "(II)Z"⟩ ⟨"BeeYardModel", "maySeat", "(II)Z"⟩) ∈ lw_all := lw_g (lw_at lw_ms 100 rfl) rfl
theorem qs101 : (Cond.selects "BeeYardModel" ⟨"BeeYardModel", "isCrowded", "(I)Z"⟩ ⟨"BeeYardModel", "isCrowded", "(I)Z"⟩) ∈ lw_all := lw_g (lw_at lw_ms 101 rfl) rfl
theorem qs102 : (Cond.selects "BeeYardModel" ⟨"BeeYardModel", "laysKin", "()V"⟩ ⟨"BeeYardModel", "laysKin", "()V"⟩) ∈ lw_all := lw_g (lw_at lw_ms 102 rfl) rfl
theorem qs103 : (Cond.selects "BeeYardModel" ⟨"BeeYardModel", "atTold", "(I)I"⟩ ⟨"BeeYardModel", "atTold", "(I)I"⟩) ∈ lw_all := lw_g (lw_at lw_ms 103 rfl) rfl
theorem qs104 : (Cond.selects "BeeYardModel" ⟨"BeeYardModel", "toldAs", "(I)I"⟩ ⟨"BeeYardModel", "toldAs", "(I)I"⟩) ∈ lw_all := lw_g (lw_at lw_ms 104 rfl) rfl
theorem qs105 : (Cond.selects "BeeYardModel" ⟨"BeeYardModel", "kinOf", "(II)J"⟩ ⟨"BeeYardModel", "kinOf", "(II)J"⟩) ∈ lw_all := lw_g (lw_at lw_ms 105 rfl) rfl
theorem qs106 : (Cond.selects "BeeYardModel" ⟨"BeeYardModel", "tellsBy", "(JJ)Z"⟩ ⟨"BeeYardModel", "tellsBy", "(JJ)Z"⟩) ∈ lw_all := lw_g (lw_at lw_ms 106 rfl) rfl
theorem qs107 : (Cond.selects "BeeYardModel" ⟨"BeeYardModel", "honeyIn", "(I)I"⟩ ⟨"BeeYardModel", "honeyIn", "(I)I"⟩) ∈ lw_all := lw_g (lw_at lw_ms 107 rfl) rfl
theorem qs108 : (Cond.selects "BeeYardModel" ⟨"BeeYardModel", "tries", "(I)V"⟩ ⟨"BeeYardModel", "tries", "(I)V"⟩) ∈ lw_all := lw_g (lw_at lw_ms 108 rfl) rfl
theorem qs109 : (Cond.selects "BeeYardModel" ⟨"BeeYardModel", "lives", "(I)V"⟩ ⟨"BeeYardModel", "lives", "(I)V"⟩) ∈ lw_all := lw_g (lw_at lw_ms 109 rfl) rfl
theorem qs110 : (Cond.selects "BeeYardModel" ⟨"BeeYardModel", "does", "(I)Z"⟩ ⟨"BeeYardModel", "does", "(I)Z"⟩) ∈ lw_all := lw_g (lw_at lw_ms 110 rfl) rfl
theorem qs111 : (Cond.selects "BeeYardModel" ⟨"BeeYardModel", "draw", "(I)I"⟩ ⟨"BeeYardModel", "draw", "(I)I"⟩) ∈ lw_all := lw_g (lw_at lw_ms 111 rfl) rfl
theorem qs112 : (Cond.selects "BeeYardModel" ⟨"BeeYardModel", "holds", "(I)Z"⟩ ⟨"BeeYardModel", "holds", "(I)Z"⟩) ∈ lw_all := lw_g (lw_at lw_ms 112 rfl) rfl
theorem qs113 : (Cond.selects "BeeYardModel" ⟨"BeeYardModel", "behindEnds", "(I)I"⟩ ⟨"BeeYardModel", "behindEnds", "(I)I"⟩) ∈ lw_all := lw_g (lw_at lw_ms 113 rfl) rfl
theorem qs114 : (Cond.selects "BeeYardModel" ⟨"BeeYardModel", "copies", "(II)V"⟩ ⟨"BeeYardModel", "copies", "(II)V"⟩) ∈ lw_all := lw_g (lw_at lw_ms 114 rfl) rfl
