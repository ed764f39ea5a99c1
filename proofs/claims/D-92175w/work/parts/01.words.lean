-- ===== PART A: goes FIRST, ahead of the names: the tables' words, and 'selects' of the private methods out of them =====
/-- a private method of a class that the tables say can be made, by its rows of tables_1 -/
def lw_okq (q : MethodName × Nat) : Prop := (q.1.cls ≠ "java/lang/invoke/MethodHandle" ∧ q.1.cls ≠ "java/lang/invoke/VarHandle") ∧ Cond.instantiable q.1.cls q.2 ∈ tables_1 ∧ Cond.privateMethod q.1 ∈ tables_1 ∧ Cond.instanceMethod q.1 ∈ tables_1
set_option maxRecDepth 100000
theorem lw_t1 {w : Cond} (h : w ∈ tables_1_1) : w ∈ tables_1 := List.mem_append_left _ h
theorem lw_t2 {w : Cond} (h : w ∈ tables_1_2) : w ∈ tables_1 := List.mem_append_right _ (List.mem_append_left _ h)
theorem lw_t3 {w : Cond} (h : w ∈ tables_1_3) : w ∈ tables_1 := List.mem_append_right _ (List.mem_append_right _ (List.mem_append_left _ h))
theorem lw_t4 {w : Cond} (h : w ∈ tables_1_4) : w ∈ tables_1 := List.mem_append_right _ (List.mem_append_right _ (List.mem_append_right _ (List.mem_append_left _ h)))
theorem lw_t5 {w : Cond} (h : w ∈ tables_1_5) : w ∈ tables_1 := List.mem_append_right _ (List.mem_append_right _ (List.mem_append_right _ (List.mem_append_right _ (List.mem_append_left _ h))))
theorem lw_t6 {w : Cond} (h : w ∈ tables_1_6) : w ∈ tables_1 := List.mem_append_right _ (List.mem_append_right _ (List.mem_append_right _ (List.mem_append_right _ (List.mem_append_right _ h))))
theorem lw_p0 : lw_okq (⟨"SharedNights", "isTarget", "(I)Z"⟩, 26) := ⟨⟨by decide +kernel, by decide +kernel⟩, lw_t1 (List.mem_of_getElem? (i := 26) rfl), lw_t2 (List.mem_of_getElem? (i := 76) rfl), lw_t2 (List.mem_of_getElem? (i := 77) rfl)⟩
theorem lw_p1 : lw_okq (⟨"SharedNights", "isSlot", "(I)Z"⟩, 26) := ⟨⟨by decide +kernel, by decide +kernel⟩, lw_t1 (List.mem_of_getElem? (i := 26) rfl), lw_t2 (List.mem_of_getElem? (i := 80) rfl), lw_t2 (List.mem_of_getElem? (i := 81) rfl)⟩
theorem lw_p2 : lw_okq (⟨"SharedNights", "isSky", "(I)Z"⟩, 26) := ⟨⟨by decide +kernel, by decide +kernel⟩, lw_t1 (List.mem_of_getElem? (i := 26) rfl), lw_t2 (List.mem_of_getElem? (i := 104) rfl), lw_t2 (List.mem_of_getElem? (i := 105) rfl)⟩
theorem lw_p3 : lw_okq (⟨"SharedNights", "readPlan", "()LSharedNights$Plan;"⟩, 26) := ⟨⟨by decide +kernel, by decide +kernel⟩, lw_t1 (List.mem_of_getElem? (i := 26) rfl), lw_t2 (List.mem_of_getElem? (i := 138) rfl), lw_t2 (List.mem_of_getElem? (i := 139) rfl)⟩
theorem lw_p4 : lw_okq (⟨"SharedNights$Reader", "token", "()V"⟩, 4) := ⟨⟨by decide +kernel, by decide +kernel⟩, lw_t1 (List.mem_of_getElem? (i := 40) rfl), lw_t2 (List.mem_of_getElem? (i := 203) rfl), lw_t2 (List.mem_of_getElem? (i := 204) rfl)⟩
theorem lw_p5 : lw_okq (⟨"SharedNights$Reader", "kindAt", "(I)I"⟩, 4) := ⟨⟨by decide +kernel, by decide +kernel⟩, lw_t1 (List.mem_of_getElem? (i := 40) rfl), lw_t2 (List.mem_of_getElem? (i := 207) rfl), lw_t2 (List.mem_of_getElem? (i := 208) rfl)⟩
theorem lw_p6 : lw_okq (⟨"SharedNights$Reader", "numberBehind", "(Ljava/lang/String;II)I"⟩, 4) := ⟨⟨by decide +kernel, by decide +kernel⟩, lw_t1 (List.mem_of_getElem? (i := 40) rfl), lw_t2 (List.mem_of_getElem? (i := 217) rfl), lw_t2 (List.mem_of_getElem? (i := 218) rfl)⟩
theorem lw_p7 : lw_okq (⟨"SharedNights$Reader", "word", "(Ljava/lang/String;)V"⟩, 4) := ⟨⟨by decide +kernel, by decide +kernel⟩, lw_t1 (List.mem_of_getElem? (i := 40) rfl), lw_t2 (List.mem_of_getElem? (i := 221) rfl), lw_t2 (List.mem_of_getElem? (i := 222) rfl)⟩
theorem lw_p8 : lw_okq (⟨"SharedNights$Reader", "isWord", "(Ljava/lang/String;)Z"⟩, 4) := ⟨⟨by decide +kernel, by decide +kernel⟩, lw_t1 (List.mem_of_getElem? (i := 40) rfl), lw_t2 (List.mem_of_getElem? (i := 225) rfl), lw_t2 (List.mem_of_getElem? (i := 226) rfl)⟩
theorem lw_p9 : lw_okq (⟨"SharedNights$Reader", "need", "(ZI)V"⟩, 4) := ⟨⟨by decide +kernel, by decide +kernel⟩, lw_t1 (List.mem_of_getElem? (i := 40) rfl), lw_t3 (List.mem_of_getElem? (i := 37) rfl), lw_t3 (List.mem_of_getElem? (i := 38) rfl)⟩
theorem lw_p10 : lw_okq (⟨"java/lang/Throwable", "fillInStackTrace", "(I)Ljava/lang/Throwable;"⟩, 6) := ⟨⟨by decide +kernel, by decide +kernel⟩, lw_t3 (List.mem_of_getElem? (i := 75) rfl), lw_t3 (List.mem_of_getElem? (i := 73) rfl), lw_t3 (List.mem_of_getElem? (i := 74) rfl)⟩
theorem lw_p11 : lw_okq (⟨"SharedNights$Reader", "number", "(II)I"⟩, 4) := ⟨⟨by decide +kernel, by decide +kernel⟩, lw_t1 (List.mem_of_getElem? (i := 40) rfl), lw_t3 (List.mem_of_getElem? (i := 109) rfl), lw_t3 (List.mem_of_getElem? (i := 110) rfl)⟩
theorem lw_p12 : lw_okq (⟨"SharedNights$Reader", "sign", "(C)V"⟩, 4) := ⟨⟨by decide +kernel, by decide +kernel⟩, lw_t1 (List.mem_of_getElem? (i := 40) rfl), lw_t3 (List.mem_of_getElem? (i := 116) rfl), lw_t3 (List.mem_of_getElem? (i := 117) rfl)⟩
theorem lw_p13 : lw_okq (⟨"SharedNights$Reader", "isSign", "(C)Z"⟩, 4) := ⟨⟨by decide +kernel, by decide +kernel⟩, lw_t1 (List.mem_of_getElem? (i := 40) rfl), lw_t3 (List.mem_of_getElem? (i := 120) rfl), lw_t3 (List.mem_of_getElem? (i := 121) rfl)⟩
theorem lw_p14 : lw_okq (⟨"SharedNights$Reader", "step", "()LSharedNights$Look;"⟩, 4) := ⟨⟨by decide +kernel, by decide +kernel⟩, lw_t1 (List.mem_of_getElem? (i := 40) rfl), lw_t3 (List.mem_of_getElem? (i := 124) rfl), lw_t3 (List.mem_of_getElem? (i := 125) rfl)⟩
theorem lw_p15 : lw_okq (⟨"SharedNights", "isPlan", "(I)Z"⟩, 26) := ⟨⟨by decide +kernel, by decide +kernel⟩, lw_t1 (List.mem_of_getElem? (i := 26) rfl), lw_t3 (List.mem_of_getElem? (i := 194) rfl), lw_t3 (List.mem_of_getElem? (i := 195) rfl)⟩
def lw_privs_1 : List (MethodName × Nat) := [(⟨"SharedNights", "isTarget", "(I)Z"⟩, 26), (⟨"SharedNights", "isSlot", "(I)Z"⟩, 26), (⟨"SharedNights", "isSky", "(I)Z"⟩, 26), (⟨"SharedNights", "readPlan", "()LSharedNights$Plan;"⟩, 26), (⟨"SharedNights$Reader", "token", "()V"⟩, 4), (⟨"SharedNights$Reader", "kindAt", "(I)I"⟩, 4), (⟨"SharedNights$Reader", "numberBehind", "(Ljava/lang/String;II)I"⟩, 4), (⟨"SharedNights$Reader", "word", "(Ljava/lang/String;)V"⟩, 4), (⟨"SharedNights$Reader", "isWord", "(Ljava/lang/String;)Z"⟩, 4), (⟨"SharedNights$Reader", "need", "(ZI)V"⟩, 4), (⟨"java/lang/Throwable", "fillInStackTrace", "(I)Ljava/lang/Throwable;"⟩, 6), (⟨"SharedNights$Reader", "number", "(II)I"⟩, 4), (⟨"SharedNights$Reader", "sign", "(C)V"⟩, 4), (⟨"SharedNights$Reader", "isSign", "(C)Z"⟩, 4), (⟨"SharedNights$Reader", "step", "()LSharedNights$Look;"⟩, 4), (⟨"SharedNights", "isPlan", "(I)Z"⟩, 26)]
theorem lw_r1 : ∀ q ∈ lw_privs_1, lw_okq q := List.forall_mem_cons.mpr ⟨lw_p0, List.forall_mem_cons.mpr ⟨lw_p1, List.forall_mem_cons.mpr ⟨lw_p2, List.forall_mem_cons.mpr ⟨lw_p3, List.forall_mem_cons.mpr ⟨lw_p4, List.forall_mem_cons.mpr ⟨lw_p5, List.forall_mem_cons.mpr ⟨lw_p6, List.forall_mem_cons.mpr ⟨lw_p7, List.forall_mem_cons.mpr ⟨lw_p8, List.forall_mem_cons.mpr ⟨lw_p9, List.forall_mem_cons.mpr ⟨lw_p10, List.forall_mem_cons.mpr ⟨lw_p11, List.forall_mem_cons.mpr ⟨lw_p12, List.forall_mem_cons.mpr ⟨lw_p13, List.forall_mem_cons.mpr ⟨lw_p14, List.forall_mem_cons.mpr ⟨lw_p15, fun _ h => absurd h List.not_mem_nil⟩⟩⟩⟩⟩⟩⟩⟩⟩⟩⟩⟩⟩⟩⟩⟩
theorem lw_p16 : lw_okq (⟨"SharedNights", "remove", "(I)V"⟩, 26) := ⟨⟨by decide +kernel, by decide +kernel⟩, lw_t1 (List.mem_of_getElem? (i := 26) rfl), lw_t3 (List.mem_of_getElem? (i := 198) rfl), lw_t3 (List.mem_of_getElem? (i := 199) rfl)⟩
theorem lw_p17 : lw_okq (⟨"SharedNights", "fits", "(LSharedNights$Look;LSharedNights$Target;I)Z"⟩, 26) := ⟨⟨by decide +kernel, by decide +kernel⟩, lw_t1 (List.mem_of_getElem? (i := 26) rfl), lw_t3 (List.mem_of_getElem? (i := 238) rfl), lw_t3 (List.mem_of_getElem? (i := 239) rfl)⟩
theorem lw_p18 : lw_okq (⟨"SharedNights$Plan", "come", "(I)V"⟩, 9) := ⟨⟨by decide +kernel, by decide +kernel⟩, lw_t2 (List.mem_of_getElem? (i := 147) rfl), lw_t4 (List.mem_of_getElem? (i := 18) rfl), lw_t4 (List.mem_of_getElem? (i := 19) rfl)⟩
theorem lw_p19 : lw_okq (⟨"SharedNights$Plan", "later", "(I)LSharedNights$Later;"⟩, 9) := ⟨⟨by decide +kernel, by decide +kernel⟩, lw_t2 (List.mem_of_getElem? (i := 147) rfl), lw_t4 (List.mem_of_getElem? (i := 22) rfl), lw_t4 (List.mem_of_getElem? (i := 23) rfl)⟩
theorem lw_p20 : lw_okq (⟨"SharedNights$Plan", "layThird", "(II)V"⟩, 9) := ⟨⟨by decide +kernel, by decide +kernel⟩, lw_t2 (List.mem_of_getElem? (i := 147) rfl), lw_t4 (List.mem_of_getElem? (i := 27) rfl), lw_t4 (List.mem_of_getElem? (i := 28) rfl)⟩
theorem lw_p21 : lw_okq (⟨"SharedNights", "layNight", "()V"⟩, 26) := ⟨⟨by decide +kernel, by decide +kernel⟩, lw_t1 (List.mem_of_getElem? (i := 26) rfl), lw_t4 (List.mem_of_getElem? (i := 39) rfl), lw_t4 (List.mem_of_getElem? (i := 40) rfl)⟩
theorem lw_p22 : lw_okq (⟨"SharedNights$Night", "look", "(II)V"⟩, 7) := ⟨⟨by decide +kernel, by decide +kernel⟩, lw_t1 (List.mem_of_getElem? (i := 60) rfl), lw_t4 (List.mem_of_getElem? (i := 48) rfl), lw_t4 (List.mem_of_getElem? (i := 49) rfl)⟩
theorem lw_p23 : lw_okq (⟨"SharedNights$Night", "all", "(I)I"⟩, 7) := ⟨⟨by decide +kernel, by decide +kernel⟩, lw_t1 (List.mem_of_getElem? (i := 60) rfl), lw_t4 (List.mem_of_getElem? (i := 52) rfl), lw_t4 (List.mem_of_getElem? (i := 53) rfl)⟩
theorem lw_p24 : lw_okq (⟨"SharedNights$Night", "next", "(II)Z"⟩, 7) := ⟨⟨by decide +kernel, by decide +kernel⟩, lw_t1 (List.mem_of_getElem? (i := 60) rfl), lw_t4 (List.mem_of_getElem? (i := 63) rfl), lw_t4 (List.mem_of_getElem? (i := 64) rfl)⟩
theorem lw_p25 : lw_okq (⟨"SharedNights$Night", "rest", "(I)I"⟩, 7) := ⟨⟨by decide +kernel, by decide +kernel⟩, lw_t1 (List.mem_of_getElem? (i := 60) rfl), lw_t4 (List.mem_of_getElem? (i := 67) rfl), lw_t4 (List.mem_of_getElem? (i := 68) rfl)⟩
theorem lw_p26 : lw_okq (⟨"SharedNights$Night", "goes", "(III)Z"⟩, 7) := ⟨⟨by decide +kernel, by decide +kernel⟩, lw_t1 (List.mem_of_getElem? (i := 60) rfl), lw_t4 (List.mem_of_getElem? (i := 71) rfl), lw_t4 (List.mem_of_getElem? (i := 72) rfl)⟩
theorem lw_p27 : lw_okq (⟨"SharedNights", "worthOf", "(III)I"⟩, 26) := ⟨⟨by decide +kernel, by decide +kernel⟩, lw_t1 (List.mem_of_getElem? (i := 26) rfl), lw_t4 (List.mem_of_getElem? (i := 90) rfl), lw_t4 (List.mem_of_getElem? (i := 91) rfl)⟩
theorem lw_p28 : lw_okq (⟨"SharedNights", "isInAt", "(II)Z"⟩, 26) := ⟨⟨by decide +kernel, by decide +kernel⟩, lw_t1 (List.mem_of_getElem? (i := 26) rfl), lw_t4 (List.mem_of_getElem? (i := 100) rfl), lw_t4 (List.mem_of_getElem? (i := 101) rfl)⟩
theorem lw_p29 : lw_okq (⟨"SharedNights", "meets", "(II)Z"⟩, 26) := ⟨⟨by decide +kernel, by decide +kernel⟩, lw_t1 (List.mem_of_getElem? (i := 26) rfl), lw_t4 (List.mem_of_getElem? (i := 108) rfl), lw_t4 (List.mem_of_getElem? (i := 109) rfl)⟩
theorem lw_p30 : lw_okq (⟨"SharedNights", "isRule", "(I)Z"⟩, 26) := ⟨⟨by decide +kernel, by decide +kernel⟩, lw_t1 (List.mem_of_getElem? (i := 26) rfl), lw_t4 (List.mem_of_getElem? (i := 121) rfl), lw_t4 (List.mem_of_getElem? (i := 122) rfl)⟩
theorem lw_p31 : lw_okq (⟨"SharedNights$Watch", "begin", "(I)I"⟩, 10) := ⟨⟨by decide +kernel, by decide +kernel⟩, lw_t1 (List.mem_of_getElem? (i := 120) rfl), lw_t4 (List.mem_of_getElem? (i := 129) rfl), lw_t4 (List.mem_of_getElem? (i := 130) rfl)⟩
def lw_privs_2 : List (MethodName × Nat) := [(⟨"SharedNights", "remove", "(I)V"⟩, 26), (⟨"SharedNights", "fits", "(LSharedNights$Look;LSharedNights$Target;I)Z"⟩, 26), (⟨"SharedNights$Plan", "come", "(I)V"⟩, 9), (⟨"SharedNights$Plan", "later", "(I)LSharedNights$Later;"⟩, 9), (⟨"SharedNights$Plan", "layThird", "(II)V"⟩, 9), (⟨"SharedNights", "layNight", "()V"⟩, 26), (⟨"SharedNights$Night", "look", "(II)V"⟩, 7), (⟨"SharedNights$Night", "all", "(I)I"⟩, 7), (⟨"SharedNights$Night", "next", "(II)Z"⟩, 7), (⟨"SharedNights$Night", "rest", "(I)I"⟩, 7), (⟨"SharedNights$Night", "goes", "(III)Z"⟩, 7), (⟨"SharedNights", "worthOf", "(III)I"⟩, 26), (⟨"SharedNights", "isInAt", "(II)Z"⟩, 26), (⟨"SharedNights", "meets", "(II)Z"⟩, 26), (⟨"SharedNights", "isRule", "(I)Z"⟩, 26), (⟨"SharedNights$Watch", "begin", "(I)I"⟩, 10)]
theorem lw_r2 : ∀ q ∈ lw_privs_2, lw_okq q := List.forall_mem_cons.mpr ⟨lw_p16, List.forall_mem_cons.mpr ⟨lw_p17, List.forall_mem_cons.mpr ⟨lw_p18, List.forall_mem_cons.mpr ⟨lw_p19, List.forall_mem_cons.mpr ⟨lw_p20, List.forall_mem_cons.mpr ⟨lw_p21, List.forall_mem_cons.mpr ⟨lw_p22, List.forall_mem_cons.mpr ⟨lw_p23, List.forall_mem_cons.mpr ⟨lw_p24, List.forall_mem_cons.mpr ⟨lw_p25, List.forall_mem_cons.mpr ⟨lw_p26, List.forall_mem_cons.mpr ⟨lw_p27, List.forall_mem_cons.mpr ⟨lw_p28, List.forall_mem_cons.mpr ⟨lw_p29, List.forall_mem_cons.mpr ⟨lw_p30, List.forall_mem_cons.mpr ⟨lw_p31, fun _ h => absurd h List.not_mem_nil⟩⟩⟩⟩⟩⟩⟩⟩⟩⟩⟩⟩⟩⟩⟩⟩
theorem lw_p32 : lw_okq (⟨"SharedNights$Watch", "isWaiting", "(I)Z"⟩, 10) := ⟨⟨by decide +kernel, by decide +kernel⟩, lw_t1 (List.mem_of_getElem? (i := 120) rfl), lw_t4 (List.mem_of_getElem? (i := 133) rfl), lw_t4 (List.mem_of_getElem? (i := 134) rfl)⟩
theorem lw_p33 : lw_okq (⟨"SharedNights$Watch", "lose", "(I)V"⟩, 10) := ⟨⟨by decide +kernel, by decide +kernel⟩, lw_t1 (List.mem_of_getElem? (i := 120) rfl), lw_t4 (List.mem_of_getElem? (i := 138) rfl), lw_t4 (List.mem_of_getElem? (i := 139) rfl)⟩
theorem lw_p34 : lw_okq (⟨"SharedNights$Watch", "mayBegin", "(II)Z"⟩, 10) := ⟨⟨by decide +kernel, by decide +kernel⟩, lw_t1 (List.mem_of_getElem? (i := 120) rfl), lw_t4 (List.mem_of_getElem? (i := 142) rfl), lw_t4 (List.mem_of_getElem? (i := 143) rfl)⟩
theorem lw_p35 : lw_okq (⟨"SharedNights$Watch", "goOn", "(I)I"⟩, 10) := ⟨⟨by decide +kernel, by decide +kernel⟩, lw_t1 (List.mem_of_getElem? (i := 120) rfl), lw_t4 (List.mem_of_getElem? (i := 168) rfl), lw_t4 (List.mem_of_getElem? (i := 169) rfl)⟩
theorem lw_p36 : lw_okq (⟨"SharedNights", "layValue", "(I)Z"⟩, 26) := ⟨⟨by decide +kernel, by decide +kernel⟩, lw_t1 (List.mem_of_getElem? (i := 26) rfl), lw_t4 (List.mem_of_getElem? (i := 188) rfl), lw_t4 (List.mem_of_getElem? (i := 189) rfl)⟩
theorem lw_p37 : lw_okq (⟨"SharedNights", "debtOf", "(I)I"⟩, 26) := ⟨⟨by decide +kernel, by decide +kernel⟩, lw_t1 (List.mem_of_getElem? (i := 26) rfl), lw_t4 (List.mem_of_getElem? (i := 233) rfl), lw_t4 (List.mem_of_getElem? (i := 234) rfl)⟩
theorem lw_p38 : lw_okq (⟨"SharedNightsModel", "isTarget", "(I)Z"⟩, 44) := ⟨⟨by decide +kernel, by decide +kernel⟩, lw_t5 (List.mem_of_getElem? (i := 6) rfl), lw_t5 (List.mem_of_getElem? (i := 160) rfl), lw_t5 (List.mem_of_getElem? (i := 161) rfl)⟩
theorem lw_p39 : lw_okq (⟨"SharedNightsModel", "isSlot", "(I)Z"⟩, 44) := ⟨⟨by decide +kernel, by decide +kernel⟩, lw_t5 (List.mem_of_getElem? (i := 6) rfl), lw_t5 (List.mem_of_getElem? (i := 164) rfl), lw_t5 (List.mem_of_getElem? (i := 165) rfl)⟩
theorem lw_p40 : lw_okq (⟨"SharedNightsModel", "isVisible", "(II)Z"⟩, 44) := ⟨⟨by decide +kernel, by decide +kernel⟩, lw_t5 (List.mem_of_getElem? (i := 6) rfl), lw_t5 (List.mem_of_getElem? (i := 168) rfl), lw_t5 (List.mem_of_getElem? (i := 169) rfl)⟩
theorem lw_p41 : lw_okq (⟨"SharedNightsModel", "airOf", "(II)I"⟩, 44) := ⟨⟨by decide +kernel, by decide +kernel⟩, lw_t5 (List.mem_of_getElem? (i := 6) rfl), lw_t5 (List.mem_of_getElem? (i := 172) rfl), lw_t5 (List.mem_of_getElem? (i := 173) rfl)⟩
theorem lw_p42 : lw_okq (⟨"SharedNightsModel", "isSky", "(I)Z"⟩, 44) := ⟨⟨by decide +kernel, by decide +kernel⟩, lw_t5 (List.mem_of_getElem? (i := 6) rfl), lw_t5 (List.mem_of_getElem? (i := 184) rfl), lw_t5 (List.mem_of_getElem? (i := 185) rfl)⟩
theorem lw_p43 : lw_okq (⟨"SharedNightsModel", "isRead", "()Z"⟩, 44) := ⟨⟨by decide +kernel, by decide +kernel⟩, lw_t5 (List.mem_of_getElem? (i := 6) rfl), lw_t5 (List.mem_of_getElem? (i := 209) rfl), lw_t5 (List.mem_of_getElem? (i := 210) rfl)⟩
theorem lw_p44 : lw_okq (⟨"SharedNightsModel", "findTokens", "()V"⟩, 44) := ⟨⟨by decide +kernel, by decide +kernel⟩, lw_t5 (List.mem_of_getElem? (i := 6) rfl), lw_t5 (List.mem_of_getElem? (i := 213) rfl), lw_t5 (List.mem_of_getElem? (i := 214) rfl)⟩
theorem lw_p45 : lw_okq (⟨"SharedNightsModel", "isNumber", "(III)Z"⟩, 44) := ⟨⟨by decide +kernel, by decide +kernel⟩, lw_t5 (List.mem_of_getElem? (i := 6) rfl), lw_t5 (List.mem_of_getElem? (i := 235) rfl), lw_t5 (List.mem_of_getElem? (i := 236) rfl)⟩
theorem lw_p46 : lw_okq (⟨"SharedNightsModel", "keep", "(III)V"⟩, 44) := ⟨⟨by decide +kernel, by decide +kernel⟩, lw_t5 (List.mem_of_getElem? (i := 6) rfl), lw_t5 (List.mem_of_getElem? (i := 239) rfl), lw_t6 (List.mem_of_getElem? (i := 0) rfl)⟩
theorem lw_p47 : lw_okq (⟨"SharedNightsModel", "isPlan", "(I)Z"⟩, 44) := ⟨⟨by decide +kernel, by decide +kernel⟩, lw_t5 (List.mem_of_getElem? (i := 6) rfl), lw_t6 (List.mem_of_getElem? (i := 15) rfl), lw_t6 (List.mem_of_getElem? (i := 16) rfl)⟩
def lw_privs_3 : List (MethodName × Nat) := [(⟨"SharedNights$Watch", "isWaiting", "(I)Z"⟩, 10), (⟨"SharedNights$Watch", "lose", "(I)V"⟩, 10), (⟨"SharedNights$Watch", "mayBegin", "(II)Z"⟩, 10), (⟨"SharedNights$Watch", "goOn", "(I)I"⟩, 10), (⟨"SharedNights", "layValue", "(I)Z"⟩, 26), (⟨"SharedNights", "debtOf", "(I)I"⟩, 26), (⟨"SharedNightsModel", "isTarget", "(I)Z"⟩, 44), (⟨"SharedNightsModel", "isSlot", "(I)Z"⟩, 44), (⟨"SharedNightsModel", "isVisible", "(II)Z"⟩, 44), (⟨"SharedNightsModel", "airOf", "(II)I"⟩, 44), (⟨"SharedNightsModel", "isSky", "(I)Z"⟩, 44), (⟨"SharedNightsModel", "isRead", "()Z"⟩, 44), (⟨"SharedNightsModel", "findTokens", "()V"⟩, 44), (⟨"SharedNightsModel", "isNumber", "(III)Z"⟩, 44), (⟨"SharedNightsModel", "keep", "(III)V"⟩, 44), (⟨"SharedNightsModel", "isPlan", "(I)Z"⟩, 44)]
theorem lw_r3 : ∀ q ∈ lw_privs_3, lw_okq q := List.forall_mem_cons.mpr ⟨lw_p32, List.forall_mem_cons.mpr ⟨lw_p33, List.forall_mem_cons.mpr ⟨lw_p34, List.forall_mem_cons.mpr ⟨lw_p35, List.forall_mem_cons.mpr ⟨lw_p36, List.forall_mem_cons.mpr ⟨lw_p37, List.forall_mem_cons.mpr ⟨lw_p38, List.forall_mem_cons.mpr ⟨lw_p39, List.forall_mem_cons.mpr ⟨lw_p40, List.forall_mem_cons.mpr ⟨lw_p41, List.forall_mem_cons.mpr ⟨lw_p42, List.forall_mem_cons.mpr ⟨lw_p43, List.forall_mem_cons.mpr ⟨lw_p44, List.forall_mem_cons.mpr ⟨lw_p45, List.forall_mem_cons.mpr ⟨lw_p46, List.forall_mem_cons.mpr ⟨lw_p47, fun _ h => absurd h List.not_mem_nil⟩⟩⟩⟩⟩⟩⟩⟩⟩⟩⟩⟩⟩⟩⟩⟩
theorem lw_p48 : lw_okq (⟨"SharedNightsModel", "remove", "(I)V"⟩, 44) := ⟨⟨by decide +kernel, by decide +kernel⟩, lw_t5 (List.mem_of_getElem? (i := 6) rfl), lw_t6 (List.mem_of_getElem? (i := 19) rfl), lw_t6 (List.mem_of_getElem? (i := 20) rfl)⟩
theorem lw_p49 : lw_okq (⟨"SharedNightsModel", "findPlacements", "(I)V"⟩, 44) := ⟨⟨by decide +kernel, by decide +kernel⟩, lw_t5 (List.mem_of_getElem? (i := 6) rfl), lw_t6 (List.mem_of_getElem? (i := 35) rfl), lw_t6 (List.mem_of_getElem? (i := 36) rfl)⟩
theorem lw_p50 : lw_okq (⟨"SharedNightsModel", "stepSlots", "(III)I"⟩, 44) := ⟨⟨by decide +kernel, by decide +kernel⟩, lw_t5 (List.mem_of_getElem? (i := 6) rfl), lw_t6 (List.mem_of_getElem? (i := 39) rfl), lw_t6 (List.mem_of_getElem? (i := 40) rfl)⟩
theorem lw_p51 : lw_okq (⟨"SharedNightsModel", "ofStep", "(III)I"⟩, 44) := ⟨⟨by decide +kernel, by decide +kernel⟩, lw_t5 (List.mem_of_getElem? (i := 6) rfl), lw_t6 (List.mem_of_getElem? (i := 43) rfl), lw_t6 (List.mem_of_getElem? (i := 44) rfl)⟩
theorem lw_p52 : lw_okq (⟨"SharedNightsModel", "fitsStep", "(IIII)Z"⟩, 44) := ⟨⟨by decide +kernel, by decide +kernel⟩, lw_t5 (List.mem_of_getElem? (i := 6) rfl), lw_t6 (List.mem_of_getElem? (i := 47) rfl), lw_t6 (List.mem_of_getElem? (i := 48) rfl)⟩
theorem lw_p53 : lw_okq (⟨"SharedNightsModel", "fits", "(IIIIII)Z"⟩, 44) := ⟨⟨by decide +kernel, by decide +kernel⟩, lw_t5 (List.mem_of_getElem? (i := 6) rfl), lw_t6 (List.mem_of_getElem? (i := 51) rfl), lw_t6 (List.mem_of_getElem? (i := 52) rfl)⟩
theorem lw_p54 : lw_okq (⟨"SharedNightsModel", "stepsOf", "(I)I"⟩, 44) := ⟨⟨by decide +kernel, by decide +kernel⟩, lw_t5 (List.mem_of_getElem? (i := 6) rfl), lw_t6 (List.mem_of_getElem? (i := 55) rfl), lw_t6 (List.mem_of_getElem? (i := 56) rfl)⟩
theorem lw_p55 : lw_okq (⟨"SharedNightsModel", "addPlacement", "(II)V"⟩, 44) := ⟨⟨by decide +kernel, by decide +kernel⟩, lw_t5 (List.mem_of_getElem? (i := 6) rfl), lw_t6 (List.mem_of_getElem? (i := 59) rfl), lw_t6 (List.mem_of_getElem? (i := 60) rfl)⟩
theorem lw_p56 : lw_okq (⟨"SharedNightsModel", "findAll", "()V"⟩, 44) := ⟨⟨by decide +kernel, by decide +kernel⟩, lw_t5 (List.mem_of_getElem? (i := 6) rfl), lw_t6 (List.mem_of_getElem? (i := 71) rfl), lw_t6 (List.mem_of_getElem? (i := 72) rfl)⟩
theorem lw_p57 : lw_okq (⟨"SharedNightsModel", "findBest", "()V"⟩, 44) := ⟨⟨by decide +kernel, by decide +kernel⟩, lw_t5 (List.mem_of_getElem? (i := 6) rfl), lw_t6 (List.mem_of_getElem? (i := 75) rfl), lw_t6 (List.mem_of_getElem? (i := 76) rfl)⟩
theorem lw_p58 : lw_okq (⟨"SharedNightsModel", "worthOf", "(I)I"⟩, 44) := ⟨⟨by decide +kernel, by decide +kernel⟩, lw_t5 (List.mem_of_getElem? (i := 6) rfl), lw_t6 (List.mem_of_getElem? (i := 79) rfl), lw_t6 (List.mem_of_getElem? (i := 80) rfl)⟩
theorem lw_p59 : lw_okq (⟨"SharedNightsModel", "slotsNeeded", "(I)I"⟩, 44) := ⟨⟨by decide +kernel, by decide +kernel⟩, lw_t5 (List.mem_of_getElem? (i := 6) rfl), lw_t6 (List.mem_of_getElem? (i := 83) rfl), lw_t6 (List.mem_of_getElem? (i := 84) rfl)⟩
theorem lw_p60 : lw_okq (⟨"SharedNightsModel", "goWithAll", "(II)Z"⟩, 44) := ⟨⟨by decide +kernel, by decide +kernel⟩, lw_t5 (List.mem_of_getElem? (i := 6) rfl), lw_t6 (List.mem_of_getElem? (i := 87) rfl), lw_t6 (List.mem_of_getElem? (i := 88) rfl)⟩
theorem lw_p61 : lw_okq (⟨"SharedNightsModel", "goWith", "(IIII)Z"⟩, 44) := ⟨⟨by decide +kernel, by decide +kernel⟩, lw_t5 (List.mem_of_getElem? (i := 6) rfl), lw_t6 (List.mem_of_getElem? (i := 91) rfl), lw_t6 (List.mem_of_getElem? (i := 92) rfl)⟩
theorem lw_p62 : lw_okq (⟨"SharedNightsModel", "bestSet", "()I"⟩, 44) := ⟨⟨by decide +kernel, by decide +kernel⟩, lw_t5 (List.mem_of_getElem? (i := 6) rfl), lw_t6 (List.mem_of_getElem? (i := 95) rfl), lw_t6 (List.mem_of_getElem? (i := 96) rfl)⟩
theorem lw_p63 : lw_okq (⟨"SharedNightsModel", "isInAt", "(II)Z"⟩, 44) := ⟨⟨by decide +kernel, by decide +kernel⟩, lw_t5 (List.mem_of_getElem? (i := 6) rfl), lw_t6 (List.mem_of_getElem? (i := 107) rfl), lw_t6 (List.mem_of_getElem? (i := 108) rfl)⟩
def lw_privs_4 : List (MethodName × Nat) := [(⟨"SharedNightsModel", "remove", "(I)V"⟩, 44), (⟨"SharedNightsModel", "findPlacements", "(I)V"⟩, 44), (⟨"SharedNightsModel", "stepSlots", "(III)I"⟩, 44), (⟨"SharedNightsModel", "ofStep", "(III)I"⟩, 44), (⟨"SharedNightsModel", "fitsStep", "(IIII)Z"⟩, 44), (⟨"SharedNightsModel", "fits", "(IIIIII)Z"⟩, 44), (⟨"SharedNightsModel", "stepsOf", "(I)I"⟩, 44), (⟨"SharedNightsModel", "addPlacement", "(II)V"⟩, 44), (⟨"SharedNightsModel", "findAll", "()V"⟩, 44), (⟨"SharedNightsModel", "findBest", "()V"⟩, 44), (⟨"SharedNightsModel", "worthOf", "(I)I"⟩, 44), (⟨"SharedNightsModel", "slotsNeeded", "(I)I"⟩, 44), (⟨"SharedNightsModel", "goWithAll", "(II)Z"⟩, 44), (⟨"SharedNightsModel", "goWith", "(IIII)Z"⟩, 44), (⟨"SharedNightsModel", "bestSet", "()I"⟩, 44), (⟨"SharedNightsModel", "isInAt", "(II)Z"⟩, 44)]
theorem lw_r4 : ∀ q ∈ lw_privs_4, lw_okq q := List.forall_mem_cons.mpr ⟨lw_p48, List.forall_mem_cons.mpr ⟨lw_p49, List.forall_mem_cons.mpr ⟨lw_p50, List.forall_mem_cons.mpr ⟨lw_p51, List.forall_mem_cons.mpr ⟨lw_p52, List.forall_mem_cons.mpr ⟨lw_p53, List.forall_mem_cons.mpr ⟨lw_p54, List.forall_mem_cons.mpr ⟨lw_p55, List.forall_mem_cons.mpr ⟨lw_p56, List.forall_mem_cons.mpr ⟨lw_p57, List.forall_mem_cons.mpr ⟨lw_p58, List.forall_mem_cons.mpr ⟨lw_p59, List.forall_mem_cons.mpr ⟨lw_p60, List.forall_mem_cons.mpr ⟨lw_p61, List.forall_mem_cons.mpr ⟨lw_p62, List.forall_mem_cons.mpr ⟨lw_p63, fun _ h => absurd h List.not_mem_nil⟩⟩⟩⟩⟩⟩⟩⟩⟩⟩⟩⟩⟩⟩⟩⟩
theorem lw_p64 : lw_okq (⟨"SharedNightsModel", "watchTo", "(III)V"⟩, 44) := ⟨⟨by decide +kernel, by decide +kernel⟩, lw_t5 (List.mem_of_getElem? (i := 6) rfl), lw_t6 (List.mem_of_getElem? (i := 123) rfl), lw_t6 (List.mem_of_getElem? (i := 124) rfl)⟩
theorem lw_p65 : lw_okq (⟨"SharedNightsModel", "breakChain", "(I)V"⟩, 44) := ⟨⟨by decide +kernel, by decide +kernel⟩, lw_t5 (List.mem_of_getElem? (i := 6) rfl), lw_t6 (List.mem_of_getElem? (i := 127) rfl), lw_t6 (List.mem_of_getElem? (i := 128) rfl)⟩
theorem lw_p66 : lw_okq (⟨"SharedNightsModel", "mayBegin", "(III)Z"⟩, 44) := ⟨⟨by decide +kernel, by decide +kernel⟩, lw_t5 (List.mem_of_getElem? (i := 6) rfl), lw_t6 (List.mem_of_getElem? (i := 131) rfl), lw_t6 (List.mem_of_getElem? (i := 132) rfl)⟩
theorem lw_p67 : lw_okq (⟨"SharedNightsModel", "isAhead", "(IIII)Z"⟩, 44) := ⟨⟨by decide +kernel, by decide +kernel⟩, lw_t5 (List.mem_of_getElem? (i := 6) rfl), lw_t6 (List.mem_of_getElem? (i := 135) rfl), lw_t6 (List.mem_of_getElem? (i := 136) rfl)⟩
theorem lw_p68 : lw_okq (⟨"SharedNightsModel", "lastVisible", "(I)I"⟩, 44) := ⟨⟨by decide +kernel, by decide +kernel⟩, lw_t5 (List.mem_of_getElem? (i := 6) rfl), lw_t6 (List.mem_of_getElem? (i := 139) rfl), lw_t6 (List.mem_of_getElem? (i := 140) rfl)⟩
theorem lw_p69 : lw_okq (⟨"SharedNightsModel", "findValue", "(I)V"⟩, 44) := ⟨⟨by decide +kernel, by decide +kernel⟩, lw_t5 (List.mem_of_getElem? (i := 6) rfl), lw_t6 (List.mem_of_getElem? (i := 155) rfl), lw_t6 (List.mem_of_getElem? (i := 156) rfl)⟩
theorem lw_p70 : lw_okq (⟨"SharedNightsModel", "findAlert", "(IIIII)V"⟩, 44) := ⟨⟨by decide +kernel, by decide +kernel⟩, lw_t5 (List.mem_of_getElem? (i := 6) rfl), lw_t6 (List.mem_of_getElem? (i := 174) rfl), lw_t6 (List.mem_of_getElem? (i := 175) rfl)⟩
theorem lw_p71 : lw_okq (⟨"SharedNightsModel", "debtOf", "(I)I"⟩, 44) := ⟨⟨by decide +kernel, by decide +kernel⟩, lw_t5 (List.mem_of_getElem? (i := 6) rfl), lw_t6 (List.mem_of_getElem? (i := 194) rfl), lw_t6 (List.mem_of_getElem? (i := 195) rfl)⟩
def lw_privs_5 : List (MethodName × Nat) := [(⟨"SharedNightsModel", "watchTo", "(III)V"⟩, 44), (⟨"SharedNightsModel", "breakChain", "(I)V"⟩, 44), (⟨"SharedNightsModel", "mayBegin", "(III)Z"⟩, 44), (⟨"SharedNightsModel", "isAhead", "(IIII)Z"⟩, 44), (⟨"SharedNightsModel", "lastVisible", "(I)I"⟩, 44), (⟨"SharedNightsModel", "findValue", "(I)V"⟩, 44), (⟨"SharedNightsModel", "findAlert", "(IIIII)V"⟩, 44), (⟨"SharedNightsModel", "debtOf", "(I)I"⟩, 44)]
theorem lw_r5 : ∀ q ∈ lw_privs_5, lw_okq q := List.forall_mem_cons.mpr ⟨lw_p64, List.forall_mem_cons.mpr ⟨lw_p65, List.forall_mem_cons.mpr ⟨lw_p66, List.forall_mem_cons.mpr ⟨lw_p67, List.forall_mem_cons.mpr ⟨lw_p68, List.forall_mem_cons.mpr ⟨lw_p69, List.forall_mem_cons.mpr ⟨lw_p70, List.forall_mem_cons.mpr ⟨lw_p71, fun _ h => absurd h List.not_mem_nil⟩⟩⟩⟩⟩⟩⟩⟩
def lw_privs : List (MethodName × Nat) := lw_privs_1 ++ (lw_privs_2 ++ (lw_privs_3 ++ (lw_privs_4 ++ (lw_privs_5))))
def lw_tbl : List Cond := k2_sels lw_privs ++ tables_1
theorem lw_privs_ok : ∀ q ∈ lw_privs, lw_okq q := by
  show ∀ q ∈ lw_privs_1 ++ (lw_privs_2 ++ (lw_privs_3 ++ (lw_privs_4 ++ (lw_privs_5)))), lw_okq q
  exact List.forall_mem_append.mpr ⟨lw_r1, List.forall_mem_append.mpr ⟨lw_r2, List.forall_mem_append.mpr ⟨lw_r3, List.forall_mem_append.mpr ⟨lw_r4, lw_r5⟩⟩⟩⟩
-- ===== ONE list of words for every method: the tables' words that hold all through a run =====
def lw_all : List Cond := lw_tbl.filter goodWord
/-- a word of the tables by its place: claim/WORDS.tsv -/
theorem lw_w {w : Cond} (i : Nat) (h : lw_tbl[i]? = some w) (g : goodWord w = true) : w ∈ lw_all := List.mem_filter.mpr ⟨List.mem_of_getElem? h, g⟩
theorem lw_all_tbl {w : Cond} (h : w ∈ lw_all) : w ∈ lw_tbl := (List.mem_filter.mp h).1
theorem lw_self : GoodIn lw_all lw_all := fun w h => ⟨h, good_of_word (List.mem_filter.mp h).2⟩
/-- a class's field words, by their places -/
theorem lw_in (ws : List Cond) (ps : List Nat) (hp : ws = ps.filterMap (fun i => lw_tbl[i]?)) (hg : ws.all goodWord = true) : ∀ w ∈ ws, w ∈ lw_all := by
  intro w h
  have h1 := List.all_eq_true.mp hg w h
  rw [hp] at h
  obtain ⟨i, -, hi⟩ := List.mem_filterMap.mp h
  exact lw_w i hi h1
/-- the words of a contract for the method y with code b, L locals, answer r -/
abbrev ws_ (y : MethodName) (b : ByteArray) (L : Nat) (r : Option FieldType) : List Cond := Cond.code y b L r :: lw_all
theorem lw_meth {y : MethodName} {b : ByteArray} {L : Nat} {r : Option FieldType} (h : Cond.code y b L r ∈ lw_all) : GoodIn lw_all (ws_ y b L r) := by
  intro w hw
  rcases List.mem_cons.mp hw with e | e
  · rw [e]
    exact lw_self _ h
  · exact lw_self _ e
theorem lw_app {a c : List Cond} (ha : ∀ w ∈ a, w ∈ lw_all) (hc : GoodIn lw_all c) : GoodIn lw_all (a ++ c) := by
  intro w hw
  rcases List.mem_append.mp hw with e | e
  · exact lw_self w (ha w e)
  · exact hc w e
/-- what a call through an object asks: cwV n hts (lw_V ..) -/
theorem lw_V {own : String} {idx : Nat} {C : String} {y : MethodName} {b : ByteArray} {L : Nat} {r : Option FieldType} (h1 : Cond.methodLink own idx y ∈ lw_all) (h2 : Cond.instanceMethod y ∈ lw_all) (h3 : Cond.selects C y y ∈ lw_all) (h4 : Cond.initialized C ∈ lw_all) (h5 : Cond.code y b L r ∈ lw_all) : GoodIn lw_all (wsV own idx C y (ws_ y b L r)) := by
  refine lw_app ?_ (lw_meth h5)
  intro w hw
  simp only [List.mem_cons, List.not_mem_nil, or_false] at hw
  rcases hw with e | e | e | e
  · rw [e]; exact h1
  · rw [e]; exact h2
  · rw [e]; exact h3
  · rw [e]; exact h4
/-- what a static call asks: va_cwS n hts (lw_S ..) -/
theorem lw_S {own : String} {idx : Nat} {y : MethodName} {b : ByteArray} {L : Nat} {r : Option FieldType} (h1 : Cond.methodLink own idx y ∈ lw_all) (h2 : Cond.static y ∈ lw_all) (h3 : Cond.initialized y.cls ∈ lw_all) (h4 : Cond.code y b L r ∈ lw_all) : GoodIn lw_all (va_wsS own idx y (ws_ y b L r)) := by
  refine lw_app ?_ (lw_meth h4)
  intro w hw
  simp only [List.mem_cons, List.not_mem_nil, or_false] at hw
  rcases hw with e | e | e
  · rw [e]; exact h1
  · rw [e]; exact h2
  · rw [e]; exact h3
/-- the words of a contract for a method WITH HANDLERS (hh: its table) -/
abbrev wsW_ (y : MethodName) (b : ByteArray) (L : Nat) (r : Option FieldType) (hh : List (Nat × Nat × Nat × Nat)) : List Cond := Cond.codeWith y b L r hh :: lw_all
theorem lw_methW {y : MethodName} {b : ByteArray} {L : Nat} {r : Option FieldType} {hh : List (Nat × Nat × Nat × Nat)} (h : Cond.codeWith y b L r hh ∈ lw_all) : GoodIn lw_all (wsW_ y b L r hh) := by
  intro w hw
  rcases List.mem_cons.mp hw with e | e
  · rw [e]
    exact lw_self _ h
  · exact lw_self _ e
/-- any list of words by their places (lw_in), good -/
theorem lw_good {ws : List Cond} (h : ∀ w ∈ ws, w ∈ lw_all) : GoodIn lw_all ws := fun w hw => lw_self w (h w hw)
/-- what a call of a method with handlers asks: vx_cwVW n hts (lw_VW ..), vx_cwSW n hts (lw_SW ..) -/
theorem lw_VW {own : String} {idx : Nat} {C : String} {y : MethodName} {b : ByteArray} {L : Nat} {r : Option FieldType} {hh : List (Nat × Nat × Nat × Nat)} (h1 : Cond.methodLink own idx y ∈ lw_all) (h2 : Cond.instanceMethod y ∈ lw_all) (h3 : Cond.selects C y y ∈ lw_all) (h4 : Cond.initialized C ∈ lw_all) (h5 : Cond.codeWith y b L r hh ∈ lw_all) : GoodIn lw_all (wsV own idx C y (wsW_ y b L r hh)) := by
  refine lw_app ?_ (lw_methW h5)
  intro w hw
  simp only [List.mem_cons, List.not_mem_nil, or_false] at hw
  rcases hw with e | e | e | e
  · rw [e]; exact h1
  · rw [e]; exact h2
  · rw [e]; exact h3
  · rw [e]; exact h4
theorem lw_SW {own : String} {idx : Nat} {y : MethodName} {b : ByteArray} {L : Nat} {r : Option FieldType} {hh : List (Nat × Nat × Nat × Nat)} (h1 : Cond.methodLink own idx y ∈ lw_all) (h2 : Cond.static y ∈ lw_all) (h3 : Cond.initialized y.cls ∈ lw_all) (h4 : Cond.codeWith y b L r hh ∈ lw_all) : GoodIn lw_all (va_wsS own idx y (wsW_ y b L r hh)) := by
  refine lw_app ?_ (lw_methW h4)
  intro w hw
  simp only [List.mem_cons, List.not_mem_nil, or_false] at hw
  rcases hw with e | e | e
  · rw [e]; exact h1
  · rw [e]; exact h2
  · rw [e]; exact h3
/-- a word by its place in its run of the tables -/
theorem lw_at {r : List Cond} (hr : ∀ w ∈ r, w ∈ lw_tbl) {w : Cond} (i : Nat) (h : r[i]? = some w) : w ∈ lw_tbl := hr w (List.mem_of_getElem? h)
theorem lw_g {w : Cond} (h : w ∈ lw_tbl) (g : goodWord w = true) : w ∈ lw_all := List.mem_filter.mpr ⟨h, g⟩
theorem lw_ms : ∀ w ∈ k2_sels lw_privs, w ∈ lw_tbl := fun w h => show w ∈ k2_sels lw_privs ++ tables_1 from List.mem_append_left _ h
theorem lw_m1 : ∀ w ∈ tables_1_1, w ∈ lw_tbl := fun w h => show w ∈ k2_sels lw_privs ++ tables_1 from List.mem_append_right (k2_sels lw_privs) (show w ∈ tables_1 from List.mem_append_left _ h)
theorem lw_m2 : ∀ w ∈ tables_1_2, w ∈ lw_tbl := fun w h => show w ∈ k2_sels lw_privs ++ tables_1 from List.mem_append_right (k2_sels lw_privs) (show w ∈ tables_1 from List.mem_append_right _ (List.mem_append_left _ h))
theorem lw_m3 : ∀ w ∈ tables_1_3, w ∈ lw_tbl := fun w h => show w ∈ k2_sels lw_privs ++ tables_1 from List.mem_append_right (k2_sels lw_privs) (show w ∈ tables_1 from List.mem_append_right _ (List.mem_append_right _ (List.mem_append_left _ h)))
theorem lw_m4 : ∀ w ∈ tables_1_4, w ∈ lw_tbl := fun w h => show w ∈ k2_sels lw_privs ++ tables_1 from List.mem_append_right (k2_sels lw_privs) (show w ∈ tables_1 from List.mem_append_right _ (List.mem_append_right _ (List.mem_append_right _ (List.mem_append_left _ h))))
theorem lw_m5 : ∀ w ∈ tables_1_5, w ∈ lw_tbl := fun w h => show w ∈ k2_sels lw_privs ++ tables_1 from List.mem_append_right (k2_sels lw_privs) (show w ∈ tables_1 from List.mem_append_right _ (List.mem_append_right _ (List.mem_append_right _ (List.mem_append_right _ (List.mem_append_left _ h)))))
theorem lw_m6 : ∀ w ∈ tables_1_6, w ∈ lw_tbl := fun w h => show w ∈ k2_sels lw_privs ++ tables_1 from List.mem_append_right (k2_sels lw_privs) (show w ∈ tables_1 from List.mem_append_right _ (List.mem_append_right _ (List.mem_append_right _ (List.mem_append_right _ (List.mem_append_right _ h)))))
theorem qs0 : (Cond.selects "SharedNights" ⟨"SharedNights", "isTarget", "(I)Z"⟩ ⟨"SharedNights", "isTarget", "(I)Z"⟩) ∈ lw_all := lw_g (lw_at lw_ms 0 rfl) rfl
theorem qs1 : (Cond.selects "SharedNights" ⟨"SharedNights", "isSlot", "(I)Z"⟩ ⟨"SharedNights", "isSlot", "(I)Z"⟩) ∈ lw_all := lw_g (lw_at lw_ms 1 rfl) rfl
theorem qs2 : (Cond.selects "SharedNights" ⟨"SharedNights", "isSky", "(I)Z"⟩ ⟨"SharedNights", "isSky", "(I)Z"⟩) ∈ lw_all := lw_g (lw_at lw_ms 2 rfl) rfl
theorem qs3 : (Cond.selects "SharedNights" ⟨"SharedNights", "readPlan", "()LSharedNights$Plan;"⟩ ⟨"SharedNights", "readPlan", "()LSharedNights$Plan;"⟩) ∈ lw_all := lw_g (lw_at lw_ms 3 rfl) rfl
theorem qs4 : (Cond.selects "SharedNights$Reader" ⟨"SharedNights$Reader", "token", "()V"⟩ ⟨"SharedNights$Reader", "token", "()V"⟩) ∈ lw_all := lw_g (lw_at lw_ms 4 rfl) rfl
theorem qs5 : (Cond.selects "SharedNights$Reader" ⟨"SharedNights$Reader", "kindAt", "(I)I"⟩ ⟨"SharedNights$Reader", "kindAt", "(I)I"⟩) ∈ lw_all := lw_g (lw_at lw_ms 5 rfl) rfl
theorem qs6 : (Cond.selects "SharedNights$Reader" ⟨"SharedNights$Reader", "numberBehind", "(Ljava/lang/String;II)I"⟩ ⟨"SharedNights$Reader", "numberBehind", "(Ljava/lang/String;II)I"⟩) ∈ lw_all := lw_g (lw_at lw_ms 6 rfl) rfl
theorem qs7 : (Cond.selects "SharedNights$Reader" ⟨"SharedNights$Reader", "word", "(Ljava/lang/String;)V"⟩ ⟨"SharedNights$Reader", "word", "(Ljava/lang/String;)V"⟩) ∈ lw_all := lw_g (lw_at lw_ms 7 rfl) rfl
theorem qs8 : (Cond.selects "SharedNights$Reader" ⟨"SharedNights$Reader", "isWord", "(Ljava/lang/String;)Z"⟩ ⟨"SharedNights$Reader", "isWord", "(Ljava/lang/String;)Z"⟩) ∈ lw_all := lw_g (lw_at lw_ms 8 rfl) rfl
theorem qs9 : (Cond.selects "SharedNights$Reader" ⟨"SharedNights$Reader", "need", "(ZI)V"⟩ ⟨"SharedNights$Reader", "need", "(ZI)V"⟩) ∈ lw_all := lw_g (lw_at lw_ms 9 rfl) rfl
theorem qs10 : (Cond.selects "java/lang/Throwable" ⟨"java/lang/Throwable", "fillInStackTrace", "(I)Ljava/lang/Throwable;"⟩ ⟨"java/lang/Throwable", "fillInStackTrace", "(I)Ljava/lang/Throwable;"⟩) ∈ lw_all := lw_g (lw_at lw_ms 10 rfl) rfl
theorem qs11 : (Cond.selects "SharedNights$Reader" ⟨"SharedNights$Reader", "number", "(II)I"⟩ ⟨"SharedNights$Reader", "number", "(II)I"⟩) ∈ lw_all := lw_g (lw_at lw_ms 11 rfl) rfl
theorem qs12 : (Cond.selects "SharedNights$Reader" ⟨"SharedNights$Reader", "sign", "(C)V"⟩ ⟨"SharedNights$Reader", "sign", "(C)V"⟩) ∈ lw_all := lw_g (lw_at lw_ms 12 rfl) rfl
theorem qs13 : (Cond.selects "SharedNights$Reader" ⟨"SharedNights$Reader", "isSign", "(C)Z"⟩ ⟨"SharedNights$Reader", "isSign", "(C)Z"⟩) ∈ lw_all := lw_g (lw_at lw_ms 13 rfl) rfl
theorem qs14 : (Cond.selects "SharedNights$Reader" ⟨"SharedNights$Reader", "step", "()LSharedNights$Look;"⟩ ⟨"SharedNights$Reader", "step", "()LSharedNights$Look;"⟩) ∈ lw_all := lw_g (lw_at lw_ms 14 rfl) rfl
theorem qs15 : (Cond.selects "SharedNights" ⟨"SharedNights", "isPlan", "(I)Z"⟩ ⟨"SharedNights", "isPlan", "(I)Z"⟩) ∈ lw_all := lw_g (lw_at lw_ms 15 rfl) rfl
theorem qs16 : (Cond.selects "SharedNights" ⟨"SharedNights", "remove", "(I)V"⟩ ⟨"SharedNights", "remove", "(I)V"⟩) ∈ lw_all := lw_g (lw_at lw_ms 16 rfl) rfl
theorem qs17 : (Cond.selects "SharedNights" ⟨"SharedNights", "fits", "(LSharedNights$Look;LSharedNights$Target;I)Z"⟩ ⟨"SharedNights", "fits", "(LSharedNights$Look;LSharedNights$Target;I)Z"⟩) ∈ lw_all := lw_g (lw_at lw_ms 17 rfl) rfl
theorem qs18 : (Cond.selects "SharedNights$Plan" ⟨"SharedNights$Plan", "come", "(I)V"⟩ ⟨"SharedNights$Plan", "come", "(I)V"⟩) ∈ lw_all := lw_g (lw_at lw_ms 18 rfl) rfl
theorem qs19 : (Cond.selects "SharedNights$Plan" ⟨"SharedNights$Plan", "later", "(I)LSharedNights$Later;"⟩ ⟨"SharedNights$Plan", "later", "(I)LSharedNights$Later;"⟩) ∈ lw_all := lw_g (lw_at lw_ms 19 rfl) rfl
theorem qs20 : (Cond.selects "SharedNights$Plan" ⟨"SharedNights$Plan", "layThird", "(II)V"⟩ ⟨"SharedNights$Plan", "layThird", "(II)V"⟩) ∈ lw_all := lw_g (lw_at lw_ms 20 rfl) rfl
theorem qs21 : (Cond.selects "SharedNights" ⟨"SharedNights", "layNight", "()V"⟩ ⟨"SharedNights", "layNight", "()V"⟩) ∈ lw_all := lw_g (lw_at lw_ms 21 rfl) rfl
theorem qs22 : (Cond.selects "SharedNights$Night" ⟨"SharedNights$Night", "look", "(II)V"⟩ ⟨"SharedNights$Night", "look", "(II)V"⟩) ∈ lw_all := lw_g (lw_at lw_ms 22 rfl) rfl
theorem qs23 : (Cond.selects "SharedNights$Night" ⟨"SharedNights$Night", "all", "(I)I"⟩ ⟨"SharedNights$Night", "all", "(I)I"⟩) ∈ lw_all := lw_g (lw_at lw_ms 23 rfl) rfl
theorem qs24 : (Cond.selects "SharedNights$Night" ⟨"SharedNights$Night", "next", "(II)Z"⟩ ⟨"SharedNights$Night", "next", "(II)Z"⟩) ∈ lw_all := lw_g (lw_at lw_ms 24 rfl) rfl
theorem qs25 : (Cond.selects "SharedNights$Night" ⟨"SharedNights$Night", "rest", "(I)I"⟩ ⟨"SharedNights$Night", "rest", "(I)I"⟩) ∈ lw_all := lw_g (lw_at lw_ms 25 rfl) rfl
theorem qs26 : (Cond.selects "SharedNights$Night" ⟨"SharedNights$Night", "goes", "(III)Z"⟩ ⟨"SharedNights$Night", "goes", "(III)Z"⟩) ∈ lw_all := lw_g (lw_at lw_ms 26 rfl) rfl
theorem qs27 : (Cond.selects "SharedNights" ⟨"SharedNights", "worthOf", "(III)I"⟩ ⟨"SharedNights", "worthOf", "(III)I"⟩) ∈ lw_all := lw_g (lw_at lw_ms 27 rfl) rfl
theorem qs28 : (Cond.selects "SharedNights" ⟨"SharedNights", "isInAt", "(II)Z"⟩ ⟨"SharedNights", "isInAt", "(II)Z"⟩) ∈ lw_all := lw_g (lw_at lw_ms 28 rfl) rfl
theorem qs29 : (Cond.selects "SharedNights" ⟨"SharedNights", "meets", "(II)Z"⟩ ⟨"SharedNights", "meets", "(II)Z"⟩) ∈ lw_all := lw_g (lw_at lw_ms 29 rfl) rfl
theorem qs30 : (Cond.selects "SharedNights" ⟨"SharedNights", "isRule", "(I)Z"⟩ ⟨"SharedNights", "isRule", "(I)Z"⟩) ∈ lw_all := lw_g (lw_at lw_ms 30 rfl) rfl
theorem qs31 : (Cond.selects "SharedNights$Watch" ⟨"SharedNights$Watch", "begin", "(I)I"⟩ ⟨"SharedNights$Watch", "begin", "(I)I"⟩) ∈ lw_all := lw_g (lw_at lw_ms 31 rfl) rfl
theorem qs32 : (Cond.selects "SharedNights$Watch" ⟨"SharedNights$Watch", "isWaiting", "(I)Z"⟩ ⟨"SharedNights$Watch", "isWaiting", "(I)Z"⟩) ∈ lw_all := lw_g (lw_at lw_ms 32 rfl) rfl
theorem qs33 : (Cond.selects "SharedNights$Watch" ⟨"SharedNights$Watch", "lose", "(I)V"⟩ ⟨"SharedNights$Watch", "lose", "(I)V"⟩) ∈ lw_all := lw_g (lw_at lw_ms 33 rfl) rfl
theorem qs34 : (Cond.selects "SharedNights$Watch" ⟨"SharedNights$Watch", "mayBegin", "(II)Z"⟩ ⟨"SharedNights$Watch", "mayBegin", "(II)Z"⟩) ∈ lw_all := lw_g (lw_at lw_ms 34 rfl) rfl
theorem qs35 : (Cond.selects "SharedNights$Watch" ⟨"SharedNights$Watch", "goOn", "(I)I"⟩ ⟨"SharedNights$Watch", "goOn", "(I)I"⟩) ∈ lw_all := lw_g (lw_at lw_ms 35 rfl) rfl
theorem qs36 : (Cond.selects "SharedNights" ⟨"SharedNights", "layValue", "(I)Z"⟩ ⟨"SharedNights", "layValue", "(I)Z"⟩) ∈ lw_all := lw_g (lw_at lw_ms 36 rfl) rfl
theorem qs37 : (Cond.selects "SharedNights" ⟨"SharedNights", "debtOf", "(I)I"⟩ ⟨"SharedNights", "debtOf", "(I)I"⟩) ∈ lw_all := lw_g (lw_at lw_ms 37 rfl) rfl
theorem qs38 : (Cond.selects "SharedNightsModel" ⟨"SharedNightsModel", "isTarget", "(I)Z"⟩ ⟨"SharedNightsModel", "isTarget", "(I)Z"⟩) ∈ lw_all := lw_g (lw_at lw_ms 38 rfl) rfl
theorem qs39 : (Cond.selects "SharedNightsModel" ⟨"SharedNightsModel", "isSlot", "(I)Z"⟩ ⟨"SharedNightsModel", "isSlot", "(I)Z"⟩) ∈ lw_all := lw_g (lw_at lw_ms 39 rfl) rfl
theorem qs40 : (Cond.selects "SharedNightsModel" ⟨"SharedNightsModel", "isVisible", "(II)Z"⟩ ⟨"SharedNightsModel", "isVisible", "(II)Z"⟩) ∈ lw_all := lw_g (lw_at lw_ms 40 rfl) rfl
theorem qs41 : (Cond.selects "SharedNightsModel" ⟨"SharedNightsModel", "airOf", "(II)I"⟩ ⟨"SharedNightsModel", "airOf", "(II)I"⟩) ∈ lw_all := lw_g (lw_at lw_ms 41 rfl) rfl
theorem qs42 : (Cond.selects "SharedNightsModel" ⟨"SharedNightsModel", "isSky", "(I)Z"⟩ ⟨"SharedNightsModel", "isSky", "(I)Z"⟩) ∈ lw_all := lw_g (lw_at lw_ms 42 rfl) rfl
theorem qs43 : (Cond.selects "SharedNightsModel" ⟨"SharedNightsModel", "isRead", "()Z"⟩ ⟨"SharedNightsModel", "isRead", "()Z"⟩) ∈ lw_all := lw_g (lw_at lw_ms 43 rfl) rfl
theorem qs44 : (Cond.selects "SharedNightsModel" ⟨"SharedNightsModel", "findTokens", "()V"⟩ ⟨"SharedNightsModel", "findTokens", "()V"⟩) ∈ lw_all := lw_g (lw_at lw_ms 44 rfl) rfl
theorem qs45 : (Cond.selects "SharedNightsModel" ⟨"SharedNightsModel", "isNumber", "(III)Z"⟩ ⟨"SharedNightsModel", "isNumber", "(III)Z"⟩) ∈ lw_all := lw_g (lw_at lw_ms 45 rfl) rfl
theorem qs46 : (Cond.selects "SharedNightsModel" ⟨"SharedNightsModel", "keep", "(III)V"⟩ ⟨"SharedNightsModel", "keep", "(III)V"⟩) ∈ lw_all := lw_g (lw_at lw_ms 46 rfl) rfl
theorem qs47 : (Cond.selects "SharedNightsModel" ⟨"SharedNightsModel", "isPlan", "(I)Z"⟩ ⟨"SharedNightsModel", "isPlan", "(I)Z"⟩) ∈ lw_all := lw_g (lw_at lw_ms 47 rfl) rfl
theorem qs48 : (Cond.selects "SharedNightsModel" ⟨"SharedNightsModel", "remove", "(I)V"⟩ ⟨"SharedNightsModel", "remove", "(I)V"⟩) ∈ lw_all := lw_g (lw_at lw_ms 48 rfl) rfl
theorem qs49 : (Cond.selects "SharedNightsModel" ⟨"SharedNightsModel", "findPlacements", "(I)V"⟩ ⟨"SharedNightsModel", "findPlacements", "(I)V"⟩) ∈ lw_all := lw_g (lw_at lw_ms 49 rfl) rfl
theorem qs50 : (Cond.selects "SharedNightsModel" ⟨"SharedNightsModel", "stepSlots", "(III)I"⟩ ⟨"SharedNightsModel", "stepSlots", "(III)I"⟩) ∈ lw_all := lw_g (lw_at lw_ms 50 rfl) rfl
theorem qs51 : (Cond.selects "SharedNightsModel" ⟨"SharedNightsModel", "ofStep", "(III)I"⟩ ⟨"SharedNightsModel", "ofStep", "(III)I"⟩) ∈ lw_all := lw_g (lw_at lw_ms 51 rfl) rfl
theorem qs52 : (Cond.selects "SharedNightsModel" ⟨"SharedNightsModel", "fitsStep", "(IIII)Z"⟩ ⟨"SharedNightsModel", "fitsStep", "(IIII)Z"⟩) ∈ lw_all := lw_g (lw_at lw_ms 52 rfl) rfl
theorem qs53 : (Cond.selects "SharedNightsModel" ⟨"SharedNightsModel", "fits", "(IIIIII)Z"⟩ ⟨"SharedNightsModel", "fits", "(IIIIII)Z"⟩) ∈ lw_all := lw_g (lw_at lw_ms 53 rfl) rfl
theorem qs54 : (Cond.selects "SharedNightsModel" ⟨"SharedNightsModel", "stepsOf", "(I)I"⟩ ⟨"SharedNightsModel", "stepsOf", "(I)I"⟩) ∈ lw_all := lw_g (lw_at lw_ms 54 rfl) rfl
theorem qs55 : (Cond.selects "SharedNightsModel" ⟨"SharedNightsModel", "addPlacement", "(II)V"⟩ ⟨"SharedNightsModel", "addPlacement", "(II)V"⟩) ∈ lw_all := lw_g (lw_at lw_ms 55 rfl) rfl
theorem qs56 : (Cond.selects "SharedNightsModel" ⟨"SharedNightsModel", "findAll", "()V"⟩ ⟨"SharedNightsModel", "findAll", "()V"⟩) ∈ lw_all := lw_g (lw_at lw_ms 56 rfl) rfl
theorem qs57 : (Cond.selects "SharedNightsModel" ⟨"SharedNightsModel", "findBest", "()V"⟩ ⟨"SharedNightsModel", "findBest", "()V"⟩) ∈ lw_all := lw_g (lw_at lw_ms 57 rfl) rfl
theorem qs58 : (Cond.selects "SharedNightsModel" ⟨"SharedNightsModel", "worthOf", "(I)I"⟩ ⟨"SharedNightsModel", "worthOf", "(I)I"⟩) ∈ lw_all := lw_g (lw_at lw_ms 58 rfl) rfl
theorem qs59 : (Cond.selects "SharedNightsModel" ⟨"SharedNightsModel", "slotsNeeded", "(I)I"⟩ ⟨"SharedNightsModel", "slotsNeeded", "(I)I"⟩) ∈ lw_all := lw_g (lw_at lw_ms 59 rfl) rfl
theorem qs60 : (Cond.selects "SharedNightsModel" ⟨"SharedNightsModel", "goWithAll", "(II)Z"⟩ ⟨"SharedNightsModel", "goWithAll", "(II)Z"⟩) ∈ lw_all := lw_g (lw_at lw_ms 60 rfl) rfl
theorem qs61 : (Cond.selects "SharedNightsModel" ⟨"SharedNightsModel", "goWith", "(IIII)Z"⟩ ⟨"SharedNightsModel", "goWith", "(IIII)Z"⟩) ∈ lw_all := lw_g (lw_at lw_ms 61 rfl) rfl
theorem qs62 : (Cond.selects "SharedNightsModel" ⟨"SharedNightsModel", "bestSet", "()I"⟩ ⟨"SharedNightsModel", "bestSet", "()I"⟩) ∈ lw_all := lw_g (lw_at lw_ms 62 rfl) rfl
theorem qs63 : (Cond.selects "SharedNightsModel" ⟨"SharedNightsModel", "isInAt", "(II)Z"⟩ ⟨"SharedNightsModel", "isInAt", "(II)Z"⟩) ∈ lw_all := lw_g (lw_at lw_ms 63 rfl) rfl
theorem qs64 : (Cond.selects "SharedNightsModel" ⟨"SharedNightsModel", "watchTo", "(III)V"⟩ ⟨"SharedNightsModel", "watchTo", "(III)V"⟩) ∈ lw_all := lw_g (lw_at lw_ms 64 rfl) rfl
theorem qs65 : (Cond.selects "SharedNightsModel" ⟨"SharedNightsModel", "breakChain", "(I)V"⟩ ⟨"SharedNightsModel", "breakChain", "(I)V"⟩) ∈ lw_all := lw_g (lw_at lw_ms 65 rfl) rfl
theorem qs66 : (Cond.selects "SharedNightsModel" ⟨"SharedNightsModel", "mayBegin", "(III)Z"⟩ ⟨"SharedNightsModel", "mayBegin", "(III)Z"⟩) ∈ lw_all := lw_g (lw_at lw_ms 66 rfl) rfl
theorem qs67 : (Cond.selects "SharedNightsModel" ⟨"SharedNightsModel", "isAhead", "(IIII)Z"⟩ ⟨"SharedNightsModel", "isAhead", "(IIII)Z"⟩) ∈ lw_all := lw_g (lw_at lw_ms 67 rfl) rfl
theorem qs68 : (Cond.selects "SharedNightsModel" ⟨"SharedNightsModel", "lastVisible", "(I)I"⟩ ⟨"SharedNightsModel", "lastVisible", "(I)I"⟩) ∈ lw_all := lw_g (lw_at lw_ms 68 rfl) rfl
theorem qs69 : (Cond.selects "SharedNightsModel" ⟨"SharedNightsModel", "findValue", "(I)V"⟩ ⟨"SharedNightsModel", "findValue", "(I)V"⟩) ∈ lw_all := lw_g (lw_at lw_ms 69 rfl) rfl
theorem qs70 : (Cond.selects "SharedNightsModel" ⟨"SharedNightsModel", "findAlert", "(IIIII)V"⟩ ⟨"SharedNightsModel", "findAlert", "(IIIII)V"⟩) ∈ lw_all := lw_g (lw_at lw_ms 70 rfl) rfl
theorem qs71 : (Cond.selects "SharedNightsModel" ⟨"SharedNightsModel", "debtOf", "(I)I"⟩ ⟨"SharedNightsModel", "debtOf", "(I)I"⟩) ∈ lw_all := lw_g (lw_at lw_ms 71 rfl) rfl
