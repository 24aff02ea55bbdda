-- ===== PART A: goes FIRST, ahead of the names: the tables' words, and 'selects' of the private methods out of them =====
/-- a private method of a class that the tables say can be made, by its rows of tables_1 -/
def lw_okq (q : MethodName × Nat) : Prop := (q.1.cls ≠ "java/lang/invoke/MethodHandle" ∧ q.1.cls ≠ "java/lang/invoke/VarHandle") ∧ Cond.instantiable q.1.cls q.2 ∈ tables_1 ∧ Cond.privateMethod q.1 ∈ tables_1 ∧ Cond.instanceMethod q.1 ∈ tables_1
set_option maxRecDepth 100000
theorem lw_t1 {w : Cond} (h : w ∈ tables_1_1) : w ∈ tables_1 := List.mem_append_left _ h
theorem lw_t2 {w : Cond} (h : w ∈ tables_1_2) : w ∈ tables_1 := List.mem_append_right _ (List.mem_append_left _ h)
theorem lw_t3 {w : Cond} (h : w ∈ tables_1_3) : w ∈ tables_1 := List.mem_append_right _ (List.mem_append_right _ (List.mem_append_left _ h))
theorem lw_t4 {w : Cond} (h : w ∈ tables_1_4) : w ∈ tables_1 := List.mem_append_right _ (List.mem_append_right _ (List.mem_append_right _ (List.mem_append_left _ h)))
theorem lw_t5 {w : Cond} (h : w ∈ tables_1_5) : w ∈ tables_1 := List.mem_append_right _ (List.mem_append_right _ (List.mem_append_right _ (List.mem_append_right _ (List.mem_append_left _ h))))
theorem lw_t6 {w : Cond} (h : w ∈ tables_1_6) : w ∈ tables_1 := List.mem_append_right _ (List.mem_append_right _ (List.mem_append_right _ (List.mem_append_right _ (List.mem_append_right _ (List.mem_append_left _ h)))))
theorem lw_t7 {w : Cond} (h : w ∈ tables_1_7) : w ∈ tables_1 := List.mem_append_right _ (List.mem_append_right _ (List.mem_append_right _ (List.mem_append_right _ (List.mem_append_right _ (List.mem_append_right _ (List.mem_append_left _ h))))))
theorem lw_t8 {w : Cond} (h : w ∈ tables_1_8) : w ∈ tables_1 := List.mem_append_right _ (List.mem_append_right _ (List.mem_append_right _ (List.mem_append_right _ (List.mem_append_right _ (List.mem_append_right _ (List.mem_append_right _ (List.mem_append_left _ h)))))))
theorem lw_t9 {w : Cond} (h : w ∈ tables_1_9) : w ∈ tables_1 := List.mem_append_right _ (List.mem_append_right _ (List.mem_append_right _ (List.mem_append_right _ (List.mem_append_right _ (List.mem_append_right _ (List.mem_append_right _ (List.mem_append_right _ (List.mem_append_left _ h))))))))
theorem lw_t10 {w : Cond} (h : w ∈ tables_1_10) : w ∈ tables_1 := List.mem_append_right _ (List.mem_append_right _ (List.mem_append_right _ (List.mem_append_right _ (List.mem_append_right _ (List.mem_append_right _ (List.mem_append_right _ (List.mem_append_right _ (List.mem_append_right _ h))))))))
theorem lw_p0 : lw_okq (⟨"SagMemory", "puts", "(I)V"⟩, 45) := ⟨⟨by decide +kernel, by decide +kernel⟩, lw_t1 (List.mem_of_getElem? (i := 35) rfl), lw_t2 (List.mem_of_getElem? (i := 133) rfl), lw_t2 (List.mem_of_getElem? (i := 134) rfl)⟩
theorem lw_p1 : lw_okq (⟨"SagMemory$Reader", "next", "()V"⟩, 7) := ⟨⟨by decide +kernel, by decide +kernel⟩, lw_t2 (List.mem_of_getElem? (i := 149) rfl), lw_t2 (List.mem_of_getElem? (i := 159) rfl), lw_t2 (List.mem_of_getElem? (i := 160) rfl)⟩
theorem lw_p2 : lw_okq (⟨"SagMemory$Reader", "isNext", "(II)Z"⟩, 7) := ⟨⟨by decide +kernel, by decide +kernel⟩, lw_t2 (List.mem_of_getElem? (i := 149) rfl), lw_t2 (List.mem_of_getElem? (i := 163) rfl), lw_t2 (List.mem_of_getElem? (i := 164) rfl)⟩
theorem lw_p3 : lw_okq (⟨"SagMemory$Reader", "first", "()V"⟩, 7) := ⟨⟨by decide +kernel, by decide +kernel⟩, lw_t2 (List.mem_of_getElem? (i := 149) rfl), lw_t2 (List.mem_of_getElem? (i := 206) rfl), lw_t2 (List.mem_of_getElem? (i := 207) rfl)⟩
theorem lw_p4 : lw_okq (⟨"SagMemory$Reader", "needs", "(Ljava/lang/String;)V"⟩, 7) := ⟨⟨by decide +kernel, by decide +kernel⟩, lw_t2 (List.mem_of_getElem? (i := 149) rfl), lw_t2 (List.mem_of_getElem? (i := 211) rfl), lw_t2 (List.mem_of_getElem? (i := 212) rfl)⟩
theorem lw_p5 : lw_okq (⟨"SagMemory$Reader", "takes", "(Ljava/lang/String;)Z"⟩, 7) := ⟨⟨by decide +kernel, by decide +kernel⟩, lw_t2 (List.mem_of_getElem? (i := 149) rfl), lw_t2 (List.mem_of_getElem? (i := 215) rfl), lw_t2 (List.mem_of_getElem? (i := 216) rfl)⟩
theorem lw_p6 : lw_okq (⟨"SagMemory$Reader", "is", "(Ljava/lang/String;)Z"⟩, 7) := ⟨⟨by decide +kernel, by decide +kernel⟩, lw_t2 (List.mem_of_getElem? (i := 149) rfl), lw_t2 (List.mem_of_getElem? (i := 219) rfl), lw_t2 (List.mem_of_getElem? (i := 220) rfl)⟩
theorem lw_p7 : lw_okq (⟨"SagMemory$Reader", "wrong", "(I)LSagMemory$Fault;"⟩, 7) := ⟨⟨by decide +kernel, by decide +kernel⟩, lw_t2 (List.mem_of_getElem? (i := 149) rfl), lw_t3 (List.mem_of_getElem? (i := 31) rfl), lw_t3 (List.mem_of_getElem? (i := 32) rfl)⟩
theorem lw_p8 : lw_okq (⟨"java/lang/NullPointerException", "getExtendedNPEMessage", "()Ljava/lang/String;"⟩, 8) := ⟨⟨by decide +kernel, by decide +kernel⟩, lw_t3 (List.mem_of_getElem? (i := 74) rfl), lw_t3 (List.mem_of_getElem? (i := 72) rfl), lw_t3 (List.mem_of_getElem? (i := 73) rfl)⟩
theorem lw_p9 : lw_okq (⟨"java/lang/Throwable", "fillInStackTrace", "(I)Ljava/lang/Throwable;"⟩, 6) := ⟨⟨by decide +kernel, by decide +kernel⟩, lw_t3 (List.mem_of_getElem? (i := 86) rfl), lw_t3 (List.mem_of_getElem? (i := 84) rfl), lw_t3 (List.mem_of_getElem? (i := 85) rfl)⟩
theorem lw_p10 : lw_okq (⟨"SagMemory$Reader", "told", "(Ljava/lang/String;II)I"⟩, 7) := ⟨⟨by decide +kernel, by decide +kernel⟩, lw_t2 (List.mem_of_getElem? (i := 149) rfl), lw_t3 (List.mem_of_getElem? (i := 120) rfl), lw_t3 (List.mem_of_getElem? (i := 121) rfl)⟩
theorem lw_p11 : lw_okq (⟨"SagMemory$Reader", "number", "(II)I"⟩, 7) := ⟨⟨by decide +kernel, by decide +kernel⟩, lw_t2 (List.mem_of_getElem? (i := 149) rfl), lw_t3 (List.mem_of_getElem? (i := 124) rfl), lw_t3 (List.mem_of_getElem? (i := 125) rfl)⟩
theorem lw_p12 : lw_okq (⟨"SagMemory$Reader", "line", "()V"⟩, 7) := ⟨⟨by decide +kernel, by decide +kernel⟩, lw_t2 (List.mem_of_getElem? (i := 149) rfl), lw_t3 (List.mem_of_getElem? (i := 130) rfl), lw_t3 (List.mem_of_getElem? (i := 131) rfl)⟩
theorem lw_p13 : lw_okq (⟨"SagMemory$Reader", "takes", "(Ljava/lang/String;Z)Z"⟩, 7) := ⟨⟨by decide +kernel, by decide +kernel⟩, lw_t2 (List.mem_of_getElem? (i := 149) rfl), lw_t3 (List.mem_of_getElem? (i := 135) rfl), lw_t3 (List.mem_of_getElem? (i := 136) rfl)⟩
theorem lw_p14 : lw_okq (⟨"SagMemory$Reader", "newWard", "()V"⟩, 7) := ⟨⟨by decide +kernel, by decide +kernel⟩, lw_t2 (List.mem_of_getElem? (i := 149) rfl), lw_t3 (List.mem_of_getElem? (i := 144) rfl), lw_t3 (List.mem_of_getElem? (i := 145) rfl)⟩
theorem lw_p15 : lw_okq (⟨"SagMemory", "isBridge", "(J)Z"⟩, 45) := ⟨⟨by decide +kernel, by decide +kernel⟩, lw_t1 (List.mem_of_getElem? (i := 35) rfl), lw_t3 (List.mem_of_getElem? (i := 160) rfl), lw_t3 (List.mem_of_getElem? (i := 161) rfl)⟩
def lw_privs_1 : List (MethodName × Nat) := [(⟨"SagMemory", "puts", "(I)V"⟩, 45), (⟨"SagMemory$Reader", "next", "()V"⟩, 7), (⟨"SagMemory$Reader", "isNext", "(II)Z"⟩, 7), (⟨"SagMemory$Reader", "first", "()V"⟩, 7), (⟨"SagMemory$Reader", "needs", "(Ljava/lang/String;)V"⟩, 7), (⟨"SagMemory$Reader", "takes", "(Ljava/lang/String;)Z"⟩, 7), (⟨"SagMemory$Reader", "is", "(Ljava/lang/String;)Z"⟩, 7), (⟨"SagMemory$Reader", "wrong", "(I)LSagMemory$Fault;"⟩, 7), (⟨"java/lang/NullPointerException", "getExtendedNPEMessage", "()Ljava/lang/String;"⟩, 8), (⟨"java/lang/Throwable", "fillInStackTrace", "(I)Ljava/lang/Throwable;"⟩, 6), (⟨"SagMemory$Reader", "told", "(Ljava/lang/String;II)I"⟩, 7), (⟨"SagMemory$Reader", "number", "(II)I"⟩, 7), (⟨"SagMemory$Reader", "line", "()V"⟩, 7), (⟨"SagMemory$Reader", "takes", "(Ljava/lang/String;Z)Z"⟩, 7), (⟨"SagMemory$Reader", "newWard", "()V"⟩, 7), (⟨"SagMemory", "isBridge", "(J)Z"⟩, 45)]
theorem lw_r1 : ∀ q ∈ lw_privs_1, lw_okq q := List.forall_mem_cons.mpr ⟨lw_p0, List.forall_mem_cons.mpr ⟨lw_p1, List.forall_mem_cons.mpr ⟨lw_p2, List.forall_mem_cons.mpr ⟨lw_p3, List.forall_mem_cons.mpr ⟨lw_p4, List.forall_mem_cons.mpr ⟨lw_p5, List.forall_mem_cons.mpr ⟨lw_p6, List.forall_mem_cons.mpr ⟨lw_p7, List.forall_mem_cons.mpr ⟨lw_p8, List.forall_mem_cons.mpr ⟨lw_p9, List.forall_mem_cons.mpr ⟨lw_p10, List.forall_mem_cons.mpr ⟨lw_p11, List.forall_mem_cons.mpr ⟨lw_p12, List.forall_mem_cons.mpr ⟨lw_p13, List.forall_mem_cons.mpr ⟨lw_p14, List.forall_mem_cons.mpr ⟨lw_p15, fun _ h => absurd h List.not_mem_nil⟩⟩⟩⟩⟩⟩⟩⟩⟩⟩⟩⟩⟩⟩⟩⟩
theorem lw_p16 : lw_okq (⟨"SagMemory", "isCart", "(J)Z"⟩, 45) := ⟨⟨by decide +kernel, by decide +kernel⟩, lw_t1 (List.mem_of_getElem? (i := 35) rfl), lw_t3 (List.mem_of_getElem? (i := 171) rfl), lw_t3 (List.mem_of_getElem? (i := 172) rfl)⟩
theorem lw_p17 : lw_okq (⟨"SagMemory", "asItIs", "()V"⟩, 45) := ⟨⟨by decide +kernel, by decide +kernel⟩, lw_t1 (List.mem_of_getElem? (i := 35) rfl), lw_t3 (List.mem_of_getElem? (i := 183) rfl), lw_t3 (List.mem_of_getElem? (i := 184) rfl)⟩
theorem lw_p18 : lw_okq (⟨"SagMemory", "asksCart", "(I)Z"⟩, 45) := ⟨⟨by decide +kernel, by decide +kernel⟩, lw_t1 (List.mem_of_getElem? (i := 35) rfl), lw_t3 (List.mem_of_getElem? (i := 194) rfl), lw_t3 (List.mem_of_getElem? (i := 195) rfl)⟩
theorem lw_p19 : lw_okq (⟨"SagMemory", "asksValley", "()Z"⟩, 45) := ⟨⟨by decide +kernel, by decide +kernel⟩, lw_t1 (List.mem_of_getElem? (i := 35) rfl), lw_t3 (List.mem_of_getElem? (i := 198) rfl), lw_t3 (List.mem_of_getElem? (i := 199) rfl)⟩
theorem lw_p20 : lw_okq (⟨"SagMemory", "lays", "()V"⟩, 45) := ⟨⟨by decide +kernel, by decide +kernel⟩, lw_t1 (List.mem_of_getElem? (i := 35) rfl), lw_t3 (List.mem_of_getElem? (i := 202) rfl), lw_t3 (List.mem_of_getElem? (i := 203) rfl)⟩
theorem lw_p21 : lw_okq (⟨"SagMemory", "freezes", "()V"⟩, 45) := ⟨⟨by decide +kernel, by decide +kernel⟩, lw_t1 (List.mem_of_getElem? (i := 35) rfl), lw_t3 (List.mem_of_getElem? (i := 209) rfl), lw_t3 (List.mem_of_getElem? (i := 210) rfl)⟩
theorem lw_p22 : lw_okq (⟨"SagMemory", "comesTo", "(I)I"⟩, 45) := ⟨⟨by decide +kernel, by decide +kernel⟩, lw_t1 (List.mem_of_getElem? (i := 35) rfl), lw_t3 (List.mem_of_getElem? (i := 213) rfl), lw_t3 (List.mem_of_getElem? (i := 214) rfl)⟩
theorem lw_p23 : lw_okq (⟨"SagMemory", "goes", "(II)V"⟩, 45) := ⟨⟨by decide +kernel, by decide +kernel⟩, lw_t1 (List.mem_of_getElem? (i := 35) rfl), lw_t3 (List.mem_of_getElem? (i := 217) rfl), lw_t3 (List.mem_of_getElem? (i := 218) rfl)⟩
theorem lw_p24 : lw_okq (⟨"SagMemory", "sagOf", "(I)I"⟩, 45) := ⟨⟨by decide +kernel, by decide +kernel⟩, lw_t1 (List.mem_of_getElem? (i := 35) rfl), lw_t3 (List.mem_of_getElem? (i := 221) rfl), lw_t3 (List.mem_of_getElem? (i := 222) rfl)⟩
theorem lw_p25 : lw_okq (⟨"SagMemory", "lastOf", "(I)I"⟩, 45) := ⟨⟨by decide +kernel, by decide +kernel⟩, lw_t1 (List.mem_of_getElem? (i := 35) rfl), lw_t3 (List.mem_of_getElem? (i := 225) rfl), lw_t3 (List.mem_of_getElem? (i := 226) rfl)⟩
theorem lw_p26 : lw_okq (⟨"SagMemory", "isValley", "()Z"⟩, 45) := ⟨⟨by decide +kernel, by decide +kernel⟩, lw_t1 (List.mem_of_getElem? (i := 35) rfl), lw_t4 (List.mem_of_getElem? (i := 13) rfl), lw_t4 (List.mem_of_getElem? (i := 14) rfl)⟩
theorem lw_p27 : lw_okq (⟨"SagMemory", "asksBridge", "(I)Z"⟩, 45) := ⟨⟨by decide +kernel, by decide +kernel⟩, lw_t1 (List.mem_of_getElem? (i := 35) rfl), lw_t4 (List.mem_of_getElem? (i := 25) rfl), lw_t4 (List.mem_of_getElem? (i := 26) rfl)⟩
theorem lw_p28 : lw_okq (⟨"SagMemory", "overOf", "(I)I"⟩, 45) := ⟨⟨by decide +kernel, by decide +kernel⟩, lw_t1 (List.mem_of_getElem? (i := 35) rfl), lw_t4 (List.mem_of_getElem? (i := 29) rfl), lw_t4 (List.mem_of_getElem? (i := 30) rfl)⟩
theorem lw_p29 : lw_okq (⟨"SagMemory", "asks", "(II)Z"⟩, 45) := ⟨⟨by decide +kernel, by decide +kernel⟩, lw_t1 (List.mem_of_getElem? (i := 35) rfl), lw_t4 (List.mem_of_getElem? (i := 41) rfl), lw_t4 (List.mem_of_getElem? (i := 42) rfl)⟩
theorem lw_p30 : lw_okq (⟨"SagMemory", "sagWith", "(III)I"⟩, 45) := ⟨⟨by decide +kernel, by decide +kernel⟩, lw_t1 (List.mem_of_getElem? (i := 35) rfl), lw_t4 (List.mem_of_getElem? (i := 113) rfl), lw_t4 (List.mem_of_getElem? (i := 114) rfl)⟩
theorem lw_p31 : lw_okq (⟨"SagMemory", "asksOrders", "()Z"⟩, 45) := ⟨⟨by decide +kernel, by decide +kernel⟩, lw_t1 (List.mem_of_getElem? (i := 35) rfl), lw_t4 (List.mem_of_getElem? (i := 125) rfl), lw_t4 (List.mem_of_getElem? (i := 126) rfl)⟩
def lw_privs_2 : List (MethodName × Nat) := [(⟨"SagMemory", "isCart", "(J)Z"⟩, 45), (⟨"SagMemory", "asItIs", "()V"⟩, 45), (⟨"SagMemory", "asksCart", "(I)Z"⟩, 45), (⟨"SagMemory", "asksValley", "()Z"⟩, 45), (⟨"SagMemory", "lays", "()V"⟩, 45), (⟨"SagMemory", "freezes", "()V"⟩, 45), (⟨"SagMemory", "comesTo", "(I)I"⟩, 45), (⟨"SagMemory", "goes", "(II)V"⟩, 45), (⟨"SagMemory", "sagOf", "(I)I"⟩, 45), (⟨"SagMemory", "lastOf", "(I)I"⟩, 45), (⟨"SagMemory", "isValley", "()Z"⟩, 45), (⟨"SagMemory", "asksBridge", "(I)Z"⟩, 45), (⟨"SagMemory", "overOf", "(I)I"⟩, 45), (⟨"SagMemory", "asks", "(II)Z"⟩, 45), (⟨"SagMemory", "sagWith", "(III)I"⟩, 45), (⟨"SagMemory", "asksOrders", "()Z"⟩, 45)]
theorem lw_r2 : ∀ q ∈ lw_privs_2, lw_okq q := List.forall_mem_cons.mpr ⟨lw_p16, List.forall_mem_cons.mpr ⟨lw_p17, List.forall_mem_cons.mpr ⟨lw_p18, List.forall_mem_cons.mpr ⟨lw_p19, List.forall_mem_cons.mpr ⟨lw_p20, List.forall_mem_cons.mpr ⟨lw_p21, List.forall_mem_cons.mpr ⟨lw_p22, List.forall_mem_cons.mpr ⟨lw_p23, List.forall_mem_cons.mpr ⟨lw_p24, List.forall_mem_cons.mpr ⟨lw_p25, List.forall_mem_cons.mpr ⟨lw_p26, List.forall_mem_cons.mpr ⟨lw_p27, List.forall_mem_cons.mpr ⟨lw_p28, List.forall_mem_cons.mpr ⟨lw_p29, List.forall_mem_cons.mpr ⟨lw_p30, List.forall_mem_cons.mpr ⟨lw_p31, fun _ h => absurd h List.not_mem_nil⟩⟩⟩⟩⟩⟩⟩⟩⟩⟩⟩⟩⟩⟩⟩⟩
theorem lw_p32 : lw_okq (⟨"SagMemory", "starts", "()V"⟩, 45) := ⟨⟨by decide +kernel, by decide +kernel⟩, lw_t1 (List.mem_of_getElem? (i := 35) rfl), lw_t4 (List.mem_of_getElem? (i := 129) rfl), lw_t4 (List.mem_of_getElem? (i := 130) rfl)⟩
theorem lw_p33 : lw_okq (⟨"SagMemory", "orders", "(II)V"⟩, 45) := ⟨⟨by decide +kernel, by decide +kernel⟩, lw_t1 (List.mem_of_getElem? (i := 35) rfl), lw_t4 (List.mem_of_getElem? (i := 134) rfl), lw_t4 (List.mem_of_getElem? (i := 135) rfl)⟩
theorem lw_p34 : lw_okq (⟨"SagMemory", "keeps", "([I)V"⟩, 45) := ⟨⟨by decide +kernel, by decide +kernel⟩, lw_t1 (List.mem_of_getElem? (i := 35) rfl), lw_t4 (List.mem_of_getElem? (i := 138) rfl), lw_t4 (List.mem_of_getElem? (i := 139) rfl)⟩
theorem lw_p35 : lw_okq (⟨"SagMemory", "laysSag", "()I"⟩, 45) := ⟨⟨by decide +kernel, by decide +kernel⟩, lw_t1 (List.mem_of_getElem? (i := 35) rfl), lw_t4 (List.mem_of_getElem? (i := 142) rfl), lw_t4 (List.mem_of_getElem? (i := 143) rfl)⟩
theorem lw_p36 : lw_okq (⟨"SagMemory", "allSag", "()I"⟩, 45) := ⟨⟨by decide +kernel, by decide +kernel⟩, lw_t1 (List.mem_of_getElem? (i := 35) rfl), lw_t4 (List.mem_of_getElem? (i := 146) rfl), lw_t4 (List.mem_of_getElem? (i := 147) rfl)⟩
theorem lw_p37 : lw_okq (⟨"SagMemory", "asksRoutes", "()Z"⟩, 45) := ⟨⟨by decide +kernel, by decide +kernel⟩, lw_t1 (List.mem_of_getElem? (i := 35) rfl), lw_t4 (List.mem_of_getElem? (i := 173) rfl), lw_t4 (List.mem_of_getElem? (i := 174) rfl)⟩
theorem lw_p38 : lw_okq (⟨"SagMemory", "routes", "(I)V"⟩, 45) := ⟨⟨by decide +kernel, by decide +kernel⟩, lw_t1 (List.mem_of_getElem? (i := 35) rfl), lw_t4 (List.mem_of_getElem? (i := 177) rfl), lw_t4 (List.mem_of_getElem? (i := 178) rfl)⟩
theorem lw_p39 : lw_okq (⟨"SagMemory", "asksBack", "(II)I"⟩, 45) := ⟨⟨by decide +kernel, by decide +kernel⟩, lw_t1 (List.mem_of_getElem? (i := 35) rfl), lw_t4 (List.mem_of_getElem? (i := 205) rfl), lw_t4 (List.mem_of_getElem? (i := 206) rfl)⟩
theorem lw_p40 : lw_okq (⟨"SagMemory", "all", "()I"⟩, 45) := ⟨⟨by decide +kernel, by decide +kernel⟩, lw_t1 (List.mem_of_getElem? (i := 35) rfl), lw_t5 (List.mem_of_getElem? (i := 0) rfl), lw_t5 (List.mem_of_getElem? (i := 1) rfl)⟩
theorem lw_p41 : lw_okq (⟨"SagMemory", "toldBy", "(I)I"⟩, 45) := ⟨⟨by decide +kernel, by decide +kernel⟩, lw_t1 (List.mem_of_getElem? (i := 35) rfl), lw_t5 (List.mem_of_getElem? (i := 4) rfl), lw_t5 (List.mem_of_getElem? (i := 5) rfl)⟩
theorem lw_p42 : lw_okq (⟨"SagMemory", "isLeft", "(II)Z"⟩, 45) := ⟨⟨by decide +kernel, by decide +kernel⟩, lw_t1 (List.mem_of_getElem? (i := 35) rfl), lw_t5 (List.mem_of_getElem? (i := 8) rfl), lw_t5 (List.mem_of_getElem? (i := 9) rfl)⟩
theorem lw_p43 : lw_okq (⟨"SagMemory", "askOf", "()I"⟩, 45) := ⟨⟨by decide +kernel, by decide +kernel⟩, lw_t1 (List.mem_of_getElem? (i := 35) rfl), lw_t5 (List.mem_of_getElem? (i := 40) rfl), lw_t5 (List.mem_of_getElem? (i := 41) rfl)⟩
theorem lw_p44 : lw_okq (⟨"SagMemory", "asksLoads", "(II)I"⟩, 45) := ⟨⟨by decide +kernel, by decide +kernel⟩, lw_t1 (List.mem_of_getElem? (i := 35) rfl), lw_t5 (List.mem_of_getElem? (i := 52) rfl), lw_t5 (List.mem_of_getElem? (i := 53) rfl)⟩
theorem lw_p45 : lw_okq (⟨"SagMemory", "asksBook", "(I)I"⟩, 45) := ⟨⟨by decide +kernel, by decide +kernel⟩, lw_t1 (List.mem_of_getElem? (i := 35) rfl), lw_t5 (List.mem_of_getElem? (i := 56) rfl), lw_t5 (List.mem_of_getElem? (i := 57) rfl)⟩
theorem lw_p46 : lw_okq (⟨"SagMemory", "laysLoads", "(II)V"⟩, 45) := ⟨⟨by decide +kernel, by decide +kernel⟩, lw_t1 (List.mem_of_getElem? (i := 35) rfl), lw_t5 (List.mem_of_getElem? (i := 61) rfl), lw_t5 (List.mem_of_getElem? (i := 62) rfl)⟩
theorem lw_p47 : lw_okq (⟨"SagMemory", "isSo", "(I)Z"⟩, 45) := ⟨⟨by decide +kernel, by decide +kernel⟩, lw_t1 (List.mem_of_getElem? (i := 35) rfl), lw_t5 (List.mem_of_getElem? (i := 65) rfl), lw_t5 (List.mem_of_getElem? (i := 66) rfl)⟩
def lw_privs_3 : List (MethodName × Nat) := [(⟨"SagMemory", "starts", "()V"⟩, 45), (⟨"SagMemory", "orders", "(II)V"⟩, 45), (⟨"SagMemory", "keeps", "([I)V"⟩, 45), (⟨"SagMemory", "laysSag", "()I"⟩, 45), (⟨"SagMemory", "allSag", "()I"⟩, 45), (⟨"SagMemory", "asksRoutes", "()Z"⟩, 45), (⟨"SagMemory", "routes", "(I)V"⟩, 45), (⟨"SagMemory", "asksBack", "(II)I"⟩, 45), (⟨"SagMemory", "all", "()I"⟩, 45), (⟨"SagMemory", "toldBy", "(I)I"⟩, 45), (⟨"SagMemory", "isLeft", "(II)Z"⟩, 45), (⟨"SagMemory", "askOf", "()I"⟩, 45), (⟨"SagMemory", "asksLoads", "(II)I"⟩, 45), (⟨"SagMemory", "asksBook", "(I)I"⟩, 45), (⟨"SagMemory", "laysLoads", "(II)V"⟩, 45), (⟨"SagMemory", "isSo", "(I)Z"⟩, 45)]
theorem lw_r3 : ∀ q ∈ lw_privs_3, lw_okq q := List.forall_mem_cons.mpr ⟨lw_p32, List.forall_mem_cons.mpr ⟨lw_p33, List.forall_mem_cons.mpr ⟨lw_p34, List.forall_mem_cons.mpr ⟨lw_p35, List.forall_mem_cons.mpr ⟨lw_p36, List.forall_mem_cons.mpr ⟨lw_p37, List.forall_mem_cons.mpr ⟨lw_p38, List.forall_mem_cons.mpr ⟨lw_p39, List.forall_mem_cons.mpr ⟨lw_p40, List.forall_mem_cons.mpr ⟨lw_p41, List.forall_mem_cons.mpr ⟨lw_p42, List.forall_mem_cons.mpr ⟨lw_p43, List.forall_mem_cons.mpr ⟨lw_p44, List.forall_mem_cons.mpr ⟨lw_p45, List.forall_mem_cons.mpr ⟨lw_p46, List.forall_mem_cons.mpr ⟨lw_p47, fun _ h => absurd h List.not_mem_nil⟩⟩⟩⟩⟩⟩⟩⟩⟩⟩⟩⟩⟩⟩⟩⟩
theorem lw_p48 : lw_okq (⟨"SagMemory", "number", "(II)I"⟩, 45) := ⟨⟨by decide +kernel, by decide +kernel⟩, lw_t1 (List.mem_of_getElem? (i := 35) rfl), lw_t5 (List.mem_of_getElem? (i := 69) rfl), lw_t5 (List.mem_of_getElem? (i := 70) rfl)⟩
theorem lw_p49 : lw_okq (⟨"SagMemory", "sagBy", "(I)I"⟩, 45) := ⟨⟨by decide +kernel, by decide +kernel⟩, lw_t1 (List.mem_of_getElem? (i := 35) rfl), lw_t5 (List.mem_of_getElem? (i := 96) rfl), lw_t5 (List.mem_of_getElem? (i := 97) rfl)⟩
theorem lw_p50 : lw_okq (⟨"SagMemory", "asksRests", "(II)Z"⟩, 45) := ⟨⟨by decide +kernel, by decide +kernel⟩, lw_t1 (List.mem_of_getElem? (i := 35) rfl), lw_t5 (List.mem_of_getElem? (i := 124) rfl), lw_t5 (List.mem_of_getElem? (i := 125) rfl)⟩
theorem lw_p51 : lw_okq (⟨"SagMemory", "areTwo", "(II)Z"⟩, 45) := ⟨⟨by decide +kernel, by decide +kernel⟩, lw_t1 (List.mem_of_getElem? (i := 35) rfl), lw_t5 (List.mem_of_getElem? (i := 128) rfl), lw_t5 (List.mem_of_getElem? (i := 129) rfl)⟩
theorem lw_p52 : lw_okq (⟨"SagMemory", "losesOf", "(I)I"⟩, 45) := ⟨⟨by decide +kernel, by decide +kernel⟩, lw_t1 (List.mem_of_getElem? (i := 35) rfl), lw_t5 (List.mem_of_getElem? (i := 132) rfl), lw_t5 (List.mem_of_getElem? (i := 133) rfl)⟩
theorem lw_p53 : lw_okq (⟨"SagMemory", "isRest", "(II)Z"⟩, 45) := ⟨⟨by decide +kernel, by decide +kernel⟩, lw_t1 (List.mem_of_getElem? (i := 35) rfl), lw_t5 (List.mem_of_getElem? (i := 136) rfl), lw_t5 (List.mem_of_getElem? (i := 137) rfl)⟩
theorem lw_p54 : lw_okq (⟨"SagMemory", "laysChances", "(I)V"⟩, 45) := ⟨⟨by decide +kernel, by decide +kernel⟩, lw_t1 (List.mem_of_getElem? (i := 35) rfl), lw_t5 (List.mem_of_getElem? (i := 148) rfl), lw_t5 (List.mem_of_getElem? (i := 149) rfl)⟩
theorem lw_p55 : lw_okq (⟨"SagMemory", "draws", "(J)V"⟩, 45) := ⟨⟨by decide +kernel, by decide +kernel⟩, lw_t1 (List.mem_of_getElem? (i := 35) rfl), lw_t5 (List.mem_of_getElem? (i := 165) rfl), lw_t5 (List.mem_of_getElem? (i := 166) rfl)⟩
theorem lw_p56 : lw_okq (⟨"SagMemory", "keeps", "(II)I"⟩, 45) := ⟨⟨by decide +kernel, by decide +kernel⟩, lw_t1 (List.mem_of_getElem? (i := 35) rfl), lw_t5 (List.mem_of_getElem? (i := 183) rfl), lw_t5 (List.mem_of_getElem? (i := 184) rfl)⟩
theorem lw_p57 : lw_okq (⟨"java/util/ArrayList", "add", "(Ljava/lang/Object;[Ljava/lang/Object;I)V"⟩, 3) := ⟨⟨by decide +kernel, by decide +kernel⟩, lw_t1 (List.mem_of_getElem? (i := 197) rfl), lw_t5 (List.mem_of_getElem? (i := 221) rfl), lw_t5 (List.mem_of_getElem? (i := 222) rfl)⟩
theorem lw_p58 : lw_okq (⟨"java/util/ArrayList", "grow", "()[Ljava/lang/Object;"⟩, 3) := ⟨⟨by decide +kernel, by decide +kernel⟩, lw_t1 (List.mem_of_getElem? (i := 197) rfl), lw_t5 (List.mem_of_getElem? (i := 225) rfl), lw_t5 (List.mem_of_getElem? (i := 226) rfl)⟩
theorem lw_p59 : lw_okq (⟨"java/util/ArrayList", "grow", "(I)[Ljava/lang/Object;"⟩, 3) := ⟨⟨by decide +kernel, by decide +kernel⟩, lw_t1 (List.mem_of_getElem? (i := 197) rfl), lw_t5 (List.mem_of_getElem? (i := 229) rfl), lw_t5 (List.mem_of_getElem? (i := 230) rfl)⟩
theorem lw_p60 : lw_okq (⟨"SagMemoryModel", "four", "(I)V"⟩, 59) := ⟨⟨by decide +kernel, by decide +kernel⟩, lw_t6 (List.mem_of_getElem? (i := 148) rfl), lw_t7 (List.mem_of_getElem? (i := 119) rfl), lw_t7 (List.mem_of_getElem? (i := 120) rfl)⟩
theorem lw_p61 : lw_okq (⟨"SagMemoryModel", "clears", "()V"⟩, 59) := ⟨⟨by decide +kernel, by decide +kernel⟩, lw_t6 (List.mem_of_getElem? (i := 148) rfl), lw_t7 (List.mem_of_getElem? (i := 135) rfl), lw_t7 (List.mem_of_getElem? (i := 136) rfl)⟩
theorem lw_p62 : lw_okq (⟨"SagMemoryModel", "tells", "(II)V"⟩, 59) := ⟨⟨by decide +kernel, by decide +kernel⟩, lw_t6 (List.mem_of_getElem? (i := 148) rfl), lw_t7 (List.mem_of_getElem? (i := 139) rfl), lw_t7 (List.mem_of_getElem? (i := 140) rfl)⟩
theorem lw_p63 : lw_okq (⟨"SagMemoryModel", "begins", "()V"⟩, 59) := ⟨⟨by decide +kernel, by decide +kernel⟩, lw_t6 (List.mem_of_getElem? (i := 148) rfl), lw_t7 (List.mem_of_getElem? (i := 143) rfl), lw_t7 (List.mem_of_getElem? (i := 144) rfl)⟩
def lw_privs_4 : List (MethodName × Nat) := [(⟨"SagMemory", "number", "(II)I"⟩, 45), (⟨"SagMemory", "sagBy", "(I)I"⟩, 45), (⟨"SagMemory", "asksRests", "(II)Z"⟩, 45), (⟨"SagMemory", "areTwo", "(II)Z"⟩, 45), (⟨"SagMemory", "losesOf", "(I)I"⟩, 45), (⟨"SagMemory", "isRest", "(II)Z"⟩, 45), (⟨"SagMemory", "laysChances", "(I)V"⟩, 45), (⟨"SagMemory", "draws", "(J)V"⟩, 45), (⟨"SagMemory", "keeps", "(II)I"⟩, 45), (⟨"java/util/ArrayList", "add", "(Ljava/lang/Object;[Ljava/lang/Object;I)V"⟩, 3), (⟨"java/util/ArrayList", "grow", "()[Ljava/lang/Object;"⟩, 3), (⟨"java/util/ArrayList", "grow", "(I)[Ljava/lang/Object;"⟩, 3), (⟨"SagMemoryModel", "four", "(I)V"⟩, 59), (⟨"SagMemoryModel", "clears", "()V"⟩, 59), (⟨"SagMemoryModel", "tells", "(II)V"⟩, 59), (⟨"SagMemoryModel", "begins", "()V"⟩, 59)]
theorem lw_r4 : ∀ q ∈ lw_privs_4, lw_okq q := List.forall_mem_cons.mpr ⟨lw_p48, List.forall_mem_cons.mpr ⟨lw_p49, List.forall_mem_cons.mpr ⟨lw_p50, List.forall_mem_cons.mpr ⟨lw_p51, List.forall_mem_cons.mpr ⟨lw_p52, List.forall_mem_cons.mpr ⟨lw_p53, List.forall_mem_cons.mpr ⟨lw_p54, List.forall_mem_cons.mpr ⟨lw_p55, List.forall_mem_cons.mpr ⟨lw_p56, List.forall_mem_cons.mpr ⟨lw_p57, List.forall_mem_cons.mpr ⟨lw_p58, List.forall_mem_cons.mpr ⟨lw_p59, List.forall_mem_cons.mpr ⟨lw_p60, List.forall_mem_cons.mpr ⟨lw_p61, List.forall_mem_cons.mpr ⟨lw_p62, List.forall_mem_cons.mpr ⟨lw_p63, fun _ h => absurd h List.not_mem_nil⟩⟩⟩⟩⟩⟩⟩⟩⟩⟩⟩⟩⟩⟩⟩⟩
theorem lw_p64 : lw_okq (⟨"SagMemoryModel", "next", "()V"⟩, 59) := ⟨⟨by decide +kernel, by decide +kernel⟩, lw_t6 (List.mem_of_getElem? (i := 148) rfl), lw_t7 (List.mem_of_getElem? (i := 147) rfl), lw_t7 (List.mem_of_getElem? (i := 148) rfl)⟩
theorem lw_p65 : lw_okq (⟨"SagMemoryModel", "isByte", "(III)Z"⟩, 59) := ⟨⟨by decide +kernel, by decide +kernel⟩, lw_t6 (List.mem_of_getElem? (i := 148) rfl), lw_t7 (List.mem_of_getElem? (i := 151) rfl), lw_t7 (List.mem_of_getElem? (i := 152) rfl)⟩
theorem lw_p66 : lw_okq (⟨"SagMemoryModel", "isGood", "()Z"⟩, 59) := ⟨⟨by decide +kernel, by decide +kernel⟩, lw_t6 (List.mem_of_getElem? (i := 148) rfl), lw_t7 (List.mem_of_getElem? (i := 160) rfl), lw_t7 (List.mem_of_getElem? (i := 161) rfl)⟩
theorem lw_p67 : lw_okq (⟨"SagMemoryModel", "asks", "(J)V"⟩, 59) := ⟨⟨by decide +kernel, by decide +kernel⟩, lw_t6 (List.mem_of_getElem? (i := 148) rfl), lw_t7 (List.mem_of_getElem? (i := 165) rfl), lw_t7 (List.mem_of_getElem? (i := 166) rfl)⟩
theorem lw_p68 : lw_okq (⟨"SagMemoryModel", "takes", "(J)Z"⟩, 59) := ⟨⟨by decide +kernel, by decide +kernel⟩, lw_t6 (List.mem_of_getElem? (i := 148) rfl), lw_t7 (List.mem_of_getElem? (i := 169) rfl), lw_t7 (List.mem_of_getElem? (i := 170) rfl)⟩
theorem lw_p69 : lw_okq (⟨"SagMemoryModel", "is", "(J)Z"⟩, 59) := ⟨⟨by decide +kernel, by decide +kernel⟩, lw_t6 (List.mem_of_getElem? (i := 148) rfl), lw_t7 (List.mem_of_getElem? (i := 173) rfl), lw_t7 (List.mem_of_getElem? (i := 174) rfl)⟩
theorem lw_p70 : lw_okq (⟨"SagMemoryModel", "fails", "(I)V"⟩, 59) := ⟨⟨by decide +kernel, by decide +kernel⟩, lw_t6 (List.mem_of_getElem? (i := 148) rfl), lw_t7 (List.mem_of_getElem? (i := 177) rfl), lw_t7 (List.mem_of_getElem? (i := 178) rfl)⟩
theorem lw_p71 : lw_okq (⟨"SagMemoryModel", "number", "(JII)I"⟩, 59) := ⟨⟨by decide +kernel, by decide +kernel⟩, lw_t6 (List.mem_of_getElem? (i := 148) rfl), lw_t7 (List.mem_of_getElem? (i := 182) rfl), lw_t7 (List.mem_of_getElem? (i := 183) rfl)⟩
theorem lw_p72 : lw_okq (⟨"SagMemoryModel", "number", "(II)I"⟩, 59) := ⟨⟨by decide +kernel, by decide +kernel⟩, lw_t6 (List.mem_of_getElem? (i := 148) rfl), lw_t7 (List.mem_of_getElem? (i := 186) rfl), lw_t7 (List.mem_of_getElem? (i := 187) rfl)⟩
theorem lw_p73 : lw_okq (⟨"SagMemoryModel", "lineHere", "()V"⟩, 59) := ⟨⟨by decide +kernel, by decide +kernel⟩, lw_t6 (List.mem_of_getElem? (i := 148) rfl), lw_t7 (List.mem_of_getElem? (i := 192) rfl), lw_t7 (List.mem_of_getElem? (i := 193) rfl)⟩
theorem lw_p74 : lw_okq (⟨"SagMemoryModel", "isRoom", "(ZII)Z"⟩, 59) := ⟨⟨by decide +kernel, by decide +kernel⟩, lw_t6 (List.mem_of_getElem? (i := 148) rfl), lw_t7 (List.mem_of_getElem? (i := 197) rfl), lw_t7 (List.mem_of_getElem? (i := 198) rfl)⟩
theorem lw_p75 : lw_okq (⟨"SagMemoryModel", "hasRead", "(I)I"⟩, 59) := ⟨⟨by decide +kernel, by decide +kernel⟩, lw_t6 (List.mem_of_getElem? (i := 148) rfl), lw_t7 (List.mem_of_getElem? (i := 201) rfl), lw_t7 (List.mem_of_getElem? (i := 202) rfl)⟩
theorem lw_p76 : lw_okq (⟨"SagMemoryModel", "bridgeLine", "()V"⟩, 59) := ⟨⟨by decide +kernel, by decide +kernel⟩, lw_t6 (List.mem_of_getElem? (i := 148) rfl), lw_t7 (List.mem_of_getElem? (i := 205) rfl), lw_t7 (List.mem_of_getElem? (i := 206) rfl)⟩
theorem lw_p77 : lw_okq (⟨"SagMemoryModel", "cartLine", "()V"⟩, 59) := ⟨⟨by decide +kernel, by decide +kernel⟩, lw_t6 (List.mem_of_getElem? (i := 148) rfl), lw_t7 (List.mem_of_getElem? (i := 212) rfl), lw_t7 (List.mem_of_getElem? (i := 213) rfl)⟩
theorem lw_p78 : lw_okq (⟨"SagMemoryModel", "bridgeHere", "()I"⟩, 59) := ⟨⟨by decide +kernel, by decide +kernel⟩, lw_t6 (List.mem_of_getElem? (i := 148) rfl), lw_t7 (List.mem_of_getElem? (i := 217) rfl), lw_t7 (List.mem_of_getElem? (i := 218) rfl)⟩
theorem lw_p79 : lw_okq (⟨"SagMemoryModel", "wardLine", "()V"⟩, 59) := ⟨⟨by decide +kernel, by decide +kernel⟩, lw_t6 (List.mem_of_getElem? (i := 148) rfl), lw_t7 (List.mem_of_getElem? (i := 222) rfl), lw_t7 (List.mem_of_getElem? (i := 223) rfl)⟩
def lw_privs_5 : List (MethodName × Nat) := [(⟨"SagMemoryModel", "next", "()V"⟩, 59), (⟨"SagMemoryModel", "isByte", "(III)Z"⟩, 59), (⟨"SagMemoryModel", "isGood", "()Z"⟩, 59), (⟨"SagMemoryModel", "asks", "(J)V"⟩, 59), (⟨"SagMemoryModel", "takes", "(J)Z"⟩, 59), (⟨"SagMemoryModel", "is", "(J)Z"⟩, 59), (⟨"SagMemoryModel", "fails", "(I)V"⟩, 59), (⟨"SagMemoryModel", "number", "(JII)I"⟩, 59), (⟨"SagMemoryModel", "number", "(II)I"⟩, 59), (⟨"SagMemoryModel", "lineHere", "()V"⟩, 59), (⟨"SagMemoryModel", "isRoom", "(ZII)Z"⟩, 59), (⟨"SagMemoryModel", "hasRead", "(I)I"⟩, 59), (⟨"SagMemoryModel", "bridgeLine", "()V"⟩, 59), (⟨"SagMemoryModel", "cartLine", "()V"⟩, 59), (⟨"SagMemoryModel", "bridgeHere", "()I"⟩, 59), (⟨"SagMemoryModel", "wardLine", "()V"⟩, 59)]
theorem lw_r5 : ∀ q ∈ lw_privs_5, lw_okq q := List.forall_mem_cons.mpr ⟨lw_p64, List.forall_mem_cons.mpr ⟨lw_p65, List.forall_mem_cons.mpr ⟨lw_p66, List.forall_mem_cons.mpr ⟨lw_p67, List.forall_mem_cons.mpr ⟨lw_p68, List.forall_mem_cons.mpr ⟨lw_p69, List.forall_mem_cons.mpr ⟨lw_p70, List.forall_mem_cons.mpr ⟨lw_p71, List.forall_mem_cons.mpr ⟨lw_p72, List.forall_mem_cons.mpr ⟨lw_p73, List.forall_mem_cons.mpr ⟨lw_p74, List.forall_mem_cons.mpr ⟨lw_p75, List.forall_mem_cons.mpr ⟨lw_p76, List.forall_mem_cons.mpr ⟨lw_p77, List.forall_mem_cons.mpr ⟨lw_p78, List.forall_mem_cons.mpr ⟨lw_p79, fun _ h => absurd h List.not_mem_nil⟩⟩⟩⟩⟩⟩⟩⟩⟩⟩⟩⟩⟩⟩⟩⟩
theorem lw_p80 : lw_okq (⟨"SagMemoryModel", "frostLine", "()V"⟩, 59) := ⟨⟨by decide +kernel, by decide +kernel⟩, lw_t6 (List.mem_of_getElem? (i := 148) rfl), lw_t7 (List.mem_of_getElem? (i := 229) rfl), lw_t7 (List.mem_of_getElem? (i := 230) rfl)⟩
theorem lw_p81 : lw_okq (⟨"SagMemoryModel", "ends", "()V"⟩, 59) := ⟨⟨by decide +kernel, by decide +kernel⟩, lw_t6 (List.mem_of_getElem? (i := 148) rfl), lw_t7 (List.mem_of_getElem? (i := 234) rfl), lw_t7 (List.mem_of_getElem? (i := 235) rfl)⟩
theorem lw_p82 : lw_okq (⟨"SagMemoryModel", "isOver", "()V"⟩, 59) := ⟨⟨by decide +kernel, by decide +kernel⟩, lw_t6 (List.mem_of_getElem? (i := 148) rfl), lw_t7 (List.mem_of_getElem? (i := 238) rfl), lw_t7 (List.mem_of_getElem? (i := 239) rfl)⟩
theorem lw_p83 : lw_okq (⟨"SagMemoryModel", "copyValley", "(II)V"⟩, 59) := ⟨⟨by decide +kernel, by decide +kernel⟩, lw_t6 (List.mem_of_getElem? (i := 148) rfl), lw_t8 (List.mem_of_getElem? (i := 2) rfl), lw_t8 (List.mem_of_getElem? (i := 3) rfl)⟩
theorem lw_p84 : lw_okq (⟨"SagMemoryModel", "isBridge", "(J)Z"⟩, 59) := ⟨⟨by decide +kernel, by decide +kernel⟩, lw_t6 (List.mem_of_getElem? (i := 148) rfl), lw_t8 (List.mem_of_getElem? (i := 13) rfl), lw_t8 (List.mem_of_getElem? (i := 14) rfl)⟩
theorem lw_p85 : lw_okq (⟨"SagMemoryModel", "bridges", "()I"⟩, 59) := ⟨⟨by decide +kernel, by decide +kernel⟩, lw_t6 (List.mem_of_getElem? (i := 148) rfl), lw_t8 (List.mem_of_getElem? (i := 17) rfl), lw_t8 (List.mem_of_getElem? (i := 18) rfl)⟩
theorem lw_p86 : lw_okq (⟨"SagMemoryModel", "isCart", "(J)Z"⟩, 59) := ⟨⟨by decide +kernel, by decide +kernel⟩, lw_t6 (List.mem_of_getElem? (i := 148) rfl), lw_t8 (List.mem_of_getElem? (i := 28) rfl), lw_t8 (List.mem_of_getElem? (i := 29) rfl)⟩
theorem lw_p87 : lw_okq (⟨"SagMemoryModel", "carts", "()I"⟩, 59) := ⟨⟨by decide +kernel, by decide +kernel⟩, lw_t6 (List.mem_of_getElem? (i := 148) rfl), lw_t8 (List.mem_of_getElem? (i := 32) rfl), lw_t8 (List.mem_of_getElem? (i := 33) rfl)⟩
theorem lw_p88 : lw_okq (⟨"SagMemoryModel", "lays", "()V"⟩, 59) := ⟨⟨by decide +kernel, by decide +kernel⟩, lw_t6 (List.mem_of_getElem? (i := 148) rfl), lw_t8 (List.mem_of_getElem? (i := 45) rfl), lw_t8 (List.mem_of_getElem? (i := 46) rfl)⟩
theorem lw_p89 : lw_okq (⟨"SagMemoryModel", "laysNow", "()V"⟩, 59) := ⟨⟨by decide +kernel, by decide +kernel⟩, lw_t6 (List.mem_of_getElem? (i := 148) rfl), lw_t8 (List.mem_of_getElem? (i := 56) rfl), lw_t8 (List.mem_of_getElem? (i := 57) rfl)⟩
theorem lw_p90 : lw_okq (⟨"SagMemoryModel", "runs", "()V"⟩, 59) := ⟨⟨by decide +kernel, by decide +kernel⟩, lw_t6 (List.mem_of_getElem? (i := 148) rfl), lw_t8 (List.mem_of_getElem? (i := 60) rfl), lw_t8 (List.mem_of_getElem? (i := 61) rfl)⟩
theorem lw_p91 : lw_okq (⟨"SagMemoryModel", "begin", "()V"⟩, 59) := ⟨⟨by decide +kernel, by decide +kernel⟩, lw_t6 (List.mem_of_getElem? (i := 148) rfl), lw_t8 (List.mem_of_getElem? (i := 64) rfl), lw_t8 (List.mem_of_getElem? (i := 65) rfl)⟩
theorem lw_p92 : lw_okq (⟨"SagMemoryModel", "turn", "(I)V"⟩, 59) := ⟨⟨by decide +kernel, by decide +kernel⟩, lw_t6 (List.mem_of_getElem? (i := 148) rfl), lw_t8 (List.mem_of_getElem? (i := 68) rfl), lw_t8 (List.mem_of_getElem? (i := 69) rfl)⟩
theorem lw_p93 : lw_okq (⟨"SagMemoryModel", "freezes", "()V"⟩, 59) := ⟨⟨by decide +kernel, by decide +kernel⟩, lw_t6 (List.mem_of_getElem? (i := 148) rfl), lw_t8 (List.mem_of_getElem? (i := 72) rfl), lw_t8 (List.mem_of_getElem? (i := 73) rfl)⟩
theorem lw_p94 : lw_okq (⟨"SagMemoryModel", "wayOf", "(I)I"⟩, 59) := ⟨⟨by decide +kernel, by decide +kernel⟩, lw_t6 (List.mem_of_getElem? (i := 148) rfl), lw_t8 (List.mem_of_getElem? (i := 76) rfl), lw_t8 (List.mem_of_getElem? (i := 77) rfl)⟩
theorem lw_p95 : lw_okq (⟨"SagMemoryModel", "sagOf", "(I)I"⟩, 59) := ⟨⟨by decide +kernel, by decide +kernel⟩, lw_t6 (List.mem_of_getElem? (i := 148) rfl), lw_t8 (List.mem_of_getElem? (i := 80) rfl), lw_t8 (List.mem_of_getElem? (i := 81) rfl)⟩
def lw_privs_6 : List (MethodName × Nat) := [(⟨"SagMemoryModel", "frostLine", "()V"⟩, 59), (⟨"SagMemoryModel", "ends", "()V"⟩, 59), (⟨"SagMemoryModel", "isOver", "()V"⟩, 59), (⟨"SagMemoryModel", "copyValley", "(II)V"⟩, 59), (⟨"SagMemoryModel", "isBridge", "(J)Z"⟩, 59), (⟨"SagMemoryModel", "bridges", "()I"⟩, 59), (⟨"SagMemoryModel", "isCart", "(J)Z"⟩, 59), (⟨"SagMemoryModel", "carts", "()I"⟩, 59), (⟨"SagMemoryModel", "lays", "()V"⟩, 59), (⟨"SagMemoryModel", "laysNow", "()V"⟩, 59), (⟨"SagMemoryModel", "runs", "()V"⟩, 59), (⟨"SagMemoryModel", "begin", "()V"⟩, 59), (⟨"SagMemoryModel", "turn", "(I)V"⟩, 59), (⟨"SagMemoryModel", "freezes", "()V"⟩, 59), (⟨"SagMemoryModel", "wayOf", "(I)I"⟩, 59), (⟨"SagMemoryModel", "sagOf", "(I)I"⟩, 59)]
theorem lw_r6 : ∀ q ∈ lw_privs_6, lw_okq q := List.forall_mem_cons.mpr ⟨lw_p80, List.forall_mem_cons.mpr ⟨lw_p81, List.forall_mem_cons.mpr ⟨lw_p82, List.forall_mem_cons.mpr ⟨lw_p83, List.forall_mem_cons.mpr ⟨lw_p84, List.forall_mem_cons.mpr ⟨lw_p85, List.forall_mem_cons.mpr ⟨lw_p86, List.forall_mem_cons.mpr ⟨lw_p87, List.forall_mem_cons.mpr ⟨lw_p88, List.forall_mem_cons.mpr ⟨lw_p89, List.forall_mem_cons.mpr ⟨lw_p90, List.forall_mem_cons.mpr ⟨lw_p91, List.forall_mem_cons.mpr ⟨lw_p92, List.forall_mem_cons.mpr ⟨lw_p93, List.forall_mem_cons.mpr ⟨lw_p94, List.forall_mem_cons.mpr ⟨lw_p95, fun _ h => absurd h List.not_mem_nil⟩⟩⟩⟩⟩⟩⟩⟩⟩⟩⟩⟩⟩⟩⟩⟩
theorem lw_p96 : lw_okq (⟨"SagMemoryModel", "lastOf", "(I)I"⟩, 59) := ⟨⟨by decide +kernel, by decide +kernel⟩, lw_t6 (List.mem_of_getElem? (i := 148) rfl), lw_t8 (List.mem_of_getElem? (i := 84) rfl), lw_t8 (List.mem_of_getElem? (i := 85) rfl)⟩
theorem lw_p97 : lw_okq (⟨"SagMemoryModel", "crosses", "(III)I"⟩, 59) := ⟨⟨by decide +kernel, by decide +kernel⟩, lw_t6 (List.mem_of_getElem? (i := 148) rfl), lw_t8 (List.mem_of_getElem? (i := 88) rfl), lw_t8 (List.mem_of_getElem? (i := 89) rfl)⟩
theorem lw_p98 : lw_okq (⟨"SagMemoryModel", "overOf", "(I)I"⟩, 59) := ⟨⟨by decide +kernel, by decide +kernel⟩, lw_t6 (List.mem_of_getElem? (i := 148) rfl), lw_t8 (List.mem_of_getElem? (i := 100) rfl), lw_t8 (List.mem_of_getElem? (i := 101) rfl)⟩
theorem lw_p99 : lw_okq (⟨"SagMemoryModel", "isValley", "()Z"⟩, 59) := ⟨⟨by decide +kernel, by decide +kernel⟩, lw_t6 (List.mem_of_getElem? (i := 148) rfl), lw_t8 (List.mem_of_getElem? (i := 108) rfl), lw_t8 (List.mem_of_getElem? (i := 109) rfl)⟩
theorem lw_p100 : lw_okq (⟨"SagMemoryModel", "isThen", "(II)Z"⟩, 59) := ⟨⟨by decide +kernel, by decide +kernel⟩, lw_t6 (List.mem_of_getElem? (i := 148) rfl), lw_t8 (List.mem_of_getElem? (i := 116) rfl), lw_t8 (List.mem_of_getElem? (i := 117) rfl)⟩
theorem lw_p101 : lw_okq (⟨"SagMemoryModel", "paysOf", "(I)I"⟩, 59) := ⟨⟨by decide +kernel, by decide +kernel⟩, lw_t6 (List.mem_of_getElem? (i := 148) rfl), lw_t8 (List.mem_of_getElem? (i := 152) rfl), lw_t8 (List.mem_of_getElem? (i := 153) rfl)⟩
theorem lw_p102 : lw_okq (⟨"SagMemoryModel", "sagWith", "(III)I"⟩, 59) := ⟨⟨by decide +kernel, by decide +kernel⟩, lw_t6 (List.mem_of_getElem? (i := 148) rfl), lw_t8 (List.mem_of_getElem? (i := 192) rfl), lw_t8 (List.mem_of_getElem? (i := 193) rfl)⟩
theorem lw_p103 : lw_okq (⟨"SagMemoryModel", "laysOrders", "()V"⟩, 59) := ⟨⟨by decide +kernel, by decide +kernel⟩, lw_t6 (List.mem_of_getElem? (i := 148) rfl), lw_t8 (List.mem_of_getElem? (i := 204) rfl), lw_t8 (List.mem_of_getElem? (i := 205) rfl)⟩
theorem lw_p104 : lw_okq (⟨"SagMemoryModel", "ordersFrom", "(II)V"⟩, 59) := ⟨⟨by decide +kernel, by decide +kernel⟩, lw_t6 (List.mem_of_getElem? (i := 148) rfl), lw_t8 (List.mem_of_getElem? (i := 208) rfl), lw_t8 (List.mem_of_getElem? (i := 209) rfl)⟩
theorem lw_p105 : lw_okq (⟨"SagMemoryModel", "sagAll", "()I"⟩, 59) := ⟨⟨by decide +kernel, by decide +kernel⟩, lw_t6 (List.mem_of_getElem? (i := 148) rfl), lw_t8 (List.mem_of_getElem? (i := 212) rfl), lw_t8 (List.mem_of_getElem? (i := 213) rfl)⟩
theorem lw_p106 : lw_okq (⟨"SagMemoryModel", "overAll", "()I"⟩, 59) := ⟨⟨by decide +kernel, by decide +kernel⟩, lw_t6 (List.mem_of_getElem? (i := 148) rfl), lw_t8 (List.mem_of_getElem? (i := 216) rfl), lw_t8 (List.mem_of_getElem? (i := 217) rfl)⟩
theorem lw_p107 : lw_okq (⟨"SagMemoryModel", "laysRoutes", "()V"⟩, 59) := ⟨⟨by decide +kernel, by decide +kernel⟩, lw_t6 (List.mem_of_getElem? (i := 148) rfl), lw_t8 (List.mem_of_getElem? (i := 236) rfl), lw_t8 (List.mem_of_getElem? (i := 237) rfl)⟩
theorem lw_p108 : lw_okq (⟨"SagMemoryModel", "routesFrom", "(I)V"⟩, 59) := ⟨⟨by decide +kernel, by decide +kernel⟩, lw_t6 (List.mem_of_getElem? (i := 148) rfl), lw_t9 (List.mem_of_getElem? (i := 0) rfl), lw_t9 (List.mem_of_getElem? (i := 1) rfl)⟩
theorem lw_p109 : lw_okq (⟨"SagMemoryModel", "sagsNow", "()I"⟩, 59) := ⟨⟨by decide +kernel, by decide +kernel⟩, lw_t6 (List.mem_of_getElem? (i := 148) rfl), lw_t9 (List.mem_of_getElem? (i := 16) rfl), lw_t9 (List.mem_of_getElem? (i := 17) rfl)⟩
theorem lw_p110 : lw_okq (⟨"SagMemoryModel", "sagWithout", "(I)I"⟩, 59) := ⟨⟨by decide +kernel, by decide +kernel⟩, lw_t6 (List.mem_of_getElem? (i := 148) rfl), lw_t9 (List.mem_of_getElem? (i := 20) rfl), lw_t9 (List.mem_of_getElem? (i := 21) rfl)⟩
theorem lw_p111 : lw_okq (⟨"SagMemoryModel", "whyNot", "(II)I"⟩, 59) := ⟨⟨by decide +kernel, by decide +kernel⟩, lw_t6 (List.mem_of_getElem? (i := 148) rfl), lw_t9 (List.mem_of_getElem? (i := 36) rfl), lw_t9 (List.mem_of_getElem? (i := 37) rfl)⟩
def lw_privs_7 : List (MethodName × Nat) := [(⟨"SagMemoryModel", "lastOf", "(I)I"⟩, 59), (⟨"SagMemoryModel", "crosses", "(III)I"⟩, 59), (⟨"SagMemoryModel", "overOf", "(I)I"⟩, 59), (⟨"SagMemoryModel", "isValley", "()Z"⟩, 59), (⟨"SagMemoryModel", "isThen", "(II)Z"⟩, 59), (⟨"SagMemoryModel", "paysOf", "(I)I"⟩, 59), (⟨"SagMemoryModel", "sagWith", "(III)I"⟩, 59), (⟨"SagMemoryModel", "laysOrders", "()V"⟩, 59), (⟨"SagMemoryModel", "ordersFrom", "(II)V"⟩, 59), (⟨"SagMemoryModel", "sagAll", "()I"⟩, 59), (⟨"SagMemoryModel", "overAll", "()I"⟩, 59), (⟨"SagMemoryModel", "laysRoutes", "()V"⟩, 59), (⟨"SagMemoryModel", "routesFrom", "(I)V"⟩, 59), (⟨"SagMemoryModel", "sagsNow", "()I"⟩, 59), (⟨"SagMemoryModel", "sagWithout", "(I)I"⟩, 59), (⟨"SagMemoryModel", "whyNot", "(II)I"⟩, 59)]
theorem lw_r7 : ∀ q ∈ lw_privs_7, lw_okq q := List.forall_mem_cons.mpr ⟨lw_p96, List.forall_mem_cons.mpr ⟨lw_p97, List.forall_mem_cons.mpr ⟨lw_p98, List.forall_mem_cons.mpr ⟨lw_p99, List.forall_mem_cons.mpr ⟨lw_p100, List.forall_mem_cons.mpr ⟨lw_p101, List.forall_mem_cons.mpr ⟨lw_p102, List.forall_mem_cons.mpr ⟨lw_p103, List.forall_mem_cons.mpr ⟨lw_p104, List.forall_mem_cons.mpr ⟨lw_p105, List.forall_mem_cons.mpr ⟨lw_p106, List.forall_mem_cons.mpr ⟨lw_p107, List.forall_mem_cons.mpr ⟨lw_p108, List.forall_mem_cons.mpr ⟨lw_p109, List.forall_mem_cons.mpr ⟨lw_p110, List.forall_mem_cons.mpr ⟨lw_p111, fun _ h => absurd h List.not_mem_nil⟩⟩⟩⟩⟩⟩⟩⟩⟩⟩⟩⟩⟩⟩⟩⟩
theorem lw_p112 : lw_okq (⟨"SagMemoryModel", "laysSets", "(II)V"⟩, 59) := ⟨⟨by decide +kernel, by decide +kernel⟩, lw_t6 (List.mem_of_getElem? (i := 148) rfl), lw_t9 (List.mem_of_getElem? (i := 40) rfl), lw_t9 (List.mem_of_getElem? (i := 41) rfl)⟩
theorem lw_p113 : lw_okq (⟨"SagMemoryModel", "isLeft", "(III)Z"⟩, 59) := ⟨⟨by decide +kernel, by decide +kernel⟩, lw_t6 (List.mem_of_getElem? (i := 148) rfl), lw_t9 (List.mem_of_getElem? (i := 44) rfl), lw_t9 (List.mem_of_getElem? (i := 45) rfl)⟩
theorem lw_p114 : lw_okq (⟨"SagMemoryModel", "whyNotLoads", "(II)I"⟩, 59) := ⟨⟨by decide +kernel, by decide +kernel⟩, lw_t6 (List.mem_of_getElem? (i := 148) rfl), lw_t9 (List.mem_of_getElem? (i := 75) rfl), lw_t9 (List.mem_of_getElem? (i := 76) rfl)⟩
theorem lw_p115 : lw_okq (⟨"SagMemoryModel", "whyNotSags", "(I)I"⟩, 59) := ⟨⟨by decide +kernel, by decide +kernel⟩, lw_t6 (List.mem_of_getElem? (i := 148) rfl), lw_t9 (List.mem_of_getElem? (i := 79) rfl), lw_t9 (List.mem_of_getElem? (i := 80) rfl)⟩
theorem lw_p116 : lw_okq (⟨"SagMemoryModel", "laysLies", "(II)V"⟩, 59) := ⟨⟨by decide +kernel, by decide +kernel⟩, lw_t6 (List.mem_of_getElem? (i := 148) rfl), lw_t9 (List.mem_of_getElem? (i := 84) rfl), lw_t9 (List.mem_of_getElem? (i := 85) rfl)⟩
theorem lw_p117 : lw_okq (⟨"SagMemoryModel", "isSo", "(I)Z"⟩, 59) := ⟨⟨by decide +kernel, by decide +kernel⟩, lw_t6 (List.mem_of_getElem? (i := 148) rfl), lw_t9 (List.mem_of_getElem? (i := 88) rfl), lw_t9 (List.mem_of_getElem? (i := 89) rfl)⟩
theorem lw_p118 : lw_okq (⟨"SagMemoryModel", "sagBy", "(I)I"⟩, 59) := ⟨⟨by decide +kernel, by decide +kernel⟩, lw_t6 (List.mem_of_getElem? (i := 148) rfl), lw_t9 (List.mem_of_getElem? (i := 108) rfl), lw_t9 (List.mem_of_getElem? (i := 109) rfl)⟩
theorem lw_p119 : lw_okq (⟨"SagMemoryModel", "areTwo", "(II)Z"⟩, 59) := ⟨⟨by decide +kernel, by decide +kernel⟩, lw_t6 (List.mem_of_getElem? (i := 148) rfl), lw_t9 (List.mem_of_getElem? (i := 137) rfl), lw_t9 (List.mem_of_getElem? (i := 138) rfl)⟩
theorem lw_p120 : lw_okq (⟨"SagMemoryModel", "laysGame", "(II)V"⟩, 59) := ⟨⟨by decide +kernel, by decide +kernel⟩, lw_t6 (List.mem_of_getElem? (i := 148) rfl), lw_t9 (List.mem_of_getElem? (i := 141) rfl), lw_t9 (List.mem_of_getElem? (i := 142) rfl)⟩
theorem lw_p121 : lw_okq (⟨"SagMemoryModel", "lossOf", "(I)I"⟩, 59) := ⟨⟨by decide +kernel, by decide +kernel⟩, lw_t6 (List.mem_of_getElem? (i := 148) rfl), lw_t9 (List.mem_of_getElem? (i := 145) rfl), lw_t9 (List.mem_of_getElem? (i := 146) rfl)⟩
theorem lw_p122 : lw_okq (⟨"SagMemoryModel", "isRest", "(II)Z"⟩, 59) := ⟨⟨by decide +kernel, by decide +kernel⟩, lw_t6 (List.mem_of_getElem? (i := 148) rfl), lw_t9 (List.mem_of_getElem? (i := 149) rfl), lw_t9 (List.mem_of_getElem? (i := 150) rfl)⟩
theorem lw_p123 : lw_okq (⟨"SagMemoryModel", "weightOf", "(IZ)J"⟩, 59) := ⟨⟨by decide +kernel, by decide +kernel⟩, lw_t6 (List.mem_of_getElem? (i := 148) rfl), lw_t9 (List.mem_of_getElem? (i := 161) rfl), lw_t9 (List.mem_of_getElem? (i := 162) rfl)⟩
theorem lw_p124 : lw_okq (⟨"SagMemoryModel", "tens", "()J"⟩, 59) := ⟨⟨by decide +kernel, by decide +kernel⟩, lw_t6 (List.mem_of_getElem? (i := 148) rfl), lw_t9 (List.mem_of_getElem? (i := 165) rfl), lw_t9 (List.mem_of_getElem? (i := 166) rfl)⟩
theorem lw_p125 : lw_okq (⟨"SagMemoryModel", "draws", "(J)V"⟩, 59) := ⟨⟨by decide +kernel, by decide +kernel⟩, lw_t6 (List.mem_of_getElem? (i := 148) rfl), lw_t9 (List.mem_of_getElem? (i := 183) rfl), lw_t9 (List.mem_of_getElem? (i := 184) rfl)⟩
theorem lw_p126 : lw_okq (⟨"SagMemoryModel", "does", "(III)V"⟩, 59) := ⟨⟨by decide +kernel, by decide +kernel⟩, lw_t6 (List.mem_of_getElem? (i := 148) rfl), lw_t9 (List.mem_of_getElem? (i := 200) rfl), lw_t9 (List.mem_of_getElem? (i := 201) rfl)⟩
def lw_privs_8 : List (MethodName × Nat) := [(⟨"SagMemoryModel", "laysSets", "(II)V"⟩, 59), (⟨"SagMemoryModel", "isLeft", "(III)Z"⟩, 59), (⟨"SagMemoryModel", "whyNotLoads", "(II)I"⟩, 59), (⟨"SagMemoryModel", "whyNotSags", "(I)I"⟩, 59), (⟨"SagMemoryModel", "laysLies", "(II)V"⟩, 59), (⟨"SagMemoryModel", "isSo", "(I)Z"⟩, 59), (⟨"SagMemoryModel", "sagBy", "(I)I"⟩, 59), (⟨"SagMemoryModel", "areTwo", "(II)Z"⟩, 59), (⟨"SagMemoryModel", "laysGame", "(II)V"⟩, 59), (⟨"SagMemoryModel", "lossOf", "(I)I"⟩, 59), (⟨"SagMemoryModel", "isRest", "(II)Z"⟩, 59), (⟨"SagMemoryModel", "weightOf", "(IZ)J"⟩, 59), (⟨"SagMemoryModel", "tens", "()J"⟩, 59), (⟨"SagMemoryModel", "draws", "(J)V"⟩, 59), (⟨"SagMemoryModel", "does", "(III)V"⟩, 59)]
theorem lw_r8 : ∀ q ∈ lw_privs_8, lw_okq q := List.forall_mem_cons.mpr ⟨lw_p112, List.forall_mem_cons.mpr ⟨lw_p113, List.forall_mem_cons.mpr ⟨lw_p114, List.forall_mem_cons.mpr ⟨lw_p115, List.forall_mem_cons.mpr ⟨lw_p116, List.forall_mem_cons.mpr ⟨lw_p117, List.forall_mem_cons.mpr ⟨lw_p118, List.forall_mem_cons.mpr ⟨lw_p119, List.forall_mem_cons.mpr ⟨lw_p120, List.forall_mem_cons.mpr ⟨lw_p121, List.forall_mem_cons.mpr ⟨lw_p122, List.forall_mem_cons.mpr ⟨lw_p123, List.forall_mem_cons.mpr ⟨lw_p124, List.forall_mem_cons.mpr ⟨lw_p125, List.forall_mem_cons.mpr ⟨lw_p126, fun _ h => absurd h List.not_mem_nil⟩⟩⟩⟩⟩⟩⟩⟩⟩⟩⟩⟩⟩⟩⟩
def lw_privs : List (MethodName × Nat) := lw_privs_1 ++ (lw_privs_2 ++ (lw_privs_3 ++ (lw_privs_4 ++ (lw_privs_5 ++ (lw_privs_6 ++ (lw_privs_7 ++ (lw_privs_8)))))))
def lw_tbl : List Cond := k2_sels lw_privs ++ tables_1
theorem lw_privs_ok : ∀ q ∈ lw_privs, lw_okq q := by
  show ∀ q ∈ lw_privs_1 ++ (lw_privs_2 ++ (lw_privs_3 ++ (lw_privs_4 ++ (lw_privs_5 ++ (lw_privs_6 ++ (lw_privs_7 ++ (lw_privs_8))))))), lw_okq q
  exact List.forall_mem_append.mpr ⟨lw_r1, List.forall_mem_append.mpr ⟨lw_r2, List.forall_mem_append.mpr ⟨lw_r3, List.forall_mem_append.mpr ⟨lw_r4, List.forall_mem_append.mpr ⟨lw_r5, List.forall_mem_append.mpr ⟨lw_r6, List.forall_mem_append.mpr ⟨lw_r7, lw_r8⟩⟩⟩⟩⟩⟩⟩
-- ===== ONE list of words for every method: the tables' words that hold all through a run =====
def lw_all : List Cond := lw_tbl.filter goodWord
/-- a word of the tables by its place: claim/WORDS.tsv -/
theorem lw_w {w : Cond} (i : Nat) (h : lw_tbl[i]? = some w) (g : goodWord w = true) : w ∈ lw_all := List.mem_filter.mpr ⟨List.mem_of_getElem? h, g⟩
theorem lw_all_tbl {w : Cond} (h : w ∈ lw_all) : w ∈ lw_tbl := (List.mem_filter.mp h).1
theorem lw_self : GoodIn lw_all lw_all := fun w h => ⟨h, good_of_word (List.mem_filter.mp h).2⟩
/-- a class's field words, by their places -/
theorem lw_in (ws : List Cond) (ps : List Nat) (hp : ws = ps.filterMap (fun i => lw_tbl[i]?)) (hg : ws.all goodWord = true) : ∀ w ∈ ws, w ∈ lw_all := by
  intro w h
  have h1 := List.all_eq_true.mp hg w h
  rw [hp] at h
  obtain ⟨i, -, hi⟩ := List.mem_filterMap.mp h
  exact lw_w i hi h1
/-- the words of a contract for the method y with code b, L locals, answer r -/
abbrev ws_ (y : MethodName) (b : ByteArray) (L : Nat) (r : Option FieldType) : List Cond := Cond.code y b L r :: lw_all
theorem lw_meth {y : MethodName} {b : ByteArray} {L : Nat} {r : Option FieldType} (h : Cond.code y b L r ∈ lw_all) : GoodIn lw_all (ws_ y b L r) := by
  intro w hw
  rcases List.mem_cons.mp hw with e | e
  · rw [e]
    exact lw_self _ h
  · exact lw_self _ e
theorem lw_app {a c : List Cond} (ha : ∀ w ∈ a, w ∈ lw_all) (hc : GoodIn lw_all c) : GoodIn lw_all (a ++ c) := by
  intro w hw
  rcases List.mem_append.mp hw with e | e
  · exact lw_self w (ha w e)
  · exact hc w e
/-- what a call through an object asks: cwV n hts (lw_V ..) -/
theorem lw_V {own : String} {idx : Nat} {C : String} {y : MethodName} {b : ByteArray} {L : Nat} {r : Option FieldType} (h1 : Cond.methodLink own idx y ∈ lw_all) (h2 : Cond.instanceMethod y ∈ lw_all) (h3 : Cond.selects C y y ∈ lw_all) (h4 : Cond.initialized C ∈ lw_all) (h5 : Cond.code y b L r ∈ lw_all) : GoodIn lw_all (wsV own idx C y (ws_ y b L r)) := by
  refine lw_app ?_ (lw_meth h5)
  intro w hw
  simp only [List.mem_cons, List.not_mem_nil, or_false] at hw
  rcases hw with e | e | e | e
  · rw [e]; exact h1
  · rw [e]; exact h2
  · rw [e]; exact h3
  · rw [e]; exact h4
/-- what a static call asks: va_cwS n hts (lw_S ..) -/
theorem lw_S {own : String} {idx : Nat} {y : MethodName} {b : ByteArray} {L : Nat} {r : Option FieldType} (h1 : Cond.methodLink own idx y ∈ lw_all) (h2 : Cond.static y ∈ lw_all) (h3 : Cond.initialized y.cls ∈ lw_all) (h4 : Cond.code y b L r ∈ lw_all) : GoodIn lw_all (va_wsS own idx y (ws_ y b L r)) := by
  refine lw_app ?_ (lw_meth h4)
  intro w hw
  simp only [List.mem_cons, List.not_mem_nil, or_false] at hw
  rcases hw with e | e | e
  · rw [e]; exact h1
  · rw [e]; exact h2
  · rw [e]; exact h3
/-- the words of a contract for a method WITH HANDLERS (hh: its table) -/
abbrev wsW_ (y : MethodName) (b : ByteArray) (L : Nat) (r : Option FieldType) (hh : List (Nat × Nat × Nat × Nat)) : List Cond := Cond.codeWith y b L r hh :: lw_all
theorem lw_methW {y : MethodName} {b : ByteArray} {L : Nat} {r : Option FieldType} {hh : List (Nat × Nat × Nat × Nat)} (h : Cond.codeWith y b L r hh ∈ lw_all) : GoodIn lw_all (wsW_ y b L r hh) := by
  intro w hw
  rcases List.mem_cons.mp hw with e | e
  · rw [e]
    exact lw_self _ h
  · exact lw_self _ e
/-- any list of words by their places (lw_in), good -/
theorem lw_good {ws : List Cond} (h : ∀ w ∈ ws, w ∈ lw_all) : GoodIn lw_all ws := fun w hw => lw_self w (h w hw)
/-- what a call of a method with handlers asks: vx_cwVW n hts (lw_VW ..), vx_cwSW n hts (lw_SW ..) -/
theorem lw_VW {own : String} {idx : Nat} {C : String} {y : MethodName} {b : ByteArray} {L : Nat} {r : Option FieldType} {hh : List (Nat × Nat × Nat × Nat)} (h1 : Cond.methodLink own idx y ∈ lw_all) (h2 : Cond.instanceMethod y ∈ lw_all) (h3 : Cond.selects C y y ∈ lw_all) (h4 : Cond.initialized C ∈ lw_all) (h5 : Cond.codeWith y b L r hh ∈ lw_all) : GoodIn lw_all (wsV own idx C y (wsW_ y b L r hh)) := by
  refine lw_app ?_ (lw_methW h5)
  intro w hw
  simp only [List.mem_cons, List.not_mem_nil, or_false] at hw
  rcases hw with e | e | e | e
  · rw [e]; exact h1
  · rw [e]; exact h2
  · rw [e]; exact h3
  · rw [e]; exact h4
theorem lw_SW {own : String} {idx : Nat} {y : MethodName} {b : ByteArray} {L : Nat} {r : Option FieldType} {hh : List (Nat × Nat × Nat × Nat)} (h1 : Cond.methodLink own idx y ∈ lw_all) (h2 : Cond.static y ∈ lw_all) (h3 : Cond.initialized y.cls ∈ lw_all) (h4 : Cond.codeWith y b L r hh ∈ lw_all) : GoodIn lw_all (va_wsS own idx y (wsW_ y b L r hh)) := by
  refine lw_app ?_ (lw_methW h4)
  intro w hw
  simp only [List.mem_cons, List.not_mem_nil, or_false] at hw
  rcases hw with e | e | e
  · rw [e]; exact h1
  · rw [e]; exact h2
  · rw [e]; exact h3
/-- a word by its place in its run of the tables -/
theorem lw_at {r : List Cond} (hr : ∀ w ∈ r, w ∈ lw_tbl) {w : Cond} (i : Nat) (h : r[i]? = some w) : w ∈ lw_tbl := hr w (List.mem_of_getElem? h)
theorem lw_g {w : Cond} (h : w ∈ lw_tbl) (g : goodWord w = true) : w ∈ lw_all := List.mem_filter.mpr ⟨h, g⟩
theorem lw_ms : ∀ w ∈ k2_sels lw_privs, w ∈ lw_tbl := fun w h => show w ∈ k2_sels lw_privs ++ tables_1 from List.mem_append_left _ h
theorem lw_m1 : ∀ w ∈ tables_1_1, w ∈ lw_tbl := fun w h => show w ∈ k2_sels lw_privs ++ tables_1 from List.mem_append_right (k2_sels lw_privs) (show w ∈ tables_1 from List.mem_append_left _ h)
theorem lw_m2 : ∀ w ∈ tables_1_2, w ∈ lw_tbl := fun w h => show w ∈ k2_sels lw_privs ++ tables_1 from List.mem_append_right (k2_sels lw_privs) (show w ∈ tables_1 from List.mem_append_right _ (List.mem_append_left _ h))
theorem lw_m3 : ∀ w ∈ tables_1_3, w ∈ lw_tbl := fun w h => show w ∈ k2_sels lw_privs ++ tables_1 from List.mem_append_right (k2_sels lw_privs) (show w ∈ tables_1 from List.mem_append_right _ (List.mem_append_right _ (List.mem_append_left _ h)))
theorem lw_m4 : ∀ w ∈ tables_1_4, w ∈ lw_tbl := fun w h => show w ∈ k2_sels lw_privs ++ tables_1 from List.mem_append_right (k2_sels lw_privs) (show w ∈ tables_1 from List.mem_append_right _ (List.mem_append_right _ (List.mem_append_right _ (List.mem_append_left _ h))))
theorem lw_m5 : ∀ w ∈ tables_1_5, w ∈ lw_tbl := fun w h => show w ∈ k2_sels lw_privs ++ tables_1 from List.mem_append_right (k2_sels lw_privs) (show w ∈ tables_1 from List.mem_append_right _ (List.mem_append_right _ (List.mem_append_right _ (List.mem_append_right _ (List.mem_append_left _ h)))))
theorem lw_m6 : ∀ w ∈ tables_1_6, w ∈ lw_tbl := fun w h => show w ∈ k2_sels lw_privs ++ tables_1 from List.mem_append_right (k2_sels lw_privs) (show w ∈ tables_1 from List.mem_append_right _ (List.mem_append_right _ (List.mem_append_right _ (List.mem_append_right _ (List.mem_append_right _ (List.mem_append_left _ h))))))
theorem lw_m7 : ∀ w ∈ tables_1_7, w ∈ lw_tbl := fun w h => show w ∈ k2_sels lw_privs ++ tables_1 from List.mem_append_right (k2_sels lw_privs) (show w ∈ tables_1 from List.mem_append_right _ (List.mem_append_right _ (List.mem_append_right _ (List.mem_append_right _ (List.mem_append_right _ (List.mem_append_right _ (List.mem_append_left _ h)))))))
theorem lw_m8 : ∀ w ∈ tables_1_8, w ∈ lw_tbl := fun w h => show w ∈ k2_sels lw_privs ++ tables_1 from List.mem_append_right (k2_sels lw_privs) (show w ∈ tables_1 from List.mem_append_right _ (List.mem_append_right _ (List.mem_append_right _ (List.mem_append_right _ (List.mem_append_right _ (List.mem_append_right _ (List.mem_append_right _ (List.mem_append_left _ h))))))))
theorem lw_m9 : ∀ w ∈ tables_1_9, w ∈ lw_tbl := fun w h => show w ∈ k2_sels lw_privs ++ tables_1 from List.mem_append_right (k2_sels lw_privs) (show w ∈ tables_1 from List.mem_append_right _ (List.mem_append_right _ (List.mem_append_right _ (List.mem_append_right _ (List.mem_append_right _ (List.mem_append_right _ (List.mem_append_right _ (List.mem_append_right _ (List.mem_append_left _ h)))))))))
theorem lw_m10 : ∀ w ∈ tables_1_10, w ∈ lw_tbl := fun w h => show w ∈ k2_sels lw_privs ++ tables_1 from List.mem_append_right (k2_sels lw_privs) (show w ∈ tables_1 from List.mem_append_right _ (List.mem_append_right _ (List.mem_append_right _ (List.mem_append_right _ (List.mem_append_right _ (List.mem_append_right _ (List.mem_append_right _ (List.mem_append_right _ (List.mem_append_right _ h)))))))))
theorem qs0 : (Cond.selects "SagMemory" ⟨"SagMemory", "puts", "(I)V"⟩ ⟨"SagMemory", "puts", "(I)V"⟩) ∈ lw_all := lw_g (lw_at lw_ms 0 rfl) rfl
theorem qs1 : (Cond.selects "SagMemory$Reader" ⟨"SagMemory$Reader", "next", "()V"⟩ ⟨"SagMemory$Reader", "next", "()V"⟩) ∈ lw_all := lw_g (lw_at lw_ms 1 rfl) rfl
theorem qs2 : (Cond.selects "SagMemory$Reader" ⟨"SagMemory$Reader", "isNext", "(II)Z"⟩ ⟨"SagMemory$Reader", "isNext", "(II)Z"⟩) ∈ lw_all := lw_g (lw_at lw_ms 2 rfl) rfl
theorem qs3 : (Cond.selects "SagMemory$Reader" ⟨"SagMemory$Reader", "first", "()V"⟩ ⟨"SagMemory$Reader", "first", "()V"⟩) ∈ lw_all := lw_g (lw_at lw_ms 3 rfl) rfl
theorem qs4 : (Cond.selects "SagMemory$Reader" ⟨"SagMemory$Reader", "needs", "(Ljava/lang/String;)V"⟩ ⟨"SagMemory$Reader", "needs", "(Ljava/lang/String;)V"⟩) ∈ lw_all := lw_g (lw_at lw_ms 4 rfl) rfl
theorem qs5 : (Cond.selects "SagMemory$Reader" ⟨"SagMemory$Reader", "takes", "(Ljava/lang/String;)Z"⟩ ⟨"SagMemory$Reader", "takes", "(Ljava/lang/String;)Z"⟩) ∈ lw_all := lw_g (lw_at lw_ms 5 rfl) rfl
theorem qs6 : (Cond.selects "SagMemory$Reader" ⟨"SagMemory$Reader", "is", "(Ljava/lang/String;)Z"⟩ ⟨"SagMemory$Reader", "is", "(Ljava/lang/String;)Z"⟩) ∈ lw_all := lw_g (lw_at lw_ms 6 rfl) rfl
theorem qs7 : (Cond.selects "SagMemory$Reader" ⟨"SagMemory$Reader", "wrong", "(I)LSagMemory$Fault;"⟩ ⟨"SagMemory$Reader", "wrong", "(I)LSagMemory$Fault;"⟩) ∈ lw_all := lw_g (lw_at lw_ms 7 rfl) rfl
theorem qs8 : (Cond.selects "java/lang/NullPointerException" ⟨"java/lang/NullPointerException", "getExtendedNPEMessage", "()Ljava/lang/String;"⟩ ⟨"java/lang/NullPointerException", "getExtendedNPEMessage", "()Ljava/lang/String;"⟩) ∈ lw_all := lw_g (lw_at lw_ms 8 rfl) rfl
theorem qs9 : (Cond.selects "java/lang/Throwable" ⟨"java/lang/Throwable", "fillInStackTrace", "(I)Ljava/lang/Throwable;"⟩ ⟨"java/lang/Throwable", "fillInStackTrace", "(I)Ljava/lang/Throwable;"⟩) ∈ lw_all := lw_g (lw_at lw_ms 9 rfl) rfl
theorem qs10 : (Cond.selects "SagMemory$Reader" ⟨"SagMemory$Reader", "told", "(Ljava/lang/String;II)I"⟩ ⟨"SagMemory$Reader", "told", "(Ljava/lang/String;II)I"⟩) ∈ lw_all := lw_g (lw_at lw_ms 10 rfl) rfl
theorem qs11 : (Cond.selects "SagMemory$Reader" ⟨"SagMemory$Reader", "number", "(II)I"⟩ ⟨"SagMemory$Reader", "number", "(II)I"⟩) ∈ lw_all := lw_g (lw_at lw_ms 11 rfl) rfl
theorem qs12 : (Cond.selects "SagMemory$Reader" ⟨"SagMemory$Reader", "line", "()V"⟩ ⟨"SagMemory$Reader", "line", "()V"⟩) ∈ lw_all := lw_g (lw_at lw_ms 12 rfl) rfl
theorem qs13 : (Cond.selects "SagMemory$Reader" ⟨"SagMemory$Reader", "takes", "(Ljava/lang/String;Z)Z"⟩ ⟨"SagMemory$Reader", "takes", "(Ljava/lang/String;Z)Z"⟩) ∈ lw_all := lw_g (lw_at lw_ms 13 rfl) rfl
theorem qs14 : (Cond.selects "SagMemory$Reader" ⟨"SagMemory$Reader", "newWard", "()V"⟩ ⟨"SagMemory$Reader", "newWard", "()V"⟩) ∈ lw_all := lw_g (lw_at lw_ms 14 rfl) rfl
theorem qs15 : (Cond.selects "SagMemory" ⟨"SagMemory", "isBridge", "(J)Z"⟩ ⟨"SagMemory", "isBridge", "(J)Z"⟩) ∈ lw_all := lw_g (lw_at lw_ms 15 rfl) rfl
theorem qs16 : (Cond.selects "SagMemory" ⟨"SagMemory", "isCart", "(J)Z"⟩ ⟨"SagMemory", "isCart", "(J)Z"⟩) ∈ lw_all := lw_g (lw_at lw_ms 16 rfl) rfl
theorem qs17 : (Cond.selects "SagMemory" ⟨"SagMemory", "asItIs", "()V"⟩ ⟨"SagMemory", "asItIs", "()V"⟩) ∈ lw_all := lw_g (lw_at lw_ms 17 rfl) rfl
theorem qs18 : (Cond.selects "SagMemory" ⟨"SagMemory", "asksCart", "(I)Z"⟩ ⟨"SagMemory", "asksCart", "(I)Z"⟩) ∈ lw_all := lw_g (lw_at lw_ms 18 rfl) rfl
theorem qs19 : (Cond.selects "SagMemory" ⟨"SagMemory", "asksValley", "()Z"⟩ ⟨"SagMemory", "asksValley", "()Z"⟩) ∈ lw_all := lw_g (lw_at lw_ms 19 rfl) rfl
theorem qs20 : (Cond.selects "SagMemory" ⟨"SagMemory", "lays", "()V"⟩ ⟨"SagMemory", "lays", "()V"⟩) ∈ lw_all := lw_g (lw_at lw_ms 20 rfl) rfl
theorem qs21 : (Cond.selects "SagMemory" ⟨"SagMemory", "freezes", "()V"⟩ ⟨"SagMemory", "freezes", "()V"⟩) ∈ lw_all := lw_g (lw_at lw_ms 21 rfl) rfl
theorem qs22 : (Cond.selects "SagMemory" ⟨"SagMemory", "comesTo", "(I)I"⟩ ⟨"SagMemory", "comesTo", "(I)I"⟩) ∈ lw_all := lw_g (lw_at lw_ms 22 rfl) rfl
theorem qs23 : (Cond.selects "SagMemory" ⟨"SagMemory", "goes", "(II)V"⟩ ⟨"SagMemory", "goes", "(II)V"⟩) ∈ lw_all := lw_g (lw_at lw_ms 23 rfl) rfl
theorem qs24 : (Cond.selects "SagMemory" ⟨"SagMemory", "sagOf", "(I)I"⟩ ⟨"SagMemory", "sagOf", "(I)I"⟩) ∈ lw_all := lw_g (lw_at lw_ms 24 rfl) rfl
theorem qs25 : (Cond.selects "SagMemory" ⟨"SagMemory", "lastOf", "(I)I"⟩ ⟨"SagMemory", "lastOf", "(I)I"⟩) ∈ lw_all := lw_g (lw_at lw_ms 25 rfl) rfl
theorem qs26 : (Cond.selects "SagMemory" ⟨"SagMemory", "isValley", "()Z"⟩ ⟨"SagMemory", "isValley", "()Z"⟩) ∈ lw_all := lw_g (lw_at lw_ms 26 rfl) rfl
theorem qs27 : (Cond.selects "SagMemory" ⟨"SagMemory", "asksBridge", "(I)Z"⟩ ⟨"SagMemory", "asksBridge", "(I)Z"⟩) ∈ lw_all := lw_g (lw_at lw_ms 27 rfl) rfl
theorem qs28 : (Cond.selects "SagMemory" ⟨"SagMemory", "overOf", "(I)I"⟩ ⟨"SagMemory", "overOf", "(I)I"⟩) ∈ lw_all := lw_g (lw_at lw_ms 28 rfl) rfl
theorem qs29 : (Cond.selects "SagMemory" ⟨"SagMemory", "asks", "(II)Z"⟩ ⟨"SagMemory", "asks", "(II)Z"⟩) ∈ lw_all := lw_g (lw_at lw_ms 29 rfl) rfl
theorem qs30 : (Cond.selects "SagMemory" ⟨"SagMemory", "sagWith", "(III)I"⟩ ⟨"SagMemory", "sagWith", "(III)I"⟩) ∈ lw_all := lw_g (lw_at lw_ms 30 rfl) rfl
theorem qs31 : (Cond.selects "SagMemory" ⟨"SagMemory", "asksOrders", "()Z"⟩ ⟨"SagMemory", "asksOrders", "()Z"⟩) ∈ lw_all := lw_g (lw_at lw_ms 31 rfl) rfl
theorem qs32 : (Cond.selects "SagMemory" ⟨"SagMemory", "starts", "()V"⟩ ⟨"SagMemory", "starts", "()V"⟩) ∈ lw_all := lw_g (lw_at lw_ms 32 rfl) rfl
theorem qs33 : (Cond.selects "SagMemory" ⟨"SagMemory", "orders", "(II)V"⟩ ⟨"SagMemory", "orders", "(II)V"⟩) ∈ lw_all := lw_g (lw_at lw_ms 33 rfl) rfl
theorem qs34 : (Cond.selects "SagMemory" ⟨"SagMemory", "keeps", "([I)V"⟩ ⟨"SagMemory", "keeps", "([I)V"⟩) ∈ lw_all := lw_g (lw_at lw_ms 34 rfl) rfl
theorem qs35 : (Cond.selects "SagMemory" ⟨"SagMemory", "laysSag", "()I"⟩ ⟨"SagMemory", "laysSag", "()I"⟩) ∈ lw_all := lw_g (lw_at lw_ms 35 rfl) rfl
theorem qs36 : (Cond.selects "SagMemory" ⟨"SagMemory", "allSag", "()I"⟩ ⟨"SagMemory", "allSag", "()I"⟩) ∈ lw_all := lw_g (lw_at lw_ms 36 rfl) rfl
theorem qs37 : (Cond.selects "SagMemory" ⟨"SagMemory", "asksRoutes", "()Z"⟩ ⟨"SagMemory", "asksRoutes", "()Z"⟩) ∈ lw_all := lw_g (lw_at lw_ms 37 rfl) rfl
theorem qs38 : (Cond.selects "SagMemory" ⟨"SagMemory", "routes", "(I)V"⟩ ⟨"SagMemory", "routes", "(I)V"⟩) ∈ lw_all := lw_g (lw_at lw_ms 38 rfl) rfl
theorem qs39 : (Cond.selects "SagMemory" ⟨"SagMemory", "asksBack", "(II)I"⟩ ⟨"SagMemory", "asksBack", "(II)I"⟩) ∈ lw_all := lw_g (lw_at lw_ms 39 rfl) rfl
theorem qs40 : (Cond.selects "SagMemory" ⟨"SagMemory", "all", "()I"⟩ ⟨"SagMemory", "all", "()I"⟩) ∈ lw_all := lw_g (lw_at lw_ms 40 rfl) rfl
theorem qs41 : (Cond.selects "SagMemory" ⟨"SagMemory", "toldBy", "(I)I"⟩ ⟨"SagMemory", "toldBy", "(I)I"⟩) ∈ lw_all := lw_g (lw_at lw_ms 41 rfl) rfl
theorem qs42 : (Cond.selects "SagMemory" ⟨"SagMemory", "isLeft", "(II)Z"⟩ ⟨"SagMemory", "isLeft", "(II)Z"⟩) ∈ lw_all := lw_g (lw_at lw_ms 42 rfl) rfl
theorem qs43 : (Cond.selects "SagMemory" ⟨"SagMemory", "askOf", "()I"⟩ ⟨"SagMemory", "askOf", "()I"⟩) ∈ lw_all := lw_g (lw_at lw_ms 43 rfl) rfl
theorem qs44 : (Cond.selects "SagMemory" ⟨"SagMemory", "asksLoads", "(II)I"⟩ ⟨"SagMemory", "asksLoads", "(II)I"⟩) ∈ lw_all := lw_g (lw_at lw_ms 44 rfl) rfl
theorem qs45 : (Cond.selects "SagMemory" ⟨"SagMemory", "asksBook", "(I)I"⟩ ⟨"SagMemory", "asksBook", "(I)I"⟩) ∈ lw_all := lw_g (lw_at lw_ms 45 rfl) rfl
theorem qs46 : (Cond.selects "SagMemory" ⟨"SagMemory", "laysLoads", "(II)V"⟩ ⟨"SagMemory", "laysLoads", "(II)V"⟩) ∈ lw_all := lw_g (lw_at lw_ms 46 rfl) rfl
theorem qs47 : (Cond.selects "SagMemory" ⟨"SagMemory", "isSo", "(I)Z"⟩ ⟨"SagMemory", "isSo", "(I)Z"⟩) ∈ lw_all := lw_g (lw_at lw_ms 47 rfl) rfl
theorem qs48 : (Cond.selects "SagMemory" ⟨"SagMemory", "number", "(II)I"⟩ ⟨"SagMemory", "number", "(II)I"⟩) ∈ lw_all := lw_g (lw_at lw_ms 48 rfl) rfl
theorem qs49 : (Cond.selects "SagMemory" ⟨"SagMemory", "sagBy", "(I)I"⟩ ⟨"SagMemory", "sagBy", "(I)I"⟩) ∈ lw_all := lw_g (lw_at lw_ms 49 rfl) rfl
theorem qs50 : (Cond.selects "SagMemory" ⟨"SagMemory", "asksRests", "(II)Z"⟩ ⟨"SagMemory", "asksRests", "(II)Z"⟩) ∈ lw_all := lw_g (lw_at lw_ms 50 rfl) rfl
theorem qs51 : (Cond.selects "SagMemory" ⟨"SagMemory", "areTwo", "(II)Z"⟩ ⟨"SagMemory", "areTwo", "(II)Z"⟩) ∈ lw_all := lw_g (lw_at lw_ms 51 rfl) rfl
theorem qs52 : (Cond.selects "SagMemory" ⟨"SagMemory", "losesOf", "(I)I"⟩ ⟨"SagMemory", "losesOf", "(I)I"⟩) ∈ lw_all := lw_g (lw_at lw_ms 52 rfl) rfl
theorem qs53 : (Cond.selects "SagMemory" ⟨"SagMemory", "isRest", "(II)Z"⟩ ⟨"SagMemory", "isRest", "(II)Z"⟩) ∈ lw_all := lw_g (lw_at lw_ms 53 rfl) rfl
theorem qs54 : (Cond.selects "SagMemory" ⟨"SagMemory", "laysChances", "(I)V"⟩ ⟨"SagMemory", "laysChances", "(I)V"⟩) ∈ lw_all := lw_g (lw_at lw_ms 54 rfl) rfl
theorem qs55 : (Cond.selects "SagMemory" ⟨"SagMemory", "draws", "(J)V"⟩ ⟨"SagMemory", "draws", "(J)V"⟩) ∈ lw_all := lw_g (lw_at lw_ms 55 rfl) rfl
theorem qs56 : (Cond.selects "SagMemory" ⟨"SagMemory", "keeps", "(II)I"⟩ ⟨"SagMemory", "keeps", "(II)I"⟩) ∈ lw_all := lw_g (lw_at lw_ms 56 rfl) rfl
theorem qs57 : (Cond.selects "java/util/ArrayList" ⟨"java/util/ArrayList", "add", "(Ljava/lang/Object;[Ljava/lang/Object;I)V"⟩ ⟨"java/util/ArrayList", "add", "(Ljava/lang/Object;[Ljava/lang/Object;I)V"⟩) ∈ lw_all := lw_g (lw_at lw_ms 57 rfl) rfl
theorem qs58 : (Cond.selects "java/util/ArrayList" ⟨"java/util/ArrayList", "grow", "()[Ljava/lang/Object;"⟩ ⟨"java/util/ArrayList", "grow", "()[Ljava/lang/Object;"⟩) ∈ lw_all := lw_g (lw_at lw_ms 58 rfl) rfl
theorem qs59 : (Cond.selects "java/util/ArrayList" ⟨"java/util/ArrayList", "grow", "(I)[Ljava/lang/Object;"⟩ ⟨"java/util/ArrayList", "grow", "(I)[Ljava/lang/Object;"⟩) ∈ lw_all := lw_g (lw_at lw_ms 59 rfl) rfl
theorem qs60 : (Cond.selects "SagMemoryModel" ⟨"SagMemoryModel", "four", "(I)V"⟩ ⟨"SagMemoryModel", "four", "(I)V"⟩) ∈ lw_all := lw_g (lw_at lw_ms 60 rfl) rfl
theorem qs61 : (Cond.selects "SagMemoryModel" ⟨"SagMemoryModel", "clears", "()V"⟩ ⟨"SagMemoryModel", "clears", "()V"⟩) ∈ lw_all := lw_g (lw_at lw_ms 61 rfl) rfl
theorem qs62 : (Cond.selects "SagMemoryModel" ⟨"SagMemoryModel", "tells", "(II)V"⟩ ⟨"SagMemoryModel", "tells", "(II)V"⟩) ∈ lw_all := lw_g (lw_at lw_ms 62 rfl) rfl
theorem qs63 : (Cond.selects "SagMemoryModel" ⟨"SagMemoryModel", "begins", "()V"⟩ ⟨"SagMemoryModel", "begins", "()V"⟩) ∈ lw_all := lw_g (lw_at lw_ms 63 rfl) rfl
theorem qs64 : (Cond.selects "SagMemoryModel" ⟨"SagMemoryModel", "next", "()V"⟩ ⟨"SagMemoryModel", "next", "()V"⟩) ∈ lw_all := lw_g (lw_at lw_ms 64 rfl) rfl
theorem qs65 : (Cond.selects "SagMemoryModel" ⟨"SagMemoryModel", "isByte", "(III)Z"⟩ ⟨"SagMemoryModel", "isByte", "(III)Z"⟩) ∈ lw_all := lw_g (lw_at lw_ms 65 rfl) rfl
theorem qs66 : (Cond.selects "SagMemoryModel" ⟨"SagMemoryModel", "isGood", "()Z"⟩ ⟨"SagMemoryModel", "isGood", "()Z"⟩) ∈ lw_all := lw_g (lw_at lw_ms 66 rfl) rfl
theorem qs67 : (Cond.selects "SagMemoryModel" ⟨"SagMemoryModel", "asks", "(J)V"⟩ ⟨"SagMemoryModel", "asks", "(J)V"⟩) ∈ lw_all := lw_g (lw_at lw_ms 67 rfl) rfl
theorem qs68 : (Cond.selects "SagMemoryModel" ⟨"SagMemoryModel", "takes", "(J)Z"⟩ ⟨"SagMemoryModel", "takes", "(J)Z"⟩) ∈ lw_all := lw_g (lw_at lw_ms 68 rfl) rfl
theorem qs69 : (Cond.selects "SagMemoryModel" ⟨"SagMemoryModel", "is", "(J)Z"⟩ ⟨"SagMemoryModel", "is", "(J)Z"⟩) ∈ lw_all := lw_g (lw_at lw_ms 69 rfl) rfl
theorem qs70 : (Cond.selects "SagMemoryModel" ⟨"SagMemoryModel", "fails", "(I)V"⟩ ⟨"SagMemoryModel", "fails", "(I)V"⟩) ∈ lw_all := lw_g (lw_at lw_ms 70 rfl) rfl
theorem qs71 : (Cond.selects "SagMemoryModel" ⟨"SagMemoryModel", "number", "(JII)I"⟩ ⟨"SagMemoryModel", "number", "(JII)I"⟩) ∈ lw_all := lw_g (lw_at lw_ms 71 rfl) rfl
theorem qs72 : (Cond.selects "SagMemoryModel" ⟨"SagMemoryModel", "number", "(II)I"⟩ ⟨"SagMemoryModel", "number", "(II)I"⟩) ∈ lw_all := lw_g (lw_at lw_ms 72 rfl) rfl
theorem qs73 : (Cond.selects "SagMemoryModel" ⟨"SagMemoryModel", "lineHere", "()V"⟩ ⟨"SagMemoryModel", "lineHere", "()V"⟩) ∈ lw_all := lw_g (lw_at lw_ms 73 rfl) rfl
theorem qs74 : (Cond.selects "SagMemoryModel" ⟨"SagMemoryModel", "isRoom", "(ZII)Z"⟩ ⟨"SagMemoryModel", "isRoom", "(ZII)Z"⟩) ∈ lw_all := lw_g (lw_at lw_ms 74 rfl) rfl
theorem qs75 : (Cond.selects "SagMemoryModel" ⟨"SagMemoryModel", "hasRead", "(I)I"⟩ ⟨"SagMemoryModel", "hasRead", "(I)I"⟩) ∈ lw_all := lw_g (lw_at lw_ms 75 rfl) rfl
theorem qs76 : (Cond.selects "SagMemoryModel" ⟨"SagMemoryModel", "bridgeLine", "()V"⟩ ⟨"SagMemoryModel", "bridgeLine", "()V"⟩) ∈ lw_all := lw_g (lw_at lw_ms 76 rfl) rfl
theorem qs77 : (Cond.selects "SagMemoryModel" ⟨"SagMemoryModel", "cartLine", "()V"⟩ ⟨"SagMemoryModel", "cartLine", "()V"⟩) ∈ lw_all := lw_g (lw_at lw_ms 77 rfl) rfl
theorem qs78 : (Cond.selects "SagMemoryModel" ⟨"SagMemoryModel", "bridgeHere", "()I"⟩ ⟨"SagMemoryModel", "bridgeHere", "()I"⟩) ∈ lw_all := lw_g (lw_at lw_ms 78 rfl) rfl
theorem qs79 : (Cond.selects "SagMemoryModel" ⟨"SagMemoryModel", "wardLine", "()V"⟩ ⟨"SagMemoryModel", "wardLine", "()V"⟩) ∈ lw_all := lw_g (lw_at lw_ms 79 rfl) rfl
theorem qs80 : (Cond.selects "SagMemoryModel" ⟨"SagMemoryModel", "frostLine", "()V"⟩ ⟨"SagMemoryModel", "frostLine", "()V"⟩) ∈ lw_all := lw_g (lw_at lw_ms 80 rfl) rfl
theorem qs81 : (Cond.selects "SagMemoryModel" ⟨"SagMemoryModel", "ends", "()V"⟩ ⟨"SagMemoryModel", "ends", "()V"⟩) ∈ lw_all := lw_g (lw_at lw_ms 81 rfl) rfl
theorem qs82 : (Cond.selects "SagMemoryModel" ⟨"SagMemoryModel", "isOver", "()V"⟩ ⟨"SagMemoryModel", "isOver", "()V"⟩) ∈ lw_all := lw_g (lw_at lw_ms 82 rfl) rfl
theorem qs83 : (Cond.selects "SagMemoryModel" ⟨"SagMemoryModel", "copyValley", "(II)V"⟩ ⟨"SagMemoryModel", "copyValley", "(II)V"⟩) ∈ lw_all := lw_g (lw_at lw_ms 83 rfl) rfl
theorem qs84 : (Cond.selects "SagMemoryModel" ⟨"SagMemoryModel", "isBridge", "(J)Z"⟩ ⟨"SagMemoryModel", "isBridge", "(J)Z"⟩) ∈ lw_all := lw_g (lw_at lw_ms 84 rfl) rfl
theorem qs85 : (Cond.selects "SagMemoryModel" ⟨"SagMemoryModel", "bridges", "()I"⟩ ⟨"SagMemoryModel", "bridges", "()I"⟩) ∈ lw_all := lw_g (lw_at lw_ms 85 rfl) rfl
theorem qs86 : (Cond.selects "SagMemoryModel" ⟨"SagMemoryModel", "isCart", "(J)Z"⟩ ⟨"SagMemoryModel", "isCart", "(J)Z"⟩) ∈ lw_all := lw_g (lw_at lw_ms 86 rfl) rfl
theorem qs87 : (Cond.selects "SagMemoryModel" ⟨"SagMemoryModel", "carts", "()I"⟩ ⟨"SagMemoryModel", "carts", "()I"⟩) ∈ lw_all := lw_g (lw_at lw_ms 87 rfl) rfl
theorem qs88 : (Cond.selects "SagMemoryModel" ⟨"SagMemoryModel", "lays", "()V"⟩ ⟨"SagMemoryModel", "lays", "()V"⟩) ∈ lw_all := lw_g (lw_at lw_ms 88 rfl) rfl
theorem qs89 : (Cond.selects "SagMemoryModel" ⟨"SagMemoryModel", "laysNow", "()V"⟩ ⟨"SagMemoryModel", "laysNow", "()V"⟩) ∈ lw_all := lw_g (lw_at lw_ms 89 rfl) rfl
theorem qs90 : (Cond.selects "SagMemoryModel" ⟨"SagMemoryModel", "runs", "()V"⟩ ⟨"SagMemoryModel", "runs", "()V"⟩) ∈ lw_all := lw_g (lw_at lw_ms 90 rfl) rfl
theorem qs91 : (Cond.selects "SagMemoryModel" ⟨"SagMemoryModel", "begin", "()V"⟩ ⟨"SagMemoryModel", "begin", "()V"⟩) ∈ lw_all := lw_g (lw_at lw_ms 91 rfl) rfl
theorem qs92 : (Cond.selects "SagMemoryModel" ⟨"SagMemoryModel", "turn", "(I)V"⟩ ⟨"SagMemoryModel", "turn", "(I)V"⟩) ∈ lw_all := lw_g (lw_at lw_ms 92 rfl) rfl
theorem qs93 : (Cond.selects "SagMemoryModel" ⟨"SagMemoryModel", "freezes", "()V"⟩ ⟨"SagMemoryModel", "freezes", "()V"⟩) ∈ lw_all := lw_g (lw_at lw_ms 93 rfl) rfl
theorem qs94 : (Cond.selects "SagMemoryModel" ⟨"SagMemoryModel", "wayOf", "(I)I"⟩ ⟨"SagMemoryModel", "wayOf", "(I)I"⟩) ∈ lw_all := lw_g (lw_at lw_ms 94 rfl) rfl
theorem qs95 : (Cond.selects "SagMemoryModel" ⟨"SagMemoryModel", "sagOf", "(I)I"⟩ ⟨"SagMemoryModel", "sagOf", "(I)I"⟩) ∈ lw_all := lw_g (lw_at lw_ms 95 rfl) rfl
theorem qs96 : (Cond.selects "SagMemoryModel" ⟨"SagMemoryModel", "lastOf", "(I)I"⟩ ⟨"SagMemoryModel", "lastOf", "(I)I"⟩) ∈ lw_all := lw_g (lw_at lw_ms 96 rfl) rfl
theorem qs97 : (Cond.selects "SagMemoryModel" ⟨"SagMemoryModel", "crosses", "(III)I"⟩ ⟨"SagMemoryModel", "crosses", "(III)I"⟩) ∈ lw_all := lw_g (lw_at lw_ms 97 rfl) rfl
theorem qs98 : (Cond.selects "SagMemoryModel" ⟨"SagMemoryModel", "overOf", "(I)I"⟩ ⟨"SagMemoryModel", "overOf", "(I)I"⟩) ∈ lw_all := lw_g (lw_at lw_ms 98 rfl) rfl
theorem qs99 : (Cond.selects "SagMemoryModel" ⟨"SagMemoryModel", "isValley", "()Z"⟩ ⟨"SagMemoryModel", "isValley", "()Z"⟩) ∈ lw_all := lw_g (lw_at lw_ms 99 rfl) rfl
theorem qs100 : (Cond.selects "SagMemoryModel" ⟨"SagMemoryModel", "isThen", "(II)Z"⟩ ⟨"SagMemoryModel", "isThen", "(II)Z"⟩) ∈ lw_all := lw_g (lw_at lw_ms 100 rfl) rfl
theorem qs101 : (Cond.selects "SagMemoryModel" ⟨"SagMemoryModel", "paysOf", "(I)I"⟩ ⟨"SagMemoryModel", "paysOf", "(I)I"⟩) ∈ lw_all := lw_g (lw_at lw_ms 101 rfl) rfl
theorem qs102 : (Cond.selects "SagMemoryModel" ⟨"SagMemoryModel", "sagWith", "(III)I"⟩ ⟨"SagMemoryModel", "sagWith", "(III)I"⟩) ∈ lw_all := lw_g (lw_at lw_ms 102 rfl) rfl
theorem qs103 : (Cond.selects "SagMemoryModel" ⟨"SagMemoryModel", "laysOrders", "()V"⟩ ⟨"SagMemoryModel", "laysOrders", "()V"⟩) ∈ lw_all := lw_g (lw_at lw_ms 103 rfl) rfl
theorem qs104 : (Cond.selects "SagMemoryModel" ⟨"SagMemoryModel", "ordersFrom", "(II)V"⟩ ⟨"SagMemoryModel", "ordersFrom", "(II)V"⟩) ∈ lw_all := lw_g (lw_at lw_ms 104 rfl) rfl
theorem qs105 : (Cond.selects "SagMemoryModel" ⟨"SagMemoryModel", "sagAll", "()I"⟩ ⟨"SagMemoryModel", "sagAll", "()I"⟩) ∈ lw_all := lw_g (lw_at lw_ms 105 rfl) rfl
theorem qs106 : (Cond.selects "SagMemoryModel" ⟨"SagMemoryModel", "overAll", "()I"⟩ ⟨"SagMemoryModel", "overAll", "()I"⟩) ∈ lw_all := lw_g (lw_at lw_ms 106 rfl) rfl
theorem qs107 : (Cond.selects "SagMemoryModel" ⟨"SagMemoryModel", "laysRoutes", "()V"⟩ ⟨"SagMemoryModel", "laysRoutes", "()V"⟩) ∈ lw_all := lw_g (lw_at lw_ms 107 rfl) rfl
theorem qs108 : (Cond.selects "SagMemoryModel" ⟨"SagMemoryModel", "routesFrom", "(I)V"⟩ ⟨"SagMemoryModel", "routesFrom", "(I)V"⟩) ∈ lw_all := lw_g (lw_at lw_ms 108 rfl) rfl
theorem qs109 : (Cond.selects "SagMemoryModel" ⟨"SagMemoryModel", "sagsNow", "()I"⟩ ⟨"SagMemoryModel", "sagsNow", "()I"⟩) ∈ lw_all := lw_g (lw_at lw_ms 109 rfl) rfl
theorem qs110 : (Cond.selects "SagMemoryModel" ⟨"SagMemoryModel", "sagWithout", "(I)I"⟩ ⟨"SagMemoryModel", "sagWithout", "(I)I"⟩) ∈ lw_all := lw_g (lw_at lw_ms 110 rfl) rfl
theorem qs111 : (Cond.selects "SagMemoryModel" ⟨"SagMemoryModel", "whyNot", "(II)I"⟩ ⟨"SagMemoryModel", "whyNot", "(II)I"⟩) ∈ lw_all := lw_g (lw_at lw_ms 111 rfl) rfl
theorem qs112 : (Cond.selects "SagMemoryModel" ⟨"SagMemoryModel", "laysSets", "(II)V"⟩ ⟨"SagMemoryModel", "laysSets", "(II)V"⟩) ∈ lw_all := lw_g (lw_at lw_ms 112 rfl) rfl
theorem qs113 : (Cond.selects "SagMemoryModel" ⟨"SagMemoryModel", "isLeft", "(III)Z"⟩ ⟨"SagMemoryModel", "isLeft", "(III)Z"⟩) ∈ lw_all := lw_g (lw_at lw_ms 113 rfl) rfl
theorem qs114 : (Cond.selects "SagMemoryModel" ⟨"SagMemoryModel", "whyNotLoads", "(II)I"⟩ ⟨"SagMemoryModel", "whyNotLoads", "(II)I"⟩) ∈ lw_all := lw_g (lw_at lw_ms 114 rfl) rfl
theorem qs115 : (Cond.selects "SagMemoryModel" ⟨"SagMemoryModel", "whyNotSags", "(I)I"⟩ ⟨"SagMemoryModel", "whyNotSags", "(I)I"⟩) ∈ lw_all := lw_g (lw_at lw_ms 115 rfl) rfl
theorem qs116 : (Cond.selects "SagMemoryModel" ⟨"SagMemoryModel", "laysLies", "(II)V"⟩ ⟨"SagMemoryModel", "laysLies", "(II)V"⟩) ∈ lw_all := lw_g (lw_at lw_ms 116 rfl) rfl
theorem qs117 : (Cond.selects "SagMemoryModel" ⟨"SagMemoryModel", "isSo", "(I)Z"⟩ ⟨"SagMemoryModel", "isSo", "(I)Z"⟩) ∈ lw_all := lw_g (lw_at lw_ms 117 rfl) rfl
theorem qs118 : (Cond.selects "SagMemoryModel" ⟨"SagMemoryModel", "sagBy", "(I)I"⟩ ⟨"SagMemoryModel", "sagBy", "(I)I"⟩) ∈ lw_all := lw_g (lw_at lw_ms 118 rfl) rfl
theorem qs119 : (Cond.selects "SagMemoryModel" ⟨"SagMemoryModel", "areTwo", "(II)Z"⟩ ⟨"SagMemoryModel", "areTwo", "(II)Z"⟩) ∈ lw_all := lw_g (lw_at lw_ms 119 rfl) rfl
theorem qs120 : (Cond.selects "SagMemoryModel" ⟨"SagMemoryModel", "laysGame", "(II)V"⟩ ⟨"SagMemoryModel", "laysGame", "(II)V"⟩) ∈ lw_all := lw_g (lw_at lw_ms 120 rfl) rfl
theorem qs121 : (Cond.selects "SagMemoryModel" ⟨"SagMemoryModel", "lossOf", "(I)I"⟩ ⟨"SagMemoryModel", "lossOf", "(I)I"⟩) ∈ lw_all := lw_g (lw_at lw_ms 121 rfl) rfl
theorem qs122 : (Cond.selects "SagMemoryModel" ⟨"SagMemoryModel", "isRest", "(II)Z"⟩ ⟨"SagMemoryModel", "isRest", "(II)Z"⟩) ∈ lw_all := lw_g (lw_at lw_ms 122 rfl) rfl
theorem qs123 : (Cond.selects "SagMemoryModel" ⟨"SagMemoryModel", "weightOf", "(IZ)J"⟩ ⟨"SagMemoryModel", "weightOf", "(IZ)J"⟩) ∈ lw_all := lw_g (lw_at lw_ms 123 rfl) rfl
theorem qs124 : (Cond.selects "SagMemoryModel" ⟨"SagMemoryModel", "tens", "()J"⟩ ⟨"SagMemoryModel", "tens", "()J"⟩) ∈ lw_all := lw_g (lw_at lw_ms 124 rfl) rfl
theorem qs125 : (Cond.selects "SagMemoryModel" ⟨"SagMemoryModel", "draws", "(J)V"⟩ ⟨"SagMemoryModel", "draws", "(J)V"⟩) ∈ lw_all := lw_g (lw_at lw_ms 125 rfl) rfl
theorem qs126 : (Cond.selects "SagMemoryModel" ⟨"SagMemoryModel", "does", "(III)V"⟩ ⟨"SagMemoryModel", "does", "(III)V"⟩) ∈ lw_all := lw_g (lw_at lw_ms 126 rfl) rfl
