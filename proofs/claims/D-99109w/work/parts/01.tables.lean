-- ===== PART A: goes FIRST, ahead of the names: the tables' words, and 'selects' of the private methods out of them =====
/-- a private method of a class that the tables say can be made, by its rows of tables_1 -/
def lw_okq (q : MethodName × Nat) : Prop := (q.1.cls ≠ "java/lang/invoke/MethodHandle" ∧ q.1.cls ≠ "java/lang/invoke/VarHandle") ∧ Cond.instantiable q.1.cls q.2 ∈ tables_1 ∧ Cond.privateMethod q.1 ∈ tables_1 ∧ Cond.instanceMethod q.1 ∈ tables_1
set_option maxRecDepth 100000
theorem lw_t1 {w : Cond} (h : w ∈ tables_1_1) : w ∈ tables_1 := List.mem_append_left _ h
theorem lw_t2 {w : Cond} (h : w ∈ tables_1_2) : w ∈ tables_1 := List.mem_append_right _ (List.mem_append_left _ h)
theorem lw_t3 {w : Cond} (h : w ∈ tables_1_3) : w ∈ tables_1 := List.mem_append_right _ (List.mem_append_right _ (List.mem_append_left _ h))
theorem lw_t4 {w : Cond} (h : w ∈ tables_1_4) : w ∈ tables_1 := List.mem_append_right _ (List.mem_append_right _ (List.mem_append_right _ (List.mem_append_left _ h)))
theorem lw_t5 {w : Cond} (h : w ∈ tables_1_5) : w ∈ tables_1 := List.mem_append_right _ (List.mem_append_right _ (List.mem_append_right _ (List.mem_append_right _ (List.mem_append_left _ h))))
theorem lw_t6 {w : Cond} (h : w ∈ tables_1_6) : w ∈ tables_1 := List.mem_append_right _ (List.mem_append_right _ (List.mem_append_right _ (List.mem_append_right _ (List.mem_append_right _ (List.mem_append_left _ h)))))
theorem lw_t7 {w : Cond} (h : w ∈ tables_1_7) : w ∈ tables_1 := List.mem_append_right _ (List.mem_append_right _ (List.mem_append_right _ (List.mem_append_right _ (List.mem_append_right _ (List.mem_append_right _ (List.mem_append_left _ h))))))
theorem lw_t8 {w : Cond} (h : w ∈ tables_1_8) : w ∈ tables_1 := List.mem_append_right _ (List.mem_append_right _ (List.mem_append_right _ (List.mem_append_right _ (List.mem_append_right _ (List.mem_append_right _ (List.mem_append_right _ (List.mem_append_left _ h)))))))
theorem lw_t9 {w : Cond} (h : w ∈ tables_1_9) : w ∈ tables_1 := List.mem_append_right _ (List.mem_append_right _ (List.mem_append_right _ (List.mem_append_right _ (List.mem_append_right _ (List.mem_append_right _ (List.mem_append_right _ (List.mem_append_right _ h)))))))
theorem lw_p0 : lw_okq (⟨"ShutDays", "put", "(I)V"⟩, 12) := ⟨⟨by decide +kernel, by decide +kernel⟩, lw_t1 (List.mem_of_getElem? (i := 36) rfl), lw_t1 (List.mem_of_getElem? (i := 149) rfl), lw_t1 (List.mem_of_getElem? (i := 150) rfl)⟩
theorem lw_p1 : lw_okq (⟨"ShutDays$Tokens", "next", "()V"⟩, 8) := ⟨⟨by decide +kernel, by decide +kernel⟩, lw_t1 (List.mem_of_getElem? (i := 162) rfl), lw_t2 (List.mem_of_getElem? (i := 10) rfl), lw_t2 (List.mem_of_getElem? (i := 11) rfl)⟩
theorem lw_p2 : lw_okq (⟨"ShutDays$Tokens", "isWord", "(Ljava/lang/String;)Z"⟩, 8) := ⟨⟨by decide +kernel, by decide +kernel⟩, lw_t1 (List.mem_of_getElem? (i := 162) rfl), lw_t2 (List.mem_of_getElem? (i := 19) rfl), lw_t2 (List.mem_of_getElem? (i := 20) rfl)⟩
theorem lw_p3 : lw_okq (⟨"ShutDays$Tokens", "wrong", "(I)LShutDays$Wrong;"⟩, 8) := ⟨⟨by decide +kernel, by decide +kernel⟩, lw_t1 (List.mem_of_getElem? (i := 162) rfl), lw_t2 (List.mem_of_getElem? (i := 79) rfl), lw_t2 (List.mem_of_getElem? (i := 80) rfl)⟩
theorem lw_p4 : lw_okq (⟨"java/lang/Throwable", "fillInStackTrace", "(I)Ljava/lang/Throwable;"⟩, 6) := ⟨⟨by decide +kernel, by decide +kernel⟩, lw_t2 (List.mem_of_getElem? (i := 117) rfl), lw_t2 (List.mem_of_getElem? (i := 115) rfl), lw_t2 (List.mem_of_getElem? (i := 116) rfl)⟩
theorem lw_p5 : lw_okq (⟨"ShutDays$Tokens", "sum", "()LShutDays$Sum;"⟩, 8) := ⟨⟨by decide +kernel, by decide +kernel⟩, lw_t1 (List.mem_of_getElem? (i := 162) rfl), lw_t2 (List.mem_of_getElem? (i := 147) rfl), lw_t2 (List.mem_of_getElem? (i := 148) rfl)⟩
theorem lw_p6 : lw_okq (⟨"ShutDays$Tokens", "product", "()LShutDays$Sum;"⟩, 8) := ⟨⟨by decide +kernel, by decide +kernel⟩, lw_t1 (List.mem_of_getElem? (i := 162) rfl), lw_t2 (List.mem_of_getElem? (i := 153) rfl), lw_t2 (List.mem_of_getElem? (i := 154) rfl)⟩
theorem lw_p7 : lw_okq (⟨"ShutDays$Tokens", "one", "()LShutDays$Sum;"⟩, 8) := ⟨⟨by decide +kernel, by decide +kernel⟩, lw_t1 (List.mem_of_getElem? (i := 162) rfl), lw_t2 (List.mem_of_getElem? (i := 157) rfl), lw_t2 (List.mem_of_getElem? (i := 158) rfl)⟩
theorem lw_p8 : lw_okq (⟨"ShutDays$Tokens", "number", "(II)I"⟩, 8) := ⟨⟨by decide +kernel, by decide +kernel⟩, lw_t1 (List.mem_of_getElem? (i := 162) rfl), lw_t2 (List.mem_of_getElem? (i := 163) rfl), lw_t2 (List.mem_of_getElem? (i := 164) rfl)⟩
theorem lw_p9 : lw_okq (⟨"ShutDays$Tokens", "digit", "()LShutDays$Sum;"⟩, 8) := ⟨⟨by decide +kernel, by decide +kernel⟩, lw_t1 (List.mem_of_getElem? (i := 162) rfl), lw_t2 (List.mem_of_getElem? (i := 178) rfl), lw_t2 (List.mem_of_getElem? (i := 179) rfl)⟩
theorem lw_p10 : lw_okq (⟨"ShutDays$Tokens", "opens", "()V"⟩, 8) := ⟨⟨by decide +kernel, by decide +kernel⟩, lw_t1 (List.mem_of_getElem? (i := 162) rfl), lw_t2 (List.mem_of_getElem? (i := 182) rfl), lw_t2 (List.mem_of_getElem? (i := 183) rfl)⟩
theorem lw_p11 : lw_okq (⟨"ShutDays$Tokens", "want", "(I)V"⟩, 8) := ⟨⟨by decide +kernel, by decide +kernel⟩, lw_t1 (List.mem_of_getElem? (i := 162) rfl), lw_t2 (List.mem_of_getElem? (i := 186) rfl), lw_t2 (List.mem_of_getElem? (i := 187) rfl)⟩
theorem lw_p12 : lw_okq (⟨"ShutDays$Tokens", "nameNow", "()I"⟩, 8) := ⟨⟨by decide +kernel, by decide +kernel⟩, lw_t1 (List.mem_of_getElem? (i := 162) rfl), lw_t2 (List.mem_of_getElem? (i := 203) rfl), lw_t2 (List.mem_of_getElem? (i := 204) rfl)⟩
theorem lw_p13 : lw_okq (⟨"ShutDays$Tokens", "mayName", "(I)Z"⟩, 8) := ⟨⟨by decide +kernel, by decide +kernel⟩, lw_t1 (List.mem_of_getElem? (i := 162) rfl), lw_t2 (List.mem_of_getElem? (i := 207) rfl), lw_t2 (List.mem_of_getElem? (i := 208) rfl)⟩
theorem lw_p14 : lw_okq (⟨"java/util/ArrayList", "add", "(Ljava/lang/Object;[Ljava/lang/Object;I)V"⟩, 3) := ⟨⟨by decide +kernel, by decide +kernel⟩, lw_t1 (List.mem_of_getElem? (i := 203) rfl), lw_t3 (List.mem_of_getElem? (i := 35) rfl), lw_t3 (List.mem_of_getElem? (i := 36) rfl)⟩
theorem lw_p15 : lw_okq (⟨"java/util/ArrayList", "grow", "()[Ljava/lang/Object;"⟩, 3) := ⟨⟨by decide +kernel, by decide +kernel⟩, lw_t1 (List.mem_of_getElem? (i := 203) rfl), lw_t3 (List.mem_of_getElem? (i := 39) rfl), lw_t3 (List.mem_of_getElem? (i := 40) rfl)⟩
def lw_privs_1 : List (MethodName × Nat) := [(⟨"ShutDays", "put", "(I)V"⟩, 12), (⟨"ShutDays$Tokens", "next", "()V"⟩, 8), (⟨"ShutDays$Tokens", "isWord", "(Ljava/lang/String;)Z"⟩, 8), (⟨"ShutDays$Tokens", "wrong", "(I)LShutDays$Wrong;"⟩, 8), (⟨"java/lang/Throwable", "fillInStackTrace", "(I)Ljava/lang/Throwable;"⟩, 6), (⟨"ShutDays$Tokens", "sum", "()LShutDays$Sum;"⟩, 8), (⟨"ShutDays$Tokens", "product", "()LShutDays$Sum;"⟩, 8), (⟨"ShutDays$Tokens", "one", "()LShutDays$Sum;"⟩, 8), (⟨"ShutDays$Tokens", "number", "(II)I"⟩, 8), (⟨"ShutDays$Tokens", "digit", "()LShutDays$Sum;"⟩, 8), (⟨"ShutDays$Tokens", "opens", "()V"⟩, 8), (⟨"ShutDays$Tokens", "want", "(I)V"⟩, 8), (⟨"ShutDays$Tokens", "nameNow", "()I"⟩, 8), (⟨"ShutDays$Tokens", "mayName", "(I)Z"⟩, 8), (⟨"java/util/ArrayList", "add", "(Ljava/lang/Object;[Ljava/lang/Object;I)V"⟩, 3), (⟨"java/util/ArrayList", "grow", "()[Ljava/lang/Object;"⟩, 3)]
theorem lw_r1 : ∀ q ∈ lw_privs_1, lw_okq q := List.forall_mem_cons.mpr ⟨lw_p0, List.forall_mem_cons.mpr ⟨lw_p1, List.forall_mem_cons.mpr ⟨lw_p2, List.forall_mem_cons.mpr ⟨lw_p3, List.forall_mem_cons.mpr ⟨lw_p4, List.forall_mem_cons.mpr ⟨lw_p5, List.forall_mem_cons.mpr ⟨lw_p6, List.forall_mem_cons.mpr ⟨lw_p7, List.forall_mem_cons.mpr ⟨lw_p8, List.forall_mem_cons.mpr ⟨lw_p9, List.forall_mem_cons.mpr ⟨lw_p10, List.forall_mem_cons.mpr ⟨lw_p11, List.forall_mem_cons.mpr ⟨lw_p12, List.forall_mem_cons.mpr ⟨lw_p13, List.forall_mem_cons.mpr ⟨lw_p14, List.forall_mem_cons.mpr ⟨lw_p15, fun _ h => absurd h List.not_mem_nil⟩⟩⟩⟩⟩⟩⟩⟩⟩⟩⟩⟩⟩⟩⟩⟩
theorem lw_p16 : lw_okq (⟨"java/util/ArrayList", "grow", "(I)[Ljava/lang/Object;"⟩, 3) := ⟨⟨by decide +kernel, by decide +kernel⟩, lw_t1 (List.mem_of_getElem? (i := 203) rfl), lw_t3 (List.mem_of_getElem? (i := 43) rfl), lw_t3 (List.mem_of_getElem? (i := 44) rfl)⟩
theorem lw_p17 : lw_okq (⟨"ShutDays$Tokens", "either", "()LShutDays$Asked;"⟩, 8) := ⟨⟨by decide +kernel, by decide +kernel⟩, lw_t1 (List.mem_of_getElem? (i := 162) rfl), lw_t3 (List.mem_of_getElem? (i := 100) rfl), lw_t3 (List.mem_of_getElem? (i := 101) rfl)⟩
theorem lw_p18 : lw_okq (⟨"ShutDays$Tokens", "both", "()LShutDays$Asked;"⟩, 8) := ⟨⟨by decide +kernel, by decide +kernel⟩, lw_t1 (List.mem_of_getElem? (i := 162) rfl), lw_t3 (List.mem_of_getElem? (i := 106) rfl), lw_t3 (List.mem_of_getElem? (i := 107) rfl)⟩
theorem lw_p19 : lw_okq (⟨"ShutDays$Tokens", "ask", "()LShutDays$Asked;"⟩, 8) := ⟨⟨by decide +kernel, by decide +kernel⟩, lw_t1 (List.mem_of_getElem? (i := 162) rfl), lw_t3 (List.mem_of_getElem? (i := 110) rfl), lw_t3 (List.mem_of_getElem? (i := 111) rfl)⟩
theorem lw_p20 : lw_okq (⟨"ShutDays$Tokens", "divides", "(LShutDays$Sum;)LShutDays$Asked;"⟩, 8) := ⟨⟨by decide +kernel, by decide +kernel⟩, lw_t1 (List.mem_of_getElem? (i := 162) rfl), lw_t3 (List.mem_of_getElem? (i := 124) rfl), lw_t3 (List.mem_of_getElem? (i := 125) rfl)⟩
theorem lw_p21 : lw_okq (⟨"ShutDays$Tokens", "doing", "(I)LShutDays$Doing;"⟩, 8) := ⟨⟨by decide +kernel, by decide +kernel⟩, lw_t1 (List.mem_of_getElem? (i := 162) rfl), lw_t3 (List.mem_of_getElem? (i := 188) rfl), lw_t3 (List.mem_of_getElem? (i := 189) rfl)⟩
theorem lw_p22 : lw_okq (⟨"ShutDays$Tokens", "behind", "(III)I"⟩, 8) := ⟨⟨by decide +kernel, by decide +kernel⟩, lw_t1 (List.mem_of_getElem? (i := 162) rfl), lw_t3 (List.mem_of_getElem? (i := 192) rfl), lw_t3 (List.mem_of_getElem? (i := 193) rfl)⟩
theorem lw_p23 : lw_okq (⟨"ShutDays", "isText", "(I)Z"⟩, 12) := ⟨⟨by decide +kernel, by decide +kernel⟩, lw_t1 (List.mem_of_getElem? (i := 36) rfl), lw_t3 (List.mem_of_getElem? (i := 226) rfl), lw_t3 (List.mem_of_getElem? (i := 227) rfl)⟩
theorem lw_p24 : lw_okq (⟨"ShutDays", "rules", "()LShutDays$Text;"⟩, 12) := ⟨⟨by decide +kernel, by decide +kernel⟩, lw_t1 (List.mem_of_getElem? (i := 36) rfl), lw_t3 (List.mem_of_getElem? (i := 238) rfl), lw_t3 (List.mem_of_getElem? (i := 239) rfl)⟩
theorem lw_p25 : lw_okq (⟨"ShutDays", "passes", "(LShutDays$Text;[I)V"⟩, 12) := ⟨⟨by decide +kernel, by decide +kernel⟩, lw_t1 (List.mem_of_getElem? (i := 36) rfl), lw_t4 (List.mem_of_getElem? (i := 4) rfl), lw_t4 (List.mem_of_getElem? (i := 5) rfl)⟩
theorem lw_p26 : lw_okq (⟨"ShutDays", "losesBy", "(LShutDays$Text;[III)I"⟩, 12) := ⟨⟨by decide +kernel, by decide +kernel⟩, lw_t1 (List.mem_of_getElem? (i := 36) rfl), lw_t4 (List.mem_of_getElem? (i := 17) rfl), lw_t4 (List.mem_of_getElem? (i := 18) rfl)⟩
theorem lw_p27 : lw_okq (⟨"ShutDays", "names", "([III)V"⟩, 12) := ⟨⟨by decide +kernel, by decide +kernel⟩, lw_t1 (List.mem_of_getElem? (i := 36) rfl), lw_t4 (List.mem_of_getElem? (i := 21) rfl), lw_t4 (List.mem_of_getElem? (i := 22) rfl)⟩
theorem lw_p28 : lw_okq (⟨"ShutDays", "openOn", "([II)I"⟩, 12) := ⟨⟨by decide +kernel, by decide +kernel⟩, lw_t1 (List.mem_of_getElem? (i := 36) rfl), lw_t4 (List.mem_of_getElem? (i := 31) rfl), lw_t4 (List.mem_of_getElem? (i := 32) rfl)⟩
theorem lw_p29 : lw_okq (⟨"ShutDays", "isOpen", "([III)Z"⟩, 12) := ⟨⟨by decide +kernel, by decide +kernel⟩, lw_t1 (List.mem_of_getElem? (i := 36) rfl), lw_t4 (List.mem_of_getElem? (i := 35) rfl), lw_t4 (List.mem_of_getElem? (i := 36) rfl)⟩
theorem lw_p30 : lw_okq (⟨"ShutDays", "isHouse", "(I)Z"⟩, 12) := ⟨⟨by decide +kernel, by decide +kernel⟩, lw_t1 (List.mem_of_getElem? (i := 36) rfl), lw_t4 (List.mem_of_getElem? (i := 39) rfl), lw_t4 (List.mem_of_getElem? (i := 40) rfl)⟩
theorem lw_p31 : lw_okq (⟨"ShutDays", "besideOf", "([III)I"⟩, 12) := ⟨⟨by decide +kernel, by decide +kernel⟩, lw_t1 (List.mem_of_getElem? (i := 36) rfl), lw_t4 (List.mem_of_getElem? (i := 43) rfl), lw_t4 (List.mem_of_getElem? (i := 44) rfl)⟩
def lw_privs_2 : List (MethodName × Nat) := [(⟨"java/util/ArrayList", "grow", "(I)[Ljava/lang/Object;"⟩, 3), (⟨"ShutDays$Tokens", "either", "()LShutDays$Asked;"⟩, 8), (⟨"ShutDays$Tokens", "both", "()LShutDays$Asked;"⟩, 8), (⟨"ShutDays$Tokens", "ask", "()LShutDays$Asked;"⟩, 8), (⟨"ShutDays$Tokens", "divides", "(LShutDays$Sum;)LShutDays$Asked;"⟩, 8), (⟨"ShutDays$Tokens", "doing", "(I)LShutDays$Doing;"⟩, 8), (⟨"ShutDays$Tokens", "behind", "(III)I"⟩, 8), (⟨"ShutDays", "isText", "(I)Z"⟩, 12), (⟨"ShutDays", "rules", "()LShutDays$Text;"⟩, 12), (⟨"ShutDays", "passes", "(LShutDays$Text;[I)V"⟩, 12), (⟨"ShutDays", "losesBy", "(LShutDays$Text;[III)I"⟩, 12), (⟨"ShutDays", "names", "([III)V"⟩, 12), (⟨"ShutDays", "openOn", "([II)I"⟩, 12), (⟨"ShutDays", "isOpen", "([III)Z"⟩, 12), (⟨"ShutDays", "isHouse", "(I)Z"⟩, 12), (⟨"ShutDays", "besideOf", "([III)I"⟩, 12)]
theorem lw_r2 : ∀ q ∈ lw_privs_2, lw_okq q := List.forall_mem_cons.mpr ⟨lw_p16, List.forall_mem_cons.mpr ⟨lw_p17, List.forall_mem_cons.mpr ⟨lw_p18, List.forall_mem_cons.mpr ⟨lw_p19, List.forall_mem_cons.mpr ⟨lw_p20, List.forall_mem_cons.mpr ⟨lw_p21, List.forall_mem_cons.mpr ⟨lw_p22, List.forall_mem_cons.mpr ⟨lw_p23, List.forall_mem_cons.mpr ⟨lw_p24, List.forall_mem_cons.mpr ⟨lw_p25, List.forall_mem_cons.mpr ⟨lw_p26, List.forall_mem_cons.mpr ⟨lw_p27, List.forall_mem_cons.mpr ⟨lw_p28, List.forall_mem_cons.mpr ⟨lw_p29, List.forall_mem_cons.mpr ⟨lw_p30, List.forall_mem_cons.mpr ⟨lw_p31, fun _ h => absurd h List.not_mem_nil⟩⟩⟩⟩⟩⟩⟩⟩⟩⟩⟩⟩⟩⟩⟩⟩
theorem lw_p32 : lw_okq (⟨"ShutDays", "earnsBy", "(LShutDays$Text;[III)I"⟩, 12) := ⟨⟨by decide +kernel, by decide +kernel⟩, lw_t1 (List.mem_of_getElem? (i := 36) rfl), lw_t4 (List.mem_of_getElem? (i := 115) rfl), lw_t4 (List.mem_of_getElem? (i := 116) rfl)⟩
theorem lw_p33 : lw_okq (⟨"ShutDays", "isThere", "(I)Z"⟩, 12) := ⟨⟨by decide +kernel, by decide +kernel⟩, lw_t1 (List.mem_of_getElem? (i := 36) rfl), lw_t4 (List.mem_of_getElem? (i := 124) rfl), lw_t4 (List.mem_of_getElem? (i := 125) rfl)⟩
theorem lw_p34 : lw_okq (⟨"ShutDays", "knocking", "(I)I"⟩, 12) := ⟨⟨by decide +kernel, by decide +kernel⟩, lw_t1 (List.mem_of_getElem? (i := 36) rfl), lw_t4 (List.mem_of_getElem? (i := 128) rfl), lw_t4 (List.mem_of_getElem? (i := 129) rfl)⟩
theorem lw_p35 : lw_okq (⟨"ShutDays", "letsBy", "(LShutDays$Text;[II)Z"⟩, 12) := ⟨⟨by decide +kernel, by decide +kernel⟩, lw_t1 (List.mem_of_getElem? (i := 36) rfl), lw_t4 (List.mem_of_getElem? (i := 132) rfl), lw_t4 (List.mem_of_getElem? (i := 133) rfl)⟩
theorem lw_p36 : lw_okq (⟨"ShutDays", "wedDates", "(II)I"⟩, 12) := ⟨⟨by decide +kernel, by decide +kernel⟩, lw_t1 (List.mem_of_getElem? (i := 36) rfl), lw_t4 (List.mem_of_getElem? (i := 180) rfl), lw_t4 (List.mem_of_getElem? (i := 181) rfl)⟩
theorem lw_p37 : lw_okq (⟨"ShutDays", "canHat", "(I)Z"⟩, 12) := ⟨⟨by decide +kernel, by decide +kernel⟩, lw_t1 (List.mem_of_getElem? (i := 36) rfl), lw_t4 (List.mem_of_getElem? (i := 188) rfl), lw_t4 (List.mem_of_getElem? (i := 189) rfl)⟩
theorem lw_p38 : lw_okq (⟨"ShutDays", "hats", "(I)I"⟩, 12) := ⟨⟨by decide +kernel, by decide +kernel⟩, lw_t1 (List.mem_of_getElem? (i := 36) rfl), lw_t4 (List.mem_of_getElem? (i := 192) rfl), lw_t4 (List.mem_of_getElem? (i := 193) rfl)⟩
theorem lw_p39 : lw_okq (⟨"ShutDays", "draws", "()V"⟩, 12) := ⟨⟨by decide +kernel, by decide +kernel⟩, lw_t1 (List.mem_of_getElem? (i := 36) rfl), lw_t4 (List.mem_of_getElem? (i := 196) rfl), lw_t4 (List.mem_of_getElem? (i := 197) rfl)⟩
theorem lw_p40 : lw_okq (⟨"ShutDays", "canForget", "(II)Z"⟩, 12) := ⟨⟨by decide +kernel, by decide +kernel⟩, lw_t1 (List.mem_of_getElem? (i := 36) rfl), lw_t4 (List.mem_of_getElem? (i := 204) rfl), lw_t4 (List.mem_of_getElem? (i := 205) rfl)⟩
theorem lw_p41 : lw_okq (⟨"ShutDays", "does", "(LShutDays$Doing;)Z"⟩, 12) := ⟨⟨by decide +kernel, by decide +kernel⟩, lw_t1 (List.mem_of_getElem? (i := 36) rfl), lw_t4 (List.mem_of_getElem? (i := 218) rfl), lw_t4 (List.mem_of_getElem? (i := 219) rfl)⟩
theorem lw_p42 : lw_okq (⟨"ShutDays", "hatted", "(I)Z"⟩, 12) := ⟨⟨by decide +kernel, by decide +kernel⟩, lw_t1 (List.mem_of_getElem? (i := 36) rfl), lw_t5 (List.mem_of_getElem? (i := 1) rfl), lw_t5 (List.mem_of_getElem? (i := 2) rfl)⟩
theorem lw_p43 : lw_okq (⟨"ShutDays", "passesAll", "(I)Z"⟩, 12) := ⟨⟨by decide +kernel, by decide +kernel⟩, lw_t1 (List.mem_of_getElem? (i := 36) rfl), lw_t5 (List.mem_of_getElem? (i := 7) rfl), lw_t5 (List.mem_of_getElem? (i := 8) rfl)⟩
theorem lw_p44 : lw_okq (⟨"ShutDays", "happens", "(I)V"⟩, 12) := ⟨⟨by decide +kernel, by decide +kernel⟩, lw_t1 (List.mem_of_getElem? (i := 36) rfl), lw_t5 (List.mem_of_getElem? (i := 20) rfl), lw_t5 (List.mem_of_getElem? (i := 21) rfl)⟩
theorem lw_p45 : lw_okq (⟨"ShutDays", "goes", "(LShutDays$Text;I)V"⟩, 12) := ⟨⟨by decide +kernel, by decide +kernel⟩, lw_t1 (List.mem_of_getElem? (i := 36) rfl), lw_t5 (List.mem_of_getElem? (i := 45) rfl), lw_t5 (List.mem_of_getElem? (i := 46) rfl)⟩
theorem lw_p46 : lw_okq (⟨"ShutDays", "shutOn", "(I)I"⟩, 12) := ⟨⟨by decide +kernel, by decide +kernel⟩, lw_t1 (List.mem_of_getElem? (i := 36) rfl), lw_t5 (List.mem_of_getElem? (i := 53) rfl), lw_t5 (List.mem_of_getElem? (i := 54) rfl)⟩
theorem lw_p47 : lw_okq (⟨"ShutDays", "friendsOn", "(I)I"⟩, 12) := ⟨⟨by decide +kernel, by decide +kernel⟩, lw_t1 (List.mem_of_getElem? (i := 36) rfl), lw_t5 (List.mem_of_getElem? (i := 65) rfl), lw_t5 (List.mem_of_getElem? (i := 66) rfl)⟩
def lw_privs_3 : List (MethodName × Nat) := [(⟨"ShutDays", "earnsBy", "(LShutDays$Text;[III)I"⟩, 12), (⟨"ShutDays", "isThere", "(I)Z"⟩, 12), (⟨"ShutDays", "knocking", "(I)I"⟩, 12), (⟨"ShutDays", "letsBy", "(LShutDays$Text;[II)Z"⟩, 12), (⟨"ShutDays", "wedDates", "(II)I"⟩, 12), (⟨"ShutDays", "canHat", "(I)Z"⟩, 12), (⟨"ShutDays", "hats", "(I)I"⟩, 12), (⟨"ShutDays", "draws", "()V"⟩, 12), (⟨"ShutDays", "canForget", "(II)Z"⟩, 12), (⟨"ShutDays", "does", "(LShutDays$Doing;)Z"⟩, 12), (⟨"ShutDays", "hatted", "(I)Z"⟩, 12), (⟨"ShutDays", "passesAll", "(I)Z"⟩, 12), (⟨"ShutDays", "happens", "(I)V"⟩, 12), (⟨"ShutDays", "goes", "(LShutDays$Text;I)V"⟩, 12), (⟨"ShutDays", "shutOn", "(I)I"⟩, 12), (⟨"ShutDays", "friendsOn", "(I)I"⟩, 12)]
theorem lw_r3 : ∀ q ∈ lw_privs_3, lw_okq q := List.forall_mem_cons.mpr ⟨lw_p32, List.forall_mem_cons.mpr ⟨lw_p33, List.forall_mem_cons.mpr ⟨lw_p34, List.forall_mem_cons.mpr ⟨lw_p35, List.forall_mem_cons.mpr ⟨lw_p36, List.forall_mem_cons.mpr ⟨lw_p37, List.forall_mem_cons.mpr ⟨lw_p38, List.forall_mem_cons.mpr ⟨lw_p39, List.forall_mem_cons.mpr ⟨lw_p40, List.forall_mem_cons.mpr ⟨lw_p41, List.forall_mem_cons.mpr ⟨lw_p42, List.forall_mem_cons.mpr ⟨lw_p43, List.forall_mem_cons.mpr ⟨lw_p44, List.forall_mem_cons.mpr ⟨lw_p45, List.forall_mem_cons.mpr ⟨lw_p46, List.forall_mem_cons.mpr ⟨lw_p47, fun _ h => absurd h List.not_mem_nil⟩⟩⟩⟩⟩⟩⟩⟩⟩⟩⟩⟩⟩⟩⟩⟩
theorem lw_p48 : lw_okq (⟨"ShutDays", "setsWith", "(III)I"⟩, 12) := ⟨⟨by decide +kernel, by decide +kernel⟩, lw_t1 (List.mem_of_getElem? (i := 36) rfl), lw_t5 (List.mem_of_getElem? (i := 97) rfl), lw_t5 (List.mem_of_getElem? (i := 98) rfl)⟩
theorem lw_p49 : lw_okq (⟨"ShutDays", "datesSeen", "(II)I"⟩, 12) := ⟨⟨by decide +kernel, by decide +kernel⟩, lw_t1 (List.mem_of_getElem? (i := 36) rfl), lw_t5 (List.mem_of_getElem? (i := 101) rfl), lw_t5 (List.mem_of_getElem? (i := 102) rfl)⟩
theorem lw_p50 : lw_okq (⟨"ShutDays", "firstLooted", "(II)I"⟩, 12) := ⟨⟨by decide +kernel, by decide +kernel⟩, lw_t1 (List.mem_of_getElem? (i := 36) rfl), lw_t5 (List.mem_of_getElem? (i := 126) rfl), lw_t5 (List.mem_of_getElem? (i := 127) rfl)⟩
theorem lw_p51 : lw_okq (⟨"ShutDays", "lootFrom", "(III)I"⟩, 12) := ⟨⟨by decide +kernel, by decide +kernel⟩, lw_t1 (List.mem_of_getElem? (i := 36) rfl), lw_t5 (List.mem_of_getElem? (i := 130) rfl), lw_t5 (List.mem_of_getElem? (i := 131) rfl)⟩
theorem lw_p52 : lw_okq (⟨"ShutDays", "loot", "(II)I"⟩, 12) := ⟨⟨by decide +kernel, by decide +kernel⟩, lw_t1 (List.mem_of_getElem? (i := 36) rfl), lw_t5 (List.mem_of_getElem? (i := 134) rfl), lw_t5 (List.mem_of_getElem? (i := 135) rfl)⟩
theorem lw_p53 : lw_okq (⟨"ShutDays", "there", "()I"⟩, 12) := ⟨⟨by decide +kernel, by decide +kernel⟩, lw_t1 (List.mem_of_getElem? (i := 36) rfl), lw_t5 (List.mem_of_getElem? (i := 146) rfl), lw_t5 (List.mem_of_getElem? (i := 147) rfl)⟩
theorem lw_p54 : lw_okq (⟨"ShutDays", "visits", "(III)Z"⟩, 12) := ⟨⟨by decide +kernel, by decide +kernel⟩, lw_t1 (List.mem_of_getElem? (i := 36) rfl), lw_t5 (List.mem_of_getElem? (i := 150) rfl), lw_t5 (List.mem_of_getElem? (i := 151) rfl)⟩
theorem lw_p55 : lw_okq (⟨"ShutDays", "isRound", "(I)Z"⟩, 12) := ⟨⟨by decide +kernel, by decide +kernel⟩, lw_t1 (List.mem_of_getElem? (i := 36) rfl), lw_t5 (List.mem_of_getElem? (i := 159) rfl), lw_t5 (List.mem_of_getElem? (i := 160) rfl)⟩
theorem lw_p56 : lw_okq (⟨"ShutDays", "weds", "(II)V"⟩, 12) := ⟨⟨by decide +kernel, by decide +kernel⟩, lw_t1 (List.mem_of_getElem? (i := 36) rfl), lw_t5 (List.mem_of_getElem? (i := 173) rfl), lw_t5 (List.mem_of_getElem? (i := 174) rfl)⟩
theorem lw_p57 : lw_okq (⟨"ShutDays", "knowing", "(I)I"⟩, 12) := ⟨⟨by decide +kernel, by decide +kernel⟩, lw_t1 (List.mem_of_getElem? (i := 36) rfl), lw_t5 (List.mem_of_getElem? (i := 193) rfl), lw_t5 (List.mem_of_getElem? (i := 194) rfl)⟩
theorem lw_p58 : lw_okq (⟨"ShutDays", "earnedOn", "(I)I"⟩, 12) := ⟨⟨by decide +kernel, by decide +kernel⟩, lw_t1 (List.mem_of_getElem? (i := 36) rfl), lw_t5 (List.mem_of_getElem? (i := 205) rfl), lw_t5 (List.mem_of_getElem? (i := 206) rfl)⟩
theorem lw_p59 : lw_okq (⟨"ShutDays", "pursesBy", "(LShutDays$Text;I)I"⟩, 12) := ⟨⟨by decide +kernel, by decide +kernel⟩, lw_t1 (List.mem_of_getElem? (i := 36) rfl), lw_t5 (List.mem_of_getElem? (i := 213) rfl), lw_t5 (List.mem_of_getElem? (i := 214) rfl)⟩
theorem lw_p60 : lw_okq (⟨"ShutDays", "knocksAt", "(II)I"⟩, 12) := ⟨⟨by decide +kernel, by decide +kernel⟩, lw_t1 (List.mem_of_getElem? (i := 36) rfl), lw_t5 (List.mem_of_getElem? (i := 221) rfl), lw_t5 (List.mem_of_getElem? (i := 222) rfl)⟩
theorem lw_p61 : lw_okq (⟨"ShutDaysModel", "put", "(III)V"⟩, 36) := ⟨⟨by decide +kernel, by decide +kernel⟩, lw_t6 (List.mem_of_getElem? (i := 6) rfl), lw_t6 (List.mem_of_getElem? (i := 133) rfl), lw_t6 (List.mem_of_getElem? (i := 134) rfl)⟩
theorem lw_p62 : lw_okq (⟨"ShutDaysModel", "begin", "(I)V"⟩, 36) := ⟨⟨by decide +kernel, by decide +kernel⟩, lw_t6 (List.mem_of_getElem? (i := 6) rfl), lw_t6 (List.mem_of_getElem? (i := 137) rfl), lw_t6 (List.mem_of_getElem? (i := 138) rfl)⟩
theorem lw_p63 : lw_okq (⟨"ShutDaysModel", "get", "(II)I"⟩, 36) := ⟨⟨by decide +kernel, by decide +kernel⟩, lw_t6 (List.mem_of_getElem? (i := 6) rfl), lw_t6 (List.mem_of_getElem? (i := 141) rfl), lw_t6 (List.mem_of_getElem? (i := 142) rfl)⟩
def lw_privs_4 : List (MethodName × Nat) := [(⟨"ShutDays", "setsWith", "(III)I"⟩, 12), (⟨"ShutDays", "datesSeen", "(II)I"⟩, 12), (⟨"ShutDays", "firstLooted", "(II)I"⟩, 12), (⟨"ShutDays", "lootFrom", "(III)I"⟩, 12), (⟨"ShutDays", "loot", "(II)I"⟩, 12), (⟨"ShutDays", "there", "()I"⟩, 12), (⟨"ShutDays", "visits", "(III)Z"⟩, 12), (⟨"ShutDays", "isRound", "(I)Z"⟩, 12), (⟨"ShutDays", "weds", "(II)V"⟩, 12), (⟨"ShutDays", "knowing", "(I)I"⟩, 12), (⟨"ShutDays", "earnedOn", "(I)I"⟩, 12), (⟨"ShutDays", "pursesBy", "(LShutDays$Text;I)I"⟩, 12), (⟨"ShutDays", "knocksAt", "(II)I"⟩, 12), (⟨"ShutDaysModel", "put", "(III)V"⟩, 36), (⟨"ShutDaysModel", "begin", "(I)V"⟩, 36), (⟨"ShutDaysModel", "get", "(II)I"⟩, 36)]
theorem lw_r4 : ∀ q ∈ lw_privs_4, lw_okq q := List.forall_mem_cons.mpr ⟨lw_p48, List.forall_mem_cons.mpr ⟨lw_p49, List.forall_mem_cons.mpr ⟨lw_p50, List.forall_mem_cons.mpr ⟨lw_p51, List.forall_mem_cons.mpr ⟨lw_p52, List.forall_mem_cons.mpr ⟨lw_p53, List.forall_mem_cons.mpr ⟨lw_p54, List.forall_mem_cons.mpr ⟨lw_p55, List.forall_mem_cons.mpr ⟨lw_p56, List.forall_mem_cons.mpr ⟨lw_p57, List.forall_mem_cons.mpr ⟨lw_p58, List.forall_mem_cons.mpr ⟨lw_p59, List.forall_mem_cons.mpr ⟨lw_p60, List.forall_mem_cons.mpr ⟨lw_p61, List.forall_mem_cons.mpr ⟨lw_p62, List.forall_mem_cons.mpr ⟨lw_p63, fun _ h => absurd h List.not_mem_nil⟩⟩⟩⟩⟩⟩⟩⟩⟩⟩⟩⟩⟩⟩⟩⟩
theorem lw_p64 : lw_okq (⟨"ShutDaysModel", "four", "(I)V"⟩, 36) := ⟨⟨by decide +kernel, by decide +kernel⟩, lw_t6 (List.mem_of_getElem? (i := 6) rfl), lw_t6 (List.mem_of_getElem? (i := 149) rfl), lw_t6 (List.mem_of_getElem? (i := 150) rfl)⟩
theorem lw_p65 : lw_okq (⟨"ShutDaysModel", "readText", "()I"⟩, 36) := ⟨⟨by decide +kernel, by decide +kernel⟩, lw_t6 (List.mem_of_getElem? (i := 6) rfl), lw_t6 (List.mem_of_getElem? (i := 161) rfl), lw_t6 (List.mem_of_getElem? (i := 162) rfl)⟩
theorem lw_p66 : lw_okq (⟨"ShutDaysModel", "nextToken", "()V"⟩, 36) := ⟨⟨by decide +kernel, by decide +kernel⟩, lw_t6 (List.mem_of_getElem? (i := 6) rfl), lw_t6 (List.mem_of_getElem? (i := 165) rfl), lw_t6 (List.mem_of_getElem? (i := 166) rfl)⟩
theorem lw_p67 : lw_okq (⟨"ShutDaysModel", "byteAt", "(I)I"⟩, 36) := ⟨⟨by decide +kernel, by decide +kernel⟩, lw_t6 (List.mem_of_getElem? (i := 6) rfl), lw_t6 (List.mem_of_getElem? (i := 169) rfl), lw_t6 (List.mem_of_getElem? (i := 170) rfl)⟩
theorem lw_p68 : lw_okq (⟨"ShutDaysModel", "clause", "()I"⟩, 36) := ⟨⟨by decide +kernel, by decide +kernel⟩, lw_t6 (List.mem_of_getElem? (i := 6) rfl), lw_t6 (List.mem_of_getElem? (i := 184) rfl), lw_t6 (List.mem_of_getElem? (i := 185) rfl)⟩
theorem lw_p69 : lw_okq (⟨"ShutDaysModel", "sortOf", "()I"⟩, 36) := ⟨⟨by decide +kernel, by decide +kernel⟩, lw_t6 (List.mem_of_getElem? (i := 6) rfl), lw_t6 (List.mem_of_getElem? (i := 188) rfl), lw_t6 (List.mem_of_getElem? (i := 189) rfl)⟩
theorem lw_p70 : lw_okq (⟨"ShutDaysModel", "isWord", "(J)Z"⟩, 36) := ⟨⟨by decide +kernel, by decide +kernel⟩, lw_t6 (List.mem_of_getElem? (i := 6) rfl), lw_t6 (List.mem_of_getElem? (i := 204) rfl), lw_t6 (List.mem_of_getElem? (i := 205) rfl)⟩
theorem lw_p71 : lw_okq (⟨"ShutDaysModel", "body", "(II)I"⟩, 36) := ⟨⟨by decide +kernel, by decide +kernel⟩, lw_t6 (List.mem_of_getElem? (i := 6) rfl), lw_t6 (List.mem_of_getElem? (i := 214) rfl), lw_t6 (List.mem_of_getElem? (i := 215) rfl)⟩
theorem lw_p72 : lw_okq (⟨"ShutDaysModel", "houseClause", "(I)I"⟩, 36) := ⟨⟨by decide +kernel, by decide +kernel⟩, lw_t6 (List.mem_of_getElem? (i := 6) rfl), lw_t6 (List.mem_of_getElem? (i := 218) rfl), lw_t6 (List.mem_of_getElem? (i := 219) rfl)⟩
theorem lw_p73 : lw_okq (⟨"ShutDaysModel", "figure", "(III)I"⟩, 36) := ⟨⟨by decide +kernel, by decide +kernel⟩, lw_t6 (List.mem_of_getElem? (i := 6) rfl), lw_t6 (List.mem_of_getElem? (i := 222) rfl), lw_t6 (List.mem_of_getElem? (i := 223) rfl)⟩
theorem lw_p74 : lw_okq (⟨"ShutDaysModel", "worded", "(JII)I"⟩, 36) := ⟨⟨by decide +kernel, by decide +kernel⟩, lw_t6 (List.mem_of_getElem? (i := 6) rfl), lw_t6 (List.mem_of_getElem? (i := 226) rfl), lw_t6 (List.mem_of_getElem? (i := 227) rfl)⟩
theorem lw_p75 : lw_okq (⟨"ShutDaysModel", "isFriends", "()Z"⟩, 36) := ⟨⟨by decide +kernel, by decide +kernel⟩, lw_t6 (List.mem_of_getElem? (i := 6) rfl), lw_t6 (List.mem_of_getElem? (i := 230) rfl), lw_t6 (List.mem_of_getElem? (i := 231) rfl)⟩
theorem lw_p76 : lw_okq (⟨"ShutDaysModel", "isLong", "(JJ)Z"⟩, 36) := ⟨⟨by decide +kernel, by decide +kernel⟩, lw_t6 (List.mem_of_getElem? (i := 6) rfl), lw_t6 (List.mem_of_getElem? (i := 234) rfl), lw_t6 (List.mem_of_getElem? (i := 235) rfl)⟩
theorem lw_p77 : lw_okq (⟨"ShutDaysModel", "lawClause", "(IZ)I"⟩, 36) := ⟨⟨by decide +kernel, by decide +kernel⟩, lw_t6 (List.mem_of_getElem? (i := 6) rfl), lw_t6 (List.mem_of_getElem? (i := 238) rfl), lw_t6 (List.mem_of_getElem? (i := 239) rfl)⟩
theorem lw_p78 : lw_okq (⟨"ShutDaysModel", "parsed", "(Z)I"⟩, 36) := ⟨⟨by decide +kernel, by decide +kernel⟩, lw_t6 (List.mem_of_getElem? (i := 6) rfl), lw_t7 (List.mem_of_getElem? (i := 2) rfl), lw_t7 (List.mem_of_getElem? (i := 3) rfl)⟩
theorem lw_p79 : lw_okq (⟨"ShutDaysModel", "behindOne", "()I"⟩, 36) := ⟨⟨by decide +kernel, by decide +kernel⟩, lw_t6 (List.mem_of_getElem? (i := 6) rfl), lw_t7 (List.mem_of_getElem? (i := 6) rfl), lw_t7 (List.mem_of_getElem? (i := 7) rfl)⟩
def lw_privs_5 : List (MethodName × Nat) := [(⟨"ShutDaysModel", "four", "(I)V"⟩, 36), (⟨"ShutDaysModel", "readText", "()I"⟩, 36), (⟨"ShutDaysModel", "nextToken", "()V"⟩, 36), (⟨"ShutDaysModel", "byteAt", "(I)I"⟩, 36), (⟨"ShutDaysModel", "clause", "()I"⟩, 36), (⟨"ShutDaysModel", "sortOf", "()I"⟩, 36), (⟨"ShutDaysModel", "isWord", "(J)Z"⟩, 36), (⟨"ShutDaysModel", "body", "(II)I"⟩, 36), (⟨"ShutDaysModel", "houseClause", "(I)I"⟩, 36), (⟨"ShutDaysModel", "figure", "(III)I"⟩, 36), (⟨"ShutDaysModel", "worded", "(JII)I"⟩, 36), (⟨"ShutDaysModel", "isFriends", "()Z"⟩, 36), (⟨"ShutDaysModel", "isLong", "(JJ)Z"⟩, 36), (⟨"ShutDaysModel", "lawClause", "(IZ)I"⟩, 36), (⟨"ShutDaysModel", "parsed", "(Z)I"⟩, 36), (⟨"ShutDaysModel", "behindOne", "()I"⟩, 36)]
theorem lw_r5 : ∀ q ∈ lw_privs_5, lw_okq q := List.forall_mem_cons.mpr ⟨lw_p64, List.forall_mem_cons.mpr ⟨lw_p65, List.forall_mem_cons.mpr ⟨lw_p66, List.forall_mem_cons.mpr ⟨lw_p67, List.forall_mem_cons.mpr ⟨lw_p68, List.forall_mem_cons.mpr ⟨lw_p69, List.forall_mem_cons.mpr ⟨lw_p70, List.forall_mem_cons.mpr ⟨lw_p71, List.forall_mem_cons.mpr ⟨lw_p72, List.forall_mem_cons.mpr ⟨lw_p73, List.forall_mem_cons.mpr ⟨lw_p74, List.forall_mem_cons.mpr ⟨lw_p75, List.forall_mem_cons.mpr ⟨lw_p76, List.forall_mem_cons.mpr ⟨lw_p77, List.forall_mem_cons.mpr ⟨lw_p78, List.forall_mem_cons.mpr ⟨lw_p79, fun _ h => absurd h List.not_mem_nil⟩⟩⟩⟩⟩⟩⟩⟩⟩⟩⟩⟩⟩⟩⟩⟩
theorem lw_p80 : lw_okq (⟨"ShutDaysModel", "betweenOf", "()I"⟩, 36) := ⟨⟨by decide +kernel, by decide +kernel⟩, lw_t6 (List.mem_of_getElem? (i := 6) rfl), lw_t7 (List.mem_of_getElem? (i := 10) rfl), lw_t7 (List.mem_of_getElem? (i := 11) rfl)⟩
theorem lw_p81 : lw_okq (⟨"ShutDaysModel", "isShut", "()Z"⟩, 36) := ⟨⟨by decide +kernel, by decide +kernel⟩, lw_t6 (List.mem_of_getElem? (i := 6) rfl), lw_t7 (List.mem_of_getElem? (i := 14) rfl), lw_t7 (List.mem_of_getElem? (i := 15) rfl)⟩
theorem lw_p82 : lw_okq (⟨"ShutDaysModel", "isCompared", "()Z"⟩, 36) := ⟨⟨by decide +kernel, by decide +kernel⟩, lw_t6 (List.mem_of_getElem? (i := 6) rfl), lw_t7 (List.mem_of_getElem? (i := 18) rfl), lw_t7 (List.mem_of_getElem? (i := 19) rfl)⟩
theorem lw_p83 : lw_okq (⟨"ShutDaysModel", "compareOf", "()I"⟩, 36) := ⟨⟨by decide +kernel, by decide +kernel⟩, lw_t6 (List.mem_of_getElem? (i := 6) rfl), lw_t7 (List.mem_of_getElem? (i := 25) rfl), lw_t7 (List.mem_of_getElem? (i := 26) rfl)⟩
theorem lw_p84 : lw_okq (⟨"ShutDaysModel", "settle", "(I)V"⟩, 36) := ⟨⟨by decide +kernel, by decide +kernel⟩, lw_t6 (List.mem_of_getElem? (i := 6) rfl), lw_t7 (List.mem_of_getElem? (i := 29) rfl), lw_t7 (List.mem_of_getElem? (i := 30) rfl)⟩
theorem lw_p85 : lw_okq (⟨"ShutDaysModel", "emit", "(II)V"⟩, 36) := ⟨⟨by decide +kernel, by decide +kernel⟩, lw_t6 (List.mem_of_getElem? (i := 6) rfl), lw_t7 (List.mem_of_getElem? (i := 33) rfl), lw_t7 (List.mem_of_getElem? (i := 34) rfl)⟩
theorem lw_p86 : lw_okq (⟨"ShutDaysModel", "endOne", "()I"⟩, 36) := ⟨⟨by decide +kernel, by decide +kernel⟩, lw_t6 (List.mem_of_getElem? (i := 6) rfl), lw_t7 (List.mem_of_getElem? (i := 37) rfl), lw_t7 (List.mem_of_getElem? (i := 38) rfl)⟩
theorem lw_p87 : lw_okq (⟨"ShutDaysModel", "beginOne", "()I"⟩, 36) := ⟨⟨by decide +kernel, by decide +kernel⟩, lw_t6 (List.mem_of_getElem? (i := 6) rfl), lw_t7 (List.mem_of_getElem? (i := 41) rfl), lw_t7 (List.mem_of_getElem? (i := 42) rfl)⟩
theorem lw_p88 : lw_okq (⟨"ShutDaysModel", "nameOf", "()I"⟩, 36) := ⟨⟨by decide +kernel, by decide +kernel⟩, lw_t6 (List.mem_of_getElem? (i := 6) rfl), lw_t7 (List.mem_of_getElem? (i := 45) rfl), lw_t7 (List.mem_of_getElem? (i := 46) rfl)⟩
theorem lw_p89 : lw_okq (⟨"ShutDaysModel", "opened", "(I)I"⟩, 36) := ⟨⟨by decide +kernel, by decide +kernel⟩, lw_t6 (List.mem_of_getElem? (i := 6) rfl), lw_t7 (List.mem_of_getElem? (i := 49) rfl), lw_t7 (List.mem_of_getElem? (i := 50) rfl)⟩
theorem lw_p90 : lw_okq (⟨"ShutDaysModel", "isAskAhead", "()Z"⟩, 36) := ⟨⟨by decide +kernel, by decide +kernel⟩, lw_t6 (List.mem_of_getElem? (i := 6) rfl), lw_t7 (List.mem_of_getElem? (i := 53) rfl), lw_t7 (List.mem_of_getElem? (i := 54) rfl)⟩
theorem lw_p91 : lw_okq (⟨"ShutDaysModel", "isHere", "(I)Z"⟩, 36) := ⟨⟨by decide +kernel, by decide +kernel⟩, lw_t6 (List.mem_of_getElem? (i := 6) rfl), lw_t7 (List.mem_of_getElem? (i := 73) rfl), lw_t7 (List.mem_of_getElem? (i := 74) rfl)⟩
theorem lw_p92 : lw_okq (⟨"ShutDaysModel", "isHouse", "(I)Z"⟩, 36) := ⟨⟨by decide +kernel, by decide +kernel⟩, lw_t6 (List.mem_of_getElem? (i := 6) rfl), lw_t7 (List.mem_of_getElem? (i := 77) rfl), lw_t7 (List.mem_of_getElem? (i := 78) rfl)⟩
theorem lw_p93 : lw_okq (⟨"ShutDaysModel", "keep", "()V"⟩, 36) := ⟨⟨by decide +kernel, by decide +kernel⟩, lw_t6 (List.mem_of_getElem? (i := 6) rfl), lw_t7 (List.mem_of_getElem? (i := 81) rfl), lw_t7 (List.mem_of_getElem? (i := 82) rfl)⟩
theorem lw_p94 : lw_okq (⟨"ShutDaysModel", "knockNow", "(I)I"⟩, 36) := ⟨⟨by decide +kernel, by decide +kernel⟩, lw_t6 (List.mem_of_getElem? (i := 6) rfl), lw_t7 (List.mem_of_getElem? (i := 85) rfl), lw_t7 (List.mem_of_getElem? (i := 86) rfl)⟩
theorem lw_p95 : lw_okq (⟨"ShutDaysModel", "date", "()I"⟩, 36) := ⟨⟨by decide +kernel, by decide +kernel⟩, lw_t6 (List.mem_of_getElem? (i := 6) rfl), lw_t7 (List.mem_of_getElem? (i := 89) rfl), lw_t7 (List.mem_of_getElem? (i := 90) rfl)⟩
def lw_privs_6 : List (MethodName × Nat) := [(⟨"ShutDaysModel", "betweenOf", "()I"⟩, 36), (⟨"ShutDaysModel", "isShut", "()Z"⟩, 36), (⟨"ShutDaysModel", "isCompared", "()Z"⟩, 36), (⟨"ShutDaysModel", "compareOf", "()I"⟩, 36), (⟨"ShutDaysModel", "settle", "(I)V"⟩, 36), (⟨"ShutDaysModel", "emit", "(II)V"⟩, 36), (⟨"ShutDaysModel", "endOne", "()I"⟩, 36), (⟨"ShutDaysModel", "beginOne", "()I"⟩, 36), (⟨"ShutDaysModel", "nameOf", "()I"⟩, 36), (⟨"ShutDaysModel", "opened", "(I)I"⟩, 36), (⟨"ShutDaysModel", "isAskAhead", "()Z"⟩, 36), (⟨"ShutDaysModel", "isHere", "(I)Z"⟩, 36), (⟨"ShutDaysModel", "isHouse", "(I)Z"⟩, 36), (⟨"ShutDaysModel", "keep", "()V"⟩, 36), (⟨"ShutDaysModel", "knockNow", "(I)I"⟩, 36), (⟨"ShutDaysModel", "date", "()I"⟩, 36)]
theorem lw_r6 : ∀ q ∈ lw_privs_6, lw_okq q := List.forall_mem_cons.mpr ⟨lw_p80, List.forall_mem_cons.mpr ⟨lw_p81, List.forall_mem_cons.mpr ⟨lw_p82, List.forall_mem_cons.mpr ⟨lw_p83, List.forall_mem_cons.mpr ⟨lw_p84, List.forall_mem_cons.mpr ⟨lw_p85, List.forall_mem_cons.mpr ⟨lw_p86, List.forall_mem_cons.mpr ⟨lw_p87, List.forall_mem_cons.mpr ⟨lw_p88, List.forall_mem_cons.mpr ⟨lw_p89, List.forall_mem_cons.mpr ⟨lw_p90, List.forall_mem_cons.mpr ⟨lw_p91, List.forall_mem_cons.mpr ⟨lw_p92, List.forall_mem_cons.mpr ⟨lw_p93, List.forall_mem_cons.mpr ⟨lw_p94, List.forall_mem_cons.mpr ⟨lw_p95, fun _ h => absurd h List.not_mem_nil⟩⟩⟩⟩⟩⟩⟩⟩⟩⟩⟩⟩⟩⟩⟩⟩
theorem lw_p96 : lw_okq (⟨"ShutDaysModel", "write", "(II)V"⟩, 36) := ⟨⟨by decide +kernel, by decide +kernel⟩, lw_t6 (List.mem_of_getElem? (i := 6) rfl), lw_t7 (List.mem_of_getElem? (i := 93) rfl), lw_t7 (List.mem_of_getElem? (i := 94) rfl)⟩
theorem lw_p97 : lw_okq (⟨"ShutDaysModel", "isLetting", "(I)Z"⟩, 36) := ⟨⟨by decide +kernel, by decide +kernel⟩, lw_t6 (List.mem_of_getElem? (i := 6) rfl), lw_t7 (List.mem_of_getElem? (i := 97) rfl), lw_t7 (List.mem_of_getElem? (i := 98) rfl)⟩
theorem lw_p98 : lw_okq (⟨"ShutDaysModel", "clauseOf", "(I)I"⟩, 36) := ⟨⟨by decide +kernel, by decide +kernel⟩, lw_t6 (List.mem_of_getElem? (i := 6) rfl), lw_t7 (List.mem_of_getElem? (i := 101) rfl), lw_t7 (List.mem_of_getElem? (i := 102) rfl)⟩
theorem lw_p99 : lw_okq (⟨"ShutDaysModel", "name", "(II)V"⟩, 36) := ⟨⟨by decide +kernel, by decide +kernel⟩, lw_t6 (List.mem_of_getElem? (i := 6) rfl), lw_t7 (List.mem_of_getElem? (i := 105) rfl), lw_t7 (List.mem_of_getElem? (i := 106) rfl)⟩
theorem lw_p100 : lw_okq (⟨"ShutDaysModel", "openOn", "(I)I"⟩, 36) := ⟨⟨by decide +kernel, by decide +kernel⟩, lw_t6 (List.mem_of_getElem? (i := 6) rfl), lw_t7 (List.mem_of_getElem? (i := 112) rfl), lw_t7 (List.mem_of_getElem? (i := 113) rfl)⟩
theorem lw_p101 : lw_okq (⟨"ShutDaysModel", "isOpen", "(II)Z"⟩, 36) := ⟨⟨by decide +kernel, by decide +kernel⟩, lw_t6 (List.mem_of_getElem? (i := 6) rfl), lw_t7 (List.mem_of_getElem? (i := 116) rfl), lw_t7 (List.mem_of_getElem? (i := 117) rfl)⟩
theorem lw_p102 : lw_okq (⟨"ShutDaysModel", "besideOn", "(II)I"⟩, 36) := ⟨⟨by decide +kernel, by decide +kernel⟩, lw_t6 (List.mem_of_getElem? (i := 6) rfl), lw_t7 (List.mem_of_getElem? (i := 120) rfl), lw_t7 (List.mem_of_getElem? (i := 121) rfl)⟩
theorem lw_p103 : lw_okq (⟨"ShutDaysModel", "work", "(I)V"⟩, 36) := ⟨⟨by decide +kernel, by decide +kernel⟩, lw_t6 (List.mem_of_getElem? (i := 6) rfl), lw_t7 (List.mem_of_getElem? (i := 124) rfl), lw_t7 (List.mem_of_getElem? (i := 125) rfl)⟩
theorem lw_p104 : lw_okq (⟨"ShutDaysModel", "canDraw", "(I)Z"⟩, 36) := ⟨⟨by decide +kernel, by decide +kernel⟩, lw_t6 (List.mem_of_getElem? (i := 6) rfl), lw_t7 (List.mem_of_getElem? (i := 161) rfl), lw_t7 (List.mem_of_getElem? (i := 162) rfl)⟩
theorem lw_p105 : lw_okq (⟨"ShutDaysModel", "hatNow", "(I)I"⟩, 36) := ⟨⟨by decide +kernel, by decide +kernel⟩, lw_t6 (List.mem_of_getElem? (i := 6) rfl), lw_t7 (List.mem_of_getElem? (i := 165) rfl), lw_t7 (List.mem_of_getElem? (i := 166) rfl)⟩
theorem lw_p106 : lw_okq (⟨"ShutDaysModel", "anew", "()V"⟩, 36) := ⟨⟨by decide +kernel, by decide +kernel⟩, lw_t6 (List.mem_of_getElem? (i := 6) rfl), lw_t7 (List.mem_of_getElem? (i := 169) rfl), lw_t7 (List.mem_of_getElem? (i := 170) rfl)⟩
theorem lw_p107 : lw_okq (⟨"ShutDaysModel", "canForget", "(II)Z"⟩, 36) := ⟨⟨by decide +kernel, by decide +kernel⟩, lw_t6 (List.mem_of_getElem? (i := 6) rfl), lw_t7 (List.mem_of_getElem? (i := 180) rfl), lw_t7 (List.mem_of_getElem? (i := 181) rfl)⟩
theorem lw_p108 : lw_okq (⟨"ShutDaysModel", "forgetNow", "(II)V"⟩, 36) := ⟨⟨by decide +kernel, by decide +kernel⟩, lw_t6 (List.mem_of_getElem? (i := 6) rfl), lw_t7 (List.mem_of_getElem? (i := 184) rfl), lw_t7 (List.mem_of_getElem? (i := 185) rfl)⟩
theorem lw_p109 : lw_okq (⟨"ShutDaysModel", "arePassed", "(I)Z"⟩, 36) := ⟨⟨by decide +kernel, by decide +kernel⟩, lw_t6 (List.mem_of_getElem? (i := 6) rfl), lw_t7 (List.mem_of_getElem? (i := 192) rfl), lw_t7 (List.mem_of_getElem? (i := 193) rfl)⟩
theorem lw_p110 : lw_okq (⟨"ShutDaysModel", "pass", "()V"⟩, 36) := ⟨⟨by decide +kernel, by decide +kernel⟩, lw_t6 (List.mem_of_getElem? (i := 6) rfl), lw_t7 (List.mem_of_getElem? (i := 196) rfl), lw_t7 (List.mem_of_getElem? (i := 197) rfl)⟩
theorem lw_p111 : lw_okq (⟨"ShutDaysModel", "losesOf", "(I)I"⟩, 36) := ⟨⟨by decide +kernel, by decide +kernel⟩, lw_t6 (List.mem_of_getElem? (i := 6) rfl), lw_t7 (List.mem_of_getElem? (i := 200) rfl), lw_t7 (List.mem_of_getElem? (i := 201) rfl)⟩
def lw_privs_7 : List (MethodName × Nat) := [(⟨"ShutDaysModel", "write", "(II)V"⟩, 36), (⟨"ShutDaysModel", "isLetting", "(I)Z"⟩, 36), (⟨"ShutDaysModel", "clauseOf", "(I)I"⟩, 36), (⟨"ShutDaysModel", "name", "(II)V"⟩, 36), (⟨"ShutDaysModel", "openOn", "(I)I"⟩, 36), (⟨"ShutDaysModel", "isOpen", "(II)Z"⟩, 36), (⟨"ShutDaysModel", "besideOn", "(II)I"⟩, 36), (⟨"ShutDaysModel", "work", "(I)V"⟩, 36), (⟨"ShutDaysModel", "canDraw", "(I)Z"⟩, 36), (⟨"ShutDaysModel", "hatNow", "(I)I"⟩, 36), (⟨"ShutDaysModel", "anew", "()V"⟩, 36), (⟨"ShutDaysModel", "canForget", "(II)Z"⟩, 36), (⟨"ShutDaysModel", "forgetNow", "(II)V"⟩, 36), (⟨"ShutDaysModel", "arePassed", "(I)Z"⟩, 36), (⟨"ShutDaysModel", "pass", "()V"⟩, 36), (⟨"ShutDaysModel", "losesOf", "(I)I"⟩, 36)]
theorem lw_r7 : ∀ q ∈ lw_privs_7, lw_okq q := List.forall_mem_cons.mpr ⟨lw_p96, List.forall_mem_cons.mpr ⟨lw_p97, List.forall_mem_cons.mpr ⟨lw_p98, List.forall_mem_cons.mpr ⟨lw_p99, List.forall_mem_cons.mpr ⟨lw_p100, List.forall_mem_cons.mpr ⟨lw_p101, List.forall_mem_cons.mpr ⟨lw_p102, List.forall_mem_cons.mpr ⟨lw_p103, List.forall_mem_cons.mpr ⟨lw_p104, List.forall_mem_cons.mpr ⟨lw_p105, List.forall_mem_cons.mpr ⟨lw_p106, List.forall_mem_cons.mpr ⟨lw_p107, List.forall_mem_cons.mpr ⟨lw_p108, List.forall_mem_cons.mpr ⟨lw_p109, List.forall_mem_cons.mpr ⟨lw_p110, List.forall_mem_cons.mpr ⟨lw_p111, fun _ h => absurd h List.not_mem_nil⟩⟩⟩⟩⟩⟩⟩⟩⟩⟩⟩⟩⟩⟩⟩⟩
theorem lw_p112 : lw_okq (⟨"ShutDaysModel", "says", "(II)I"⟩, 36) := ⟨⟨by decide +kernel, by decide +kernel⟩, lw_t6 (List.mem_of_getElem? (i := 6) rfl), lw_t7 (List.mem_of_getElem? (i := 204) rfl), lw_t7 (List.mem_of_getElem? (i := 205) rfl)⟩
theorem lw_p113 : lw_okq (⟨"ShutDaysModel", "earnsOn", "(II)I"⟩, 36) := ⟨⟨by decide +kernel, by decide +kernel⟩, lw_t6 (List.mem_of_getElem? (i := 6) rfl), lw_t7 (List.mem_of_getElem? (i := 208) rfl), lw_t7 (List.mem_of_getElem? (i := 209) rfl)⟩
theorem lw_p114 : lw_okq (⟨"ShutDaysModel", "isPlayed", "(I)Z"⟩, 36) := ⟨⟨by decide +kernel, by decide +kernel⟩, lw_t6 (List.mem_of_getElem? (i := 6) rfl), lw_t7 (List.mem_of_getElem? (i := 216) rfl), lw_t7 (List.mem_of_getElem? (i := 217) rfl)⟩
theorem lw_p115 : lw_okq (⟨"ShutDaysModel", "happens", "(I)V"⟩, 36) := ⟨⟨by decide +kernel, by decide +kernel⟩, lw_t6 (List.mem_of_getElem? (i := 6) rfl), lw_t7 (List.mem_of_getElem? (i := 229) rfl), lw_t7 (List.mem_of_getElem? (i := 230) rfl)⟩
theorem lw_p116 : lw_okq (⟨"ShutDaysModel", "entry", "(II)I"⟩, 36) := ⟨⟨by decide +kernel, by decide +kernel⟩, lw_t6 (List.mem_of_getElem? (i := 6) rfl), lw_t8 (List.mem_of_getElem? (i := 5) rfl), lw_t8 (List.mem_of_getElem? (i := 6) rfl)⟩
theorem lw_p117 : lw_okq (⟨"ShutDaysModel", "knocksAt", "(II)I"⟩, 36) := ⟨⟨by decide +kernel, by decide +kernel⟩, lw_t6 (List.mem_of_getElem? (i := 6) rfl), lw_t8 (List.mem_of_getElem? (i := 13) rfl), lw_t8 (List.mem_of_getElem? (i := 14) rfl)⟩
theorem lw_p118 : lw_okq (⟨"ShutDaysModel", "setAside", "()V"⟩, 36) := ⟨⟨by decide +kernel, by decide +kernel⟩, lw_t6 (List.mem_of_getElem? (i := 6) rfl), lw_t8 (List.mem_of_getElem? (i := 25) rfl), lw_t8 (List.mem_of_getElem? (i := 26) rfl)⟩
theorem lw_p119 : lw_okq (⟨"ShutDaysModel", "goOn", "(I)V"⟩, 36) := ⟨⟨by decide +kernel, by decide +kernel⟩, lw_t6 (List.mem_of_getElem? (i := 6) rfl), lw_t8 (List.mem_of_getElem? (i := 29) rfl), lw_t8 (List.mem_of_getElem? (i := 30) rfl)⟩
theorem lw_p120 : lw_okq (⟨"ShutDaysModel", "putBack", "()V"⟩, 36) := ⟨⟨by decide +kernel, by decide +kernel⟩, lw_t6 (List.mem_of_getElem? (i := 6) rfl), lw_t8 (List.mem_of_getElem? (i := 33) rfl), lw_t8 (List.mem_of_getElem? (i := 34) rfl)⟩
theorem lw_p121 : lw_okq (⟨"ShutDaysModel", "shutOn", "(I)I"⟩, 36) := ⟨⟨by decide +kernel, by decide +kernel⟩, lw_t6 (List.mem_of_getElem? (i := 6) rfl), lw_t8 (List.mem_of_getElem? (i := 49) rfl), lw_t8 (List.mem_of_getElem? (i := 50) rfl)⟩
theorem lw_p122 : lw_okq (⟨"ShutDaysModel", "friendsOn", "(I)I"⟩, 36) := ⟨⟨by decide +kernel, by decide +kernel⟩, lw_t6 (List.mem_of_getElem? (i := 6) rfl), lw_t8 (List.mem_of_getElem? (i := 61) rfl), lw_t8 (List.mem_of_getElem? (i := 62) rfl)⟩
theorem lw_p123 : lw_okq (⟨"ShutDaysModel", "laySets", "(II)V"⟩, 36) := ⟨⟨by decide +kernel, by decide +kernel⟩, lw_t6 (List.mem_of_getElem? (i := 6) rfl), lw_t8 (List.mem_of_getElem? (i := 81) rfl), lw_t8 (List.mem_of_getElem? (i := 82) rfl)⟩
theorem lw_p124 : lw_okq (⟨"ShutDaysModel", "note", "(II)V"⟩, 36) := ⟨⟨by decide +kernel, by decide +kernel⟩, lw_t6 (List.mem_of_getElem? (i := 6) rfl), lw_t8 (List.mem_of_getElem? (i := 85) rfl), lw_t8 (List.mem_of_getElem? (i := 86) rfl)⟩
theorem lw_p125 : lw_okq (⟨"ShutDaysModel", "count", "(I)V"⟩, 36) := ⟨⟨by decide +kernel, by decide +kernel⟩, lw_t6 (List.mem_of_getElem? (i := 6) rfl), lw_t8 (List.mem_of_getElem? (i := 90) rfl), lw_t8 (List.mem_of_getElem? (i := 91) rfl)⟩
theorem lw_p126 : lw_okq (⟨"ShutDaysModel", "layThieves", "(II)V"⟩, 36) := ⟨⟨by decide +kernel, by decide +kernel⟩, lw_t6 (List.mem_of_getElem? (i := 6) rfl), lw_t8 (List.mem_of_getElem? (i := 110) rfl), lw_t8 (List.mem_of_getElem? (i := 111) rfl)⟩
theorem lw_p127 : lw_okq (⟨"ShutDaysModel", "areHere", "(I)Z"⟩, 36) := ⟨⟨by decide +kernel, by decide +kernel⟩, lw_t6 (List.mem_of_getElem? (i := 6) rfl), lw_t8 (List.mem_of_getElem? (i := 122) rfl), lw_t8 (List.mem_of_getElem? (i := 123) rfl)⟩
def lw_privs_8 : List (MethodName × Nat) := [(⟨"ShutDaysModel", "says", "(II)I"⟩, 36), (⟨"ShutDaysModel", "earnsOn", "(II)I"⟩, 36), (⟨"ShutDaysModel", "isPlayed", "(I)Z"⟩, 36), (⟨"ShutDaysModel", "happens", "(I)V"⟩, 36), (⟨"ShutDaysModel", "entry", "(II)I"⟩, 36), (⟨"ShutDaysModel", "knocksAt", "(II)I"⟩, 36), (⟨"ShutDaysModel", "setAside", "()V"⟩, 36), (⟨"ShutDaysModel", "goOn", "(I)V"⟩, 36), (⟨"ShutDaysModel", "putBack", "()V"⟩, 36), (⟨"ShutDaysModel", "shutOn", "(I)I"⟩, 36), (⟨"ShutDaysModel", "friendsOn", "(I)I"⟩, 36), (⟨"ShutDaysModel", "laySets", "(II)V"⟩, 36), (⟨"ShutDaysModel", "note", "(II)V"⟩, 36), (⟨"ShutDaysModel", "count", "(I)V"⟩, 36), (⟨"ShutDaysModel", "layThieves", "(II)V"⟩, 36), (⟨"ShutDaysModel", "areHere", "(I)Z"⟩, 36)]
theorem lw_r8 : ∀ q ∈ lw_privs_8, lw_okq q := List.forall_mem_cons.mpr ⟨lw_p112, List.forall_mem_cons.mpr ⟨lw_p113, List.forall_mem_cons.mpr ⟨lw_p114, List.forall_mem_cons.mpr ⟨lw_p115, List.forall_mem_cons.mpr ⟨lw_p116, List.forall_mem_cons.mpr ⟨lw_p117, List.forall_mem_cons.mpr ⟨lw_p118, List.forall_mem_cons.mpr ⟨lw_p119, List.forall_mem_cons.mpr ⟨lw_p120, List.forall_mem_cons.mpr ⟨lw_p121, List.forall_mem_cons.mpr ⟨lw_p122, List.forall_mem_cons.mpr ⟨lw_p123, List.forall_mem_cons.mpr ⟨lw_p124, List.forall_mem_cons.mpr ⟨lw_p125, List.forall_mem_cons.mpr ⟨lw_p126, List.forall_mem_cons.mpr ⟨lw_p127, fun _ h => absurd h List.not_mem_nil⟩⟩⟩⟩⟩⟩⟩⟩⟩⟩⟩⟩⟩⟩⟩⟩
theorem lw_p128 : lw_okq (⟨"ShutDaysModel", "layMembers", "(I)I"⟩, 36) := ⟨⟨by decide +kernel, by decide +kernel⟩, lw_t6 (List.mem_of_getElem? (i := 6) rfl), lw_t8 (List.mem_of_getElem? (i := 126) rfl), lw_t8 (List.mem_of_getElem? (i := 127) rfl)⟩
theorem lw_p129 : lw_okq (⟨"ShutDaysModel", "isLaid", "(III)Z"⟩, 36) := ⟨⟨by decide +kernel, by decide +kernel⟩, lw_t6 (List.mem_of_getElem? (i := 6) rfl), lw_t8 (List.mem_of_getElem? (i := 130) rfl), lw_t8 (List.mem_of_getElem? (i := 131) rfl)⟩
theorem lw_p130 : lw_okq (⟨"ShutDaysModel", "isRound", "(I)Z"⟩, 36) := ⟨⟨by decide +kernel, by decide +kernel⟩, lw_t6 (List.mem_of_getElem? (i := 6) rfl), lw_t8 (List.mem_of_getElem? (i := 138) rfl), lw_t8 (List.mem_of_getElem? (i := 139) rfl)⟩
theorem lw_p131 : lw_okq (⟨"ShutDaysModel", "wed", "()I"⟩, 36) := ⟨⟨by decide +kernel, by decide +kernel⟩, lw_t6 (List.mem_of_getElem? (i := 6) rfl), lw_t8 (List.mem_of_getElem? (i := 146) rfl), lw_t8 (List.mem_of_getElem? (i := 147) rfl)⟩
theorem lw_p132 : lw_okq (⟨"ShutDaysModel", "sharedNow", "()I"⟩, 36) := ⟨⟨by decide +kernel, by decide +kernel⟩, lw_t6 (List.mem_of_getElem? (i := 6) rfl), lw_t8 (List.mem_of_getElem? (i := 150) rfl), lw_t8 (List.mem_of_getElem? (i := 151) rfl)⟩
theorem lw_p133 : lw_okq (⟨"ShutDaysModel", "nextRow", "()Z"⟩, 36) := ⟨⟨by decide +kernel, by decide +kernel⟩, lw_t6 (List.mem_of_getElem? (i := 6) rfl), lw_t8 (List.mem_of_getElem? (i := 154) rfl), lw_t8 (List.mem_of_getElem? (i := 155) rfl)⟩
theorem lw_p134 : lw_okq (⟨"ShutDaysModel", "nextMate", "(II)I"⟩, 36) := ⟨⟨by decide +kernel, by decide +kernel⟩, lw_t6 (List.mem_of_getElem? (i := 6) rfl), lw_t8 (List.mem_of_getElem? (i := 158) rfl), lw_t8 (List.mem_of_getElem? (i := 159) rfl)⟩
theorem lw_p135 : lw_okq (⟨"ShutDaysModel", "spread", "(I)I"⟩, 36) := ⟨⟨by decide +kernel, by decide +kernel⟩, lw_t6 (List.mem_of_getElem? (i := 6) rfl), lw_t8 (List.mem_of_getElem? (i := 174) rfl), lw_t8 (List.mem_of_getElem? (i := 175) rfl)⟩
theorem lw_p136 : lw_okq (⟨"ShutDaysModel", "earnedOn", "(I)I"⟩, 36) := ⟨⟨by decide +kernel, by decide +kernel⟩, lw_t6 (List.mem_of_getElem? (i := 6) rfl), lw_t8 (List.mem_of_getElem? (i := 186) rfl), lw_t8 (List.mem_of_getElem? (i := 187) rfl)⟩
def lw_privs_9 : List (MethodName × Nat) := [(⟨"ShutDaysModel", "layMembers", "(I)I"⟩, 36), (⟨"ShutDaysModel", "isLaid", "(III)Z"⟩, 36), (⟨"ShutDaysModel", "isRound", "(I)Z"⟩, 36), (⟨"ShutDaysModel", "wed", "()I"⟩, 36), (⟨"ShutDaysModel", "sharedNow", "()I"⟩, 36), (⟨"ShutDaysModel", "nextRow", "()Z"⟩, 36), (⟨"ShutDaysModel", "nextMate", "(II)I"⟩, 36), (⟨"ShutDaysModel", "spread", "(I)I"⟩, 36), (⟨"ShutDaysModel", "earnedOn", "(I)I"⟩, 36)]
theorem lw_r9 : ∀ q ∈ lw_privs_9, lw_okq q := List.forall_mem_cons.mpr ⟨lw_p128, List.forall_mem_cons.mpr ⟨lw_p129, List.forall_mem_cons.mpr ⟨lw_p130, List.forall_mem_cons.mpr ⟨lw_p131, List.forall_mem_cons.mpr ⟨lw_p132, List.forall_mem_cons.mpr ⟨lw_p133, List.forall_mem_cons.mpr ⟨lw_p134, List.forall_mem_cons.mpr ⟨lw_p135, List.forall_mem_cons.mpr ⟨lw_p136, fun _ h => absurd h List.not_mem_nil⟩⟩⟩⟩⟩⟩⟩⟩⟩
def lw_privs : List (MethodName × Nat) := lw_privs_1 ++ (lw_privs_2 ++ (lw_privs_3 ++ (lw_privs_4 ++ (lw_privs_5 ++ (lw_privs_6 ++ (lw_privs_7 ++ (lw_privs_8 ++ (lw_privs_9))))))))
def lw_tbl : List Cond := k2_sels lw_privs ++ tables_1
theorem lw_privs_ok : ∀ q ∈ lw_privs, lw_okq q := by
  show ∀ q ∈ lw_privs_1 ++ (lw_privs_2 ++ (lw_privs_3 ++ (lw_privs_4 ++ (lw_privs_5 ++ (lw_privs_6 ++ (lw_privs_7 ++ (lw_privs_8 ++ (lw_privs_9)))))))), lw_okq q
  exact List.forall_mem_append.mpr ⟨lw_r1, List.forall_mem_append.mpr ⟨lw_r2, List.forall_mem_append.mpr ⟨lw_r3, List.forall_mem_append.mpr ⟨lw_r4, List.forall_mem_append.mpr ⟨lw_r5, List.forall_mem_append.mpr ⟨lw_r6, List.forall_mem_append.mpr ⟨lw_r7, List.forall_mem_append.mpr ⟨lw_r8, lw_r9⟩⟩⟩⟩⟩⟩⟩⟩
-- ===== ONE list of words for every method: the tables' words that hold all through a run =====
def lw_all : List Cond := lw_tbl.filter goodWord
/-- a word of the tables by its place: claim/WORDS.tsv -/
theorem lw_w {w : Cond} (i : Nat) (h : lw_tbl[i]? = some w) (g : goodWord w = true) : w ∈ lw_all := List.mem_filter.mpr ⟨List.mem_of_getElem? h, g⟩
theorem lw_all_tbl {w : Cond} (h : w ∈ lw_all) : w ∈ lw_tbl := (List.mem_filter.mp h).1
theorem lw_self : GoodIn lw_all lw_all := fun w h => ⟨h, good_of_word (List.mem_filter.mp h).2⟩
/-- a class's field words, by their places -/
theorem lw_in (ws : List Cond) (ps : List Nat) (hp : ws = ps.filterMap (fun i => lw_tbl[i]?)) (hg : ws.all goodWord = true) : ∀ w ∈ ws, w ∈ lw_all := by
  intro w h
  have h1 := List.all_eq_true.mp hg w h
  rw [hp] at h
  obtain ⟨i, -, hi⟩ := List.mem_filterMap.mp h
  exact lw_w i hi h1
/-- the words of a contract for the method y with code b, L locals, answer r -/
abbrev ws_ (y : MethodName) (b : ByteArray) (L : Nat) (r : Option FieldType) : List Cond := Cond.code y b L r :: lw_all
theorem lw_meth {y : MethodName} {b : ByteArray} {L : Nat} {r : Option FieldType} (h : Cond.code y b L r ∈ lw_all) : GoodIn lw_all (ws_ y b L r) := by
  intro w hw
  rcases List.mem_cons.mp hw with e | e
  · rw [e]
    exact lw_self _ h
  · exact lw_self _ e
theorem lw_app {a c : List Cond} (ha : ∀ w ∈ a, w ∈ lw_all) (hc : GoodIn lw_all c) : GoodIn lw_all (a ++ c) := by
  intro w hw
  rcases List.mem_append.mp hw with e | e
  · exact lw_self w (ha w e)
  · exact hc w e
/-- what a call through an object asks: cwV n hts (lw_V ..) -/
theorem lw_V {own : String} {idx : Nat} {C : String} {y : MethodName} {b : ByteArray} {L : Nat} {r : Option FieldType} (h1 : Cond.methodLink own idx y ∈ lw_all) (h2 : Cond.instanceMethod y ∈ lw_all) (h3 : Cond.selects C y y ∈ lw_all) (h4 : Cond.initialized C ∈ lw_all) (h5 : Cond.code y b L r ∈ lw_all) : GoodIn lw_all (wsV own idx C y (ws_ y b L r)) := by
  refine lw_app ?_ (lw_meth h5)
  intro w hw
  simp only [List.mem_cons, List.not_mem_nil, or_false] at hw
  rcases hw with e | e | e | e
  · rw [e]; exact h1
  · rw [e]; exact h2
  · rw [e]; exact h3
  · rw [e]; exact h4
/-- what a static call asks: va_cwS n hts (lw_S ..) -/
theorem lw_S {own : String} {idx : Nat} {y : MethodName} {b : ByteArray} {L : Nat} {r : Option FieldType} (h1 : Cond.methodLink own idx y ∈ lw_all) (h2 : Cond.static y ∈ lw_all) (h3 : Cond.initialized y.cls ∈ lw_all) (h4 : Cond.code y b L r ∈ lw_all) : GoodIn lw_all (va_wsS own idx y (ws_ y b L r)) := by
  refine lw_app ?_ (lw_meth h4)
  intro w hw
  simp only [List.mem_cons, List.not_mem_nil, or_false] at hw
  rcases hw with e | e | e
  · rw [e]; exact h1
  · rw [e]; exact h2
  · rw [e]; exact h3
/-- the words of a contract for a method WITH HANDLERS (hh: its table) -/
abbrev wsW_ (y : MethodName) (b : ByteArray) (L : Nat) (r : Option FieldType) (hh : List (Nat × Nat × Nat × Nat)) : List Cond := Cond.codeWith y b L r hh :: lw_all
theorem lw_methW {y : MethodName} {b : ByteArray} {L : Nat} {r : Option FieldType} {hh : List (Nat × Nat × Nat × Nat)} (h : Cond.codeWith y b L r hh ∈ lw_all) : GoodIn lw_all (wsW_ y b L r hh) := by
  intro w hw
  rcases List.mem_cons.mp hw with e | e
  · rw [e]
    exact lw_self _ h
  · exact lw_self _ e
/-- any list of words by their places (lw_in), good -/
theorem lw_good {ws : List Cond} (h : ∀ w ∈ ws, w ∈ lw_all) : GoodIn lw_all ws := fun w hw => lw_self w (h w hw)
/-- what a call of a method with handlers asks: vx_cwVW n hts (lw_VW ..), vx_cwSW n hts (lw_SW ..) -/
theorem lw_VW {own : String} {idx : Nat} {C : String} {y : MethodName} {b : ByteArray} {L : Nat} {r : Option FieldType} {hh : List (Nat × Nat × Nat × Nat)} (h1 : Cond.methodLink own idx y ∈ lw_all) (h2 : Cond.instanceMethod y ∈ lw_all) (h3 : Cond.selects C y y ∈ lw_all) (h4 : Cond.initialized C ∈ lw_all) (h5 : Cond.codeWith y b L r hh ∈ lw_all) : GoodIn lw_all (wsV own idx C y (wsW_ y b L r hh)) := by
  refine lw_app ?_ (lw_methW h5)
  intro w hw
  simp only [List.mem_cons, List.not_mem_nil, or_false] at hw
  rcases hw with e | e | e | e
  · rw [e]; exact h1
  · rw [e]; exact h2
  · rw [e]; exact h3
  · rw [e]; exact h4
theorem lw_SW {own : String} {idx : Nat} {y : MethodName} {b : ByteArray} {L : Nat} {r : Option FieldType} {hh : List (Nat × Nat × Nat × Nat)} (h1 : Cond.methodLink own idx y ∈ lw_all) (h2 : Cond.static y ∈ lw_all) (h3 : Cond.initialized y.cls ∈ lw_all) (h4 : Cond.codeWith y b L r hh ∈ lw_all) : GoodIn lw_all (va_wsS own idx y (wsW_ y b L r hh)) := by
  refine lw_app ?_ (lw_methW h4)
  intro w hw
  simp only [List.mem_cons, List.not_mem_nil, or_false] at hw
  rcases hw with e | e | e
  · rw [e]; exact h1
  · rw [e]; exact h2
  · rw [e]; exact h3
/-- a word by its place in its run of the tables -/
theorem lw_at {r : List Cond} (hr : ∀ w ∈ r, w ∈ lw_tbl) {w : Cond} (i : Nat) (h : r[i]? = some w) : w ∈ lw_tbl := hr w (List.mem_of_getElem? h)
theorem lw_g {w : Cond} (h : w ∈ lw_tbl) (g : goodWord w = true) : w ∈ lw_all := List.mem_filter.mpr ⟨h, g⟩
theorem lw_ms : ∀ w ∈ k2_sels lw_privs, w ∈ lw_tbl := fun w h => show w ∈ k2_sels lw_privs ++ tables_1 from List.mem_append_left _ h
theorem lw_m1 : ∀ w ∈ tables_1_1, w ∈ lw_tbl := fun w h => show w ∈ k2_sels lw_privs ++ tables_1 from List.mem_append_right (k2_sels lw_privs) (show w ∈ tables_1 from List.mem_append_left _ h)
theorem lw_m2 : ∀ w ∈ tables_1_2, w ∈ lw_tbl := fun w h => show w ∈ k2_sels lw_privs ++ tables_1 from List.mem_append_right (k2_sels lw_privs) (show w ∈ tables_1 from List.mem_append_right _ (List.mem_append_left _ h))
theorem lw_m3 : ∀ w ∈ tables_1_3, w ∈ lw_tbl := fun w h => show w ∈ k2_sels lw_privs ++ tables_1 from List.mem_append_right (k2_sels lw_privs) (show w ∈ tables_1 from List.mem_append_right _ (List.mem_append_right _ (List.mem_append_left _ h)))
theorem lw_m4 : ∀ w ∈ tables_1_4, w ∈ lw_tbl := fun w h => show w ∈ k2_sels lw_privs ++ tables_1 from List.mem_append_right (k2_sels lw_privs) (show w ∈ tables_1 from List.mem_append_right _ (List.mem_append_right _ (List.mem_append_right _ (List.mem_append_left _ h))))
theorem lw_m5 : ∀ w ∈ tables_1_5, w ∈ lw_tbl := fun w h => show w ∈ k2_sels lw_privs ++ tables_1 from List.mem_append_right (k2_sels lw_privs) (show w ∈ tables_1 from List.mem_append_right _ (List.mem_append_right _ (List.mem_append_right _ (List.mem_append_right _ (List.mem_append_left _ h)))))
theorem lw_m6 : ∀ w ∈ tables_1_6, w ∈ lw_tbl := fun w h => show w ∈ k2_sels lw_privs ++ tables_1 from List.mem_append_right (k2_sels lw_privs) (show w ∈ tables_1 from List.mem_append_right _ (List.mem_append_right _ (List.mem_append_right _ (List.mem_append_right _ (List.mem_append_right _ (List.mem_append_left _ h))))))
theorem lw_m7 : ∀ w ∈ tables_1_7, w ∈ lw_tbl := fun w h => show w ∈ k2_sels lw_privs ++ tables_1 from List.mem_append_right (k2_sels lw_privs) (show w ∈ tables_1 from List.mem_append_right _ (List.mem_append_right _ (List.mem_append_right _ (List.mem_append_right _ (List.mem_append_right _ (List.mem_append_right _ (List.mem_append_left _ h)))))))
theorem lw_m8 : ∀ w ∈ tables_1_8, w ∈ lw_tbl := fun w h => show w ∈ k2_sels lw_privs ++ tables_1 from List.mem_append_right (k2_sels lw_privs) (show w ∈ tables_1 from List.mem_append_right _ (List.mem_append_right _ (List.mem_append_right _ (List.mem_append_right _ (List.mem_append_right _ (List.mem_append_right _ (List.mem_append_right _ (List.mem_append_left _ h))))))))
theorem lw_m9 : ∀ w ∈ tables_1_9, w ∈ lw_tbl := fun w h => show w ∈ k2_sels lw_privs ++ tables_1 from List.mem_append_right (k2_sels lw_privs) (show w ∈ tables_1 from List.mem_append_right _ (List.mem_append_right _ (List.mem_append_right _ (List.mem_append_right _ (List.mem_append_right _ (List.mem_append_right _ (List.mem_append_right _ (List.mem_append_right _ h))))))))
theorem qs0 : (Cond.selects "ShutDays" ⟨"ShutDays", "put", "(I)V"⟩ ⟨"ShutDays", "put", "(I)V"⟩) ∈ lw_all := lw_g (lw_at lw_ms 0 rfl) rfl
theorem qs1 : (Cond.selects "ShutDays$Tokens" ⟨"ShutDays$Tokens", "next", "()V"⟩ ⟨"ShutDays$Tokens", "next", "()V"⟩) ∈ lw_all := lw_g (lw_at lw_ms 1 rfl) rfl
theorem qs2 : (Cond.selects "ShutDays$Tokens" ⟨"ShutDays$Tokens", "isWord", "(Ljava/lang/String;)Z"⟩ ⟨"ShutDays$Tokens", "isWord", "(Ljava/lang/String;)Z"⟩) ∈ lw_all := lw_g (lw_at lw_ms 2 rfl) rfl
theorem qs3 : (Cond.selects "ShutDays$Tokens" ⟨"ShutDays$Tokens", "wrong", "(I)LShutDays$Wrong;"⟩ ⟨"ShutDays$Tokens", "wrong", "(I)LShutDays$Wrong;"⟩) ∈ lw_all := lw_g (lw_at lw_ms 3 rfl) rfl
theorem qs4 : (Cond.selects "java/lang/Throwable" ⟨"java/lang/Throwable", "fillInStackTrace", "(I)Ljava/lang/Throwable;"⟩ ⟨"java/lang/Throwable", "fillInStackTrace", "(I)Ljava/lang/Throwable;"⟩) ∈ lw_all := lw_g (lw_at lw_ms 4 rfl) rfl
theorem qs5 : (Cond.selects "ShutDays$Tokens" ⟨"ShutDays$Tokens", "sum", "()LShutDays$Sum;"⟩ ⟨"ShutDays$Tokens", "sum", "()LShutDays$Sum;"⟩) ∈ lw_all := lw_g (lw_at lw_ms 5 rfl) rfl
theorem qs6 : (Cond.selects "ShutDays$Tokens" ⟨"ShutDays$Tokens", "product", "()LShutDays$Sum;"⟩ ⟨"ShutDays$Tokens", "product", "()LShutDays$Sum;"⟩) ∈ lw_all := lw_g (lw_at lw_ms 6 rfl) rfl
theorem qs7 : (Cond.selects "ShutDays$Tokens" ⟨"ShutDays$Tokens", "one", "()LShutDays$Sum;"⟩ ⟨"ShutDays$Tokens", "one", "()LShutDays$Sum;"⟩) ∈ lw_all := lw_g (lw_at lw_ms 7 rfl) rfl
theorem qs8 : (Cond.selects "ShutDays$Tokens" ⟨"ShutDays$Tokens", "number", "(II)I"⟩ ⟨"ShutDays$Tokens", "number", "(II)I"⟩) ∈ lw_all := lw_g (lw_at lw_ms 8 rfl) rfl
theorem qs9 : (Cond.selects "ShutDays$Tokens" ⟨"ShutDays$Tokens", "digit", "()LShutDays$Sum;"⟩ ⟨"ShutDays$Tokens", "digit", "()LShutDays$Sum;"⟩) ∈ lw_all := lw_g (lw_at lw_ms 9 rfl) rfl
theorem qs10 : (Cond.selects "ShutDays$Tokens" ⟨"ShutDays$Tokens", "opens", "()V"⟩ ⟨"ShutDays$Tokens", "opens", "()V"⟩) ∈ lw_all := lw_g (lw_at lw_ms 10 rfl) rfl
theorem qs11 : (Cond.selects "ShutDays$Tokens" ⟨"ShutDays$Tokens", "want", "(I)V"⟩ ⟨"ShutDays$Tokens", "want", "(I)V"⟩) ∈ lw_all := lw_g (lw_at lw_ms 11 rfl) rfl
theorem qs12 : (Cond.selects "ShutDays$Tokens" ⟨"ShutDays$Tokens", "nameNow", "()I"⟩ ⟨"ShutDays$Tokens", "nameNow", "()I"⟩) ∈ lw_all := lw_g (lw_at lw_ms 12 rfl) rfl
theorem qs13 : (Cond.selects "ShutDays$Tokens" ⟨"ShutDays$Tokens", "mayName", "(I)Z"⟩ ⟨"ShutDays$Tokens", "mayName", "(I)Z"⟩) ∈ lw_all := lw_g (lw_at lw_ms 13 rfl) rfl
theorem qs14 : (Cond.selects "java/util/ArrayList" ⟨"java/util/ArrayList", "add", "(Ljava/lang/Object;[Ljava/lang/Object;I)V"⟩ ⟨"java/util/ArrayList", "add", "(Ljava/lang/Object;[Ljava/lang/Object;I)V"⟩) ∈ lw_all := lw_g (lw_at lw_ms 14 rfl) rfl
theorem qs15 : (Cond.selects "java/util/ArrayList" ⟨"java/util/ArrayList", "grow", "()[Ljava/lang/Object;"⟩ ⟨"java/util/ArrayList", "grow", "()[Ljava/lang/Object;"⟩) ∈ lw_all := lw_g (lw_at lw_ms 15 rfl) rfl
theorem qs16 : (Cond.selects "java/util/ArrayList" ⟨"java/util/ArrayList", "grow", "(I)[Ljava/lang/Object;"⟩ ⟨"java/util/ArrayList", "grow", "(I)[Ljava/lang/Object;"⟩) ∈ lw_all := lw_g (lw_at lw_ms 16 rfl) rfl
theorem qs17 : (Cond.selects "ShutDays$Tokens" ⟨"ShutDays$Tokens", "either", "()LShutDays$Asked;"⟩ ⟨"ShutDays$Tokens", "either", "()LShutDays$Asked;"⟩) ∈ lw_all := lw_g (lw_at lw_ms 17 rfl) rfl
theorem qs18 : (Cond.selects "ShutDays$Tokens" ⟨"ShutDays$Tokens", "both", "()LShutDays$Asked;"⟩ ⟨"ShutDays$Tokens", "both", "()LShutDays$Asked;"⟩) ∈ lw_all := lw_g (lw_at lw_ms 18 rfl) rfl
theorem qs19 : (Cond.selects "ShutDays$Tokens" ⟨"ShutDays$Tokens", "ask", "()LShutDays$Asked;"⟩ ⟨"ShutDays$Tokens", "ask", "()LShutDays$Asked;"⟩) ∈ lw_all := lw_g (lw_at lw_ms 19 rfl) rfl
theorem qs20 : (Cond.selects "ShutDays$Tokens" ⟨"ShutDays$Tokens", "divides", "(LShutDays$Sum;)LShutDays$Asked;"⟩ ⟨"ShutDays$Tokens", "divides", "(LShutDays$Sum;)LShutDays$Asked;"⟩) ∈ lw_all := lw_g (lw_at lw_ms 20 rfl) rfl
theorem qs21 : (Cond.selects "ShutDays$Tokens" ⟨"ShutDays$Tokens", "doing", "(I)LShutDays$Doing;"⟩ ⟨"ShutDays$Tokens", "doing", "(I)LShutDays$Doing;"⟩) ∈ lw_all := lw_g (lw_at lw_ms 21 rfl) rfl
theorem qs22 : (Cond.selects "ShutDays$Tokens" ⟨"ShutDays$Tokens", "behind", "(III)I"⟩ ⟨"ShutDays$Tokens", "behind", "(III)I"⟩) ∈ lw_all := lw_g (lw_at lw_ms 22 rfl) rfl
theorem qs23 : (Cond.selects "ShutDays" ⟨"ShutDays", "isText", "(I)Z"⟩ ⟨"ShutDays", "isText", "(I)Z"⟩) ∈ lw_all := lw_g (lw_at lw_ms 23 rfl) rfl
theorem qs24 : (Cond.selects "ShutDays" ⟨"ShutDays", "rules", "()LShutDays$Text;"⟩ ⟨"ShutDays", "rules", "()LShutDays$Text;"⟩) ∈ lw_all := lw_g (lw_at lw_ms 24 rfl) rfl
theorem qs25 : (Cond.selects "ShutDays" ⟨"ShutDays", "passes", "(LShutDays$Text;[I)V"⟩ ⟨"ShutDays", "passes", "(LShutDays$Text;[I)V"⟩) ∈ lw_all := lw_g (lw_at lw_ms 25 rfl) rfl
theorem qs26 : (Cond.selects "ShutDays" ⟨"ShutDays", "losesBy", "(LShutDays$Text;[III)I"⟩ ⟨"ShutDays", "losesBy", "(LShutDays$Text;[III)I"⟩) ∈ lw_all := lw_g (lw_at lw_ms 26 rfl) rfl
theorem qs27 : (Cond.selects "ShutDays" ⟨"ShutDays", "names", "([III)V"⟩ ⟨"ShutDays", "names", "([III)V"⟩) ∈ lw_all := lw_g (lw_at lw_ms 27 rfl) rfl
theorem qs28 : (Cond.selects "ShutDays" ⟨"ShutDays", "openOn", "([II)I"⟩ ⟨"ShutDays", "openOn", "([II)I"⟩) ∈ lw_all := lw_g (lw_at lw_ms 28 rfl) rfl
theorem qs29 : (Cond.selects "ShutDays" ⟨"ShutDays", "isOpen", "([III)Z"⟩ ⟨"ShutDays", "isOpen", "([III)Z"⟩) ∈ lw_all := lw_g (lw_at lw_ms 29 rfl) rfl
theorem qs30 : (Cond.selects "ShutDays" ⟨"ShutDays", "isHouse", "(I)Z"⟩ ⟨"ShutDays", "isHouse", "(I)Z"⟩) ∈ lw_all := lw_g (lw_at lw_ms 30 rfl) rfl
theorem qs31 : (Cond.selects "ShutDays" ⟨"ShutDays", "besideOf", "([III)I"⟩ ⟨"ShutDays", "besideOf", "([III)I"⟩) ∈ lw_all := lw_g (lw_at lw_ms 31 rfl) rfl
theorem qs32 : (Cond.selects "ShutDays" ⟨"ShutDays", "earnsBy", "(LShutDays$Text;[III)I"⟩ ⟨"ShutDays", "earnsBy", "(LShutDays$Text;[III)I"⟩) ∈ lw_all := lw_g (lw_at lw_ms 32 rfl) rfl
theorem qs33 : (Cond.selects "ShutDays" ⟨"ShutDays", "isThere", "(I)Z"⟩ ⟨"ShutDays", "isThere", "(I)Z"⟩) ∈ lw_all := lw_g (lw_at lw_ms 33 rfl) rfl
theorem qs34 : (Cond.selects "ShutDays" ⟨"ShutDays", "knocking", "(I)I"⟩ ⟨"ShutDays", "knocking", "(I)I"⟩) ∈ lw_all := lw_g (lw_at lw_ms 34 rfl) rfl
theorem qs35 : (Cond.selects "ShutDays" ⟨"ShutDays", "letsBy", "(LShutDays$Text;[II)Z"⟩ ⟨"ShutDays", "letsBy", "(LShutDays$Text;[II)Z"⟩) ∈ lw_all := lw_g (lw_at lw_ms 35 rfl) rfl
theorem qs36 : (Cond.selects "ShutDays" ⟨"ShutDays", "wedDates", "(II)I"⟩ ⟨"ShutDays", "wedDates", "(II)I"⟩) ∈ lw_all := lw_g (lw_at lw_ms 36 rfl) rfl
theorem qs37 : (Cond.selects "ShutDays" ⟨"ShutDays", "canHat", "(I)Z"⟩ ⟨"ShutDays", "canHat", "(I)Z"⟩) ∈ lw_all := lw_g (lw_at lw_ms 37 rfl) rfl
theorem qs38 : (Cond.selects "ShutDays" ⟨"ShutDays", "hats", "(I)I"⟩ ⟨"ShutDays", "hats", "(I)I"⟩) ∈ lw_all := lw_g (lw_at lw_ms 38 rfl) rfl
theorem qs39 : (Cond.selects "ShutDays" ⟨"ShutDays", "draws", "()V"⟩ ⟨"ShutDays", "draws", "()V"⟩) ∈ lw_all := lw_g (lw_at lw_ms 39 rfl) rfl
theorem qs40 : (Cond.selects "ShutDays" ⟨"ShutDays", "canForget", "(II)Z"⟩ ⟨"ShutDays", "canForget", "(II)Z"⟩) ∈ lw_all := lw_g (lw_at lw_ms 40 rfl) rfl
theorem qs41 : (Cond.selects "ShutDays" ⟨"ShutDays", "does", "(LShutDays$Doing;)Z"⟩ ⟨"ShutDays", "does", "(LShutDays$Doing;)Z"⟩) ∈ lw_all := lw_g (lw_at lw_ms 41 rfl) rfl
theorem qs42 : (Cond.selects "ShutDays" ⟨"ShutDays", "hatted", "(I)Z"⟩ ⟨"ShutDays", "hatted", "(I)Z"⟩) ∈ lw_all := lw_g (lw_at lw_ms 42 rfl) rfl
theorem qs43 : (Cond.selects "ShutDays" ⟨"ShutDays", "passesAll", "(I)Z"⟩ ⟨"ShutDays", "passesAll", "(I)Z"⟩) ∈ lw_all := lw_g (lw_at lw_ms 43 rfl) rfl
theorem qs44 : (Cond.selects "ShutDays" ⟨"ShutDays", "happens", "(I)V"⟩ ⟨"ShutDays", "happens", "(I)V"⟩) ∈ lw_all := lw_g (lw_at lw_ms 44 rfl) rfl
theorem qs45 : (Cond.selects "ShutDays" ⟨"ShutDays", "goes", "(LShutDays$Text;I)V"⟩ ⟨"ShutDays", "goes", "(LShutDays$Text;I)V"⟩) ∈ lw_all := lw_g (lw_at lw_ms 45 rfl) rfl
theorem qs46 : (Cond.selects "ShutDays" ⟨"ShutDays", "shutOn", "(I)I"⟩ ⟨"ShutDays", "shutOn", "(I)I"⟩) ∈ lw_all := lw_g (lw_at lw_ms 46 rfl) rfl
theorem qs47 : (Cond.selects "ShutDays" ⟨"ShutDays", "friendsOn", "(I)I"⟩ ⟨"ShutDays", "friendsOn", "(I)I"⟩) ∈ lw_all := lw_g (lw_at lw_ms 47 rfl) rfl
theorem qs48 : (Cond.selects "ShutDays" ⟨"ShutDays", "setsWith", "(III)I"⟩ ⟨"ShutDays", "setsWith", "(III)I"⟩) ∈ lw_all := lw_g (lw_at lw_ms 48 rfl) rfl
theorem qs49 : (Cond.selects "ShutDays" ⟨"ShutDays", "datesSeen", "(II)I"⟩ ⟨"ShutDays", "datesSeen", "(II)I"⟩) ∈ lw_all := lw_g (lw_at lw_ms 49 rfl) rfl
theorem qs50 : (Cond.selects "ShutDays" ⟨"ShutDays", "firstLooted", "(II)I"⟩ ⟨"ShutDays", "firstLooted", "(II)I"⟩) ∈ lw_all := lw_g (lw_at lw_ms 50 rfl) rfl
theorem qs51 : (Cond.selects "ShutDays" ⟨"ShutDays", "lootFrom", "(III)I"⟩ ⟨"ShutDays", "lootFrom", "(III)I"⟩) ∈ lw_all := lw_g (lw_at lw_ms 51 rfl) rfl
theorem qs52 : (Cond.selects "ShutDays" ⟨"ShutDays", "loot", "(II)I"⟩ ⟨"ShutDays", "loot", "(II)I"⟩) ∈ lw_all := lw_g (lw_at lw_ms 52 rfl) rfl
theorem qs53 : (Cond.selects "ShutDays" ⟨"ShutDays", "there", "()I"⟩ ⟨"ShutDays", "there", "()I"⟩) ∈ lw_all := lw_g (lw_at lw_ms 53 rfl) rfl
theorem qs54 : (Cond.selects "ShutDays" ⟨"ShutDays", "visits", "(III)Z"⟩ ⟨"ShutDays", "visits", "(III)Z"⟩) ∈ lw_all := lw_g (lw_at lw_ms 54 rfl) rfl
theorem qs55 : (Cond.selects "ShutDays" ⟨"ShutDays", "isRound", "(I)Z"⟩ ⟨"ShutDays", "isRound", "(I)Z"⟩) ∈ lw_all := lw_g (lw_at lw_ms 55 rfl) rfl
theorem qs56 : (Cond.selects "ShutDays" ⟨"ShutDays", "weds", "(II)V"⟩ ⟨"ShutDays", "weds", "(II)V"⟩) ∈ lw_all := lw_g (lw_at lw_ms 56 rfl) rfl
theorem qs57 : (Cond.selects "ShutDays" ⟨"ShutDays", "knowing", "(I)I"⟩ ⟨"ShutDays", "knowing", "(I)I"⟩) ∈ lw_all := lw_g (lw_at lw_ms 57 rfl) rfl
theorem qs58 : (Cond.selects "ShutDays" ⟨"ShutDays", "earnedOn", "(I)I"⟩ ⟨"ShutDays", "earnedOn", "(I)I"⟩) ∈ lw_all := lw_g (lw_at lw_ms 58 rfl) rfl
theorem qs59 : (Cond.selects "ShutDays" ⟨"ShutDays", "pursesBy", "(LShutDays$Text;I)I"⟩ ⟨"ShutDays", "pursesBy", "(LShutDays$Text;I)I"⟩) ∈ lw_all := lw_g (lw_at lw_ms 59 rfl) rfl
theorem qs60 : (Cond.selects "ShutDays" ⟨"ShutDays", "knocksAt", "(II)I"⟩ ⟨"ShutDays", "knocksAt", "(II)I"⟩) ∈ lw_all := lw_g (lw_at lw_ms 60 rfl) rfl
theorem qs61 : (Cond.selects "ShutDaysModel" ⟨"ShutDaysModel", "put", "(III)V"⟩ ⟨"ShutDaysModel", "put", "(III)V"⟩) ∈ lw_all := lw_g (lw_at lw_ms 61 rfl) rfl
theorem qs62 : (Cond.selects "ShutDaysModel" ⟨"ShutDaysModel", "begin", "(I)V"⟩ ⟨"ShutDaysModel", "begin", "(I)V"⟩) ∈ lw_all := lw_g (lw_at lw_ms 62 rfl) rfl
theorem qs63 : (Cond.selects "ShutDaysModel" ⟨"ShutDaysModel", "get", "(II)I"⟩ ⟨"ShutDaysModel", "get", "(II)I"⟩) ∈ lw_all := lw_g (lw_at lw_ms 63 rfl) rfl
theorem qs64 : (Cond.selects "ShutDaysModel" ⟨"ShutDaysModel", "four", "(I)V"⟩ ⟨"ShutDaysModel", "four", "(I)V"⟩) ∈ lw_all := lw_g (lw_at lw_ms 64 rfl) rfl
theorem qs65 : (Cond.selects "ShutDaysModel" ⟨"ShutDaysModel", "readText", "()I"⟩ ⟨"ShutDaysModel", "readText", "()I"⟩) ∈ lw_all := lw_g (lw_at lw_ms 65 rfl) rfl
theorem qs66 : (Cond.selects "ShutDaysModel" ⟨"ShutDaysModel", "nextToken", "()V"⟩ ⟨"ShutDaysModel", "nextToken", "()V"⟩) ∈ lw_all := lw_g (lw_at lw_ms 66 rfl) rfl
theorem qs67 : (Cond.selects "ShutDaysModel" ⟨"ShutDaysModel", "byteAt", "(I)I"⟩ ⟨"ShutDaysModel", "byteAt", "(I)I"⟩) ∈ lw_all := lw_g (lw_at lw_ms 67 rfl) rfl
theorem qs68 : (Cond.selects "ShutDaysModel" ⟨"ShutDaysModel", "clause", "()I"⟩ ⟨"ShutDaysModel", "clause", "()I"⟩) ∈ lw_all := lw_g (lw_at lw_ms 68 rfl) rfl
theorem qs69 : (Cond.selects "ShutDaysModel" ⟨"ShutDaysModel", "sortOf", "()I"⟩ ⟨"ShutDaysModel", "sortOf", "()I"⟩) ∈ lw_all := lw_g (lw_at lw_ms 69 rfl) rfl
theorem qs70 : (Cond.selects "ShutDaysModel" ⟨"ShutDaysModel", "isWord", "(J)Z"⟩ ⟨"ShutDaysModel", "isWord", "(J)Z"⟩) ∈ lw_all := lw_g (lw_at lw_ms 70 rfl) rfl
theorem qs71 : (Cond.selects "ShutDaysModel" ⟨"ShutDaysModel", "body", "(II)I"⟩ ⟨"ShutDaysModel", "body", "(II)I"⟩) ∈ lw_all := lw_g (lw_at lw_ms 71 rfl) rfl
theorem qs72 : (Cond.selects "ShutDaysModel" ⟨"ShutDaysModel", "houseClause", "(I)I"⟩ ⟨"ShutDaysModel", "houseClause", "(I)I"⟩) ∈ lw_all := lw_g (lw_at lw_ms 72 rfl) rfl
theorem qs73 : (Cond.selects "ShutDaysModel" ⟨"ShutDaysModel", "figure", "(III)I"⟩ ⟨"ShutDaysModel", "figure", "(III)I"⟩) ∈ lw_all := lw_g (lw_at lw_ms 73 rfl) rfl
theorem qs74 : (Cond.selects "ShutDaysModel" ⟨"ShutDaysModel", "worded", "(JII)I"⟩ ⟨"ShutDaysModel", "worded", "(JII)I"⟩) ∈ lw_all := lw_g (lw_at lw_ms 74 rfl) rfl
theorem qs75 : (Cond.selects "ShutDaysModel" ⟨"ShutDaysModel", "isFriends", "()Z"⟩ ⟨"ShutDaysModel", "isFriends", "()Z"⟩) ∈ lw_all := lw_g (lw_at lw_ms 75 rfl) rfl
theorem qs76 : (Cond.selects "ShutDaysModel" ⟨"ShutDaysModel", "isLong", "(JJ)Z"⟩ ⟨"ShutDaysModel", "isLong", "(JJ)Z"⟩) ∈ lw_all := lw_g (lw_at lw_ms 76 rfl) rfl
theorem qs77 : (Cond.selects "ShutDaysModel" ⟨"ShutDaysModel", "lawClause", "(IZ)I"⟩ ⟨"ShutDaysModel", "lawClause", "(IZ)I"⟩) ∈ lw_all := lw_g (lw_at lw_ms 77 rfl) rfl
theorem qs78 : (Cond.selects "ShutDaysModel" ⟨"ShutDaysModel", "parsed", "(Z)I"⟩ ⟨"ShutDaysModel", "parsed", "(Z)I"⟩) ∈ lw_all := lw_g (lw_at lw_ms 78 rfl) rfl
theorem qs79 : (Cond.selects "ShutDaysModel" ⟨"ShutDaysModel", "behindOne", "()I"⟩ ⟨"ShutDaysModel", "behindOne", "()I"⟩) ∈ lw_all := lw_g (lw_at lw_ms 79 rfl) rfl
theorem qs80 : (Cond.selects "ShutDaysModel" ⟨"ShutDaysModel", "betweenOf", "()I"⟩ ⟨"ShutDaysModel", "betweenOf", "()I"⟩) ∈ lw_all := lw_g (lw_at lw_ms 80 rfl) rfl
theorem qs81 : (Cond.selects "ShutDaysModel" ⟨"ShutDaysModel", "isShut", "()Z"⟩ ⟨"ShutDaysModel", "isShut", "()Z"⟩) ∈ lw_all := lw_g (lw_at lw_ms 81 rfl) rfl
theorem qs82 : (Cond.selects "ShutDaysModel" ⟨"ShutDaysModel", "isCompared", "()Z"⟩ ⟨"ShutDaysModel", "isCompared", "()Z"⟩) ∈ lw_all := lw_g (lw_at lw_ms 82 rfl) rfl
theorem qs83 : (Cond.selects "ShutDaysModel" ⟨"ShutDaysModel", "compareOf", "()I"⟩ ⟨"ShutDaysModel", "compareOf", "()I"⟩) ∈ lw_all := lw_g (lw_at lw_ms 83 rfl) rfl
theorem qs84 : (Cond.selects "ShutDaysModel" ⟨"ShutDaysModel", "settle", "(I)V"⟩ ⟨"ShutDaysModel", "settle", "(I)V"⟩) ∈ lw_all := lw_g (lw_at lw_ms 84 rfl) rfl
theorem qs85 : (Cond.selects "ShutDaysModel" ⟨"ShutDaysModel", "emit", "(II)V"⟩ ⟨"ShutDaysModel", "emit", "(II)V"⟩) ∈ lw_all := lw_g (lw_at lw_ms 85 rfl) rfl
theorem qs86 : (Cond.selects "ShutDaysModel" ⟨"ShutDaysModel", "endOne", "()I"⟩ ⟨"ShutDaysModel", "endOne", "()I"⟩) ∈ lw_all := lw_g (lw_at lw_ms 86 rfl) rfl
theorem qs87 : (Cond.selects "ShutDaysModel" ⟨"ShutDaysModel", "beginOne", "()I"⟩ ⟨"ShutDaysModel", "beginOne", "()I"⟩) ∈ lw_all := lw_g (lw_at lw_ms 87 rfl) rfl
theorem qs88 : (Cond.selects "ShutDaysModel" ⟨"ShutDaysModel", "nameOf", "()I"⟩ ⟨"ShutDaysModel", "nameOf", "()I"⟩) ∈ lw_all := lw_g (lw_at lw_ms 88 rfl) rfl
theorem qs89 : (Cond.selects "ShutDaysModel" ⟨"ShutDaysModel", "opened", "(I)I"⟩ ⟨"ShutDaysModel", "opened", "(I)I"⟩) ∈ lw_all := lw_g (lw_at lw_ms 89 rfl) rfl
theorem qs90 : (Cond.selects "ShutDaysModel" ⟨"ShutDaysModel", "isAskAhead", "()Z"⟩ ⟨"ShutDaysModel", "isAskAhead", "()Z"⟩) ∈ lw_all := lw_g (lw_at lw_ms 90 rfl) rfl
theorem qs91 : (Cond.selects "ShutDaysModel" ⟨"ShutDaysModel", "isHere", "(I)Z"⟩ ⟨"ShutDaysModel", "isHere", "(I)Z"⟩) ∈ lw_all := lw_g (lw_at lw_ms 91 rfl) rfl
theorem qs92 : (Cond.selects "ShutDaysModel" ⟨"ShutDaysModel", "isHouse", "(I)Z"⟩ ⟨"ShutDaysModel", "isHouse", "(I)Z"⟩) ∈ lw_all := lw_g (lw_at lw_ms 92 rfl) rfl
theorem qs93 : (Cond.selects "ShutDaysModel" ⟨"ShutDaysModel", "keep", "()V"⟩ ⟨"ShutDaysModel", "keep", "()V"⟩) ∈ lw_all := lw_g (lw_at lw_ms 93 rfl) rfl
theorem qs94 : (Cond.selects "ShutDaysModel" ⟨"ShutDaysModel", "knockNow", "(I)I"⟩ ⟨"ShutDaysModel", "knockNow", "(I)I"⟩) ∈ lw_all := lw_g (lw_at lw_ms 94 rfl) rfl
theorem qs95 : (Cond.selects "ShutDaysModel" ⟨"ShutDaysModel", "date", "()I"⟩ ⟨"ShutDaysModel", "date", "()I"⟩) ∈ lw_all := lw_g (lw_at lw_ms 95 rfl) rfl
theorem qs96 : (Cond.selects "ShutDaysModel" ⟨"ShutDaysModel", "write", "(II)V"⟩ ⟨"ShutDaysModel", "write", "(II)V"⟩) ∈ lw_all := lw_g (lw_at lw_ms 96 rfl) rfl
theorem qs97 : (Cond.selects "ShutDaysModel" ⟨"ShutDaysModel", "isLetting", "(I)Z"⟩ ⟨"ShutDaysModel", "isLetting", "(I)Z"⟩) ∈ lw_all := lw_g (lw_at lw_ms 97 rfl) rfl
theorem qs98 : (Cond.selects "ShutDaysModel" ⟨"ShutDaysModel", "clauseOf", "(I)I"⟩ ⟨"ShutDaysModel", "clauseOf", "(I)I"⟩) ∈ lw_all := lw_g (lw_at lw_ms 98 rfl) rfl
theorem qs99 : (Cond.selects "ShutDaysModel" ⟨"ShutDaysModel", "name", "(II)V"⟩ ⟨"ShutDaysModel", "name", "(II)V"⟩) ∈ lw_all := lw_g (lw_at lw_ms 99 rfl) rfl
theorem qs100 : (Cond.selects "ShutDaysModel" ⟨"ShutDaysModel", "openOn", "(I)I"⟩ ⟨"ShutDaysModel", "openOn", "(I)I"⟩) ∈ lw_all := lw_g (lw_at lw_ms 100 rfl) rfl
theorem qs101 : (Cond.selects "ShutDaysModel" ⟨"ShutDaysModel", "isOpen", "(II)Z"⟩ ⟨"ShutDaysModel", "isOpen", "(II)Z"⟩) ∈ lw_all := lw_g (lw_at lw_ms 101 rfl) rfl
theorem qs102 : (Cond.selects "ShutDaysModel" ⟨"ShutDaysModel", "besideOn", "(II)I"⟩ ⟨"ShutDaysModel", "besideOn", "(II)I"⟩) ∈ lw_all := lw_g (lw_at lw_ms 102 rfl) rfl
theorem qs103 : (Cond.selects "ShutDaysModel" ⟨"ShutDaysModel", "work", "(I)V"⟩ ⟨"ShutDaysModel", "work", "(I)V"⟩) ∈ lw_all := lw_g (lw_at lw_ms 103 rfl) rfl
theorem qs104 : (Cond.selects "ShutDaysModel" ⟨"ShutDaysModel", "canDraw", "(I)Z"⟩ ⟨"ShutDaysModel", "canDraw", "(I)Z"⟩) ∈ lw_all := lw_g (lw_at lw_ms 104 rfl) rfl
theorem qs105 : (Cond.selects "ShutDaysModel" ⟨"ShutDaysModel", "hatNow", "(I)I"⟩ ⟨"ShutDaysModel", "hatNow", "(I)I"⟩) ∈ lw_all := lw_g (lw_at lw_ms 105 rfl) rfl
theorem qs106 : (Cond.selects "ShutDaysModel" ⟨"ShutDaysModel", "anew", "()V"⟩ ⟨"ShutDaysModel", "anew", "()V"⟩) ∈ lw_all := lw_g (lw_at lw_ms 106 rfl) rfl
theorem qs107 : (Cond.selects "ShutDaysModel" ⟨"ShutDaysModel", "canForget", "(II)Z"⟩ ⟨"ShutDaysModel", "canForget", "(II)Z"⟩) ∈ lw_all := lw_g (lw_at lw_ms 107 rfl) rfl
theorem qs108 : (Cond.selects "ShutDaysModel" ⟨"ShutDaysModel", "forgetNow", "(II)V"⟩ ⟨"ShutDaysModel", "forgetNow", "(II)V"⟩) ∈ lw_all := lw_g (lw_at lw_ms 108 rfl) rfl
theorem qs109 : (Cond.selects "ShutDaysModel" ⟨"ShutDaysModel", "arePassed", "(I)Z"⟩ ⟨"ShutDaysModel", "arePassed", "(I)Z"⟩) ∈ lw_all := lw_g (lw_at lw_ms 109 rfl) rfl
theorem qs110 : (Cond.selects "ShutDaysModel" ⟨"ShutDaysModel", "pass", "()V"⟩ ⟨"ShutDaysModel", "pass", "()V"⟩) ∈ lw_all := lw_g (lw_at lw_ms 110 rfl) rfl
theorem qs111 : (Cond.selects "ShutDaysModel" ⟨"ShutDaysModel", "losesOf", "(I)I"⟩ ⟨"ShutDaysModel", "losesOf", "(I)I"⟩) ∈ lw_all := lw_g (lw_at lw_ms 111 rfl) rfl
theorem qs112 : (Cond.selects "ShutDaysModel" ⟨"ShutDaysModel", "says", "(II)I"⟩ ⟨"ShutDaysModel", "says", "(II)I"⟩) ∈ lw_all := lw_g (lw_at lw_ms 112 rfl) rfl
theorem qs113 : (Cond.selects "ShutDaysModel" ⟨"ShutDaysModel", "earnsOn", "(II)I"⟩ ⟨"ShutDaysModel", "earnsOn", "(II)I"⟩) ∈ lw_all := lw_g (lw_at lw_ms 113 rfl) rfl
theorem qs114 : (Cond.selects "ShutDaysModel" ⟨"ShutDaysModel", "isPlayed", "(I)Z"⟩ ⟨"ShutDaysModel", "isPlayed", "(I)Z"⟩) ∈ lw_all := lw_g (lw_at lw_ms 114 rfl) rfl
theorem qs115 : (Cond.selects "ShutDaysModel" ⟨"ShutDaysModel", "happens", "(I)V"⟩ ⟨"ShutDaysModel", "happens", "(I)V"⟩) ∈ lw_all := lw_g (lw_at lw_ms 115 rfl) rfl
theorem qs116 : (Cond.selects "ShutDaysModel" ⟨"ShutDaysModel", "entry", "(II)I"⟩ ⟨"ShutDaysModel", "entry", "(II)I"⟩) ∈ lw_all := lw_g (lw_at lw_ms 116 rfl) rfl
theorem qs117 : (Cond.selects "ShutDaysModel" ⟨"ShutDaysModel", "knocksAt", "(II)I"⟩ ⟨"ShutDaysModel", "knocksAt", "(II)I"⟩) ∈ lw_all := lw_g (lw_at lw_ms 117 rfl) rfl
theorem qs118 : (Cond.selects "ShutDaysModel" ⟨"ShutDaysModel", "setAside", "()V"⟩ ⟨"ShutDaysModel", "setAside", "()V"⟩) ∈ lw_all := lw_g (lw_at lw_ms 118 rfl) rfl
theorem qs119 : (Cond.selects "ShutDaysModel" ⟨"ShutDaysModel", "goOn", "(I)V"⟩ ⟨"ShutDaysModel", "goOn", "(I)V"⟩) ∈ lw_all := lw_g (lw_at lw_ms 119 rfl) rfl
theorem qs120 : (Cond.selects "ShutDaysModel" ⟨"ShutDaysModel", "putBack", "()V"⟩ ⟨"ShutDaysModel", "putBack", "()V"⟩) ∈ lw_all := lw_g (lw_at lw_ms 120 rfl) rfl
theorem qs121 : (Cond.selects "ShutDaysModel" ⟨"ShutDaysModel", "shutOn", "(I)I"⟩ ⟨"ShutDaysModel", "shutOn", "(I)I"⟩) ∈ lw_all := lw_g (lw_at lw_ms 121 rfl) rfl
theorem qs122 : (Cond.selects "ShutDaysModel" ⟨"ShutDaysModel", "friendsOn", "(I)I"⟩ ⟨"ShutDaysModel", "friendsOn", "(I)I"⟩) ∈ lw_all := lw_g (lw_at lw_ms 122 rfl) rfl
theorem qs123 : (Cond.selects "ShutDaysModel" ⟨"ShutDaysModel", "laySets", "(II)V"⟩ ⟨"ShutDaysModel", "laySets", "(II)V"⟩) ∈ lw_all := lw_g (lw_at lw_ms 123 rfl) rfl
theorem qs124 : (Cond.selects "ShutDaysModel" ⟨"ShutDaysModel", "note", "(II)V"⟩ ⟨"ShutDaysModel", "note", "(II)V"⟩) ∈ lw_all := lw_g (lw_at lw_ms 124 rfl) rfl
theorem qs125 : (Cond.selects "ShutDaysModel" ⟨"ShutDaysModel", "count", "(I)V"⟩ ⟨"ShutDaysModel", "count", "(I)V"⟩) ∈ lw_all := lw_g (lw_at lw_ms 125 rfl) rfl
theorem qs126 : (Cond.selects "ShutDaysModel" ⟨"ShutDaysModel", "layThieves", "(II)V"⟩ ⟨"ShutDaysModel", "layThieves", "(II)V"⟩) ∈ lw_all := lw_g (lw_at lw_ms 126 rfl) rfl
theorem qs127 : (Cond.selects "ShutDaysModel" ⟨"ShutDaysModel", "areHere", "(I)Z"⟩ ⟨"ShutDaysModel", "areHere", "(I)Z"⟩) ∈ lw_all := lw_g (lw_at lw_ms 127 rfl) rfl
theorem qs128 : (Cond.selects "ShutDaysModel" ⟨"ShutDaysModel", "layMembers", "(I)I"⟩ ⟨"ShutDaysModel", "layMembers", "(I)I"⟩) ∈ lw_all := lw_g (lw_at lw_ms 128 rfl) rfl
theorem qs129 : (Cond.selects "ShutDaysModel" ⟨"ShutDaysModel", "isLaid", "(III)Z"⟩ ⟨"ShutDaysModel", "isLaid", "(III)Z"⟩) ∈ lw_all := lw_g (lw_at lw_ms 129 rfl) rfl
theorem qs130 : (Cond.selects "ShutDaysModel" ⟨"ShutDaysModel", "isRound", "(I)Z"⟩ ⟨"ShutDaysModel", "isRound", "(I)Z"⟩) ∈ lw_all := lw_g (lw_at lw_ms 130 rfl) rfl
theorem qs131 : (Cond.selects "ShutDaysModel" ⟨"ShutDaysModel", "wed", "()I"⟩ ⟨"ShutDaysModel", "wed", "()I"⟩) ∈ lw_all := lw_g (lw_at lw_ms 131 rfl) rfl
theorem qs132 : (Cond.selects "ShutDaysModel" ⟨"ShutDaysModel", "sharedNow", "()I"⟩ ⟨"ShutDaysModel", "sharedNow", "()I"⟩) ∈ lw_all := lw_g (lw_at lw_ms 132 rfl) rfl
theorem qs133 : (Cond.selects "ShutDaysModel" ⟨"ShutDaysModel", "nextRow", "()Z"⟩ ⟨"ShutDaysModel", "nextRow", "()Z"⟩) ∈ lw_all := lw_g (lw_at lw_ms 133 rfl) rfl
theorem qs134 : (Cond.selects "ShutDaysModel" ⟨"ShutDaysModel", "nextMate", "(II)I"⟩ ⟨"ShutDaysModel", "nextMate", "(II)I"⟩) ∈ lw_all := lw_g (lw_at lw_ms 134 rfl) rfl
theorem qs135 : (Cond.selects "ShutDaysModel" ⟨"ShutDaysModel", "spread", "(I)I"⟩ ⟨"ShutDaysModel", "spread", "(I)I"⟩) ∈ lw_all := lw_g (lw_at lw_ms 135 rfl) rfl
theorem qs136 : (Cond.selects "ShutDaysModel" ⟨"ShutDaysModel", "earnedOn", "(I)I"⟩ ⟨"ShutDaysModel", "earnedOn", "(I)I"⟩) ∈ lw_all := lw_g (lw_at lw_ms 136 rfl) rfl
