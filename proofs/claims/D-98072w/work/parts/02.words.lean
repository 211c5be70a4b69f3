-- ===== PART A: goes FIRST, ahead of the names: the tables' words, and 'selects' of the private methods out of them =====
/-- a private method of a class that the tables say can be made, by its rows of tables_1 -/
def lw_okq (q : MethodName × Nat) : Prop := (q.1.cls ≠ "java/lang/invoke/MethodHandle" ∧ q.1.cls ≠ "java/lang/invoke/VarHandle") ∧ Cond.instantiable q.1.cls q.2 ∈ tables_1 ∧ Cond.privateMethod q.1 ∈ tables_1 ∧ Cond.instanceMethod q.1 ∈ tables_1
set_option maxRecDepth 100000
theorem lw_t1 {w : Cond} (h : w ∈ tables_1_1) : w ∈ tables_1 := List.mem_append_left _ h
theorem lw_t2 {w : Cond} (h : w ∈ tables_1_2) : w ∈ tables_1 := List.mem_append_right _ (List.mem_append_left _ h)
theorem lw_t3 {w : Cond} (h : w ∈ tables_1_3) : w ∈ tables_1 := List.mem_append_right _ (List.mem_append_right _ (List.mem_append_left _ h))
theorem lw_t4 {w : Cond} (h : w ∈ tables_1_4) : w ∈ tables_1 := List.mem_append_right _ (List.mem_append_right _ (List.mem_append_right _ (List.mem_append_left _ h)))
theorem lw_t5 {w : Cond} (h : w ∈ tables_1_5) : w ∈ tables_1 := List.mem_append_right _ (List.mem_append_right _ (List.mem_append_right _ (List.mem_append_right _ (List.mem_append_left _ h))))
theorem lw_t6 {w : Cond} (h : w ∈ tables_1_6) : w ∈ tables_1 := List.mem_append_right _ (List.mem_append_right _ (List.mem_append_right _ (List.mem_append_right _ (List.mem_append_right _ (List.mem_append_left _ h)))))
theorem lw_t7 {w : Cond} (h : w ∈ tables_1_7) : w ∈ tables_1 := List.mem_append_right _ (List.mem_append_right _ (List.mem_append_right _ (List.mem_append_right _ (List.mem_append_right _ (List.mem_append_right _ (List.mem_append_left _ h))))))
theorem lw_t8 {w : Cond} (h : w ∈ tables_1_8) : w ∈ tables_1 := List.mem_append_right _ (List.mem_append_right _ (List.mem_append_right _ (List.mem_append_right _ (List.mem_append_right _ (List.mem_append_right _ (List.mem_append_right _ (List.mem_append_left _ h)))))))
theorem lw_t9 {w : Cond} (h : w ∈ tables_1_9) : w ∈ tables_1 := List.mem_append_right _ (List.mem_append_right _ (List.mem_append_right _ (List.mem_append_right _ (List.mem_append_right _ (List.mem_append_right _ (List.mem_append_right _ (List.mem_append_right _ h)))))))
theorem lw_p0 : lw_okq (⟨"java/lang/Throwable", "fillInStackTrace", "(I)Ljava/lang/Throwable;"⟩, 6) := ⟨⟨by decide +kernel, by decide +kernel⟩, lw_t1 (List.mem_of_getElem? (i := 75) rfl), lw_t1 (List.mem_of_getElem? (i := 73) rfl), lw_t1 (List.mem_of_getElem? (i := 74) rfl)⟩
theorem lw_p1 : lw_okq (⟨"PanSlices", "four", "(I)V"⟩, 42) := ⟨⟨by decide +kernel, by decide +kernel⟩, lw_t1 (List.mem_of_getElem? (i := 32) rfl), lw_t3 (List.mem_of_getElem? (i := 50) rfl), lw_t3 (List.mem_of_getElem? (i := 51) rfl)⟩
theorem lw_p2 : lw_okq (⟨"PanSlices", "taken", "()V"⟩, 42) := ⟨⟨by decide +kernel, by decide +kernel⟩, lw_t1 (List.mem_of_getElem? (i := 32) rfl), lw_t3 (List.mem_of_getElem? (i := 62) rfl), lw_t3 (List.mem_of_getElem? (i := 63) rfl)⟩
theorem lw_p3 : lw_okq (⟨"PanSlices$KitchenReader", "line", "(I)V"⟩, 11) := ⟨⟨by decide +kernel, by decide +kernel⟩, lw_t2 (List.mem_of_getElem? (i := 13) rfl), lw_t3 (List.mem_of_getElem? (i := 183) rfl), lw_t3 (List.mem_of_getElem? (i := 184) rfl)⟩
theorem lw_p4 : lw_okq (⟨"PanSlices$KitchenReader", "fresh", "()J"⟩, 11) := ⟨⟨by decide +kernel, by decide +kernel⟩, lw_t2 (List.mem_of_getElem? (i := 13) rfl), lw_t3 (List.mem_of_getElem? (i := 194) rfl), lw_t3 (List.mem_of_getElem? (i := 195) rfl)⟩
theorem lw_p5 : lw_okq (⟨"PanSlices", "keep", "()V"⟩, 42) := ⟨⟨by decide +kernel, by decide +kernel⟩, lw_t1 (List.mem_of_getElem? (i := 32) rfl), lw_t4 (List.mem_of_getElem? (i := 33) rfl), lw_t4 (List.mem_of_getElem? (i := 34) rfl)⟩
theorem lw_p6 : lw_okq (⟨"PanSlices", "putName", "(J)V"⟩, 42) := ⟨⟨by decide +kernel, by decide +kernel⟩, lw_t1 (List.mem_of_getElem? (i := 32) rfl), lw_t4 (List.mem_of_getElem? (i := 106) rfl), lw_t4 (List.mem_of_getElem? (i := 107) rfl)⟩
theorem lw_p7 : lw_okq (⟨"PanSlices", "put", "(I)V"⟩, 42) := ⟨⟨by decide +kernel, by decide +kernel⟩, lw_t1 (List.mem_of_getElem? (i := 32) rfl), lw_t4 (List.mem_of_getElem? (i := 111) rfl), lw_t4 (List.mem_of_getElem? (i := 112) rfl)⟩
theorem lw_p8 : lw_okq (⟨"PanSlices", "putNumber", "(I)V"⟩, 42) := ⟨⟨by decide +kernel, by decide +kernel⟩, lw_t1 (List.mem_of_getElem? (i := 32) rfl), lw_t4 (List.mem_of_getElem? (i := 115) rfl), lw_t4 (List.mem_of_getElem? (i := 116) rfl)⟩
theorem lw_p9 : lw_okq (⟨"PanSlices", "isSlice", "(I)Z"⟩, 42) := ⟨⟨by decide +kernel, by decide +kernel⟩, lw_t1 (List.mem_of_getElem? (i := 32) rfl), lw_t4 (List.mem_of_getElem? (i := 131) rfl), lw_t4 (List.mem_of_getElem? (i := 132) rfl)⟩
theorem lw_p10 : lw_okq (⟨"PanSlices", "isGo", "(I)Z"⟩, 42) := ⟨⟨by decide +kernel, by decide +kernel⟩, lw_t1 (List.mem_of_getElem? (i := 32) rfl), lw_t4 (List.mem_of_getElem? (i := 140) rfl), lw_t4 (List.mem_of_getElem? (i := 141) rfl)⟩
theorem lw_p11 : lw_okq (⟨"PanSlices", "earliest", "(I)I"⟩, 42) := ⟨⟨by decide +kernel, by decide +kernel⟩, lw_t1 (List.mem_of_getElem? (i := 32) rfl), lw_t4 (List.mem_of_getElem? (i := 156) rfl), lw_t4 (List.mem_of_getElem? (i := 157) rfl)⟩
theorem lw_p12 : lw_okq (⟨"PanSlices", "orders", "(II)V"⟩, 42) := ⟨⟨by decide +kernel, by decide +kernel⟩, lw_t1 (List.mem_of_getElem? (i := 32) rfl), lw_t4 (List.mem_of_getElem? (i := 204) rfl), lw_t4 (List.mem_of_getElem? (i := 205) rfl)⟩
theorem lw_p13 : lw_okq (⟨"PanSlices", "fits", "(II)Z"⟩, 42) := ⟨⟨by decide +kernel, by decide +kernel⟩, lw_t1 (List.mem_of_getElem? (i := 32) rfl), lw_t4 (List.mem_of_getElem? (i := 208) rfl), lw_t4 (List.mem_of_getElem? (i := 209) rfl)⟩
theorem lw_p14 : lw_okq (⟨"PanSlices", "takes", "(II)V"⟩, 42) := ⟨⟨by decide +kernel, by decide +kernel⟩, lw_t1 (List.mem_of_getElem? (i := 32) rfl), lw_t4 (List.mem_of_getElem? (i := 212) rfl), lw_t4 (List.mem_of_getElem? (i := 213) rfl)⟩
theorem lw_p15 : lw_okq (⟨"PanSlices", "pupil", "(II[I)I"⟩, 42) := ⟨⟨by decide +kernel, by decide +kernel⟩, lw_t1 (List.mem_of_getElem? (i := 32) rfl), lw_t4 (List.mem_of_getElem? (i := 220) rfl), lw_t4 (List.mem_of_getElem? (i := 221) rfl)⟩
def lw_privs_1 : List (MethodName × Nat) := [(⟨"java/lang/Throwable", "fillInStackTrace", "(I)Ljava/lang/Throwable;"⟩, 6), (⟨"PanSlices", "four", "(I)V"⟩, 42), (⟨"PanSlices", "taken", "()V"⟩, 42), (⟨"PanSlices$KitchenReader", "line", "(I)V"⟩, 11), (⟨"PanSlices$KitchenReader", "fresh", "()J"⟩, 11), (⟨"PanSlices", "keep", "()V"⟩, 42), (⟨"PanSlices", "putName", "(J)V"⟩, 42), (⟨"PanSlices", "put", "(I)V"⟩, 42), (⟨"PanSlices", "putNumber", "(I)V"⟩, 42), (⟨"PanSlices", "isSlice", "(I)Z"⟩, 42), (⟨"PanSlices", "isGo", "(I)Z"⟩, 42), (⟨"PanSlices", "earliest", "(I)I"⟩, 42), (⟨"PanSlices", "orders", "(II)V"⟩, 42), (⟨"PanSlices", "fits", "(II)Z"⟩, 42), (⟨"PanSlices", "takes", "(II)V"⟩, 42), (⟨"PanSlices", "pupil", "(II[I)I"⟩, 42)]
theorem lw_r1 : ∀ q ∈ lw_privs_1, lw_okq q := List.forall_mem_cons.mpr ⟨lw_p0, List.forall_mem_cons.mpr ⟨lw_p1, List.forall_mem_cons.mpr ⟨lw_p2, List.forall_mem_cons.mpr ⟨lw_p3, List.forall_mem_cons.mpr ⟨lw_p4, List.forall_mem_cons.mpr ⟨lw_p5, List.forall_mem_cons.mpr ⟨lw_p6, List.forall_mem_cons.mpr ⟨lw_p7, List.forall_mem_cons.mpr ⟨lw_p8, List.forall_mem_cons.mpr ⟨lw_p9, List.forall_mem_cons.mpr ⟨lw_p10, List.forall_mem_cons.mpr ⟨lw_p11, List.forall_mem_cons.mpr ⟨lw_p12, List.forall_mem_cons.mpr ⟨lw_p13, List.forall_mem_cons.mpr ⟨lw_p14, List.forall_mem_cons.mpr ⟨lw_p15, fun _ h => absurd h List.not_mem_nil⟩⟩⟩⟩⟩⟩⟩⟩⟩⟩⟩⟩⟩⟩⟩⟩
theorem lw_p16 : lw_okq (⟨"PanSlices", "toasts", "(I)I"⟩, 42) := ⟨⟨by decide +kernel, by decide +kernel⟩, lw_t1 (List.mem_of_getElem? (i := 32) rfl), lw_t4 (List.mem_of_getElem? (i := 228) rfl), lw_t4 (List.mem_of_getElem? (i := 229) rfl)⟩
theorem lw_p17 : lw_okq (⟨"PanSlices", "minute", "(LPanSlices$Cook;I)V"⟩, 42) := ⟨⟨by decide +kernel, by decide +kernel⟩, lw_t1 (List.mem_of_getElem? (i := 32) rfl), lw_t4 (List.mem_of_getElem? (i := 232) rfl), lw_t4 (List.mem_of_getElem? (i := 233) rfl)⟩
theorem lw_p18 : lw_okq (⟨"PanSlices", "freePlace", "(I)I"⟩, 42) := ⟨⟨by decide +kernel, by decide +kernel⟩, lw_t1 (List.mem_of_getElem? (i := 32) rfl), lw_t4 (List.mem_of_getElem? (i := 236) rfl), lw_t4 (List.mem_of_getElem? (i := 237) rfl)⟩
theorem lw_p19 : lw_okq (⟨"PanSlices", "chosen", "(LPanSlices$Cook;I)I"⟩, 42) := ⟨⟨by decide +kernel, by decide +kernel⟩, lw_t1 (List.mem_of_getElem? (i := 32) rfl), lw_t5 (List.mem_of_getElem? (i := 0) rfl), lw_t5 (List.mem_of_getElem? (i := 1) rfl)⟩
theorem lw_p20 : lw_okq (⟨"PanSlices", "canGo", "(II)Z"⟩, 42) := ⟨⟨by decide +kernel, by decide +kernel⟩, lw_t1 (List.mem_of_getElem? (i := 32) rfl), lw_t5 (List.mem_of_getElem? (i := 4) rfl), lw_t5 (List.mem_of_getElem? (i := 5) rfl)⟩
theorem lw_p21 : lw_okq (⟨"PanSlices", "isOn", "(I)Z"⟩, 42) := ⟨⟨by decide +kernel, by decide +kernel⟩, lw_t1 (List.mem_of_getElem? (i := 32) rfl), lw_t5 (List.mem_of_getElem? (i := 8) rfl), lw_t5 (List.mem_of_getElem? (i := 9) rfl)⟩
theorem lw_p22 : lw_okq (⟨"PanSlices", "sideOf", "(I)I"⟩, 42) := ⟨⟨by decide +kernel, by decide +kernel⟩, lw_t1 (List.mem_of_getElem? (i := 32) rfl), lw_t5 (List.mem_of_getElem? (i := 12) rfl), lw_t5 (List.mem_of_getElem? (i := 13) rfl)⟩
theorem lw_p23 : lw_okq (⟨"PanSlices", "worthOf", "(III)I"⟩, 42) := ⟨⟨by decide +kernel, by decide +kernel⟩, lw_t1 (List.mem_of_getElem? (i := 32) rfl), lw_t5 (List.mem_of_getElem? (i := 56) rfl), lw_t5 (List.mem_of_getElem? (i := 57) rfl)⟩
theorem lw_p24 : lw_okq (⟨"PanSlices", "worthOf", "(II)I"⟩, 42) := ⟨⟨by decide +kernel, by decide +kernel⟩, lw_t1 (List.mem_of_getElem? (i := 32) rfl), lw_t5 (List.mem_of_getElem? (i := 61) rfl), lw_t5 (List.mem_of_getElem? (i := 62) rfl)⟩
theorem lw_p25 : lw_okq (⟨"PanSlices", "one", "(I)I"⟩, 42) := ⟨⟨by decide +kernel, by decide +kernel⟩, lw_t1 (List.mem_of_getElem? (i := 32) rfl), lw_t5 (List.mem_of_getElem? (i := 82) rfl), lw_t5 (List.mem_of_getElem? (i := 83) rfl)⟩
theorem lw_p26 : lw_okq (⟨"PanSlices", "morningOf", "(I)I"⟩, 42) := ⟨⟨by decide +kernel, by decide +kernel⟩, lw_t1 (List.mem_of_getElem? (i := 32) rfl), lw_t5 (List.mem_of_getElem? (i := 93) rfl), lw_t5 (List.mem_of_getElem? (i := 94) rfl)⟩
theorem lw_p27 : lw_okq (⟨"PanSlices", "drawn", "(I)I"⟩, 42) := ⟨⟨by decide +kernel, by decide +kernel⟩, lw_t1 (List.mem_of_getElem? (i := 32) rfl), lw_t5 (List.mem_of_getElem? (i := 97) rfl), lw_t5 (List.mem_of_getElem? (i := 98) rfl)⟩
theorem lw_p28 : lw_okq (⟨"PanSlices", "draw", "(I)I"⟩, 42) := ⟨⟨by decide +kernel, by decide +kernel⟩, lw_t1 (List.mem_of_getElem? (i := 32) rfl), lw_t5 (List.mem_of_getElem? (i := 101) rfl), lw_t5 (List.mem_of_getElem? (i := 102) rfl)⟩
theorem lw_p29 : lw_okq (⟨"PanSlices$SentenceReader", "any", "(I)LPanSlices$Cond;"⟩, 12) := ⟨⟨by decide +kernel, by decide +kernel⟩, lw_t2 (List.mem_of_getElem? (i := 113) rfl), lw_t5 (List.mem_of_getElem? (i := 121) rfl), lw_t5 (List.mem_of_getElem? (i := 122) rfl)⟩
theorem lw_p30 : lw_okq (⟨"PanSlices$SentenceReader", "both", "(I)LPanSlices$Cond;"⟩, 12) := ⟨⟨by decide +kernel, by decide +kernel⟩, lw_t2 (List.mem_of_getElem? (i := 113) rfl), lw_t5 (List.mem_of_getElem? (i := 125) rfl), lw_t5 (List.mem_of_getElem? (i := 126) rfl)⟩
theorem lw_p31 : lw_okq (⟨"PanSlices$SentenceReader", "single", "(I)LPanSlices$Cond;"⟩, 12) := ⟨⟨by decide +kernel, by decide +kernel⟩, lw_t2 (List.mem_of_getElem? (i := 113) rfl), lw_t5 (List.mem_of_getElem? (i := 129) rfl), lw_t5 (List.mem_of_getElem? (i := 130) rfl)⟩
def lw_privs_2 : List (MethodName × Nat) := [(⟨"PanSlices", "toasts", "(I)I"⟩, 42), (⟨"PanSlices", "minute", "(LPanSlices$Cook;I)V"⟩, 42), (⟨"PanSlices", "freePlace", "(I)I"⟩, 42), (⟨"PanSlices", "chosen", "(LPanSlices$Cook;I)I"⟩, 42), (⟨"PanSlices", "canGo", "(II)Z"⟩, 42), (⟨"PanSlices", "isOn", "(I)Z"⟩, 42), (⟨"PanSlices", "sideOf", "(I)I"⟩, 42), (⟨"PanSlices", "worthOf", "(III)I"⟩, 42), (⟨"PanSlices", "worthOf", "(II)I"⟩, 42), (⟨"PanSlices", "one", "(I)I"⟩, 42), (⟨"PanSlices", "morningOf", "(I)I"⟩, 42), (⟨"PanSlices", "drawn", "(I)I"⟩, 42), (⟨"PanSlices", "draw", "(I)I"⟩, 42), (⟨"PanSlices$SentenceReader", "any", "(I)LPanSlices$Cond;"⟩, 12), (⟨"PanSlices$SentenceReader", "both", "(I)LPanSlices$Cond;"⟩, 12), (⟨"PanSlices$SentenceReader", "single", "(I)LPanSlices$Cond;"⟩, 12)]
theorem lw_r2 : ∀ q ∈ lw_privs_2, lw_okq q := List.forall_mem_cons.mpr ⟨lw_p16, List.forall_mem_cons.mpr ⟨lw_p17, List.forall_mem_cons.mpr ⟨lw_p18, List.forall_mem_cons.mpr ⟨lw_p19, List.forall_mem_cons.mpr ⟨lw_p20, List.forall_mem_cons.mpr ⟨lw_p21, List.forall_mem_cons.mpr ⟨lw_p22, List.forall_mem_cons.mpr ⟨lw_p23, List.forall_mem_cons.mpr ⟨lw_p24, List.forall_mem_cons.mpr ⟨lw_p25, List.forall_mem_cons.mpr ⟨lw_p26, List.forall_mem_cons.mpr ⟨lw_p27, List.forall_mem_cons.mpr ⟨lw_p28, List.forall_mem_cons.mpr ⟨lw_p29, List.forall_mem_cons.mpr ⟨lw_p30, List.forall_mem_cons.mpr ⟨lw_p31, fun _ h => absurd h List.not_mem_nil⟩⟩⟩⟩⟩⟩⟩⟩⟩⟩⟩⟩⟩⟩⟩⟩
theorem lw_p32 : lw_okq (⟨"PanSlicesModel", "come", "(I)V"⟩, 62) := ⟨⟨by decide +kernel, by decide +kernel⟩, lw_t6 (List.mem_of_getElem? (i := 99) rfl), lw_t7 (List.mem_of_getElem? (i := 61) rfl), lw_t7 (List.mem_of_getElem? (i := 62) rfl)⟩
theorem lw_p33 : lw_okq (⟨"PanSlicesModel", "begin", "(I)V"⟩, 62) := ⟨⟨by decide +kernel, by decide +kernel⟩, lw_t6 (List.mem_of_getElem? (i := 99) rfl), lw_t7 (List.mem_of_getElem? (i := 73) rfl), lw_t7 (List.mem_of_getElem? (i := 74) rfl)⟩
theorem lw_p34 : lw_okq (⟨"PanSlicesModel", "lay", "()V"⟩, 62) := ⟨⟨by decide +kernel, by decide +kernel⟩, lw_t6 (List.mem_of_getElem? (i := 99) rfl), lw_t7 (List.mem_of_getElem? (i := 77) rfl), lw_t7 (List.mem_of_getElem? (i := 78) rfl)⟩
theorem lw_p35 : lw_okq (⟨"PanSlicesModel", "take", "()I"⟩, 62) := ⟨⟨by decide +kernel, by decide +kernel⟩, lw_t6 (List.mem_of_getElem? (i := 99) rfl), lw_t7 (List.mem_of_getElem? (i := 84) rfl), lw_t7 (List.mem_of_getElem? (i := 85) rfl)⟩
theorem lw_p36 : lw_okq (⟨"PanSlicesModel", "next", "()V"⟩, 62) := ⟨⟨by decide +kernel, by decide +kernel⟩, lw_t6 (List.mem_of_getElem? (i := 99) rfl), lw_t7 (List.mem_of_getElem? (i := 88) rfl), lw_t7 (List.mem_of_getElem? (i := 89) rfl)⟩
theorem lw_p37 : lw_okq (⟨"PanSlicesModel", "tapeAt", "(I)I"⟩, 62) := ⟨⟨by decide +kernel, by decide +kernel⟩, lw_t6 (List.mem_of_getElem? (i := 99) rfl), lw_t7 (List.mem_of_getElem? (i := 98) rfl), lw_t7 (List.mem_of_getElem? (i := 99) rfl)⟩
theorem lw_p38 : lw_okq (⟨"PanSlicesModel", "readLine", "()Z"⟩, 62) := ⟨⟨by decide +kernel, by decide +kernel⟩, lw_t6 (List.mem_of_getElem? (i := 99) rfl), lw_t7 (List.mem_of_getElem? (i := 104) rfl), lw_t7 (List.mem_of_getElem? (i := 105) rfl)⟩
theorem lw_p39 : lw_okq (⟨"PanSlicesModel", "isWord", "(I)Z"⟩, 62) := ⟨⟨by decide +kernel, by decide +kernel⟩, lw_t6 (List.mem_of_getElem? (i := 99) rfl), lw_t7 (List.mem_of_getElem? (i := 108) rfl), lw_t7 (List.mem_of_getElem? (i := 109) rfl)⟩
theorem lw_p40 : lw_okq (⟨"PanSlicesModel", "readPlain", "(III)Z"⟩, 62) := ⟨⟨by decide +kernel, by decide +kernel⟩, lw_t6 (List.mem_of_getElem? (i := 99) rfl), lw_t7 (List.mem_of_getElem? (i := 118) rfl), lw_t7 (List.mem_of_getElem? (i := 119) rfl)⟩
theorem lw_p41 : lw_okq (⟨"PanSlicesModel", "readOnce", "(I)Z"⟩, 62) := ⟨⟨by decide +kernel, by decide +kernel⟩, lw_t6 (List.mem_of_getElem? (i := 99) rfl), lw_t7 (List.mem_of_getElem? (i := 122) rfl), lw_t7 (List.mem_of_getElem? (i := 123) rfl)⟩
theorem lw_p42 : lw_okq (⟨"PanSlicesModel", "bad", "(I)Z"⟩, 62) := ⟨⟨by decide +kernel, by decide +kernel⟩, lw_t6 (List.mem_of_getElem? (i := 99) rfl), lw_t7 (List.mem_of_getElem? (i := 129) rfl), lw_t7 (List.mem_of_getElem? (i := 130) rfl)⟩
theorem lw_p43 : lw_okq (⟨"PanSlicesModel", "readNumber", "(II)Z"⟩, 62) := ⟨⟨by decide +kernel, by decide +kernel⟩, lw_t6 (List.mem_of_getElem? (i := 99) rfl), lw_t7 (List.mem_of_getElem? (i := 133) rfl), lw_t7 (List.mem_of_getElem? (i := 134) rfl)⟩
theorem lw_p44 : lw_okq (⟨"PanSlicesModel", "readBurn", "()Z"⟩, 62) := ⟨⟨by decide +kernel, by decide +kernel⟩, lw_t6 (List.mem_of_getElem? (i := 99) rfl), lw_t7 (List.mem_of_getElem? (i := 140) rfl), lw_t7 (List.mem_of_getElem? (i := 141) rfl)⟩
theorem lw_p45 : lw_okq (⟨"PanSlicesModel", "readSlice", "()Z"⟩, 62) := ⟨⟨by decide +kernel, by decide +kernel⟩, lw_t6 (List.mem_of_getElem? (i := 99) rfl), lw_t7 (List.mem_of_getElem? (i := 144) rfl), lw_t7 (List.mem_of_getElem? (i := 145) rfl)⟩
theorem lw_p46 : lw_okq (⟨"PanSlicesModel", "readNew", "(I)Z"⟩, 62) := ⟨⟨by decide +kernel, by decide +kernel⟩, lw_t6 (List.mem_of_getElem? (i := 99) rfl), lw_t7 (List.mem_of_getElem? (i := 148) rfl), lw_t7 (List.mem_of_getElem? (i := 149) rfl)⟩
theorem lw_p47 : lw_okq (⟨"PanSlicesModel", "isName", "()Z"⟩, 62) := ⟨⟨by decide +kernel, by decide +kernel⟩, lw_t6 (List.mem_of_getElem? (i := 99) rfl), lw_t7 (List.mem_of_getElem? (i := 152) rfl), lw_t7 (List.mem_of_getElem? (i := 153) rfl)⟩
def lw_privs_3 : List (MethodName × Nat) := [(⟨"PanSlicesModel", "come", "(I)V"⟩, 62), (⟨"PanSlicesModel", "begin", "(I)V"⟩, 62), (⟨"PanSlicesModel", "lay", "()V"⟩, 62), (⟨"PanSlicesModel", "take", "()I"⟩, 62), (⟨"PanSlicesModel", "next", "()V"⟩, 62), (⟨"PanSlicesModel", "tapeAt", "(I)I"⟩, 62), (⟨"PanSlicesModel", "readLine", "()Z"⟩, 62), (⟨"PanSlicesModel", "isWord", "(I)Z"⟩, 62), (⟨"PanSlicesModel", "readPlain", "(III)Z"⟩, 62), (⟨"PanSlicesModel", "readOnce", "(I)Z"⟩, 62), (⟨"PanSlicesModel", "bad", "(I)Z"⟩, 62), (⟨"PanSlicesModel", "readNumber", "(II)Z"⟩, 62), (⟨"PanSlicesModel", "readBurn", "()Z"⟩, 62), (⟨"PanSlicesModel", "readSlice", "()Z"⟩, 62), (⟨"PanSlicesModel", "readNew", "(I)Z"⟩, 62), (⟨"PanSlicesModel", "isName", "()Z"⟩, 62)]
theorem lw_r3 : ∀ q ∈ lw_privs_3, lw_okq q := List.forall_mem_cons.mpr ⟨lw_p32, List.forall_mem_cons.mpr ⟨lw_p33, List.forall_mem_cons.mpr ⟨lw_p34, List.forall_mem_cons.mpr ⟨lw_p35, List.forall_mem_cons.mpr ⟨lw_p36, List.forall_mem_cons.mpr ⟨lw_p37, List.forall_mem_cons.mpr ⟨lw_p38, List.forall_mem_cons.mpr ⟨lw_p39, List.forall_mem_cons.mpr ⟨lw_p40, List.forall_mem_cons.mpr ⟨lw_p41, List.forall_mem_cons.mpr ⟨lw_p42, List.forall_mem_cons.mpr ⟨lw_p43, List.forall_mem_cons.mpr ⟨lw_p44, List.forall_mem_cons.mpr ⟨lw_p45, List.forall_mem_cons.mpr ⟨lw_p46, List.forall_mem_cons.mpr ⟨lw_p47, fun _ h => absurd h List.not_mem_nil⟩⟩⟩⟩⟩⟩⟩⟩⟩⟩⟩⟩⟩⟩⟩⟩
theorem lw_p48 : lw_okq (⟨"PanSlicesModel", "readGuest", "()Z"⟩, 62) := ⟨⟨by decide +kernel, by decide +kernel⟩, lw_t6 (List.mem_of_getElem? (i := 99) rfl), lw_t7 (List.mem_of_getElem? (i := 159) rfl), lw_t7 (List.mem_of_getElem? (i := 160) rfl)⟩
theorem lw_p49 : lw_okq (⟨"PanSlicesModel", "readSort", "()Z"⟩, 62) := ⟨⟨by decide +kernel, by decide +kernel⟩, lw_t6 (List.mem_of_getElem? (i := 99) rfl), lw_t7 (List.mem_of_getElem? (i := 163) rfl), lw_t7 (List.mem_of_getElem? (i := 164) rfl)⟩
theorem lw_p50 : lw_okq (⟨"PanSlicesModel", "readEnd", "()Z"⟩, 62) := ⟨⟨by decide +kernel, by decide +kernel⟩, lw_t6 (List.mem_of_getElem? (i := 99) rfl), lw_t7 (List.mem_of_getElem? (i := 167) rfl), lw_t7 (List.mem_of_getElem? (i := 168) rfl)⟩
theorem lw_p51 : lw_okq (⟨"PanSlicesModel", "isSign", "(I)Z"⟩, 62) := ⟨⟨by decide +kernel, by decide +kernel⟩, lw_t6 (List.mem_of_getElem? (i := 99) rfl), lw_t7 (List.mem_of_getElem? (i := 171) rfl), lw_t7 (List.mem_of_getElem? (i := 172) rfl)⟩
theorem lw_p52 : lw_okq (⟨"PanSlicesModel", "isSlice", "(I)Z"⟩, 62) := ⟨⟨by decide +kernel, by decide +kernel⟩, lw_t6 (List.mem_of_getElem? (i := 99) rfl), lw_t7 (List.mem_of_getElem? (i := 183) rfl), lw_t7 (List.mem_of_getElem? (i := 184) rfl)⟩
theorem lw_p53 : lw_okq (⟨"PanSlicesModel", "slices", "()I"⟩, 62) := ⟨⟨by decide +kernel, by decide +kernel⟩, lw_t6 (List.mem_of_getElem? (i := 99) rfl), lw_t7 (List.mem_of_getElem? (i := 187) rfl), lw_t7 (List.mem_of_getElem? (i := 188) rfl)⟩
theorem lw_p54 : lw_okq (⟨"PanSlicesModel", "refuse", "()I"⟩, 62) := ⟨⟨by decide +kernel, by decide +kernel⟩, lw_t6 (List.mem_of_getElem? (i := 99) rfl), lw_t7 (List.mem_of_getElem? (i := 191) rfl), lw_t7 (List.mem_of_getElem? (i := 192) rfl)⟩
theorem lw_p55 : lw_okq (⟨"PanSlicesModel", "readGo", "(I)Z"⟩, 62) := ⟨⟨by decide +kernel, by decide +kernel⟩, lw_t6 (List.mem_of_getElem? (i := 99) rfl), lw_t7 (List.mem_of_getElem? (i := 211) rfl), lw_t7 (List.mem_of_getElem? (i := 212) rfl)⟩
theorem lw_p56 : lw_okq (⟨"PanSlicesModel", "snap", "()V"⟩, 62) := ⟨⟨by decide +kernel, by decide +kernel⟩, lw_t6 (List.mem_of_getElem? (i := 99) rfl), lw_t7 (List.mem_of_getElem? (i := 215) rfl), lw_t7 (List.mem_of_getElem? (i := 216) rfl)⟩
theorem lw_p57 : lw_okq (⟨"PanSlicesModel", "lays", "(IIIII)V"⟩, 62) := ⟨⟨by decide +kernel, by decide +kernel⟩, lw_t6 (List.mem_of_getElem? (i := 99) rfl), lw_t7 (List.mem_of_getElem? (i := 219) rfl), lw_t7 (List.mem_of_getElem? (i := 220) rfl)⟩
theorem lw_p58 : lw_okq (⟨"PanSlicesModel", "goes", "()I"⟩, 62) := ⟨⟨by decide +kernel, by decide +kernel⟩, lw_t6 (List.mem_of_getElem? (i := 99) rfl), lw_t7 (List.mem_of_getElem? (i := 223) rfl), lw_t7 (List.mem_of_getElem? (i := 224) rfl)⟩
theorem lw_p59 : lw_okq (⟨"PanSlicesModel", "from", "(I)I"⟩, 62) := ⟨⟨by decide +kernel, by decide +kernel⟩, lw_t6 (List.mem_of_getElem? (i := 99) rfl), lw_t7 (List.mem_of_getElem? (i := 231) rfl), lw_t7 (List.mem_of_getElem? (i := 232) rfl)⟩
theorem lw_p60 : lw_okq (⟨"PanSlicesModel", "go5", "(II)I"⟩, 62) := ⟨⟨by decide +kernel, by decide +kernel⟩, lw_t6 (List.mem_of_getElem? (i := 99) rfl), lw_t7 (List.mem_of_getElem? (i := 235) rfl), lw_t7 (List.mem_of_getElem? (i := 236) rfl)⟩
theorem lw_p61 : lw_okq (⟨"PanSlicesModel", "wrong", "(II)I"⟩, 62) := ⟨⟨by decide +kernel, by decide +kernel⟩, lw_t6 (List.mem_of_getElem? (i := 99) rfl), lw_t7 (List.mem_of_getElem? (i := 239) rfl), lw_t8 (List.mem_of_getElem? (i := 0) rfl)⟩
theorem lw_p62 : lw_okq (⟨"PanSlicesModel", "isOnce", "(I)Z"⟩, 62) := ⟨⟨by decide +kernel, by decide +kernel⟩, lw_t6 (List.mem_of_getElem? (i := 99) rfl), lw_t8 (List.mem_of_getElem? (i := 6) rfl), lw_t8 (List.mem_of_getElem? (i := 7) rfl)⟩
theorem lw_p63 : lw_okq (⟨"PanSlicesModel", "behind", "(I)I"⟩, 62) := ⟨⟨by decide +kernel, by decide +kernel⟩, lw_t6 (List.mem_of_getElem? (i := 99) rfl), lw_t8 (List.mem_of_getElem? (i := 10) rfl), lw_t8 (List.mem_of_getElem? (i := 11) rfl)⟩
def lw_privs_4 : List (MethodName × Nat) := [(⟨"PanSlicesModel", "readGuest", "()Z"⟩, 62), (⟨"PanSlicesModel", "readSort", "()Z"⟩, 62), (⟨"PanSlicesModel", "readEnd", "()Z"⟩, 62), (⟨"PanSlicesModel", "isSign", "(I)Z"⟩, 62), (⟨"PanSlicesModel", "isSlice", "(I)Z"⟩, 62), (⟨"PanSlicesModel", "slices", "()I"⟩, 62), (⟨"PanSlicesModel", "refuse", "()I"⟩, 62), (⟨"PanSlicesModel", "readGo", "(I)Z"⟩, 62), (⟨"PanSlicesModel", "snap", "()V"⟩, 62), (⟨"PanSlicesModel", "lays", "(IIIII)V"⟩, 62), (⟨"PanSlicesModel", "goes", "()I"⟩, 62), (⟨"PanSlicesModel", "from", "(I)I"⟩, 62), (⟨"PanSlicesModel", "go5", "(II)I"⟩, 62), (⟨"PanSlicesModel", "wrong", "(II)I"⟩, 62), (⟨"PanSlicesModel", "isOnce", "(I)Z"⟩, 62), (⟨"PanSlicesModel", "behind", "(I)I"⟩, 62)]
theorem lw_r4 : ∀ q ∈ lw_privs_4, lw_okq q := List.forall_mem_cons.mpr ⟨lw_p48, List.forall_mem_cons.mpr ⟨lw_p49, List.forall_mem_cons.mpr ⟨lw_p50, List.forall_mem_cons.mpr ⟨lw_p51, List.forall_mem_cons.mpr ⟨lw_p52, List.forall_mem_cons.mpr ⟨lw_p53, List.forall_mem_cons.mpr ⟨lw_p54, List.forall_mem_cons.mpr ⟨lw_p55, List.forall_mem_cons.mpr ⟨lw_p56, List.forall_mem_cons.mpr ⟨lw_p57, List.forall_mem_cons.mpr ⟨lw_p58, List.forall_mem_cons.mpr ⟨lw_p59, List.forall_mem_cons.mpr ⟨lw_p60, List.forall_mem_cons.mpr ⟨lw_p61, List.forall_mem_cons.mpr ⟨lw_p62, List.forall_mem_cons.mpr ⟨lw_p63, fun _ h => absurd h List.not_mem_nil⟩⟩⟩⟩⟩⟩⟩⟩⟩⟩⟩⟩⟩⟩⟩⟩
theorem lw_p64 : lw_okq (⟨"PanSlicesModel", "needs", "(II)I"⟩, 62) := ⟨⟨by decide +kernel, by decide +kernel⟩, lw_t6 (List.mem_of_getElem? (i := 99) rfl), lw_t8 (List.mem_of_getElem? (i := 14) rfl), lw_t8 (List.mem_of_getElem? (i := 15) rfl)⟩
theorem lw_p65 : lw_okq (⟨"PanSlicesModel", "leftOf", "(II)I"⟩, 62) := ⟨⟨by decide +kernel, by decide +kernel⟩, lw_t6 (List.mem_of_getElem? (i := 99) rfl), lw_t8 (List.mem_of_getElem? (i := 30) rfl), lw_t8 (List.mem_of_getElem? (i := 31) rfl)⟩
theorem lw_p66 : lw_okq (⟨"PanSlicesModel", "endsAt", "()I"⟩, 62) := ⟨⟨by decide +kernel, by decide +kernel⟩, lw_t6 (List.mem_of_getElem? (i := 99) rfl), lw_t8 (List.mem_of_getElem? (i := 38) rfl), lw_t8 (List.mem_of_getElem? (i := 39) rfl)⟩
theorem lw_p67 : lw_okq (⟨"PanSlicesModel", "isDone", "(I)Z"⟩, 62) := ⟨⟨by decide +kernel, by decide +kernel⟩, lw_t6 (List.mem_of_getElem? (i := 99) rfl), lw_t8 (List.mem_of_getElem? (i := 49) rfl), lw_t8 (List.mem_of_getElem? (i := 50) rfl)⟩
theorem lw_p68 : lw_okq (⟨"PanSlicesModel", "putName", "(J)V"⟩, 62) := ⟨⟨by decide +kernel, by decide +kernel⟩, lw_t6 (List.mem_of_getElem? (i := 99) rfl), lw_t8 (List.mem_of_getElem? (i := 61) rfl), lw_t8 (List.mem_of_getElem? (i := 62) rfl)⟩
theorem lw_p69 : lw_okq (⟨"PanSlicesModel", "put", "(I)V"⟩, 62) := ⟨⟨by decide +kernel, by decide +kernel⟩, lw_t6 (List.mem_of_getElem? (i := 99) rfl), lw_t8 (List.mem_of_getElem? (i := 65) rfl), lw_t8 (List.mem_of_getElem? (i := 66) rfl)⟩
theorem lw_p70 : lw_okq (⟨"PanSlicesModel", "putNumber", "(I)V"⟩, 62) := ⟨⟨by decide +kernel, by decide +kernel⟩, lw_t6 (List.mem_of_getElem? (i := 99) rfl), lw_t8 (List.mem_of_getElem? (i := 69) rfl), lw_t8 (List.mem_of_getElem? (i := 70) rfl)⟩
theorem lw_p71 : lw_okq (⟨"PanSlicesModel", "longest", "()I"⟩, 62) := ⟨⟨by decide +kernel, by decide +kernel⟩, lw_t6 (List.mem_of_getElem? (i := 99) rfl), lw_t8 (List.mem_of_getElem? (i := 81) rfl), lw_t8 (List.mem_of_getElem? (i := 82) rfl)⟩
theorem lw_p72 : lw_okq (⟨"PanSlicesModel", "allMinutes", "()I"⟩, 62) := ⟨⟨by decide +kernel, by decide +kernel⟩, lw_t6 (List.mem_of_getElem? (i := 99) rfl), lw_t8 (List.mem_of_getElem? (i := 85) rfl), lw_t8 (List.mem_of_getElem? (i := 86) rfl)⟩
theorem lw_p73 : lw_okq (⟨"PanSlicesModel", "trySides", "(III)V"⟩, 62) := ⟨⟨by decide +kernel, by decide +kernel⟩, lw_t6 (List.mem_of_getElem? (i := 99) rfl), lw_t8 (List.mem_of_getElem? (i := 100) rfl), lw_t8 (List.mem_of_getElem? (i := 101) rfl)⟩
theorem lw_p74 : lw_okq (⟨"PanSlicesModel", "canStart", "(III)Z"⟩, 62) := ⟨⟨by decide +kernel, by decide +kernel⟩, lw_t6 (List.mem_of_getElem? (i := 99) rfl), lw_t8 (List.mem_of_getElem? (i := 104) rfl), lw_t8 (List.mem_of_getElem? (i := 105) rfl)⟩
theorem lw_p75 : lw_okq (⟨"PanSlicesModel", "takes", "(III)I"⟩, 62) := ⟨⟨by decide +kernel, by decide +kernel⟩, lw_t6 (List.mem_of_getElem? (i := 99) rfl), lw_t8 (List.mem_of_getElem? (i := 112) rfl), lw_t8 (List.mem_of_getElem? (i := 113) rfl)⟩
theorem lw_p76 : lw_okq (⟨"PanSlicesModel", "cookAll", "(I)I"⟩, 62) := ⟨⟨by decide +kernel, by decide +kernel⟩, lw_t6 (List.mem_of_getElem? (i := 99) rfl), lw_t8 (List.mem_of_getElem? (i := 120) rfl), lw_t8 (List.mem_of_getElem? (i := 121) rfl)⟩
theorem lw_p77 : lw_okq (⟨"PanSlicesModel", "cookMinute", "(II)V"⟩, 62) := ⟨⟨by decide +kernel, by decide +kernel⟩, lw_t6 (List.mem_of_getElem? (i := 99) rfl), lw_t8 (List.mem_of_getElem? (i := 124) rfl), lw_t8 (List.mem_of_getElem? (i := 125) rfl)⟩
theorem lw_p78 : lw_okq (⟨"PanSlicesModel", "isOn", "(IIII)V"⟩, 62) := ⟨⟨by decide +kernel, by decide +kernel⟩, lw_t6 (List.mem_of_getElem? (i := 99) rfl), lw_t8 (List.mem_of_getElem? (i := 128) rfl), lw_t8 (List.mem_of_getElem? (i := 129) rfl)⟩
theorem lw_p79 : lw_okq (⟨"PanSlicesModel", "takesCook", "(III)I"⟩, 62) := ⟨⟨by decide +kernel, by decide +kernel⟩, lw_t6 (List.mem_of_getElem? (i := 99) rfl), lw_t8 (List.mem_of_getElem? (i := 132) rfl), lw_t8 (List.mem_of_getElem? (i := 133) rfl)⟩
def lw_privs_5 : List (MethodName × Nat) := [(⟨"PanSlicesModel", "needs", "(II)I"⟩, 62), (⟨"PanSlicesModel", "leftOf", "(II)I"⟩, 62), (⟨"PanSlicesModel", "endsAt", "()I"⟩, 62), (⟨"PanSlicesModel", "isDone", "(I)Z"⟩, 62), (⟨"PanSlicesModel", "putName", "(J)V"⟩, 62), (⟨"PanSlicesModel", "put", "(I)V"⟩, 62), (⟨"PanSlicesModel", "putNumber", "(I)V"⟩, 62), (⟨"PanSlicesModel", "longest", "()I"⟩, 62), (⟨"PanSlicesModel", "allMinutes", "()I"⟩, 62), (⟨"PanSlicesModel", "trySides", "(III)V"⟩, 62), (⟨"PanSlicesModel", "canStart", "(III)Z"⟩, 62), (⟨"PanSlicesModel", "takes", "(III)I"⟩, 62), (⟨"PanSlicesModel", "cookAll", "(I)I"⟩, 62), (⟨"PanSlicesModel", "cookMinute", "(II)V"⟩, 62), (⟨"PanSlicesModel", "isOn", "(IIII)V"⟩, 62), (⟨"PanSlicesModel", "takesCook", "(III)I"⟩, 62)]
theorem lw_r5 : ∀ q ∈ lw_privs_5, lw_okq q := List.forall_mem_cons.mpr ⟨lw_p64, List.forall_mem_cons.mpr ⟨lw_p65, List.forall_mem_cons.mpr ⟨lw_p66, List.forall_mem_cons.mpr ⟨lw_p67, List.forall_mem_cons.mpr ⟨lw_p68, List.forall_mem_cons.mpr ⟨lw_p69, List.forall_mem_cons.mpr ⟨lw_p70, List.forall_mem_cons.mpr ⟨lw_p71, List.forall_mem_cons.mpr ⟨lw_p72, List.forall_mem_cons.mpr ⟨lw_p73, List.forall_mem_cons.mpr ⟨lw_p74, List.forall_mem_cons.mpr ⟨lw_p75, List.forall_mem_cons.mpr ⟨lw_p76, List.forall_mem_cons.mpr ⟨lw_p77, List.forall_mem_cons.mpr ⟨lw_p78, List.forall_mem_cons.mpr ⟨lw_p79, fun _ h => absurd h List.not_mem_nil⟩⟩⟩⟩⟩⟩⟩⟩⟩⟩⟩⟩⟩⟩⟩⟩
theorem lw_p80 : lw_okq (⟨"PanSlicesModel", "hasLeft", "(I)Z"⟩, 62) := ⟨⟨by decide +kernel, by decide +kernel⟩, lw_t6 (List.mem_of_getElem? (i := 99) rfl), lw_t8 (List.mem_of_getElem? (i := 136) rfl), lw_t8 (List.mem_of_getElem? (i := 137) rfl)⟩
theorem lw_p81 : lw_okq (⟨"PanSlicesModel", "isRested", "(II)Z"⟩, 62) := ⟨⟨by decide +kernel, by decide +kernel⟩, lw_t6 (List.mem_of_getElem? (i := 99) rfl), lw_t8 (List.mem_of_getElem? (i := 140) rfl), lw_t8 (List.mem_of_getElem? (i := 141) rfl)⟩
theorem lw_p82 : lw_okq (⟨"PanSlicesModel", "sideOf", "(I)I"⟩, 62) := ⟨⟨by decide +kernel, by decide +kernel⟩, lw_t6 (List.mem_of_getElem? (i := 99) rfl), lw_t8 (List.mem_of_getElem? (i := 144) rfl), lw_t8 (List.mem_of_getElem? (i := 145) rfl)⟩
theorem lw_p83 : lw_okq (⟨"PanSlicesModel", "likes", "(II)I"⟩, 62) := ⟨⟨by decide +kernel, by decide +kernel⟩, lw_t6 (List.mem_of_getElem? (i := 99) rfl), lw_t8 (List.mem_of_getElem? (i := 148) rfl), lw_t8 (List.mem_of_getElem? (i := 149) rfl)⟩
theorem lw_p84 : lw_okq (⟨"PanSlicesModel", "placeFor", "(I)I"⟩, 62) := ⟨⟨by decide +kernel, by decide +kernel⟩, lw_t6 (List.mem_of_getElem? (i := 99) rfl), lw_t8 (List.mem_of_getElem? (i := 152) rfl), lw_t8 (List.mem_of_getElem? (i := 153) rfl)⟩
theorem lw_p85 : lw_okq (⟨"PanSlicesModel", "tells", "(II)V"⟩, 62) := ⟨⟨by decide +kernel, by decide +kernel⟩, lw_t6 (List.mem_of_getElem? (i := 99) rfl), lw_t8 (List.mem_of_getElem? (i := 156) rfl), lw_t8 (List.mem_of_getElem? (i := 157) rfl)⟩
theorem lw_p86 : lw_okq (⟨"PanSlicesModel", "canBeEarly", "()Z"⟩, 62) := ⟨⟨by decide +kernel, by decide +kernel⟩, lw_t6 (List.mem_of_getElem? (i := 99) rfl), lw_t8 (List.mem_of_getElem? (i := 180) rfl), lw_t8 (List.mem_of_getElem? (i := 181) rfl)⟩
theorem lw_p87 : lw_okq (⟨"PanSlicesModel", "earliest", "(I)I"⟩, 62) := ⟨⟨by decide +kernel, by decide +kernel⟩, lw_t6 (List.mem_of_getElem? (i := 99) rfl), lw_t8 (List.mem_of_getElem? (i := 184) rfl), lw_t8 (List.mem_of_getElem? (i := 185) rfl)⟩
theorem lw_p88 : lw_okq (⟨"PanSlicesModel", "worthOfSet", "(II)I"⟩, 62) := ⟨⟨by decide +kernel, by decide +kernel⟩, lw_t6 (List.mem_of_getElem? (i := 99) rfl), lw_t8 (List.mem_of_getElem? (i := 221) rfl), lw_t8 (List.mem_of_getElem? (i := 222) rfl)⟩
theorem lw_p89 : lw_okq (⟨"PanSlicesModel", "worthOf", "(II)I"⟩, 62) := ⟨⟨by decide +kernel, by decide +kernel⟩, lw_t6 (List.mem_of_getElem? (i := 99) rfl), lw_t8 (List.mem_of_getElem? (i := 225) rfl), lw_t8 (List.mem_of_getElem? (i := 226) rfl)⟩
theorem lw_p90 : lw_okq (⟨"PanSlicesModel", "refuseLong", "()J"⟩, 62) := ⟨⟨by decide +kernel, by decide +kernel⟩, lw_t6 (List.mem_of_getElem? (i := 99) rfl), lw_t8 (List.mem_of_getElem? (i := 237) rfl), lw_t8 (List.mem_of_getElem? (i := 238) rfl)⟩
theorem lw_p91 : lw_okq (⟨"PanSlicesModel", "morningBy", "(I)I"⟩, 62) := ⟨⟨by decide +kernel, by decide +kernel⟩, lw_t6 (List.mem_of_getElem? (i := 99) rfl), lw_t9 (List.mem_of_getElem? (i := 25) rfl), lw_t9 (List.mem_of_getElem? (i := 26) rfl)⟩
theorem lw_p92 : lw_okq (⟨"PanSlicesModel", "drawn", "(II)I"⟩, 62) := ⟨⟨by decide +kernel, by decide +kernel⟩, lw_t6 (List.mem_of_getElem? (i := 99) rfl), lw_t9 (List.mem_of_getElem? (i := 29) rfl), lw_t9 (List.mem_of_getElem? (i := 30) rfl)⟩
theorem lw_p93 : lw_okq (⟨"PanSlicesModel", "draw", "(I)I"⟩, 62) := ⟨⟨by decide +kernel, by decide +kernel⟩, lw_t6 (List.mem_of_getElem? (i := 99) rfl), lw_t9 (List.mem_of_getElem? (i := 33) rfl), lw_t9 (List.mem_of_getElem? (i := 34) rfl)⟩
theorem lw_p94 : lw_okq (⟨"PanSlicesModel", "readOr", "()Z"⟩, 62) := ⟨⟨by decide +kernel, by decide +kernel⟩, lw_t6 (List.mem_of_getElem? (i := 99) rfl), lw_t9 (List.mem_of_getElem? (i := 46) rfl), lw_t9 (List.mem_of_getElem? (i := 47) rfl)⟩
theorem lw_p95 : lw_okq (⟨"PanSlicesModel", "readAnd", "()Z"⟩, 62) := ⟨⟨by decide +kernel, by decide +kernel⟩, lw_t6 (List.mem_of_getElem? (i := 99) rfl), lw_t9 (List.mem_of_getElem? (i := 50) rfl), lw_t9 (List.mem_of_getElem? (i := 51) rfl)⟩
def lw_privs_6 : List (MethodName × Nat) := [(⟨"PanSlicesModel", "hasLeft", "(I)Z"⟩, 62), (⟨"PanSlicesModel", "isRested", "(II)Z"⟩, 62), (⟨"PanSlicesModel", "sideOf", "(I)I"⟩, 62), (⟨"PanSlicesModel", "likes", "(II)I"⟩, 62), (⟨"PanSlicesModel", "placeFor", "(I)I"⟩, 62), (⟨"PanSlicesModel", "tells", "(II)V"⟩, 62), (⟨"PanSlicesModel", "canBeEarly", "()Z"⟩, 62), (⟨"PanSlicesModel", "earliest", "(I)I"⟩, 62), (⟨"PanSlicesModel", "worthOfSet", "(II)I"⟩, 62), (⟨"PanSlicesModel", "worthOf", "(II)I"⟩, 62), (⟨"PanSlicesModel", "refuseLong", "()J"⟩, 62), (⟨"PanSlicesModel", "morningBy", "(I)I"⟩, 62), (⟨"PanSlicesModel", "drawn", "(II)I"⟩, 62), (⟨"PanSlicesModel", "draw", "(I)I"⟩, 62), (⟨"PanSlicesModel", "readOr", "()Z"⟩, 62), (⟨"PanSlicesModel", "readAnd", "()Z"⟩, 62)]
theorem lw_r6 : ∀ q ∈ lw_privs_6, lw_okq q := List.forall_mem_cons.mpr ⟨lw_p80, List.forall_mem_cons.mpr ⟨lw_p81, List.forall_mem_cons.mpr ⟨lw_p82, List.forall_mem_cons.mpr ⟨lw_p83, List.forall_mem_cons.mpr ⟨lw_p84, List.forall_mem_cons.mpr ⟨lw_p85, List.forall_mem_cons.mpr ⟨lw_p86, List.forall_mem_cons.mpr ⟨lw_p87, List.forall_mem_cons.mpr ⟨lw_p88, List.forall_mem_cons.mpr ⟨lw_p89, List.forall_mem_cons.mpr ⟨lw_p90, List.forall_mem_cons.mpr ⟨lw_p91, List.forall_mem_cons.mpr ⟨lw_p92, List.forall_mem_cons.mpr ⟨lw_p93, List.forall_mem_cons.mpr ⟨lw_p94, List.forall_mem_cons.mpr ⟨lw_p95, fun _ h => absurd h List.not_mem_nil⟩⟩⟩⟩⟩⟩⟩⟩⟩⟩⟩⟩⟩⟩⟩⟩
theorem lw_p96 : lw_okq (⟨"PanSlicesModel", "readOne", "()Z"⟩, 62) := ⟨⟨by decide +kernel, by decide +kernel⟩, lw_t6 (List.mem_of_getElem? (i := 99) rfl), lw_t9 (List.mem_of_getElem? (i := 54) rfl), lw_t9 (List.mem_of_getElem? (i := 55) rfl)⟩
theorem lw_p97 : lw_okq (⟨"PanSlicesModel", "oneAtHand", "()I"⟩, 62) := ⟨⟨by decide +kernel, by decide +kernel⟩, lw_t6 (List.mem_of_getElem? (i := 99) rfl), lw_t9 (List.mem_of_getElem? (i := 58) rfl), lw_t9 (List.mem_of_getElem? (i := 59) rfl)⟩
theorem lw_p98 : lw_okq (⟨"PanSlicesModel", "readBracket", "()Z"⟩, 62) := ⟨⟨by decide +kernel, by decide +kernel⟩, lw_t6 (List.mem_of_getElem? (i := 99) rfl), lw_t9 (List.mem_of_getElem? (i := 62) rfl), lw_t9 (List.mem_of_getElem? (i := 63) rfl)⟩
theorem lw_p99 : lw_okq (⟨"PanSlicesModel", "readNot", "()Z"⟩, 62) := ⟨⟨by decide +kernel, by decide +kernel⟩, lw_t6 (List.mem_of_getElem? (i := 99) rfl), lw_t9 (List.mem_of_getElem? (i := 66) rfl), lw_t9 (List.mem_of_getElem? (i := 67) rfl)⟩
theorem lw_p100 : lw_okq (⟨"PanSlicesModel", "saysOne", "(IIII)I"⟩, 62) := ⟨⟨by decide +kernel, by decide +kernel⟩, lw_t6 (List.mem_of_getElem? (i := 99) rfl), lw_t9 (List.mem_of_getElem? (i := 70) rfl), lw_t9 (List.mem_of_getElem? (i := 71) rfl)⟩
theorem lw_p101 : lw_okq (⟨"PanSlicesModel", "readAfter", "()Z"⟩, 62) := ⟨⟨by decide +kernel, by decide +kernel⟩, lw_t6 (List.mem_of_getElem? (i := 99) rfl), lw_t9 (List.mem_of_getElem? (i := 74) rfl), lw_t9 (List.mem_of_getElem? (i := 75) rfl)⟩
theorem lw_p102 : lw_okq (⟨"PanSlicesModel", "readCompare", "(I)Z"⟩, 62) := ⟨⟨by decide +kernel, by decide +kernel⟩, lw_t6 (List.mem_of_getElem? (i := 99) rfl), lw_t9 (List.mem_of_getElem? (i := 78) rfl), lw_t9 (List.mem_of_getElem? (i := 79) rfl)⟩
theorem lw_p103 : lw_okq (⟨"PanSlicesModel", "holds", "(II)Z"⟩, 62) := ⟨⟨by decide +kernel, by decide +kernel⟩, lw_t6 (List.mem_of_getElem? (i := 99) rfl), lw_t9 (List.mem_of_getElem? (i := 86) rfl), lw_t9 (List.mem_of_getElem? (i := 87) rfl)⟩
theorem lw_p104 : lw_okq (⟨"PanSlicesModel", "goesOf", "(I)I"⟩, 62) := ⟨⟨by decide +kernel, by decide +kernel⟩, lw_t6 (List.mem_of_getElem? (i := 99) rfl), lw_t9 (List.mem_of_getElem? (i := 90) rfl), lw_t9 (List.mem_of_getElem? (i := 91) rfl)⟩
theorem lw_p105 : lw_okq (⟨"PanSlicesModel", "endOf", "(I)I"⟩, 62) := ⟨⟨by decide +kernel, by decide +kernel⟩, lw_t6 (List.mem_of_getElem? (i := 99) rfl), lw_t9 (List.mem_of_getElem? (i := 94) rfl), lw_t9 (List.mem_of_getElem? (i := 95) rfl)⟩
def lw_privs_7 : List (MethodName × Nat) := [(⟨"PanSlicesModel", "readOne", "()Z"⟩, 62), (⟨"PanSlicesModel", "oneAtHand", "()I"⟩, 62), (⟨"PanSlicesModel", "readBracket", "()Z"⟩, 62), (⟨"PanSlicesModel", "readNot", "()Z"⟩, 62), (⟨"PanSlicesModel", "saysOne", "(IIII)I"⟩, 62), (⟨"PanSlicesModel", "readAfter", "()Z"⟩, 62), (⟨"PanSlicesModel", "readCompare", "(I)Z"⟩, 62), (⟨"PanSlicesModel", "holds", "(II)Z"⟩, 62), (⟨"PanSlicesModel", "goesOf", "(I)I"⟩, 62), (⟨"PanSlicesModel", "endOf", "(I)I"⟩, 62)]
theorem lw_r7 : ∀ q ∈ lw_privs_7, lw_okq q := List.forall_mem_cons.mpr ⟨lw_p96, List.forall_mem_cons.mpr ⟨lw_p97, List.forall_mem_cons.mpr ⟨lw_p98, List.forall_mem_cons.mpr ⟨lw_p99, List.forall_mem_cons.mpr ⟨lw_p100, List.forall_mem_cons.mpr ⟨lw_p101, List.forall_mem_cons.mpr ⟨lw_p102, List.forall_mem_cons.mpr ⟨lw_p103, List.forall_mem_cons.mpr ⟨lw_p104, List.forall_mem_cons.mpr ⟨lw_p105, fun _ h => absurd h List.not_mem_nil⟩⟩⟩⟩⟩⟩⟩⟩⟩⟩
def lw_privs : List (MethodName × Nat) := lw_privs_1 ++ (lw_privs_2 ++ (lw_privs_3 ++ (lw_privs_4 ++ (lw_privs_5 ++ (lw_privs_6 ++ (lw_privs_7))))))
def lw_tbl : List Cond := k2_sels lw_privs ++ tables_1
theorem lw_privs_ok : ∀ q ∈ lw_privs, lw_okq q := by
  show ∀ q ∈ lw_privs_1 ++ (lw_privs_2 ++ (lw_privs_3 ++ (lw_privs_4 ++ (lw_privs_5 ++ (lw_privs_6 ++ (lw_privs_7)))))), lw_okq q
  exact List.forall_mem_append.mpr ⟨lw_r1, List.forall_mem_append.mpr ⟨lw_r2, List.forall_mem_append.mpr ⟨lw_r3, List.forall_mem_append.mpr ⟨lw_r4, List.forall_mem_append.mpr ⟨lw_r5, List.forall_mem_append.mpr ⟨lw_r6, lw_r7⟩⟩⟩⟩⟩⟩
-- ===== ONE list of words for every method: the tables' words that hold all through a run =====
def lw_all : List Cond := lw_tbl.filter goodWord
/-- a word of the tables by its place: claim/WORDS.tsv -/
theorem lw_w {w : Cond} (i : Nat) (h : lw_tbl[i]? = some w) (g : goodWord w = true) : w ∈ lw_all := List.mem_filter.mpr ⟨List.mem_of_getElem? h, g⟩
theorem lw_all_tbl {w : Cond} (h : w ∈ lw_all) : w ∈ lw_tbl := (List.mem_filter.mp h).1
theorem lw_self : GoodIn lw_all lw_all := fun w h => ⟨h, good_of_word (List.mem_filter.mp h).2⟩
/-- a class's field words, by their places -/
theorem lw_in (ws : List Cond) (ps : List Nat) (hp : ws = ps.filterMap (fun i => lw_tbl[i]?)) (hg : ws.all goodWord = true) : ∀ w ∈ ws, w ∈ lw_all := by
  intro w h
  have h1 := List.all_eq_true.mp hg w h
  rw [hp] at h
  obtain ⟨i, -, hi⟩ := List.mem_filterMap.mp h
  exact lw_w i hi h1
/-- the words of a contract for the method y with code b, L locals, answer r -/
abbrev ws_ (y : MethodName) (b : ByteArray) (L : Nat) (r : Option FieldType) : List Cond := Cond.code y b L r :: lw_all
theorem lw_meth {y : MethodName} {b : ByteArray} {L : Nat} {r : Option FieldType} (h : Cond.code y b L r ∈ lw_all) : GoodIn lw_all (ws_ y b L r) := by
  intro w hw
  rcases List.mem_cons.mp hw with e | e
  · rw [e]
    exact lw_self _ h
  · exact lw_self _ e
theorem lw_app {a c : List Cond} (ha : ∀ w ∈ a, w ∈ lw_all) (hc : GoodIn lw_all c) : GoodIn lw_all (a ++ c) := by
  intro w hw
  rcases List.mem_append.mp hw with e | e
  · exact lw_self w (ha w e)
  · exact hc w e
/-- what a call through an object asks: cwV n hts (lw_V ..) -/
theorem lw_V {own : String} {idx : Nat} {C : String} {y : MethodName} {b : ByteArray} {L : Nat} {r : Option FieldType} (h1 : Cond.methodLink own idx y ∈ lw_all) (h2 : Cond.instanceMethod y ∈ lw_all) (h3 : Cond.selects C y y ∈ lw_all) (h4 : Cond.initialized C ∈ lw_all) (h5 : Cond.code y b L r ∈ lw_all) : GoodIn lw_all (wsV own idx C y (ws_ y b L r)) := by
  refine lw_app ?_ (lw_meth h5)
  intro w hw
  simp only [List.mem_cons, List.not_mem_nil, or_false] at hw
  rcases hw with e | e | e | e
  · rw [e]; exact h1
  · rw [e]; exact h2
  · rw [e]; exact h3
  · rw [e]; exact h4
/-- what a static call asks: va_cwS n hts (lw_S ..) -/
theorem lw_S {own : String} {idx : Nat} {y : MethodName} {b : ByteArray} {L : Nat} {r : Option FieldType} (h1 : Cond.methodLink own idx y ∈ lw_all) (h2 : Cond.static y ∈ lw_all) (h3 : Cond.initialized y.cls ∈ lw_all) (h4 : Cond.code y b L r ∈ lw_all) : GoodIn lw_all (va_wsS own idx y (ws_ y b L r)) := by
  refine lw_app ?_ (lw_meth h4)
  intro w hw
  simp only [List.mem_cons, List.not_mem_nil, or_false] at hw
  rcases hw with e | e | e
  · rw [e]; exact h1
  · rw [e]; exact h2
  · rw [e]; exact h3
/-- the words of a contract for a method WITH HANDLERS (hh: its table) -/
abbrev wsW_ (y : MethodName) (b : ByteArray) (L : Nat) (r : Option FieldType) (hh : List (Nat × Nat × Nat × Nat)) : List Cond := Cond.codeWith y b L r hh :: lw_all
theorem lw_methW {y : MethodName} {b : ByteArray} {L : Nat} {r : Option FieldType} {hh : List (Nat × Nat × Nat × Nat)} (h : Cond.codeWith y b L r hh ∈ lw_all) : GoodIn lw_all (wsW_ y b L r hh) := by
  intro w hw
  rcases List.mem_cons.mp hw with e | e
  · rw [e]
    exact lw_self _ h
  · exact lw_self _ e
/-- any list of words by their places (lw_in), good -/
theorem lw_good {ws : List Cond} (h : ∀ w ∈ ws, w ∈ lw_all) : GoodIn lw_all ws := fun w hw => lw_self w (h w hw)
/-- what a call of a method with handlers asks: vx_cwVW n hts (lw_VW ..), vx_cwSW n hts (lw_SW ..) -/
theorem lw_VW {own : String} {idx : Nat} {C : String} {y : MethodName} {b : ByteArray} {L : Nat} {r : Option FieldType} {hh : List (Nat × Nat × Nat × Nat)} (h1 : Cond.methodLink own idx y ∈ lw_all) (h2 : Cond.instanceMethod y ∈ lw_all) (h3 : Cond.selects C y y ∈ lw_all) (h4 : Cond.initialized C ∈ lw_all) (h5 : Cond.codeWith y b L r hh ∈ lw_all) : GoodIn lw_all (wsV own idx C y (wsW_ y b L r hh)) := by
  refine lw_app ?_ (lw_methW h5)
  intro w hw
  simp only [List.mem_cons, List.not_mem_nil, or_false] at hw
  rcases hw with e | e | e | e
  · rw [e]; exact h1
  · rw [e]; exact h2
  · rw [e]; exact h3
  · rw [e]; exact h4
theorem lw_SW {own : String} {idx : Nat} {y : MethodName} {b : ByteArray} {L : Nat} {r : Option FieldType} {hh : List (Nat × Nat × Nat × Nat)} (h1 : Cond.methodLink own idx y ∈ lw_all) (h2 : Cond.static y ∈ lw_all) (h3 : Cond.initialized y.cls ∈ lw_all) (h4 : Cond.codeWith y b L r hh ∈ lw_all) : GoodIn lw_all (va_wsS own idx y (wsW_ y b L r hh)) := by
  refine lw_app ?_ (lw_methW h4)
  intro w hw
  simp only [List.mem_cons, List.not_mem_nil, or_false] at hw
  rcases hw with e | e | e
  · rw [e]; exact h1
  · rw [e]; exact h2
  · rw [e]; exact h3
/-- a word by its place in its run of the tables -/
theorem lw_at {r : List Cond} (hr : ∀ w ∈ r, w ∈ lw_tbl) {w : Cond} (i : Nat) (h : r[i]? = some w) : w ∈ lw_tbl := hr w (List.mem_of_getElem? h)
theorem lw_g {w : Cond} (h : w ∈ lw_tbl) (g : goodWord w = true) : w ∈ lw_all := List.mem_filter.mpr ⟨h, g⟩
theorem lw_ms : ∀ w ∈ k2_sels lw_privs, w ∈ lw_tbl := fun w h => show w ∈ k2_sels lw_privs ++ tables_1 from List.mem_append_left _ h
theorem lw_m1 : ∀ w ∈ tables_1_1, w ∈ lw_tbl := fun w h => show w ∈ k2_sels lw_privs ++ tables_1 from List.mem_append_right (k2_sels lw_privs) (show w ∈ tables_1 from List.mem_append_left _ h)
theorem lw_m2 : ∀ w ∈ tables_1_2, w ∈ lw_tbl := fun w h => show w ∈ k2_sels lw_privs ++ tables_1 from List.mem_append_right (k2_sels lw_privs) (show w ∈ tables_1 from List.mem_append_right _ (List.mem_append_left _ h))
theorem lw_m3 : ∀ w ∈ tables_1_3, w ∈ lw_tbl := fun w h => show w ∈ k2_sels lw_privs ++ tables_1 from List.mem_append_right (k2_sels lw_privs) (show w ∈ tables_1 from List.mem_append_right _ (List.mem_append_right _ (List.mem_append_left _ h)))
theorem lw_m4 : ∀ w ∈ tables_1_4, w ∈ lw_tbl := fun w h => show w ∈ k2_sels lw_privs ++ tables_1 from List.mem_append_right (k2_sels lw_privs) (show w ∈ tables_1 from List.mem_append_right _ (List.mem_append_right _ (List.mem_append_right _ (List.mem_append_left _ h))))
theorem lw_m5 : ∀ w ∈ tables_1_5, w ∈ lw_tbl := fun w h => show w ∈ k2_sels lw_privs ++ tables_1 from List.mem_append_right (k2_sels lw_privs) (show w ∈ tables_1 from List.mem_append_right _ (List.mem_append_right _ (List.mem_append_right _ (List.mem_append_right _ (List.mem_append_left _ h)))))
theorem lw_m6 : ∀ w ∈ tables_1_6, w ∈ lw_tbl := fun w h => show w ∈ k2_sels lw_privs ++ tables_1 from List.mem_append_right (k2_sels lw_privs) (show w ∈ tables_1 from List.mem_append_right _ (List.mem_append_right _ (List.mem_append_right _ (List.mem_append_right _ (List.mem_append_right _ (List.mem_append_left _ h))))))
theorem lw_m7 : ∀ w ∈ tables_1_7, w ∈ lw_tbl := fun w h => show w ∈ k2_sels lw_privs ++ tables_1 from List.mem_append_right (k2_sels lw_privs) (show w ∈ tables_1 from List.mem_append_right _ (List.mem_append_right _ (List.mem_append_right _ (List.mem_append_right _ (List.mem_append_right _ (List.mem_append_right _ (List.mem_append_left _ h)))))))
theorem lw_m8 : ∀ w ∈ tables_1_8, w ∈ lw_tbl := fun w h => show w ∈ k2_sels lw_privs ++ tables_1 from List.mem_append_right (k2_sels lw_privs) (show w ∈ tables_1 from List.mem_append_right _ (List.mem_append_right _ (List.mem_append_right _ (List.mem_append_right _ (List.mem_append_right _ (List.mem_append_right _ (List.mem_append_right _ (List.mem_append_left _ h))))))))
theorem lw_m9 : ∀ w ∈ tables_1_9, w ∈ lw_tbl := fun w h => show w ∈ k2_sels lw_privs ++ tables_1 from List.mem_append_right (k2_sels lw_privs) (show w ∈ tables_1 from List.mem_append_right _ (List.mem_append_right _ (List.mem_append_right _ (List.mem_append_right _ (List.mem_append_right _ (List.mem_append_right _ (List.mem_append_right _ (List.mem_append_right _ h))))))))
theorem qs0 : (Cond.selects "java/lang/Throwable" ⟨"java/lang/Throwable", "fillInStackTrace", "(I)Ljava/lang/Throwable;"⟩ ⟨"java/lang/Throwable", "fillInStackTrace", "(I)Ljava/lang/Throwable;"⟩) ∈ lw_all := lw_g (lw_at lw_ms 0 rfl) rfl
theorem qs1 : (Cond.selects "PanSlices" ⟨"PanSlices", "four", "(I)V"⟩ ⟨"PanSlices", "four", "(I)V"⟩) ∈ lw_all := lw_g (lw_at lw_ms 1 rfl) rfl
theorem qs2 : (Cond.selects "PanSlices" ⟨"PanSlices", "taken", "()V"⟩ ⟨"PanSlices", "taken", "()V"⟩) ∈ lw_all := lw_g (lw_at lw_ms 2 rfl) rfl
theorem qs3 : (Cond.selects "PanSlices$KitchenReader" ⟨"PanSlices$KitchenReader", "line", "(I)V"⟩ ⟨"PanSlices$KitchenReader", "line", "(I)V"⟩) ∈ lw_all := lw_g (lw_at lw_ms 3 rfl) rfl
theorem qs4 : (Cond.selects "PanSlices$KitchenReader" ⟨"PanSlices$KitchenReader", "fresh", "()J"⟩ ⟨"PanSlices$KitchenReader", "fresh", "()J"⟩) ∈ lw_all := lw_g (lw_at lw_ms 4 rfl) rfl
theorem qs5 : (Cond.selects "PanSlices" ⟨"PanSlices", "keep", "()V"⟩ ⟨"PanSlices", "keep", "()V"⟩) ∈ lw_all := lw_g (lw_at lw_ms 5 rfl) rfl
theorem qs6 : (Cond.selects "PanSlices" ⟨"PanSlices", "putName", "(J)V"⟩ ⟨"PanSlices", "putName", "(J)V"⟩) ∈ lw_all := lw_g (lw_at lw_ms 6 rfl) rfl
theorem qs7 : (Cond.selects "PanSlices" ⟨"PanSlices", "put", "(I)V"⟩ ⟨"PanSlices", "put", "(I)V"⟩) ∈ lw_all := lw_g (lw_at lw_ms 7 rfl) rfl
theorem qs8 : (Cond.selects "PanSlices" ⟨"PanSlices", "putNumber", "(I)V"⟩ ⟨"PanSlices", "putNumber", "(I)V"⟩) ∈ lw_all := lw_g (lw_at lw_ms 8 rfl) rfl
theorem qs9 : (Cond.selects "PanSlices" ⟨"PanSlices", "isSlice", "(I)Z"⟩ ⟨"PanSlices", "isSlice", "(I)Z"⟩) ∈ lw_all := lw_g (lw_at lw_ms 9 rfl) rfl
theorem qs10 : (Cond.selects "PanSlices" ⟨"PanSlices", "isGo", "(I)Z"⟩ ⟨"PanSlices", "isGo", "(I)Z"⟩) ∈ lw_all := lw_g (lw_at lw_ms 10 rfl) rfl
theorem qs11 : (Cond.selects "PanSlices" ⟨"PanSlices", "earliest", "(I)I"⟩ ⟨"PanSlices", "earliest", "(I)I"⟩) ∈ lw_all := lw_g (lw_at lw_ms 11 rfl) rfl
theorem qs12 : (Cond.selects "PanSlices" ⟨"PanSlices", "orders", "(II)V"⟩ ⟨"PanSlices", "orders", "(II)V"⟩) ∈ lw_all := lw_g (lw_at lw_ms 12 rfl) rfl
theorem qs13 : (Cond.selects "PanSlices" ⟨"PanSlices", "fits", "(II)Z"⟩ ⟨"PanSlices", "fits", "(II)Z"⟩) ∈ lw_all := lw_g (lw_at lw_ms 13 rfl) rfl
theorem qs14 : (Cond.selects "PanSlices" ⟨"PanSlices", "takes", "(II)V"⟩ ⟨"PanSlices", "takes", "(II)V"⟩) ∈ lw_all := lw_g (lw_at lw_ms 14 rfl) rfl
theorem qs15 : (Cond.selects "PanSlices" ⟨"PanSlices", "pupil", "(II[I)I"⟩ ⟨"PanSlices", "pupil", "(II[I)I"⟩) ∈ lw_all := lw_g (lw_at lw_ms 15 rfl) rfl
theorem qs16 : (Cond.selects "PanSlices" ⟨"PanSlices", "toasts", "(I)I"⟩ ⟨"PanSlices", "toasts", "(I)I"⟩) ∈ lw_all := lw_g (lw_at lw_ms 16 rfl) rfl
theorem qs17 : (Cond.selects "PanSlices" ⟨"PanSlices", "minute", "(LPanSlices$Cook;I)V"⟩ ⟨"PanSlices", "minute", "(LPanSlices$Cook;I)V"⟩) ∈ lw_all := lw_g (lw_at lw_ms 17 rfl) rfl
theorem qs18 : (Cond.selects "PanSlices" ⟨"PanSlices", "freePlace", "(I)I"⟩ ⟨"PanSlices", "freePlace", "(I)I"⟩) ∈ lw_all := lw_g (lw_at lw_ms 18 rfl) rfl
theorem qs19 : (Cond.selects "PanSlices" ⟨"PanSlices", "chosen", "(LPanSlices$Cook;I)I"⟩ ⟨"PanSlices", "chosen", "(LPanSlices$Cook;I)I"⟩) ∈ lw_all := lw_g (lw_at lw_ms 19 rfl) rfl
theorem qs20 : (Cond.selects "PanSlices" ⟨"PanSlices", "canGo", "(II)Z"⟩ ⟨"PanSlices", "canGo", "(II)Z"⟩) ∈ lw_all := lw_g (lw_at lw_ms 20 rfl) rfl
theorem qs21 : (Cond.selects "PanSlices" ⟨"PanSlices", "isOn", "(I)Z"⟩ ⟨"PanSlices", "isOn", "(I)Z"⟩) ∈ lw_all := lw_g (lw_at lw_ms 21 rfl) rfl
theorem qs22 : (Cond.selects "PanSlices" ⟨"PanSlices", "sideOf", "(I)I"⟩ ⟨"PanSlices", "sideOf", "(I)I"⟩) ∈ lw_all := lw_g (lw_at lw_ms 22 rfl) rfl
theorem qs23 : (Cond.selects "PanSlices" ⟨"PanSlices", "worthOf", "(III)I"⟩ ⟨"PanSlices", "worthOf", "(III)I"⟩) ∈ lw_all := lw_g (lw_at lw_ms 23 rfl) rfl
theorem qs24 : (Cond.selects "PanSlices" ⟨"PanSlices", "worthOf", "(II)I"⟩ ⟨"PanSlices", "worthOf", "(II)I"⟩) ∈ lw_all := lw_g (lw_at lw_ms 24 rfl) rfl
theorem qs25 : (Cond.selects "PanSlices" ⟨"PanSlices", "one", "(I)I"⟩ ⟨"PanSlices", "one", "(I)I"⟩) ∈ lw_all := lw_g (lw_at lw_ms 25 rfl) rfl
theorem qs26 : (Cond.selects "PanSlices" ⟨"PanSlices", "morningOf", "(I)I"⟩ ⟨"PanSlices", "morningOf", "(I)I"⟩) ∈ lw_all := lw_g (lw_at lw_ms 26 rfl) rfl
theorem qs27 : (Cond.selects "PanSlices" ⟨"PanSlices", "drawn", "(I)I"⟩ ⟨"PanSlices", "drawn", "(I)I"⟩) ∈ lw_all := lw_g (lw_at lw_ms 27 rfl) rfl
theorem qs28 : (Cond.selects "PanSlices" ⟨"PanSlices", "draw", "(I)I"⟩ ⟨"PanSlices", "draw", "(I)I"⟩) ∈ lw_all := lw_g (lw_at lw_ms 28 rfl) rfl
theorem qs29 : (Cond.selects "PanSlices$SentenceReader" ⟨"PanSlices$SentenceReader", "any", "(I)LPanSlices$Cond;"⟩ ⟨"PanSlices$SentenceReader", "any", "(I)LPanSlices$Cond;"⟩) ∈ lw_all := lw_g (lw_at lw_ms 29 rfl) rfl
theorem qs30 : (Cond.selects "PanSlices$SentenceReader" ⟨"PanSlices$SentenceReader", "both", "(I)LPanSlices$Cond;"⟩ ⟨"PanSlices$SentenceReader", "both", "(I)LPanSlices$Cond;"⟩) ∈ lw_all := lw_g (lw_at lw_ms 30 rfl) rfl
theorem qs31 : (Cond.selects "PanSlices$SentenceReader" ⟨"PanSlices$SentenceReader", "single", "(I)LPanSlices$Cond;"⟩ ⟨"PanSlices$SentenceReader", "single", "(I)LPanSlices$Cond;"⟩) ∈ lw_all := lw_g (lw_at lw_ms 31 rfl) rfl
theorem qs32 : (Cond.selects "PanSlicesModel" ⟨"PanSlicesModel", "come", "(I)V"⟩ ⟨"PanSlicesModel", "come", "(I)V"⟩) ∈ lw_all := lw_g (lw_at lw_ms 32 rfl) rfl
theorem qs33 : (Cond.selects "PanSlicesModel" ⟨"PanSlicesModel", "begin", "(I)V"⟩ ⟨"PanSlicesModel", "begin", "(I)V"⟩) ∈ lw_all := lw_g (lw_at lw_ms 33 rfl) rfl
theorem qs34 : (Cond.selects "PanSlicesModel" ⟨"PanSlicesModel", "lay", "()V"⟩ ⟨"PanSlicesModel", "lay", "()V"⟩) ∈ lw_all := lw_g (lw_at lw_ms 34 rfl) rfl
theorem qs35 : (Cond.selects "PanSlicesModel" ⟨"PanSlicesModel", "take", "()I"⟩ ⟨"PanSlicesModel", "take", "()I"⟩) ∈ lw_all := lw_g (lw_at lw_ms 35 rfl) rfl
theorem qs36 : (Cond.selects "PanSlicesModel" ⟨"PanSlicesModel", "next", "()V"⟩ ⟨"PanSlicesModel", "next", "()V"⟩) ∈ lw_all := lw_g (lw_at lw_ms 36 rfl) rfl
theorem qs37 : (Cond.selects "PanSlicesModel" ⟨"PanSlicesModel", "tapeAt", "(I)I"⟩ ⟨"PanSlicesModel", "tapeAt", "(I)I"⟩) ∈ lw_all := lw_g (lw_at lw_ms 37 rfl) rfl
theorem qs38 : (Cond.selects "PanSlicesModel" ⟨"PanSlicesModel", "readLine", "()Z"⟩ ⟨"PanSlicesModel", "readLine", "()Z"⟩) ∈ lw_all := lw_g (lw_at lw_ms 38 rfl) rfl
theorem qs39 : (Cond.selects "PanSlicesModel" ⟨"PanSlicesModel", "isWord", "(I)Z"⟩ ⟨"PanSlicesModel", "isWord", "(I)Z"⟩) ∈ lw_all := lw_g (lw_at lw_ms 39 rfl) rfl
theorem qs40 : (Cond.selects "PanSlicesModel" ⟨"PanSlicesModel", "readPlain", "(III)Z"⟩ ⟨"PanSlicesModel", "readPlain", "(III)Z"⟩) ∈ lw_all := lw_g (lw_at lw_ms 40 rfl) rfl
theorem qs41 : (Cond.selects "PanSlicesModel" ⟨"PanSlicesModel", "readOnce", "(I)Z"⟩ ⟨"PanSlicesModel", "readOnce", "(I)Z"⟩) ∈ lw_all := lw_g (lw_at lw_ms 41 rfl) rfl
theorem qs42 : (Cond.selects "PanSlicesModel" ⟨"PanSlicesModel", "bad", "(I)Z"⟩ ⟨"PanSlicesModel", "bad", "(I)Z"⟩) ∈ lw_all := lw_g (lw_at lw_ms 42 rfl) rfl
theorem qs43 : (Cond.selects "PanSlicesModel" ⟨"PanSlicesModel", "readNumber", "(II)Z"⟩ ⟨"PanSlicesModel", "readNumber", "(II)Z"⟩) ∈ lw_all := lw_g (lw_at lw_ms 43 rfl) rfl
theorem qs44 : (Cond.selects "PanSlicesModel" ⟨"PanSlicesModel", "readBurn", "()Z"⟩ ⟨"PanSlicesModel", "readBurn", "()Z"⟩) ∈ lw_all := lw_g (lw_at lw_ms 44 rfl) rfl
theorem qs45 : (Cond.selects "PanSlicesModel" ⟨"PanSlicesModel", "readSlice", "()Z"⟩ ⟨"PanSlicesModel", "readSlice", "()Z"⟩) ∈ lw_all := lw_g (lw_at lw_ms 45 rfl) rfl
theorem qs46 : (Cond.selects "PanSlicesModel" ⟨"PanSlicesModel", "readNew", "(I)Z"⟩ ⟨"PanSlicesModel", "readNew", "(I)Z"⟩) ∈ lw_all := lw_g (lw_at lw_ms 46 rfl) rfl
theorem qs47 : (Cond.selects "PanSlicesModel" ⟨"PanSlicesModel", "isName", "()Z"⟩ ⟨"PanSlicesModel", "isName", "()Z"⟩) ∈ lw_all := lw_g (lw_at lw_ms 47 rfl) rfl
theorem qs48 : (Cond.selects "PanSlicesModel" ⟨"PanSlicesModel", "readGuest", "()Z"⟩ ⟨"PanSlicesModel", "readGuest", "()Z"⟩) ∈ lw_all := lw_g (lw_at lw_ms 48 rfl) rfl
theorem qs49 : (Cond.selects "PanSlicesModel" ⟨"PanSlicesModel", "readSort", "()Z"⟩ ⟨"PanSlicesModel", "readSort", "()Z"⟩) ∈ lw_all := lw_g (lw_at lw_ms 49 rfl) rfl
theorem qs50 : (Cond.selects "PanSlicesModel" ⟨"PanSlicesModel", "readEnd", "()Z"⟩ ⟨"PanSlicesModel", "readEnd", "()Z"⟩) ∈ lw_all := lw_g (lw_at lw_ms 50 rfl) rfl
theorem qs51 : (Cond.selects "PanSlicesModel" ⟨"PanSlicesModel", "isSign", "(I)Z"⟩ ⟨"PanSlicesModel", "isSign", "(I)Z"⟩) ∈ lw_all := lw_g (lw_at lw_ms 51 rfl) rfl
theorem qs52 : (Cond.selects "PanSlicesModel" ⟨"PanSlicesModel", "isSlice", "(I)Z"⟩ ⟨"PanSlicesModel", "isSlice", "(I)Z"⟩) ∈ lw_all := lw_g (lw_at lw_ms 52 rfl) rfl
theorem qs53 : (Cond.selects "PanSlicesModel" ⟨"PanSlicesModel", "slices", "()I"⟩ ⟨"PanSlicesModel", "slices", "()I"⟩) ∈ lw_all := lw_g (lw_at lw_ms 53 rfl) rfl
theorem qs54 : (Cond.selects "PanSlicesModel" ⟨"PanSlicesModel", "refuse", "()I"⟩ ⟨"PanSlicesModel", "refuse", "()I"⟩) ∈ lw_all := lw_g (lw_at lw_ms 54 rfl) rfl
theorem qs55 : (Cond.selects "PanSlicesModel" ⟨"PanSlicesModel", "readGo", "(I)Z"⟩ ⟨"PanSlicesModel", "readGo", "(I)Z"⟩) ∈ lw_all := lw_g (lw_at lw_ms 55 rfl) rfl
theorem qs56 : (Cond.selects "PanSlicesModel" ⟨"PanSlicesModel", "snap", "()V"⟩ ⟨"PanSlicesModel", "snap", "()V"⟩) ∈ lw_all := lw_g (lw_at lw_ms 56 rfl) rfl
theorem qs57 : (Cond.selects "PanSlicesModel" ⟨"PanSlicesModel", "lays", "(IIIII)V"⟩ ⟨"PanSlicesModel", "lays", "(IIIII)V"⟩) ∈ lw_all := lw_g (lw_at lw_ms 57 rfl) rfl
theorem qs58 : (Cond.selects "PanSlicesModel" ⟨"PanSlicesModel", "goes", "()I"⟩ ⟨"PanSlicesModel", "goes", "()I"⟩) ∈ lw_all := lw_g (lw_at lw_ms 58 rfl) rfl
theorem qs59 : (Cond.selects "PanSlicesModel" ⟨"PanSlicesModel", "from", "(I)I"⟩ ⟨"PanSlicesModel", "from", "(I)I"⟩) ∈ lw_all := lw_g (lw_at lw_ms 59 rfl) rfl
theorem qs60 : (Cond.selects "PanSlicesModel" ⟨"PanSlicesModel", "go5", "(II)I"⟩ ⟨"PanSlicesModel", "go5", "(II)I"⟩) ∈ lw_all := lw_g (lw_at lw_ms 60 rfl) rfl
theorem qs61 : (Cond.selects "PanSlicesModel" ⟨"PanSlicesModel", "wrong", "(II)I"⟩ ⟨"PanSlicesModel", "wrong", "(II)I"⟩) ∈ lw_all := lw_g (lw_at lw_ms 61 rfl) rfl
theorem qs62 : (Cond.selects "PanSlicesModel" ⟨"PanSlicesModel", "isOnce", "(I)Z"⟩ ⟨"PanSlicesModel", "isOnce", "(I)Z"⟩) ∈ lw_all := lw_g (lw_at lw_ms 62 rfl) rfl
theorem qs63 : (Cond.selects "PanSlicesModel" ⟨"PanSlicesModel", "behind", "(I)I"⟩ ⟨"PanSlicesModel", "behind", "(I)I"⟩) ∈ lw_all := lw_g (lw_at lw_ms 63 rfl) rfl
theorem qs64 : (Cond.selects "PanSlicesModel" ⟨"PanSlicesModel", "needs", "(II)I"⟩ ⟨"PanSlicesModel", "needs", "(II)I"⟩) ∈ lw_all := lw_g (lw_at lw_ms 64 rfl) rfl
theorem qs65 : (Cond.selects "PanSlicesModel" ⟨"PanSlicesModel", "leftOf", "(II)I"⟩ ⟨"PanSlicesModel", "leftOf", "(II)I"⟩) ∈ lw_all := lw_g (lw_at lw_ms 65 rfl) rfl
theorem qs66 : (Cond.selects "PanSlicesModel" ⟨"PanSlicesModel", "endsAt", "()I"⟩ ⟨"PanSlicesModel", "endsAt", "()I"⟩) ∈ lw_all := lw_g (lw_at lw_ms 66 rfl) rfl
theorem qs67 : (Cond.selects "PanSlicesModel" ⟨"PanSlicesModel", "isDone", "(I)Z"⟩ ⟨"PanSlicesModel", "isDone", "(I)Z"⟩) ∈ lw_all := lw_g (lw_at lw_ms 67 rfl) rfl
theorem qs68 : (Cond.selects "PanSlicesModel" ⟨"PanSlicesModel", "putName", "(J)V"⟩ ⟨"PanSlicesModel", "putName", "(J)V"⟩) ∈ lw_all := lw_g (lw_at lw_ms 68 rfl) rfl
theorem qs69 : (Cond.selects "PanSlicesModel" ⟨"PanSlicesModel", "put", "(I)V"⟩ ⟨"PanSlicesModel", "put", "(I)V"⟩) ∈ lw_all := lw_g (lw_at lw_ms 69 rfl) rfl
theorem qs70 : (Cond.selects "PanSlicesModel" ⟨"PanSlicesModel", "putNumber", "(I)V"⟩ ⟨"PanSlicesModel", "putNumber", "(I)V"⟩) ∈ lw_all := lw_g (lw_at lw_ms 70 rfl) rfl
theorem qs71 : (Cond.selects "PanSlicesModel" ⟨"PanSlicesModel", "longest", "()I"⟩ ⟨"PanSlicesModel", "longest", "()I"⟩) ∈ lw_all := lw_g (lw_at lw_ms 71 rfl) rfl
theorem qs72 : (Cond.selects "PanSlicesModel" ⟨"PanSlicesModel", "allMinutes", "()I"⟩ ⟨"PanSlicesModel", "allMinutes", "()I"⟩) ∈ lw_all := lw_g (lw_at lw_ms 72 rfl) rfl
theorem qs73 : (Cond.selects "PanSlicesModel" ⟨"PanSlicesModel", "trySides", "(III)V"⟩ ⟨"PanSlicesModel", "trySides", "(III)V"⟩) ∈ lw_all := lw_g (lw_at lw_ms 73 rfl) rfl
theorem qs74 : (Cond.selects "PanSlicesModel" ⟨"PanSlicesModel", "canStart", "(III)Z"⟩ ⟨"PanSlicesModel", "canStart", "(III)Z"⟩) ∈ lw_all := lw_g (lw_at lw_ms 74 rfl) rfl
theorem qs75 : (Cond.selects "PanSlicesModel" ⟨"PanSlicesModel", "takes", "(III)I"⟩ ⟨"PanSlicesModel", "takes", "(III)I"⟩) ∈ lw_all := lw_g (lw_at lw_ms 75 rfl) rfl
theorem qs76 : (Cond.selects "PanSlicesModel" ⟨"PanSlicesModel", "cookAll", "(I)I"⟩ ⟨"PanSlicesModel", "cookAll", "(I)I"⟩) ∈ lw_all := lw_g (lw_at lw_ms 76 rfl) rfl
theorem qs77 : (Cond.selects "PanSlicesModel" ⟨"PanSlicesModel", "cookMinute", "(II)V"⟩ ⟨"PanSlicesModel", "cookMinute", "(II)V"⟩) ∈ lw_all := lw_g (lw_at lw_ms 77 rfl) rfl
theorem qs78 : (Cond.selects "PanSlicesModel" ⟨"PanSlicesModel", "isOn", "(IIII)V"⟩ ⟨"PanSlicesModel", "isOn", "(IIII)V"⟩) ∈ lw_all := lw_g (lw_at lw_ms 78 rfl) rfl
theorem qs79 : (Cond.selects "PanSlicesModel" ⟨"PanSlicesModel", "takesCook", "(III)I"⟩ ⟨"PanSlicesModel", "takesCook", "(III)I"⟩) ∈ lw_all := lw_g (lw_at lw_ms 79 rfl) rfl
theorem qs80 : (Cond.selects "PanSlicesModel" ⟨"PanSlicesModel", "hasLeft", "(I)Z"⟩ ⟨"PanSlicesModel", "hasLeft", "(I)Z"⟩) ∈ lw_all := lw_g (lw_at lw_ms 80 rfl) rfl
theorem qs81 : (Cond.selects "PanSlicesModel" ⟨"PanSlicesModel", "isRested", "(II)Z"⟩ ⟨"PanSlicesModel", "isRested", "(II)Z"⟩) ∈ lw_all := lw_g (lw_at lw_ms 81 rfl) rfl
theorem qs82 : (Cond.selects "PanSlicesModel" ⟨"PanSlicesModel", "sideOf", "(I)I"⟩ ⟨"PanSlicesModel", "sideOf", "(I)I"⟩) ∈ lw_all := lw_g (lw_at lw_ms 82 rfl) rfl
theorem qs83 : (Cond.selects "PanSlicesModel" ⟨"PanSlicesModel", "likes", "(II)I"⟩ ⟨"PanSlicesModel", "likes", "(II)I"⟩) ∈ lw_all := lw_g (lw_at lw_ms 83 rfl) rfl
theorem qs84 : (Cond.selects "PanSlicesModel" ⟨"PanSlicesModel", "placeFor", "(I)I"⟩ ⟨"PanSlicesModel", "placeFor", "(I)I"⟩) ∈ lw_all := lw_g (lw_at lw_ms 84 rfl) rfl
theorem qs85 : (Cond.selects "PanSlicesModel" ⟨"PanSlicesModel", "tells", "(II)V"⟩ ⟨"PanSlicesModel", "tells", "(II)V"⟩) ∈ lw_all := lw_g (lw_at lw_ms 85 rfl) rfl
theorem qs86 : (Cond.selects "PanSlicesModel" ⟨"PanSlicesModel", "canBeEarly", "()Z"⟩ ⟨"PanSlicesModel", "canBeEarly", "()Z"⟩) ∈ lw_all := lw_g (lw_at lw_ms 86 rfl) rfl
theorem qs87 : (Cond.selects "PanSlicesModel" ⟨"PanSlicesModel", "earliest", "(I)I"⟩ ⟨"PanSlicesModel", "earliest", "(I)I"⟩) ∈ lw_all := lw_g (lw_at lw_ms 87 rfl) rfl
theorem qs88 : (Cond.selects "PanSlicesModel" ⟨"PanSlicesModel", "worthOfSet", "(II)I"⟩ ⟨"PanSlicesModel", "worthOfSet", "(II)I"⟩) ∈ lw_all := lw_g (lw_at lw_ms 88 rfl) rfl
theorem qs89 : (Cond.selects "PanSlicesModel" ⟨"PanSlicesModel", "worthOf", "(II)I"⟩ ⟨"PanSlicesModel", "worthOf", "(II)I"⟩) ∈ lw_all := lw_g (lw_at lw_ms 89 rfl) rfl
theorem qs90 : (Cond.selects "PanSlicesModel" ⟨"PanSlicesModel", "refuseLong", "()J"⟩ ⟨"PanSlicesModel", "refuseLong", "()J"⟩) ∈ lw_all := lw_g (lw_at lw_ms 90 rfl) rfl
theorem qs91 : (Cond.selects "PanSlicesModel" ⟨"PanSlicesModel", "morningBy", "(I)I"⟩ ⟨"PanSlicesModel", "morningBy", "(I)I"⟩) ∈ lw_all := lw_g (lw_at lw_ms 91 rfl) rfl
theorem qs92 : (Cond.selects "PanSlicesModel" ⟨"PanSlicesModel", "drawn", "(II)I"⟩ ⟨"PanSlicesModel", "drawn", "(II)I"⟩) ∈ lw_all := lw_g (lw_at lw_ms 92 rfl) rfl
theorem qs93 : (Cond.selects "PanSlicesModel" ⟨"PanSlicesModel", "draw", "(I)I"⟩ ⟨"PanSlicesModel", "draw", "(I)I"⟩) ∈ lw_all := lw_g (lw_at lw_ms 93 rfl) rfl
theorem qs94 : (Cond.selects "PanSlicesModel" ⟨"PanSlicesModel", "readOr", "()Z"⟩ ⟨"PanSlicesModel", "readOr", "()Z"⟩) ∈ lw_all := lw_g (lw_at lw_ms 94 rfl) rfl
theorem qs95 : (Cond.selects "PanSlicesModel" ⟨"PanSlicesModel", "readAnd", "()Z"⟩ ⟨"PanSlicesModel", "readAnd", "()Z"⟩) ∈ lw_all := lw_g (lw_at lw_ms 95 rfl) rfl
theorem qs96 : (Cond.selects "PanSlicesModel" ⟨"PanSlicesModel", "readOne", "()Z"⟩ ⟨"PanSlicesModel", "readOne", "()Z"⟩) ∈ lw_all := lw_g (lw_at lw_ms 96 rfl) rfl
theorem qs97 : (Cond.selects "PanSlicesModel" ⟨"PanSlicesModel", "oneAtHand", "()I"⟩ ⟨"PanSlicesModel", "oneAtHand", "()I"⟩) ∈ lw_all := lw_g (lw_at lw_ms 97 rfl) rfl
theorem qs98 : (Cond.selects "PanSlicesModel" ⟨"PanSlicesModel", "readBracket", "()Z"⟩ ⟨"PanSlicesModel", "readBracket", "()Z"⟩) ∈ lw_all := lw_g (lw_at lw_ms 98 rfl) rfl
theorem qs99 : (Cond.selects "PanSlicesModel" ⟨"PanSlicesModel", "readNot", "()Z"⟩ ⟨"PanSlicesModel", "readNot", "()Z"⟩) ∈ lw_all := lw_g (lw_at lw_ms 99 rfl) rfl
theorem qs100 : (Cond.selects "PanSlicesModel" ⟨"PanSlicesModel", "saysOne", "(IIII)I"⟩ ⟨"PanSlicesModel", "saysOne", "(IIII)I"⟩) ∈ lw_all := lw_g (lw_at lw_ms 100 rfl) rfl
theorem qs101 : (Cond.selects "PanSlicesModel" ⟨"PanSlicesModel", "readAfter", "()Z"⟩ ⟨"PanSlicesModel", "readAfter", "()Z"⟩) ∈ lw_all := lw_g (lw_at lw_ms 101 rfl) rfl
theorem qs102 : (Cond.selects "PanSlicesModel" ⟨"PanSlicesModel", "readCompare", "(I)Z"⟩ ⟨"PanSlicesModel", "readCompare", "(I)Z"⟩) ∈ lw_all := lw_g (lw_at lw_ms 102 rfl) rfl
theorem qs103 : (Cond.selects "PanSlicesModel" ⟨"PanSlicesModel", "holds", "(II)Z"⟩ ⟨"PanSlicesModel", "holds", "(II)Z"⟩) ∈ lw_all := lw_g (lw_at lw_ms 103 rfl) rfl
theorem qs104 : (Cond.selects "PanSlicesModel" ⟨"PanSlicesModel", "goesOf", "(I)I"⟩ ⟨"PanSlicesModel", "goesOf", "(I)I"⟩) ∈ lw_all := lw_g (lw_at lw_ms 104 rfl) rfl
theorem qs105 : (Cond.selects "PanSlicesModel" ⟨"PanSlicesModel", "endOf", "(I)I"⟩ ⟨"PanSlicesModel", "endOf", "(I)I"⟩) ∈ lw_all := lw_g (lw_at lw_ms 105 rfl) rfl
