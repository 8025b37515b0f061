-- ===== PART A: goes FIRST, ahead of the names: the tables' words, and 'selects' of the private methods out of them =====
/-- a private method of a class that the tables say can be made, by its rows of tables_1 -/
def lw_okq (q : MethodName × Nat) : Prop := (q.1.cls ≠ "java/lang/invoke/MethodHandle" ∧ q.1.cls ≠ "java/lang/invoke/VarHandle") ∧ Cond.instantiable q.1.cls q.2 ∈ tables_1 ∧ Cond.privateMethod q.1 ∈ tables_1 ∧ Cond.instanceMethod q.1 ∈ tables_1
set_option maxRecDepth 100000
theorem lw_t1 {w : Cond} (h : w ∈ tables_1_1) : w ∈ tables_1 := List.mem_append_left _ h
theorem lw_t2 {w : Cond} (h : w ∈ tables_1_2) : w ∈ tables_1 := List.mem_append_right _ (List.mem_append_left _ h)
theorem lw_t3 {w : Cond} (h : w ∈ tables_1_3) : w ∈ tables_1 := List.mem_append_right _ (List.mem_append_right _ (List.mem_append_left _ h))
theorem lw_t4 {w : Cond} (h : w ∈ tables_1_4) : w ∈ tables_1 := List.mem_append_right _ (List.mem_append_right _ (List.mem_append_right _ (List.mem_append_left _ h)))
theorem lw_t5 {w : Cond} (h : w ∈ tables_1_5) : w ∈ tables_1 := List.mem_append_right _ (List.mem_append_right _ (List.mem_append_right _ (List.mem_append_right _ (List.mem_append_left _ h))))
theorem lw_t6 {w : Cond} (h : w ∈ tables_1_6) : w ∈ tables_1 := List.mem_append_right _ (List.mem_append_right _ (List.mem_append_right _ (List.mem_append_right _ (List.mem_append_right _ (List.mem_append_left _ h)))))
theorem lw_t7 {w : Cond} (h : w ∈ tables_1_7) : w ∈ tables_1 := List.mem_append_right _ (List.mem_append_right _ (List.mem_append_right _ (List.mem_append_right _ (List.mem_append_right _ (List.mem_append_right _ (List.mem_append_left _ h))))))
theorem lw_t8 {w : Cond} (h : w ∈ tables_1_8) : w ∈ tables_1 := List.mem_append_right _ (List.mem_append_right _ (List.mem_append_right _ (List.mem_append_right _ (List.mem_append_right _ (List.mem_append_right _ (List.mem_append_right _ (List.mem_append_left _ h)))))))
theorem lw_t9 {w : Cond} (h : w ∈ tables_1_9) : w ∈ tables_1 := List.mem_append_right _ (List.mem_append_right _ (List.mem_append_right _ (List.mem_append_right _ (List.mem_append_right _ (List.mem_append_right _ (List.mem_append_right _ (List.mem_append_right _ h)))))))
theorem lw_p0 : lw_okq (⟨"SupplyGrid$Reader", "next", "()V"⟩, 9) := ⟨⟨by decide +kernel, by decide +kernel⟩, lw_t2 (List.mem_of_getElem? (i := 54) rfl), lw_t2 (List.mem_of_getElem? (i := 62) rfl), lw_t2 (List.mem_of_getElem? (i := 63) rfl)⟩
theorem lw_p1 : lw_okq (⟨"SupplyGrid$Reader", "isAt", "(II)Z"⟩, 9) := ⟨⟨by decide +kernel, by decide +kernel⟩, lw_t2 (List.mem_of_getElem? (i := 54) rfl), lw_t2 (List.mem_of_getElem? (i := 66) rfl), lw_t2 (List.mem_of_getElem? (i := 67) rfl)⟩
theorem lw_p2 : lw_okq (⟨"SupplyGrid$Reader", "grid", "()V"⟩, 9) := ⟨⟨by decide +kernel, by decide +kernel⟩, lw_t2 (List.mem_of_getElem? (i := 54) rfl), lw_t2 (List.mem_of_getElem? (i := 107) rfl), lw_t2 (List.mem_of_getElem? (i := 108) rfl)⟩
theorem lw_p3 : lw_okq (⟨"SupplyGrid$Reader", "needs", "(Ljava/lang/String;)V"⟩, 9) := ⟨⟨by decide +kernel, by decide +kernel⟩, lw_t2 (List.mem_of_getElem? (i := 54) rfl), lw_t2 (List.mem_of_getElem? (i := 112) rfl), lw_t2 (List.mem_of_getElem? (i := 113) rfl)⟩
theorem lw_p4 : lw_okq (⟨"SupplyGrid$Reader", "is", "(Ljava/lang/String;)Z"⟩, 9) := ⟨⟨by decide +kernel, by decide +kernel⟩, lw_t2 (List.mem_of_getElem? (i := 54) rfl), lw_t2 (List.mem_of_getElem? (i := 116) rfl), lw_t2 (List.mem_of_getElem? (i := 117) rfl)⟩
theorem lw_p5 : lw_okq (⟨"SupplyGrid$Reader", "must", "(ZI)V"⟩, 9) := ⟨⟨by decide +kernel, by decide +kernel⟩, lw_t2 (List.mem_of_getElem? (i := 54) rfl), lw_t2 (List.mem_of_getElem? (i := 168) rfl), lw_t2 (List.mem_of_getElem? (i := 169) rfl)⟩
theorem lw_p6 : lw_okq (⟨"java/lang/Throwable", "fillInStackTrace", "(I)Ljava/lang/Throwable;"⟩, 6) := ⟨⟨by decide +kernel, by decide +kernel⟩, lw_t2 (List.mem_of_getElem? (i := 206) rfl), lw_t2 (List.mem_of_getElem? (i := 204) rfl), lw_t2 (List.mem_of_getElem? (i := 205) rfl)⟩
theorem lw_p7 : lw_okq (⟨"SupplyGrid$Reader", "named", "(Ljava/lang/String;II)I"⟩, 9) := ⟨⟨by decide +kernel, by decide +kernel⟩, lw_t2 (List.mem_of_getElem? (i := 54) rfl), lw_t3 (List.mem_of_getElem? (i := 0) rfl), lw_t3 (List.mem_of_getElem? (i := 1) rfl)⟩
theorem lw_p8 : lw_okq (⟨"SupplyGrid$Reader", "number", "(II)I"⟩, 9) := ⟨⟨by decide +kernel, by decide +kernel⟩, lw_t2 (List.mem_of_getElem? (i := 54) rfl), lw_t3 (List.mem_of_getElem? (i := 4) rfl), lw_t3 (List.mem_of_getElem? (i := 5) rfl)⟩
theorem lw_p9 : lw_okq (⟨"SupplyGrid$Reader", "sees", "(II)I"⟩, 9) := ⟨⟨by decide +kernel, by decide +kernel⟩, lw_t2 (List.mem_of_getElem? (i := 54) rfl), lw_t3 (List.mem_of_getElem? (i := 8) rfl), lw_t3 (List.mem_of_getElem? (i := 9) rfl)⟩
theorem lw_p10 : lw_okq (⟨"SupplyGrid$Told", "adds", "(ILSupplyGrid$Way;I)V"⟩, 14) := ⟨⟨by decide +kernel, by decide +kernel⟩, lw_t1 (List.mem_of_getElem? (i := 39) rfl), lw_t3 (List.mem_of_getElem? (i := 24) rfl), lw_t3 (List.mem_of_getElem? (i := 25) rfl)⟩
theorem lw_p11 : lw_okq (⟨"SupplyGrid$Reader", "strap", "()V"⟩, 9) := ⟨⟨by decide +kernel, by decide +kernel⟩, lw_t2 (List.mem_of_getElem? (i := 54) rfl), lw_t3 (List.mem_of_getElem? (i := 51) rfl), lw_t3 (List.mem_of_getElem? (i := 52) rfl)⟩
theorem lw_p12 : lw_okq (⟨"SupplyGrid$Reader", "place", "(I)I"⟩, 9) := ⟨⟨by decide +kernel, by decide +kernel⟩, lw_t2 (List.mem_of_getElem? (i := 54) rfl), lw_t3 (List.mem_of_getElem? (i := 55) rfl), lw_t3 (List.mem_of_getElem? (i := 56) rfl)⟩
theorem lw_p13 : lw_okq (⟨"SupplyGrid$Reader", "load", "()V"⟩, 9) := ⟨⟨by decide +kernel, by decide +kernel⟩, lw_t2 (List.mem_of_getElem? (i := 54) rfl), lw_t3 (List.mem_of_getElem? (i := 75) rfl), lw_t3 (List.mem_of_getElem? (i := 76) rfl)⟩
theorem lw_p14 : lw_okq (⟨"SupplyGrid$Reader", "budget", "()V"⟩, 9) := ⟨⟨by decide +kernel, by decide +kernel⟩, lw_t2 (List.mem_of_getElem? (i := 54) rfl), lw_t3 (List.mem_of_getElem? (i := 82) rfl), lw_t3 (List.mem_of_getElem? (i := 83) rfl)⟩
theorem lw_p15 : lw_okq (⟨"SupplyGrid", "solved", "()LSupplyGrid$Solved;"⟩, 16) := ⟨⟨by decide +kernel, by decide +kernel⟩, lw_t1 (List.mem_of_getElem? (i := 31) rfl), lw_t3 (List.mem_of_getElem? (i := 103) rfl), lw_t3 (List.mem_of_getElem? (i := 104) rfl)⟩
def lw_privs_1 : List (MethodName × Nat) := [(⟨"SupplyGrid$Reader", "next", "()V"⟩, 9), (⟨"SupplyGrid$Reader", "isAt", "(II)Z"⟩, 9), (⟨"SupplyGrid$Reader", "grid", "()V"⟩, 9), (⟨"SupplyGrid$Reader", "needs", "(Ljava/lang/String;)V"⟩, 9), (⟨"SupplyGrid$Reader", "is", "(Ljava/lang/String;)Z"⟩, 9), (⟨"SupplyGrid$Reader", "must", "(ZI)V"⟩, 9), (⟨"java/lang/Throwable", "fillInStackTrace", "(I)Ljava/lang/Throwable;"⟩, 6), (⟨"SupplyGrid$Reader", "named", "(Ljava/lang/String;II)I"⟩, 9), (⟨"SupplyGrid$Reader", "number", "(II)I"⟩, 9), (⟨"SupplyGrid$Reader", "sees", "(II)I"⟩, 9), (⟨"SupplyGrid$Told", "adds", "(ILSupplyGrid$Way;I)V"⟩, 14), (⟨"SupplyGrid$Reader", "strap", "()V"⟩, 9), (⟨"SupplyGrid$Reader", "place", "(I)I"⟩, 9), (⟨"SupplyGrid$Reader", "load", "()V"⟩, 9), (⟨"SupplyGrid$Reader", "budget", "()V"⟩, 9), (⟨"SupplyGrid", "solved", "()LSupplyGrid$Solved;"⟩, 16)]
theorem lw_r1 : ∀ q ∈ lw_privs_1, lw_okq q := List.forall_mem_cons.mpr ⟨lw_p0, List.forall_mem_cons.mpr ⟨lw_p1, List.forall_mem_cons.mpr ⟨lw_p2, List.forall_mem_cons.mpr ⟨lw_p3, List.forall_mem_cons.mpr ⟨lw_p4, List.forall_mem_cons.mpr ⟨lw_p5, List.forall_mem_cons.mpr ⟨lw_p6, List.forall_mem_cons.mpr ⟨lw_p7, List.forall_mem_cons.mpr ⟨lw_p8, List.forall_mem_cons.mpr ⟨lw_p9, List.forall_mem_cons.mpr ⟨lw_p10, List.forall_mem_cons.mpr ⟨lw_p11, List.forall_mem_cons.mpr ⟨lw_p12, List.forall_mem_cons.mpr ⟨lw_p13, List.forall_mem_cons.mpr ⟨lw_p14, List.forall_mem_cons.mpr ⟨lw_p15, fun _ h => absurd h List.not_mem_nil⟩⟩⟩⟩⟩⟩⟩⟩⟩⟩⟩⟩⟩⟩⟩⟩
theorem lw_p16 : lw_okq (⟨"SupplyGrid$Solved", "lays", "(II)V"⟩, 12) := ⟨⟨by decide +kernel, by decide +kernel⟩, lw_t1 (List.mem_of_getElem? (i := 161) rfl), lw_t3 (List.mem_of_getElem? (i := 127) rfl), lw_t3 (List.mem_of_getElem? (i := 128) rfl)⟩
theorem lw_p17 : lw_okq (⟨"SupplyGrid$Solved", "ties", "(III)V"⟩, 12) := ⟨⟨by decide +kernel, by decide +kernel⟩, lw_t1 (List.mem_of_getElem? (i := 161) rfl), lw_t3 (List.mem_of_getElem? (i := 139) rfl), lw_t3 (List.mem_of_getElem? (i := 140) rfl)⟩
theorem lw_p18 : lw_okq (⟨"SupplyGrid$Solved", "turns", "()V"⟩, 12) := ⟨⟨by decide +kernel, by decide +kernel⟩, lw_t1 (List.mem_of_getElem? (i := 161) rfl), lw_t3 (List.mem_of_getElem? (i := 143) rfl), lw_t3 (List.mem_of_getElem? (i := 144) rfl)⟩
theorem lw_p19 : lw_okq (⟨"SupplyGrid$Solved", "moves", "(II)J"⟩, 12) := ⟨⟨by decide +kernel, by decide +kernel⟩, lw_t1 (List.mem_of_getElem? (i := 161) rfl), lw_t3 (List.mem_of_getElem? (i := 147) rfl), lw_t3 (List.mem_of_getElem? (i := 148) rfl)⟩
theorem lw_p20 : lw_okq (⟨"SupplyGrid", "isStrap", "(I)Z"⟩, 16) := ⟨⟨by decide +kernel, by decide +kernel⟩, lw_t1 (List.mem_of_getElem? (i := 31) rfl), lw_t3 (List.mem_of_getElem? (i := 159) rfl), lw_t3 (List.mem_of_getElem? (i := 160) rfl)⟩
theorem lw_p21 : lw_okq (⟨"SupplyGrid", "isNode", "(I)Z"⟩, 16) := ⟨⟨by decide +kernel, by decide +kernel⟩, lw_t1 (List.mem_of_getElem? (i := 31) rfl), lw_t3 (List.mem_of_getElem? (i := 167) rfl), lw_t3 (List.mem_of_getElem? (i := 168) rfl)⟩
theorem lw_p22 : lw_okq (⟨"SupplyGrid", "givenBy", "(I)J"⟩, 16) := ⟨⟨by decide +kernel, by decide +kernel⟩, lw_t1 (List.mem_of_getElem? (i := 31) rfl), lw_t3 (List.mem_of_getElem? (i := 234) rfl), lw_t3 (List.mem_of_getElem? (i := 235) rfl)⟩
theorem lw_p23 : lw_okq (⟨"SupplyGrid", "mostOf", "(I)J"⟩, 16) := ⟨⟨by decide +kernel, by decide +kernel⟩, lw_t1 (List.mem_of_getElem? (i := 31) rfl), lw_t4 (List.mem_of_getElem? (i := 68) rfl), lw_t4 (List.mem_of_getElem? (i := 69) rfl)⟩
theorem lw_p24 : lw_okq (⟨"SupplyGrid", "nextOf", "(II)I"⟩, 16) := ⟨⟨by decide +kernel, by decide +kernel⟩, lw_t1 (List.mem_of_getElem? (i := 31) rfl), lw_t4 (List.mem_of_getElem? (i := 73) rfl), lw_t4 (List.mem_of_getElem? (i := 74) rfl)⟩
theorem lw_p25 : lw_okq (⟨"SupplyGrid", "laysMosts", "()V"⟩, 16) := ⟨⟨by decide +kernel, by decide +kernel⟩, lw_t1 (List.mem_of_getElem? (i := 31) rfl), lw_t4 (List.mem_of_getElem? (i := 85) rfl), lw_t4 (List.mem_of_getElem? (i := 86) rfl)⟩
theorem lw_p26 : lw_okq (⟨"SupplyGrid", "feederOf", "(I)I"⟩, 16) := ⟨⟨by decide +kernel, by decide +kernel⟩, lw_t1 (List.mem_of_getElem? (i := 31) rfl), lw_t4 (List.mem_of_getElem? (i := 105) rfl), lw_t4 (List.mem_of_getElem? (i := 106) rfl)⟩
theorem lw_p27 : lw_okq (⟨"SupplyGrid", "ages", "(I)I"⟩, 16) := ⟨⟨by decide +kernel, by decide +kernel⟩, lw_t1 (List.mem_of_getElem? (i := 31) rfl), lw_t4 (List.mem_of_getElem? (i := 126) rfl), lw_t4 (List.mem_of_getElem? (i := 127) rfl)⟩
theorem lw_p28 : lw_okq (⟨"SupplyGrid", "bestPad", "(I)I"⟩, 16) := ⟨⟨by decide +kernel, by decide +kernel⟩, lw_t1 (List.mem_of_getElem? (i := 31) rfl), lw_t4 (List.mem_of_getElem? (i := 158) rfl), lw_t4 (List.mem_of_getElem? (i := 159) rfl)⟩
theorem lw_p29 : lw_okq (⟨"SupplyGrid", "withPads", "(I)LSupplyGrid$Solved;"⟩, 16) := ⟨⟨by decide +kernel, by decide +kernel⟩, lw_t1 (List.mem_of_getElem? (i := 31) rfl), lw_t4 (List.mem_of_getElem? (i := 162) rfl), lw_t4 (List.mem_of_getElem? (i := 163) rfl)⟩
theorem lw_p30 : lw_okq (⟨"SupplyGrid", "isBetter", "(LSupplyGrid$Solved;)Z"⟩, 16) := ⟨⟨by decide +kernel, by decide +kernel⟩, lw_t1 (List.mem_of_getElem? (i := 31) rfl), lw_t4 (List.mem_of_getElem? (i := 166) rfl), lw_t4 (List.mem_of_getElem? (i := 167) rfl)⟩
theorem lw_p31 : lw_okq (⟨"SupplyGrid", "keepsScore", "(LSupplyGrid$Solved;)V"⟩, 16) := ⟨⟨by decide +kernel, by decide +kernel⟩, lw_t1 (List.mem_of_getElem? (i := 31) rfl), lw_t4 (List.mem_of_getElem? (i := 179) rfl), lw_t4 (List.mem_of_getElem? (i := 180) rfl)⟩
def lw_privs_2 : List (MethodName × Nat) := [(⟨"SupplyGrid$Solved", "lays", "(II)V"⟩, 12), (⟨"SupplyGrid$Solved", "ties", "(III)V"⟩, 12), (⟨"SupplyGrid$Solved", "turns", "()V"⟩, 12), (⟨"SupplyGrid$Solved", "moves", "(II)J"⟩, 12), (⟨"SupplyGrid", "isStrap", "(I)Z"⟩, 16), (⟨"SupplyGrid", "isNode", "(I)Z"⟩, 16), (⟨"SupplyGrid", "givenBy", "(I)J"⟩, 16), (⟨"SupplyGrid", "mostOf", "(I)J"⟩, 16), (⟨"SupplyGrid", "nextOf", "(II)I"⟩, 16), (⟨"SupplyGrid", "laysMosts", "()V"⟩, 16), (⟨"SupplyGrid", "feederOf", "(I)I"⟩, 16), (⟨"SupplyGrid", "ages", "(I)I"⟩, 16), (⟨"SupplyGrid", "bestPad", "(I)I"⟩, 16), (⟨"SupplyGrid", "withPads", "(I)LSupplyGrid$Solved;"⟩, 16), (⟨"SupplyGrid", "isBetter", "(LSupplyGrid$Solved;)Z"⟩, 16), (⟨"SupplyGrid", "keepsScore", "(LSupplyGrid$Solved;)V"⟩, 16)]
theorem lw_r2 : ∀ q ∈ lw_privs_2, lw_okq q := List.forall_mem_cons.mpr ⟨lw_p16, List.forall_mem_cons.mpr ⟨lw_p17, List.forall_mem_cons.mpr ⟨lw_p18, List.forall_mem_cons.mpr ⟨lw_p19, List.forall_mem_cons.mpr ⟨lw_p20, List.forall_mem_cons.mpr ⟨lw_p21, List.forall_mem_cons.mpr ⟨lw_p22, List.forall_mem_cons.mpr ⟨lw_p23, List.forall_mem_cons.mpr ⟨lw_p24, List.forall_mem_cons.mpr ⟨lw_p25, List.forall_mem_cons.mpr ⟨lw_p26, List.forall_mem_cons.mpr ⟨lw_p27, List.forall_mem_cons.mpr ⟨lw_p28, List.forall_mem_cons.mpr ⟨lw_p29, List.forall_mem_cons.mpr ⟨lw_p30, List.forall_mem_cons.mpr ⟨lw_p31, fun _ h => absurd h List.not_mem_nil⟩⟩⟩⟩⟩⟩⟩⟩⟩⟩⟩⟩⟩⟩⟩⟩
theorem lw_p32 : lw_okq (⟨"SupplyGrid", "bestPads", "(I)I"⟩, 16) := ⟨⟨by decide +kernel, by decide +kernel⟩, lw_t1 (List.mem_of_getElem? (i := 31) rfl), lw_t4 (List.mem_of_getElem? (i := 188) rfl), lw_t4 (List.mem_of_getElem? (i := 189) rfl)⟩
theorem lw_p33 : lw_okq (⟨"SupplyGrid", "widensAll", "()I"⟩, 16) := ⟨⟨by decide +kernel, by decide +kernel⟩, lw_t1 (List.mem_of_getElem? (i := 31) rfl), lw_t4 (List.mem_of_getElem? (i := 205) rfl), lw_t4 (List.mem_of_getElem? (i := 206) rfl)⟩
theorem lw_p34 : lw_okq (⟨"SupplyGrid", "bestWider", "()I"⟩, 16) := ⟨⟨by decide +kernel, by decide +kernel⟩, lw_t1 (List.mem_of_getElem? (i := 31) rfl), lw_t4 (List.mem_of_getElem? (i := 209) rfl), lw_t4 (List.mem_of_getElem? (i := 210) rfl)⟩
theorem lw_p35 : lw_okq (⟨"SupplyGrid", "fewestOf", "()I"⟩, 16) := ⟨⟨by decide +kernel, by decide +kernel⟩, lw_t1 (List.mem_of_getElem? (i := 31) rfl), lw_t4 (List.mem_of_getElem? (i := 225) rfl), lw_t4 (List.mem_of_getElem? (i := 226) rfl)⟩
theorem lw_p36 : lw_okq (⟨"SupplyGrid", "canDo", "(III)Z"⟩, 16) := ⟨⟨by decide +kernel, by decide +kernel⟩, lw_t1 (List.mem_of_getElem? (i := 31) rfl), lw_t4 (List.mem_of_getElem? (i := 229) rfl), lw_t4 (List.mem_of_getElem? (i := 230) rfl)⟩
theorem lw_p37 : lw_okq (⟨"SupplyGrid", "bestNarrower", "()I"⟩, 16) := ⟨⟨by decide +kernel, by decide +kernel⟩, lw_t1 (List.mem_of_getElem? (i := 31) rfl), lw_t5 (List.mem_of_getElem? (i := 1) rfl), lw_t5 (List.mem_of_getElem? (i := 2) rfl)⟩
theorem lw_p38 : lw_okq (⟨"SupplyGrid", "without", "(I)LSupplyGrid$Solved;"⟩, 16) := ⟨⟨by decide +kernel, by decide +kernel⟩, lw_t1 (List.mem_of_getElem? (i := 31) rfl), lw_t5 (List.mem_of_getElem? (i := 14) rfl), lw_t5 (List.mem_of_getElem? (i := 15) rfl)⟩
theorem lw_p39 : lw_okq (⟨"SupplyGrid", "isWorse", "(LSupplyGrid$Solved;)Z"⟩, 16) := ⟨⟨by decide +kernel, by decide +kernel⟩, lw_t1 (List.mem_of_getElem? (i := 31) rfl), lw_t5 (List.mem_of_getElem? (i := 26) rfl), lw_t5 (List.mem_of_getElem? (i := 27) rfl)⟩
theorem lw_p40 : lw_okq (⟨"SupplyGrid", "pairsOf", "(I)I"⟩, 16) := ⟨⟨by decide +kernel, by decide +kernel⟩, lw_t1 (List.mem_of_getElem? (i := 31) rfl), lw_t5 (List.mem_of_getElem? (i := 38) rfl), lw_t5 (List.mem_of_getElem? (i := 39) rfl)⟩
theorem lw_p41 : lw_okq (⟨"SupplyGrid", "isPair", "(II)Z"⟩, 16) := ⟨⟨by decide +kernel, by decide +kernel⟩, lw_t1 (List.mem_of_getElem? (i := 31) rfl), lw_t5 (List.mem_of_getElem? (i := 42) rfl), lw_t5 (List.mem_of_getElem? (i := 43) rfl)⟩
theorem lw_p42 : lw_okq (⟨"SupplyGrid", "byDraws", "()LSupplyGrid$Solved;"⟩, 16) := ⟨⟨by decide +kernel, by decide +kernel⟩, lw_t1 (List.mem_of_getElem? (i := 31) rfl), lw_t5 (List.mem_of_getElem? (i := 54) rfl), lw_t5 (List.mem_of_getElem? (i := 55) rfl)⟩
theorem lw_p43 : lw_okq (⟨"SupplyGrid", "draw", "(I)I"⟩, 16) := ⟨⟨by decide +kernel, by decide +kernel⟩, lw_t1 (List.mem_of_getElem? (i := 31) rfl), lw_t5 (List.mem_of_getElem? (i := 58) rfl), lw_t5 (List.mem_of_getElem? (i := 59) rfl)⟩
theorem lw_p44 : lw_okq (⟨"SupplyGrid", "isFull", "()Z"⟩, 16) := ⟨⟨by decide +kernel, by decide +kernel⟩, lw_t1 (List.mem_of_getElem? (i := 31) rfl), lw_t5 (List.mem_of_getElem? (i := 79) rfl), lw_t5 (List.mem_of_getElem? (i := 80) rfl)⟩
theorem lw_p45 : lw_okq (⟨"java/util/ArrayList", "add", "(Ljava/lang/Object;[Ljava/lang/Object;I)V"⟩, 3) := ⟨⟨by decide +kernel, by decide +kernel⟩, lw_t1 (List.mem_of_getElem? (i := 45) rfl), lw_t5 (List.mem_of_getElem? (i := 101) rfl), lw_t5 (List.mem_of_getElem? (i := 102) rfl)⟩
theorem lw_p46 : lw_okq (⟨"java/util/ArrayList", "grow", "()[Ljava/lang/Object;"⟩, 3) := ⟨⟨by decide +kernel, by decide +kernel⟩, lw_t1 (List.mem_of_getElem? (i := 45) rfl), lw_t5 (List.mem_of_getElem? (i := 105) rfl), lw_t5 (List.mem_of_getElem? (i := 106) rfl)⟩
theorem lw_p47 : lw_okq (⟨"java/util/ArrayList", "grow", "(I)[Ljava/lang/Object;"⟩, 3) := ⟨⟨by decide +kernel, by decide +kernel⟩, lw_t1 (List.mem_of_getElem? (i := 45) rfl), lw_t5 (List.mem_of_getElem? (i := 109) rfl), lw_t5 (List.mem_of_getElem? (i := 110) rfl)⟩
def lw_privs_3 : List (MethodName × Nat) := [(⟨"SupplyGrid", "bestPads", "(I)I"⟩, 16), (⟨"SupplyGrid", "widensAll", "()I"⟩, 16), (⟨"SupplyGrid", "bestWider", "()I"⟩, 16), (⟨"SupplyGrid", "fewestOf", "()I"⟩, 16), (⟨"SupplyGrid", "canDo", "(III)Z"⟩, 16), (⟨"SupplyGrid", "bestNarrower", "()I"⟩, 16), (⟨"SupplyGrid", "without", "(I)LSupplyGrid$Solved;"⟩, 16), (⟨"SupplyGrid", "isWorse", "(LSupplyGrid$Solved;)Z"⟩, 16), (⟨"SupplyGrid", "pairsOf", "(I)I"⟩, 16), (⟨"SupplyGrid", "isPair", "(II)Z"⟩, 16), (⟨"SupplyGrid", "byDraws", "()LSupplyGrid$Solved;"⟩, 16), (⟨"SupplyGrid", "draw", "(I)I"⟩, 16), (⟨"SupplyGrid", "isFull", "()Z"⟩, 16), (⟨"java/util/ArrayList", "add", "(Ljava/lang/Object;[Ljava/lang/Object;I)V"⟩, 3), (⟨"java/util/ArrayList", "grow", "()[Ljava/lang/Object;"⟩, 3), (⟨"java/util/ArrayList", "grow", "(I)[Ljava/lang/Object;"⟩, 3)]
theorem lw_r3 : ∀ q ∈ lw_privs_3, lw_okq q := List.forall_mem_cons.mpr ⟨lw_p32, List.forall_mem_cons.mpr ⟨lw_p33, List.forall_mem_cons.mpr ⟨lw_p34, List.forall_mem_cons.mpr ⟨lw_p35, List.forall_mem_cons.mpr ⟨lw_p36, List.forall_mem_cons.mpr ⟨lw_p37, List.forall_mem_cons.mpr ⟨lw_p38, List.forall_mem_cons.mpr ⟨lw_p39, List.forall_mem_cons.mpr ⟨lw_p40, List.forall_mem_cons.mpr ⟨lw_p41, List.forall_mem_cons.mpr ⟨lw_p42, List.forall_mem_cons.mpr ⟨lw_p43, List.forall_mem_cons.mpr ⟨lw_p44, List.forall_mem_cons.mpr ⟨lw_p45, List.forall_mem_cons.mpr ⟨lw_p46, List.forall_mem_cons.mpr ⟨lw_p47, fun _ h => absurd h List.not_mem_nil⟩⟩⟩⟩⟩⟩⟩⟩⟩⟩⟩⟩⟩⟩⟩⟩
theorem lw_p48 : lw_okq (⟨"SupplyGrid", "takesBack", "()V"⟩, 16) := ⟨⟨by decide +kernel, by decide +kernel⟩, lw_t1 (List.mem_of_getElem? (i := 31) rfl), lw_t6 (List.mem_of_getElem? (i := 18) rfl), lw_t6 (List.mem_of_getElem? (i := 19) rfl)⟩
theorem lw_p49 : lw_okq (⟨"java/util/ArrayList", "fastRemove", "([Ljava/lang/Object;I)V"⟩, 3) := ⟨⟨by decide +kernel, by decide +kernel⟩, lw_t1 (List.mem_of_getElem? (i := 45) rfl), lw_t6 (List.mem_of_getElem? (i := 26) rfl), lw_t6 (List.mem_of_getElem? (i := 27) rfl)⟩
theorem lw_p50 : lw_okq (⟨"SupplyGridModel", "advance", "()V"⟩, 38) := ⟨⟨by decide +kernel, by decide +kernel⟩, lw_t6 (List.mem_of_getElem? (i := 63) rfl), lw_t6 (List.mem_of_getElem? (i := 212) rfl), lw_t6 (List.mem_of_getElem? (i := 213) rfl)⟩
theorem lw_p51 : lw_okq (⟨"SupplyGridModel", "see", "(I)I"⟩, 38) := ⟨⟨by decide +kernel, by decide +kernel⟩, lw_t6 (List.mem_of_getElem? (i := 63) rfl), lw_t6 (List.mem_of_getElem? (i := 216) rfl), lw_t6 (List.mem_of_getElem? (i := 217) rfl)⟩
theorem lw_p52 : lw_okq (⟨"SupplyGridModel", "good", "()Z"⟩, 38) := ⟨⟨by decide +kernel, by decide +kernel⟩, lw_t6 (List.mem_of_getElem? (i := 63) rfl), lw_t6 (List.mem_of_getElem? (i := 226) rfl), lw_t6 (List.mem_of_getElem? (i := 227) rfl)⟩
theorem lw_p53 : lw_okq (⟨"SupplyGridModel", "readText", "()V"⟩, 38) := ⟨⟨by decide +kernel, by decide +kernel⟩, lw_t6 (List.mem_of_getElem? (i := 63) rfl), lw_t6 (List.mem_of_getElem? (i := 230) rfl), lw_t6 (List.mem_of_getElem? (i := 231) rfl)⟩
theorem lw_p54 : lw_okq (⟨"SupplyGridModel", "readFirst", "()V"⟩, 38) := ⟨⟨by decide +kernel, by decide +kernel⟩, lw_t6 (List.mem_of_getElem? (i := 63) rfl), lw_t6 (List.mem_of_getElem? (i := 234) rfl), lw_t6 (List.mem_of_getElem? (i := 235) rfl)⟩
theorem lw_p55 : lw_okq (⟨"SupplyGridModel", "expects", "(Ljava/lang/String;)V"⟩, 38) := ⟨⟨by decide +kernel, by decide +kernel⟩, lw_t6 (List.mem_of_getElem? (i := 63) rfl), lw_t6 (List.mem_of_getElem? (i := 239) rfl), lw_t7 (List.mem_of_getElem? (i := 0) rfl)⟩
theorem lw_p56 : lw_okq (⟨"SupplyGridModel", "is", "(Ljava/lang/String;)Z"⟩, 38) := ⟨⟨by decide +kernel, by decide +kernel⟩, lw_t6 (List.mem_of_getElem? (i := 63) rfl), lw_t7 (List.mem_of_getElem? (i := 3) rfl), lw_t7 (List.mem_of_getElem? (i := 4) rfl)⟩
theorem lw_p57 : lw_okq (⟨"SupplyGridModel", "errs", "(I)V"⟩, 38) := ⟨⟨by decide +kernel, by decide +kernel⟩, lw_t6 (List.mem_of_getElem? (i := 63) rfl), lw_t7 (List.mem_of_getElem? (i := 9) rfl), lw_t7 (List.mem_of_getElem? (i := 10) rfl)⟩
theorem lw_p58 : lw_okq (⟨"SupplyGridModel", "told", "(Ljava/lang/String;II)I"⟩, 38) := ⟨⟨by decide +kernel, by decide +kernel⟩, lw_t6 (List.mem_of_getElem? (i := 63) rfl), lw_t7 (List.mem_of_getElem? (i := 14) rfl), lw_t7 (List.mem_of_getElem? (i := 15) rfl)⟩
theorem lw_p59 : lw_okq (⟨"SupplyGridModel", "takes", "(II)I"⟩, 38) := ⟨⟨by decide +kernel, by decide +kernel⟩, lw_t6 (List.mem_of_getElem? (i := 63) rfl), lw_t7 (List.mem_of_getElem? (i := 18) rfl), lw_t7 (List.mem_of_getElem? (i := 19) rfl)⟩
theorem lw_p60 : lw_okq (⟨"SupplyGridModel", "laysStraps", "(II)V"⟩, 38) := ⟨⟨by decide +kernel, by decide +kernel⟩, lw_t6 (List.mem_of_getElem? (i := 63) rfl), lw_t7 (List.mem_of_getElem? (i := 27) rfl), lw_t7 (List.mem_of_getElem? (i := 28) rfl)⟩
theorem lw_p61 : lw_okq (⟨"SupplyGridModel", "addsStrap", "(II)V"⟩, 38) := ⟨⟨by decide +kernel, by decide +kernel⟩, lw_t6 (List.mem_of_getElem? (i := 63) rfl), lw_t7 (List.mem_of_getElem? (i := 31) rfl), lw_t7 (List.mem_of_getElem? (i := 32) rfl)⟩
theorem lw_p62 : lw_okq (⟨"SupplyGridModel", "readLine", "()V"⟩, 38) := ⟨⟨by decide +kernel, by decide +kernel⟩, lw_t6 (List.mem_of_getElem? (i := 63) rfl), lw_t7 (List.mem_of_getElem? (i := 35) rfl), lw_t7 (List.mem_of_getElem? (i := 36) rfl)⟩
theorem lw_p63 : lw_okq (⟨"SupplyGridModel", "readStrap", "()V"⟩, 38) := ⟨⟨by decide +kernel, by decide +kernel⟩, lw_t6 (List.mem_of_getElem? (i := 63) rfl), lw_t7 (List.mem_of_getElem? (i := 40) rfl), lw_t7 (List.mem_of_getElem? (i := 41) rfl)⟩
def lw_privs_4 : List (MethodName × Nat) := [(⟨"SupplyGrid", "takesBack", "()V"⟩, 16), (⟨"java/util/ArrayList", "fastRemove", "([Ljava/lang/Object;I)V"⟩, 3), (⟨"SupplyGridModel", "advance", "()V"⟩, 38), (⟨"SupplyGridModel", "see", "(I)I"⟩, 38), (⟨"SupplyGridModel", "good", "()Z"⟩, 38), (⟨"SupplyGridModel", "readText", "()V"⟩, 38), (⟨"SupplyGridModel", "readFirst", "()V"⟩, 38), (⟨"SupplyGridModel", "expects", "(Ljava/lang/String;)V"⟩, 38), (⟨"SupplyGridModel", "is", "(Ljava/lang/String;)Z"⟩, 38), (⟨"SupplyGridModel", "errs", "(I)V"⟩, 38), (⟨"SupplyGridModel", "told", "(Ljava/lang/String;II)I"⟩, 38), (⟨"SupplyGridModel", "takes", "(II)I"⟩, 38), (⟨"SupplyGridModel", "laysStraps", "(II)V"⟩, 38), (⟨"SupplyGridModel", "addsStrap", "(II)V"⟩, 38), (⟨"SupplyGridModel", "readLine", "()V"⟩, 38), (⟨"SupplyGridModel", "readStrap", "()V"⟩, 38)]
theorem lw_r4 : ∀ q ∈ lw_privs_4, lw_okq q := List.forall_mem_cons.mpr ⟨lw_p48, List.forall_mem_cons.mpr ⟨lw_p49, List.forall_mem_cons.mpr ⟨lw_p50, List.forall_mem_cons.mpr ⟨lw_p51, List.forall_mem_cons.mpr ⟨lw_p52, List.forall_mem_cons.mpr ⟨lw_p53, List.forall_mem_cons.mpr ⟨lw_p54, List.forall_mem_cons.mpr ⟨lw_p55, List.forall_mem_cons.mpr ⟨lw_p56, List.forall_mem_cons.mpr ⟨lw_p57, List.forall_mem_cons.mpr ⟨lw_p58, List.forall_mem_cons.mpr ⟨lw_p59, List.forall_mem_cons.mpr ⟨lw_p60, List.forall_mem_cons.mpr ⟨lw_p61, List.forall_mem_cons.mpr ⟨lw_p62, List.forall_mem_cons.mpr ⟨lw_p63, fun _ h => absurd h List.not_mem_nil⟩⟩⟩⟩⟩⟩⟩⟩⟩⟩⟩⟩⟩⟩⟩⟩
theorem lw_p64 : lw_okq (⟨"SupplyGridModel", "readPlace", "(I)I"⟩, 38) := ⟨⟨by decide +kernel, by decide +kernel⟩, lw_t6 (List.mem_of_getElem? (i := 63) rfl), lw_t7 (List.mem_of_getElem? (i := 44) rfl), lw_t7 (List.mem_of_getElem? (i := 45) rfl)⟩
theorem lw_p65 : lw_okq (⟨"SupplyGridModel", "strapOf", "(II)I"⟩, 38) := ⟨⟨by decide +kernel, by decide +kernel⟩, lw_t6 (List.mem_of_getElem? (i := 63) rfl), lw_t7 (List.mem_of_getElem? (i := 54) rfl), lw_t7 (List.mem_of_getElem? (i := 55) rfl)⟩
theorem lw_p66 : lw_okq (⟨"SupplyGridModel", "readLoad", "()V"⟩, 38) := ⟨⟨by decide +kernel, by decide +kernel⟩, lw_t6 (List.mem_of_getElem? (i := 63) rfl), lw_t7 (List.mem_of_getElem? (i := 61) rfl), lw_t7 (List.mem_of_getElem? (i := 62) rfl)⟩
theorem lw_p67 : lw_okq (⟨"SupplyGridModel", "readBudget", "()V"⟩, 38) := ⟨⟨by decide +kernel, by decide +kernel⟩, lw_t6 (List.mem_of_getElem? (i := 63) rfl), lw_t7 (List.mem_of_getElem? (i := 68) rfl), lw_t7 (List.mem_of_getElem? (i := 69) rfl)⟩
theorem lw_p68 : lw_okq (⟨"SupplyGridModel", "straps", "()I"⟩, 38) := ⟨⟨by decide +kernel, by decide +kernel⟩, lw_t6 (List.mem_of_getElem? (i := 63) rfl), lw_t7 (List.mem_of_getElem? (i := 77) rfl), lw_t7 (List.mem_of_getElem? (i := 78) rfl)⟩
theorem lw_p69 : lw_okq (⟨"SupplyGridModel", "isGrid", "()Z"⟩, 38) := ⟨⟨by decide +kernel, by decide +kernel⟩, lw_t6 (List.mem_of_getElem? (i := 63) rfl), lw_t7 (List.mem_of_getElem? (i := 81) rfl), lw_t7 (List.mem_of_getElem? (i := 82) rfl)⟩
theorem lw_p70 : lw_okq (⟨"SupplyGridModel", "asks", "()Z"⟩, 38) := ⟨⟨by decide +kernel, by decide +kernel⟩, lw_t6 (List.mem_of_getElem? (i := 63) rfl), lw_t7 (List.mem_of_getElem? (i := 85) rfl), lw_t7 (List.mem_of_getElem? (i := 86) rfl)⟩
theorem lw_p71 : lw_okq (⟨"SupplyGridModel", "lays", "()V"⟩, 38) := ⟨⟨by decide +kernel, by decide +kernel⟩, lw_t6 (List.mem_of_getElem? (i := 63) rfl), lw_t7 (List.mem_of_getElem? (i := 89) rfl), lw_t7 (List.mem_of_getElem? (i := 90) rfl)⟩
theorem lw_p72 : lw_okq (⟨"SupplyGridModel", "solves", "(I)V"⟩, 38) := ⟨⟨by decide +kernel, by decide +kernel⟩, lw_t6 (List.mem_of_getElem? (i := 63) rfl), lw_t7 (List.mem_of_getElem? (i := 93) rfl), lw_t7 (List.mem_of_getElem? (i := 94) rfl)⟩
theorem lw_p73 : lw_okq (⟨"SupplyGridModel", "nodes", "()I"⟩, 38) := ⟨⟨by decide +kernel, by decide +kernel⟩, lw_t6 (List.mem_of_getElem? (i := 63) rfl), lw_t7 (List.mem_of_getElem? (i := 97) rfl), lw_t7 (List.mem_of_getElem? (i := 98) rfl)⟩
theorem lw_p74 : lw_okq (⟨"SupplyGridModel", "comesTo", "(I)I"⟩, 38) := ⟨⟨by decide +kernel, by decide +kernel⟩, lw_t6 (List.mem_of_getElem? (i := 63) rfl), lw_t7 (List.mem_of_getElem? (i := 104) rfl), lw_t7 (List.mem_of_getElem? (i := 105) rfl)⟩
theorem lw_p75 : lw_okq (⟨"SupplyGridModel", "laysCells", "()V"⟩, 38) := ⟨⟨by decide +kernel, by decide +kernel⟩, lw_t6 (List.mem_of_getElem? (i := 63) rfl), lw_t7 (List.mem_of_getElem? (i := 108) rfl), lw_t7 (List.mem_of_getElem? (i := 109) rfl)⟩
theorem lw_p76 : lw_okq (⟨"SupplyGridModel", "brings", "()V"⟩, 38) := ⟨⟨by decide +kernel, by decide +kernel⟩, lw_t6 (List.mem_of_getElem? (i := 63) rfl), lw_t7 (List.mem_of_getElem? (i := 112) rfl), lw_t7 (List.mem_of_getElem? (i := 113) rfl)⟩
theorem lw_p77 : lw_okq (⟨"SupplyGridModel", "isStrap", "(I)Z"⟩, 38) := ⟨⟨by decide +kernel, by decide +kernel⟩, lw_t6 (List.mem_of_getElem? (i := 63) rfl), lw_t7 (List.mem_of_getElem? (i := 120) rfl), lw_t7 (List.mem_of_getElem? (i := 121) rfl)⟩
theorem lw_p78 : lw_okq (⟨"SupplyGridModel", "isNode", "(I)Z"⟩, 38) := ⟨⟨by decide +kernel, by decide +kernel⟩, lw_t6 (List.mem_of_getElem? (i := 63) rfl), lw_t7 (List.mem_of_getElem? (i := 128) rfl), lw_t7 (List.mem_of_getElem? (i := 129) rfl)⟩
theorem lw_p79 : lw_okq (⟨"SupplyGridModel", "isDead", "(I)Z"⟩, 38) := ⟨⟨by decide +kernel, by decide +kernel⟩, lw_t6 (List.mem_of_getElem? (i := 63) rfl), lw_t7 (List.mem_of_getElem? (i := 137) rfl), lw_t7 (List.mem_of_getElem? (i := 138) rfl)⟩
def lw_privs_5 : List (MethodName × Nat) := [(⟨"SupplyGridModel", "readPlace", "(I)I"⟩, 38), (⟨"SupplyGridModel", "strapOf", "(II)I"⟩, 38), (⟨"SupplyGridModel", "readLoad", "()V"⟩, 38), (⟨"SupplyGridModel", "readBudget", "()V"⟩, 38), (⟨"SupplyGridModel", "straps", "()I"⟩, 38), (⟨"SupplyGridModel", "isGrid", "()Z"⟩, 38), (⟨"SupplyGridModel", "asks", "()Z"⟩, 38), (⟨"SupplyGridModel", "lays", "()V"⟩, 38), (⟨"SupplyGridModel", "solves", "(I)V"⟩, 38), (⟨"SupplyGridModel", "nodes", "()I"⟩, 38), (⟨"SupplyGridModel", "comesTo", "(I)I"⟩, 38), (⟨"SupplyGridModel", "laysCells", "()V"⟩, 38), (⟨"SupplyGridModel", "brings", "()V"⟩, 38), (⟨"SupplyGridModel", "isStrap", "(I)Z"⟩, 38), (⟨"SupplyGridModel", "isNode", "(I)Z"⟩, 38), (⟨"SupplyGridModel", "isDead", "(I)Z"⟩, 38)]
theorem lw_r5 : ∀ q ∈ lw_privs_5, lw_okq q := List.forall_mem_cons.mpr ⟨lw_p64, List.forall_mem_cons.mpr ⟨lw_p65, List.forall_mem_cons.mpr ⟨lw_p66, List.forall_mem_cons.mpr ⟨lw_p67, List.forall_mem_cons.mpr ⟨lw_p68, List.forall_mem_cons.mpr ⟨lw_p69, List.forall_mem_cons.mpr ⟨lw_p70, List.forall_mem_cons.mpr ⟨lw_p71, List.forall_mem_cons.mpr ⟨lw_p72, List.forall_mem_cons.mpr ⟨lw_p73, List.forall_mem_cons.mpr ⟨lw_p74, List.forall_mem_cons.mpr ⟨lw_p75, List.forall_mem_cons.mpr ⟨lw_p76, List.forall_mem_cons.mpr ⟨lw_p77, List.forall_mem_cons.mpr ⟨lw_p78, List.forall_mem_cons.mpr ⟨lw_p79, fun _ h => absurd h List.not_mem_nil⟩⟩⟩⟩⟩⟩⟩⟩⟩⟩⟩⟩⟩⟩⟩⟩
theorem lw_p80 : lw_okq (⟨"SupplyGridModel", "dropOf", "(I)J"⟩, 38) := ⟨⟨by decide +kernel, by decide +kernel⟩, lw_t6 (List.mem_of_getElem? (i := 63) rfl), lw_t7 (List.mem_of_getElem? (i := 154) rfl), lw_t7 (List.mem_of_getElem? (i := 155) rfl)⟩
theorem lw_p81 : lw_okq (⟨"SupplyGridModel", "movesOf", "(II)J"⟩, 38) := ⟨⟨by decide +kernel, by decide +kernel⟩, lw_t6 (List.mem_of_getElem? (i := 63) rfl), lw_t7 (List.mem_of_getElem? (i := 158) rfl), lw_t7 (List.mem_of_getElem? (i := 159) rfl)⟩
theorem lw_p82 : lw_okq (⟨"SupplyGridModel", "throughOf", "(I)J"⟩, 38) := ⟨⟨by decide +kernel, by decide +kernel⟩, lw_t6 (List.mem_of_getElem? (i := 63) rfl), lw_t7 (List.mem_of_getElem? (i := 174) rfl), lw_t7 (List.mem_of_getElem? (i := 175) rfl)⟩
theorem lw_p83 : lw_okq (⟨"SupplyGridModel", "givesOf", "(I)J"⟩, 38) := ⟨⟨by decide +kernel, by decide +kernel⟩, lw_t6 (List.mem_of_getElem? (i := 63) rfl), lw_t7 (List.mem_of_getElem? (i := 182) rfl), lw_t7 (List.mem_of_getElem? (i := 183) rfl)⟩
theorem lw_p84 : lw_okq (⟨"SupplyGridModel", "mostDrop", "()J"⟩, 38) := ⟨⟨by decide +kernel, by decide +kernel⟩, lw_t6 (List.mem_of_getElem? (i := 63) rfl), lw_t7 (List.mem_of_getElem? (i := 198) rfl), lw_t7 (List.mem_of_getElem? (i := 199) rfl)⟩
theorem lw_p85 : lw_okq (⟨"SupplyGridModel", "doesHold", "()Z"⟩, 38) := ⟨⟨by decide +kernel, by decide +kernel⟩, lw_t6 (List.mem_of_getElem? (i := 63) rfl), lw_t7 (List.mem_of_getElem? (i := 213) rfl), lw_t7 (List.mem_of_getElem? (i := 214) rfl)⟩
theorem lw_p86 : lw_okq (⟨"SupplyGridModel", "deadLoads", "()I"⟩, 38) := ⟨⟨by decide +kernel, by decide +kernel⟩, lw_t6 (List.mem_of_getElem? (i := 63) rfl), lw_t7 (List.mem_of_getElem? (i := 217) rfl), lw_t7 (List.mem_of_getElem? (i := 218) rfl)⟩
theorem lw_p87 : lw_okq (⟨"SupplyGridModel", "feederOf", "(I)I"⟩, 38) := ⟨⟨by decide +kernel, by decide +kernel⟩, lw_t6 (List.mem_of_getElem? (i := 63) rfl), lw_t8 (List.mem_of_getElem? (i := 1) rfl), lw_t8 (List.mem_of_getElem? (i := 2) rfl)⟩
theorem lw_p88 : lw_okq (⟨"SupplyGridModel", "comesBy", "(II)J"⟩, 38) := ⟨⟨by decide +kernel, by decide +kernel⟩, lw_t6 (List.mem_of_getElem? (i := 63) rfl), lw_t8 (List.mem_of_getElem? (i := 5) rfl), lw_t8 (List.mem_of_getElem? (i := 6) rfl)⟩
theorem lw_p89 : lw_okq (⟨"SupplyGridModel", "mostOf", "(I)J"⟩, 38) := ⟨⟨by decide +kernel, by decide +kernel⟩, lw_t6 (List.mem_of_getElem? (i := 63) rfl), lw_t8 (List.mem_of_getElem? (i := 21) rfl), lw_t8 (List.mem_of_getElem? (i := 22) rfl)⟩
theorem lw_p90 : lw_okq (⟨"SupplyGridModel", "draws", "(I)V"⟩, 38) := ⟨⟨by decide +kernel, by decide +kernel⟩, lw_t6 (List.mem_of_getElem? (i := 63) rfl), lw_t8 (List.mem_of_getElem? (i := 25) rfl), lw_t8 (List.mem_of_getElem? (i := 26) rfl)⟩
theorem lw_p91 : lw_okq (⟨"SupplyGridModel", "isAhead", "(III)Z"⟩, 38) := ⟨⟨by decide +kernel, by decide +kernel⟩, lw_t6 (List.mem_of_getElem? (i := 63) rfl), lw_t8 (List.mem_of_getElem? (i := 29) rfl), lw_t8 (List.mem_of_getElem? (i := 30) rfl)⟩
theorem lw_p92 : lw_okq (⟨"SupplyGridModel", "heatOf", "(I)J"⟩, 38) := ⟨⟨by decide +kernel, by decide +kernel⟩, lw_t6 (List.mem_of_getElem? (i := 63) rfl), lw_t8 (List.mem_of_getElem? (i := 53) rfl), lw_t8 (List.mem_of_getElem? (i := 54) rfl)⟩
theorem lw_p93 : lw_okq (⟨"SupplyGridModel", "wears", "()I"⟩, 38) := ⟨⟨by decide +kernel, by decide +kernel⟩, lw_t6 (List.mem_of_getElem? (i := 63) rfl), lw_t8 (List.mem_of_getElem? (i := 65) rfl), lw_t8 (List.mem_of_getElem? (i := 66) rfl)⟩
theorem lw_p94 : lw_okq (⟨"SupplyGridModel", "puts", "()V"⟩, 38) := ⟨⟨by decide +kernel, by decide +kernel⟩, lw_t6 (List.mem_of_getElem? (i := 63) rfl), lw_t8 (List.mem_of_getElem? (i := 74) rfl), lw_t8 (List.mem_of_getElem? (i := 75) rfl)⟩
theorem lw_p95 : lw_okq (⟨"SupplyGridModel", "ages", "()I"⟩, 38) := ⟨⟨by decide +kernel, by decide +kernel⟩, lw_t6 (List.mem_of_getElem? (i := 63) rfl), lw_t8 (List.mem_of_getElem? (i := 78) rfl), lw_t8 (List.mem_of_getElem? (i := 79) rfl)⟩
def lw_privs_6 : List (MethodName × Nat) := [(⟨"SupplyGridModel", "dropOf", "(I)J"⟩, 38), (⟨"SupplyGridModel", "movesOf", "(II)J"⟩, 38), (⟨"SupplyGridModel", "throughOf", "(I)J"⟩, 38), (⟨"SupplyGridModel", "givesOf", "(I)J"⟩, 38), (⟨"SupplyGridModel", "mostDrop", "()J"⟩, 38), (⟨"SupplyGridModel", "doesHold", "()Z"⟩, 38), (⟨"SupplyGridModel", "deadLoads", "()I"⟩, 38), (⟨"SupplyGridModel", "feederOf", "(I)I"⟩, 38), (⟨"SupplyGridModel", "comesBy", "(II)J"⟩, 38), (⟨"SupplyGridModel", "mostOf", "(I)J"⟩, 38), (⟨"SupplyGridModel", "draws", "(I)V"⟩, 38), (⟨"SupplyGridModel", "isAhead", "(III)Z"⟩, 38), (⟨"SupplyGridModel", "heatOf", "(I)J"⟩, 38), (⟨"SupplyGridModel", "wears", "()I"⟩, 38), (⟨"SupplyGridModel", "puts", "()V"⟩, 38), (⟨"SupplyGridModel", "ages", "()I"⟩, 38)]
theorem lw_r6 : ∀ q ∈ lw_privs_6, lw_okq q := List.forall_mem_cons.mpr ⟨lw_p80, List.forall_mem_cons.mpr ⟨lw_p81, List.forall_mem_cons.mpr ⟨lw_p82, List.forall_mem_cons.mpr ⟨lw_p83, List.forall_mem_cons.mpr ⟨lw_p84, List.forall_mem_cons.mpr ⟨lw_p85, List.forall_mem_cons.mpr ⟨lw_p86, List.forall_mem_cons.mpr ⟨lw_p87, List.forall_mem_cons.mpr ⟨lw_p88, List.forall_mem_cons.mpr ⟨lw_p89, List.forall_mem_cons.mpr ⟨lw_p90, List.forall_mem_cons.mpr ⟨lw_p91, List.forall_mem_cons.mpr ⟨lw_p92, List.forall_mem_cons.mpr ⟨lw_p93, List.forall_mem_cons.mpr ⟨lw_p94, List.forall_mem_cons.mpr ⟨lw_p95, fun _ h => absurd h List.not_mem_nil⟩⟩⟩⟩⟩⟩⟩⟩⟩⟩⟩⟩⟩⟩⟩⟩
theorem lw_p96 : lw_okq (⟨"SupplyGridModel", "takesOut", "()V"⟩, 38) := ⟨⟨by decide +kernel, by decide +kernel⟩, lw_t6 (List.mem_of_getElem? (i := 63) rfl), lw_t8 (List.mem_of_getElem? (i := 82) rfl), lw_t8 (List.mem_of_getElem? (i := 83) rfl)⟩
theorem lw_p97 : lw_okq (⟨"SupplyGridModel", "nextPad", "()I"⟩, 38) := ⟨⟨by decide +kernel, by decide +kernel⟩, lw_t6 (List.mem_of_getElem? (i := 63) rfl), lw_t8 (List.mem_of_getElem? (i := 102) rfl), lw_t8 (List.mem_of_getElem? (i := 103) rfl)⟩
theorem lw_p98 : lw_okq (⟨"SupplyGridModel", "beginsWithout", "()V"⟩, 38) := ⟨⟨by decide +kernel, by decide +kernel⟩, lw_t6 (List.mem_of_getElem? (i := 63) rfl), lw_t8 (List.mem_of_getElem? (i := 106) rfl), lw_t8 (List.mem_of_getElem? (i := 107) rfl)⟩
theorem lw_p99 : lw_okq (⟨"SupplyGridModel", "scores", "()I"⟩, 38) := ⟨⟨by decide +kernel, by decide +kernel⟩, lw_t6 (List.mem_of_getElem? (i := 63) rfl), lw_t8 (List.mem_of_getElem? (i := 110) rfl), lw_t8 (List.mem_of_getElem? (i := 111) rfl)⟩
theorem lw_p100 : lw_okq (⟨"SupplyGridModel", "keeps", "()V"⟩, 38) := ⟨⟨by decide +kernel, by decide +kernel⟩, lw_t6 (List.mem_of_getElem? (i := 63) rfl), lw_t8 (List.mem_of_getElem? (i := 117) rfl), lw_t8 (List.mem_of_getElem? (i := 118) rfl)⟩
theorem lw_p101 : lw_okq (⟨"SupplyGridModel", "bestPads", "(I)I"⟩, 38) := ⟨⟨by decide +kernel, by decide +kernel⟩, lw_t6 (List.mem_of_getElem? (i := 63) rfl), lw_t8 (List.mem_of_getElem? (i := 125) rfl), lw_t8 (List.mem_of_getElem? (i := 126) rfl)⟩
theorem lw_p102 : lw_okq (⟨"SupplyGridModel", "laysWidened", "()Z"⟩, 38) := ⟨⟨by decide +kernel, by decide +kernel⟩, lw_t6 (List.mem_of_getElem? (i := 63) rfl), lw_t8 (List.mem_of_getElem? (i := 144) rfl), lw_t8 (List.mem_of_getElem? (i := 145) rfl)⟩
theorem lw_p103 : lw_okq (⟨"SupplyGridModel", "widensAll", "()V"⟩, 38) := ⟨⟨by decide +kernel, by decide +kernel⟩, lw_t6 (List.mem_of_getElem? (i := 63) rfl), lw_t8 (List.mem_of_getElem? (i := 148) rfl), lw_t8 (List.mem_of_getElem? (i := 149) rfl)⟩
theorem lw_p104 : lw_okq (⟨"SupplyGridModel", "nextWider", "()I"⟩, 38) := ⟨⟨by decide +kernel, by decide +kernel⟩, lw_t6 (List.mem_of_getElem? (i := 63) rfl), lw_t8 (List.mem_of_getElem? (i := 152) rfl), lw_t8 (List.mem_of_getElem? (i := 153) rfl)⟩
theorem lw_p105 : lw_okq (⟨"SupplyGridModel", "beginsWith", "()V"⟩, 38) := ⟨⟨by decide +kernel, by decide +kernel⟩, lw_t6 (List.mem_of_getElem? (i := 63) rfl), lw_t8 (List.mem_of_getElem? (i := 156) rfl), lw_t8 (List.mem_of_getElem? (i := 157) rfl)⟩
theorem lw_p106 : lw_okq (⟨"SupplyGridModel", "fewestOf", "()I"⟩, 38) := ⟨⟨by decide +kernel, by decide +kernel⟩, lw_t6 (List.mem_of_getElem? (i := 63) rfl), lw_t8 (List.mem_of_getElem? (i := 172) rfl), lw_t8 (List.mem_of_getElem? (i := 173) rfl)⟩
theorem lw_p107 : lw_okq (⟨"SupplyGridModel", "does", "(III)Z"⟩, 38) := ⟨⟨by decide +kernel, by decide +kernel⟩, lw_t6 (List.mem_of_getElem? (i := 63) rfl), lw_t8 (List.mem_of_getElem? (i := 176) rfl), lw_t8 (List.mem_of_getElem? (i := 177) rfl)⟩
theorem lw_p108 : lw_okq (⟨"SupplyGridModel", "slimsAll", "()I"⟩, 38) := ⟨⟨by decide +kernel, by decide +kernel⟩, lw_t6 (List.mem_of_getElem? (i := 63) rfl), lw_t8 (List.mem_of_getElem? (i := 188) rfl), lw_t8 (List.mem_of_getElem? (i := 189) rfl)⟩
theorem lw_p109 : lw_okq (⟨"SupplyGridModel", "nextSlim", "()I"⟩, 38) := ⟨⟨by decide +kernel, by decide +kernel⟩, lw_t6 (List.mem_of_getElem? (i := 63) rfl), lw_t8 (List.mem_of_getElem? (i := 192) rfl), lw_t8 (List.mem_of_getElem? (i := 193) rfl)⟩
theorem lw_p110 : lw_okq (⟨"SupplyGridModel", "pairBy", "(I)I"⟩, 38) := ⟨⟨by decide +kernel, by decide +kernel⟩, lw_t6 (List.mem_of_getElem? (i := 63) rfl), lw_t8 (List.mem_of_getElem? (i := 204) rfl), lw_t8 (List.mem_of_getElem? (i := 205) rfl)⟩
theorem lw_p111 : lw_okq (⟨"SupplyGridModel", "isPair", "(II)Z"⟩, 38) := ⟨⟨by decide +kernel, by decide +kernel⟩, lw_t6 (List.mem_of_getElem? (i := 63) rfl), lw_t8 (List.mem_of_getElem? (i := 208) rfl), lw_t8 (List.mem_of_getElem? (i := 209) rfl)⟩
def lw_privs_7 : List (MethodName × Nat) := [(⟨"SupplyGridModel", "takesOut", "()V"⟩, 38), (⟨"SupplyGridModel", "nextPad", "()I"⟩, 38), (⟨"SupplyGridModel", "beginsWithout", "()V"⟩, 38), (⟨"SupplyGridModel", "scores", "()I"⟩, 38), (⟨"SupplyGridModel", "keeps", "()V"⟩, 38), (⟨"SupplyGridModel", "bestPads", "(I)I"⟩, 38), (⟨"SupplyGridModel", "laysWidened", "()Z"⟩, 38), (⟨"SupplyGridModel", "widensAll", "()V"⟩, 38), (⟨"SupplyGridModel", "nextWider", "()I"⟩, 38), (⟨"SupplyGridModel", "beginsWith", "()V"⟩, 38), (⟨"SupplyGridModel", "fewestOf", "()I"⟩, 38), (⟨"SupplyGridModel", "does", "(III)Z"⟩, 38), (⟨"SupplyGridModel", "slimsAll", "()I"⟩, 38), (⟨"SupplyGridModel", "nextSlim", "()I"⟩, 38), (⟨"SupplyGridModel", "pairBy", "(I)I"⟩, 38), (⟨"SupplyGridModel", "isPair", "(II)Z"⟩, 38)]
theorem lw_r7 : ∀ q ∈ lw_privs_7, lw_okq q := List.forall_mem_cons.mpr ⟨lw_p96, List.forall_mem_cons.mpr ⟨lw_p97, List.forall_mem_cons.mpr ⟨lw_p98, List.forall_mem_cons.mpr ⟨lw_p99, List.forall_mem_cons.mpr ⟨lw_p100, List.forall_mem_cons.mpr ⟨lw_p101, List.forall_mem_cons.mpr ⟨lw_p102, List.forall_mem_cons.mpr ⟨lw_p103, List.forall_mem_cons.mpr ⟨lw_p104, List.forall_mem_cons.mpr ⟨lw_p105, List.forall_mem_cons.mpr ⟨lw_p106, List.forall_mem_cons.mpr ⟨lw_p107, List.forall_mem_cons.mpr ⟨lw_p108, List.forall_mem_cons.mpr ⟨lw_p109, List.forall_mem_cons.mpr ⟨lw_p110, List.forall_mem_cons.mpr ⟨lw_p111, fun _ h => absurd h List.not_mem_nil⟩⟩⟩⟩⟩⟩⟩⟩⟩⟩⟩⟩⟩⟩⟩⟩
theorem lw_p112 : lw_okq (⟨"SupplyGridModel", "holdsWithout", "(II)Z"⟩, 38) := ⟨⟨by decide +kernel, by decide +kernel⟩, lw_t6 (List.mem_of_getElem? (i := 63) rfl), lw_t8 (List.mem_of_getElem? (i := 212) rfl), lw_t8 (List.mem_of_getElem? (i := 213) rfl)⟩
theorem lw_p113 : lw_okq (⟨"SupplyGridModel", "tries", "(II)I"⟩, 38) := ⟨⟨by decide +kernel, by decide +kernel⟩, lw_t6 (List.mem_of_getElem? (i := 63) rfl), lw_t8 (List.mem_of_getElem? (i := 224) rfl), lw_t8 (List.mem_of_getElem? (i := 225) rfl)⟩
theorem lw_p114 : lw_okq (⟨"SupplyGridModel", "draws1", "(I)I"⟩, 38) := ⟨⟨by decide +kernel, by decide +kernel⟩, lw_t6 (List.mem_of_getElem? (i := 63) rfl), lw_t8 (List.mem_of_getElem? (i := 228) rfl), lw_t8 (List.mem_of_getElem? (i := 229) rfl)⟩
theorem lw_p115 : lw_okq (⟨"SupplyGridModel", "isFull", "()Z"⟩, 38) := ⟨⟨by decide +kernel, by decide +kernel⟩, lw_t6 (List.mem_of_getElem? (i := 63) rfl), lw_t9 (List.mem_of_getElem? (i := 29) rfl), lw_t9 (List.mem_of_getElem? (i := 30) rfl)⟩
theorem lw_p116 : lw_okq (⟨"SupplyGridModel", "remembers", "(II)V"⟩, 38) := ⟨⟨by decide +kernel, by decide +kernel⟩, lw_t6 (List.mem_of_getElem? (i := 63) rfl), lw_t9 (List.mem_of_getElem? (i := 33) rfl), lw_t9 (List.mem_of_getElem? (i := 34) rfl)⟩
theorem lw_p117 : lw_okq (⟨"SupplyGridModel", "takesBack", "()V"⟩, 38) := ⟨⟨by decide +kernel, by decide +kernel⟩, lw_t6 (List.mem_of_getElem? (i := 63) rfl), lw_t9 (List.mem_of_getElem? (i := 54) rfl), lw_t9 (List.mem_of_getElem? (i := 55) rfl)⟩
def lw_privs_8 : List (MethodName × Nat) := [(⟨"SupplyGridModel", "holdsWithout", "(II)Z"⟩, 38), (⟨"SupplyGridModel", "tries", "(II)I"⟩, 38), (⟨"SupplyGridModel", "draws1", "(I)I"⟩, 38), (⟨"SupplyGridModel", "isFull", "()Z"⟩, 38), (⟨"SupplyGridModel", "remembers", "(II)V"⟩, 38), (⟨"SupplyGridModel", "takesBack", "()V"⟩, 38)]
theorem lw_r8 : ∀ q ∈ lw_privs_8, lw_okq q := List.forall_mem_cons.mpr ⟨lw_p112, List.forall_mem_cons.mpr ⟨lw_p113, List.forall_mem_cons.mpr ⟨lw_p114, List.forall_mem_cons.mpr ⟨lw_p115, List.forall_mem_cons.mpr ⟨lw_p116, List.forall_mem_cons.mpr ⟨lw_p117, fun _ h => absurd h List.not_mem_nil⟩⟩⟩⟩⟩⟩
def lw_privs : List (MethodName × Nat) := lw_privs_1 ++ (lw_privs_2 ++ (lw_privs_3 ++ (lw_privs_4 ++ (lw_privs_5 ++ (lw_privs_6 ++ (lw_privs_7 ++ (lw_privs_8)))))))
def lw_tbl : List Cond := k2_sels lw_privs ++ tables_1
theorem lw_privs_ok : ∀ q ∈ lw_privs, lw_okq q := by
  show ∀ q ∈ lw_privs_1 ++ (lw_privs_2 ++ (lw_privs_3 ++ (lw_privs_4 ++ (lw_privs_5 ++ (lw_privs_6 ++ (lw_privs_7 ++ (lw_privs_8))))))), lw_okq q
  exact List.forall_mem_append.mpr ⟨lw_r1, List.forall_mem_append.mpr ⟨lw_r2, List.forall_mem_append.mpr ⟨lw_r3, List.forall_mem_append.mpr ⟨lw_r4, List.forall_mem_append.mpr ⟨lw_r5, List.forall_mem_append.mpr ⟨lw_r6, List.forall_mem_append.mpr ⟨lw_r7, lw_r8⟩⟩⟩⟩⟩⟩⟩
-- ===== ONE list of words for every method: the tables' words that hold all through a run =====
def lw_all : List Cond := lw_tbl.filter goodWord
/-- a word of the tables by its place: claim/WORDS.tsv -/
theorem lw_w {w : Cond} (i : Nat) (h : lw_tbl[i]? = some w) (g : goodWord w = true) : w ∈ lw_all := List.mem_filter.mpr ⟨List.mem_of_getElem? h, g⟩
theorem lw_all_tbl {w : Cond} (h : w ∈ lw_all) : w ∈ lw_tbl := (List.mem_filter.mp h).1
theorem lw_self : GoodIn lw_all lw_all := fun w h => ⟨h, good_of_word (List.mem_filter.mp h).2⟩
/-- a class's field words, by their places -/
theorem lw_in (ws : List Cond) (ps : List Nat) (hp : ws = ps.filterMap (fun i => lw_tbl[i]?)) (hg : ws.all goodWord = true) : ∀ w ∈ ws, w ∈ lw_all := by
  intro w h
  have h1 := List.all_eq_true.mp hg w h
  rw [hp] at h
  obtain ⟨i, -, hi⟩ := List.mem_filterMap.mp h
  exact lw_w i hi h1
/-- the words of a contract for the method y with code b, L locals, answer r -/
abbrev ws_ (y : MethodName) (b : ByteArray) (L : Nat) (r : Option FieldType) : List Cond := Cond.code y b L r :: lw_all
theorem lw_meth {y : MethodName} {b : ByteArray} {L : Nat} {r : Option FieldType} (h : Cond.code y b L r ∈ lw_all) : GoodIn lw_all (ws_ y b L r) := by
  intro w hw
  rcases List.mem_cons.mp hw with e | e
  · rw [e]
    exact lw_self _ h
  · exact lw_self _ e
theorem lw_app {a c : List Cond} (ha : ∀ w ∈ a, w ∈ lw_all) (hc : GoodIn lw_all c) : GoodIn lw_all (a ++ c) := by
  intro w hw
  rcases List.mem_append.mp hw with e | e
  · exact lw_self w (ha w e)
  · exact hc w e
/-- what a call through an object asks: cwV n hts (lw_V ..) -/
theorem lw_V {own : String} {idx : Nat} {C : String} {y : MethodName} {b : ByteArray} {L : Nat} {r : Option FieldType} (h1 : Cond.methodLink own idx y ∈ lw_all) (h2 : Cond.instanceMethod y ∈ lw_all) (h3 : Cond.selects C y y ∈ lw_all) (h4 : Cond.initialized C ∈ lw_all) (h5 : Cond.code y b L r ∈ lw_all) : GoodIn lw_all (wsV own idx C y (ws_ y b L r)) := by
  refine lw_app ?_ (lw_meth h5)
  intro w hw
  simp only [List.mem_cons, List.not_mem_nil, or_false] at hw
  rcases hw with e | e | e | e
  · rw [e]; exact h1
  · rw [e]; exact h2
  · rw [e]; exact h3
  · rw [e]; exact h4
/-- what a static call asks: va_cwS n hts (lw_S ..) -/
theorem lw_S {own : String} {idx : Nat} {y : MethodName} {b : ByteArray} {L : Nat} {r : Option FieldType} (h1 : Cond.methodLink own idx y ∈ lw_all) (h2 : Cond.static y ∈ lw_all) (h3 : Cond.initialized y.cls ∈ lw_all) (h4 : Cond.code y b L r ∈ lw_all) : GoodIn lw_all (va_wsS own idx y (ws_ y b L r)) := by
  refine lw_app ?_ (lw_meth h4)
  intro w hw
  simp only [List.mem_cons, List.not_mem_nil, or_false] at hw
  rcases hw with e | e | e
  · rw [e]; exact h1
  · rw [e]; exact h2
  · rw [e]; exact h3
/-- the words of a contract for a method WITH HANDLERS (hh: its table) -/
abbrev wsW_ (y : MethodName) (b : ByteArray) (L : Nat) (r : Option FieldType) (hh : List (Nat × Nat × Nat × Nat)) : List Cond := Cond.codeWith y b L r hh :: lw_all
theorem lw_methW {y : MethodName} {b : ByteArray} {L : Nat} {r : Option FieldType} {hh : List (Nat × Nat × Nat × Nat)} (h : Cond.codeWith y b L r hh ∈ lw_all) : GoodIn lw_all (wsW_ y b L r hh) := by
  intro w hw
  rcases List.mem_cons.mp hw with e | e
  · rw [e]
    exact lw_self _ h
  · exact lw_self _ e
/-- any list of words by their places (lw_in), good -/
theorem lw_good {ws : List Cond} (h : ∀ w ∈ ws, w ∈ lw_all) : GoodIn lw_all ws := fun w hw => lw_self w (h w hw)
/-- what a call of a method with handlers asks: vx_cwVW n hts (lw_VW ..), vx_cwSW n hts (lw_SW ..) -/
theorem lw_VW {own : String} {idx : Nat} {C : String} {y : MethodName} {b : ByteArray} {L : Nat} {r : Option FieldType} {hh : List (Nat × Nat × Nat × Nat)} (h1 : Cond.methodLink own idx y ∈ lw_all) (h2 : Cond.instanceMethod y ∈ lw_all) (h3 : Cond.selects C y y ∈ lw_all) (h4 : Cond.initialized C ∈ lw_all) (h5 : Cond.codeWith y b L r hh ∈ lw_all) : GoodIn lw_all (wsV own idx C y (wsW_ y b L r hh)) := by
  refine lw_app ?_ (lw_methW h5)
  intro w hw
  simp only [List.mem_cons, List.not_mem_nil, or_false] at hw
  rcases hw with e | e | e | e
  · rw [e]; exact h1
  · rw [e]; exact h2
  · rw [e]; exact h3
  · rw [e]; exact h4
theorem lw_SW {own : String} {idx : Nat} {y : MethodName} {b : ByteArray} {L : Nat} {r : Option FieldType} {hh : List (Nat × Nat × Nat × Nat)} (h1 : Cond.methodLink own idx y ∈ lw_all) (h2 : Cond.static y ∈ lw_all) (h3 : Cond.initialized y.cls ∈ lw_all) (h4 : Cond.codeWith y b L r hh ∈ lw_all) : GoodIn lw_all (va_wsS own idx y (wsW_ y b L r hh)) := by
  refine lw_app ?_ (lw_methW h4)
  intro w hw
  simp only [List.mem_cons, List.not_mem_nil, or_false] at hw
  rcases hw with e | e | e
  · rw [e]; exact h1
  · rw [e]; exact h2
  · rw [e]; exact h3
/-- a word by its place in its run of the tables -/
theorem lw_at {r : List Cond} (hr : ∀ w ∈ r, w ∈ lw_tbl) {w : Cond} (i : Nat) (h : r[i]? = some w) : w ∈ lw_tbl := hr w (List.mem_of_getElem? h)
theorem lw_g {w : Cond} (h : w ∈ lw_tbl) (g : goodWord w = true) : w ∈ lw_all := List.mem_filter.mpr ⟨h, g⟩
theorem lw_ms : ∀ w ∈ k2_sels lw_privs, w ∈ lw_tbl := fun w h => show w ∈ k2_sels lw_privs ++ tables_1 from List.mem_append_left _ h
theorem lw_m1 : ∀ w ∈ tables_1_1, w ∈ lw_tbl := fun w h => show w ∈ k2_sels lw_privs ++ tables_1 from List.mem_append_right (k2_sels lw_privs) (show w ∈ tables_1 from List.mem_append_left _ h)
theorem lw_m2 : ∀ w ∈ tables_1_2, w ∈ lw_tbl := fun w h => show w ∈ k2_sels lw_privs ++ tables_1 from List.mem_append_right (k2_sels lw_privs) (show w ∈ tables_1 from List.mem_append_right _ (List.mem_append_left _ h))
theorem lw_m3 : ∀ w ∈ tables_1_3, w ∈ lw_tbl := fun w h => show w ∈ k2_sels lw_privs ++ tables_1 from List.mem_append_right (k2_sels lw_privs) (show w ∈ tables_1 from List.mem_append_right _ (List.mem_append_right _ (List.mem_append_left _ h)))
theorem lw_m4 : ∀ w ∈ tables_1_4, w ∈ lw_tbl := fun w h => show w ∈ k2_sels lw_privs ++ tables_1 from List.mem_append_right (k2_sels lw_privs) (show w ∈ tables_1 from List.mem_append_right _ (List.mem_append_right _ (List.mem_append_right _ (List.mem_append_left _ h))))
theorem lw_m5 : ∀ w ∈ tables_1_5, w ∈ lw_tbl := fun w h => show w ∈ k2_sels lw_privs ++ tables_1 from List.mem_append_right (k2_sels lw_privs) (show w ∈ tables_1 from List.mem_append_right _ (List.mem_append_right _ (List.mem_append_right _ (List.mem_append_right _ (List.mem_append_left _ h)))))
theorem lw_m6 : ∀ w ∈ tables_1_6, w ∈ lw_tbl := fun w h => show w ∈ k2_sels lw_privs ++ tables_1 from List.mem_append_right (k2_sels lw_privs) (show w ∈ tables_1 from List.mem_append_right _ (List.mem_append_right _ (List.mem_append_right _ (List.mem_append_right _ (List.mem_append_right _ (List.mem_append_left _ h))))))
theorem lw_m7 : ∀ w ∈ tables_1_7, w ∈ lw_tbl := fun w h => show w ∈ k2_sels lw_privs ++ tables_1 from List.mem_append_right (k2_sels lw_privs) (show w ∈ tables_1 from List.mem_append_right _ (List.mem_append_right _ (List.mem_append_right _ (List.mem_append_right _ (List.mem_append_right _ (List.mem_append_right _ (List.mem_append_left _ h)))))))
theorem lw_m8 : ∀ w ∈ tables_1_8, w ∈ lw_tbl := fun w h => show w ∈ k2_sels lw_privs ++ tables_1 from List.mem_append_right (k2_sels lw_privs) (show w ∈ tables_1 from List.mem_append_right _ (List.mem_append_right _ (List.mem_append_right _ (List.mem_append_right _ (List.mem_append_right _ (List.mem_append_right _ (List.mem_append_right _ (List.mem_append_left _ h))))))))
theorem lw_m9 : ∀ w ∈ tables_1_9, w ∈ lw_tbl := fun w h => show w ∈ k2_sels lw_privs ++ tables_1 from List.mem_append_right (k2_sels lw_privs) (show w ∈ tables_1 from List.mem_append_right _ (List.mem_append_right _ (List.mem_append_right _ (List.mem_append_right _ (List.mem_append_right _ (List.mem_append_right _ (List.mem_append_right _ (List.mem_append_right _ h))))))))
theorem qs0 : (Cond.selects "SupplyGrid$Reader" ⟨"SupplyGrid$Reader", "next", "()V"⟩ ⟨"SupplyGrid$Reader", "next", "()V"⟩) ∈ lw_all := lw_g (lw_at lw_ms 0 rfl) rfl
theorem qs1 : (Cond.selects "SupplyGrid$Reader" ⟨"SupplyGrid$Reader", "isAt", "(II)Z"⟩ ⟨"SupplyGrid$Reader", "isAt", "(II)Z"⟩) ∈ lw_all := lw_g (lw_at lw_ms 1 rfl) rfl
theorem qs2 : (Cond.selects "SupplyGrid$Reader" ⟨"SupplyGrid$Reader", "grid", "()V"⟩ ⟨"SupplyGrid$Reader", "grid", "()V"⟩) ∈ lw_all := lw_g (lw_at lw_ms 2 rfl) rfl
theorem qs3 : (Cond.selects "SupplyGrid$Reader" ⟨"SupplyGrid$Reader", "needs", "(Ljava/lang/String;)V"⟩ ⟨"SupplyGrid$Reader", "needs", "(Ljava/lang/String;)V"⟩) ∈ lw_all := lw_g (lw_at lw_ms 3 rfl) rfl
theorem qs4 : (Cond.selects "SupplyGrid$Reader" ⟨"SupplyGrid$Reader", "is", "(Ljava/lang/String;)Z"⟩ ⟨"SupplyGrid$Reader", "is", "(Ljava/lang/String;)Z"⟩) ∈ lw_all := lw_g (lw_at lw_ms 4 rfl) rfl
theorem qs5 : (Cond.selects "SupplyGrid$Reader" ⟨"SupplyGrid$Reader", "must", "(ZI)V"⟩ ⟨"SupplyGrid$Reader", "must", "(ZI)V"⟩) ∈ lw_all := lw_g (lw_at lw_ms 5 rfl) rfl
theorem qs6 : (Cond.selects "java/lang/Throwable" ⟨"java/lang/Throwable", "fillInStackTrace", "(I)Ljava/lang/Throwable;"⟩ ⟨"java/lang/Throwable", "fillInStackTrace", "(I)Ljava/lang/Throwable;"⟩) ∈ lw_all := lw_g (lw_at lw_ms 6 rfl) rfl
theorem qs7 : (Cond.selects "SupplyGrid$Reader" ⟨"SupplyGrid$Reader", "named", "(Ljava/lang/String;II)I"⟩ ⟨"SupplyGrid$Reader", "named", "(Ljava/lang/String;II)I"⟩) ∈ lw_all := lw_g (lw_at lw_ms 7 rfl) rfl
theorem qs8 : (Cond.selects "SupplyGrid$Reader" ⟨"SupplyGrid$Reader", "number", "(II)I"⟩ ⟨"SupplyGrid$Reader", "number", "(II)I"⟩) ∈ lw_all := lw_g (lw_at lw_ms 8 rfl) rfl
theorem qs9 : (Cond.selects "SupplyGrid$Reader" ⟨"SupplyGrid$Reader", "sees", "(II)I"⟩ ⟨"SupplyGrid$Reader", "sees", "(II)I"⟩) ∈ lw_all := lw_g (lw_at lw_ms 9 rfl) rfl
theorem qs10 : (Cond.selects "SupplyGrid$Told" ⟨"SupplyGrid$Told", "adds", "(ILSupplyGrid$Way;I)V"⟩ ⟨"SupplyGrid$Told", "adds", "(ILSupplyGrid$Way;I)V"⟩) ∈ lw_all := lw_g (lw_at lw_ms 10 rfl) rfl
theorem qs11 : (Cond.selects "SupplyGrid$Reader" ⟨"SupplyGrid$Reader", "strap", "()V"⟩ ⟨"SupplyGrid$Reader", "strap", "()V"⟩) ∈ lw_all := lw_g (lw_at lw_ms 11 rfl) rfl
theorem qs12 : (Cond.selects "SupplyGrid$Reader" ⟨"SupplyGrid$Reader", "place", "(I)I"⟩ ⟨"SupplyGrid$Reader", "place", "(I)I"⟩) ∈ lw_all := lw_g (lw_at lw_ms 12 rfl) rfl
theorem qs13 : (Cond.selects "SupplyGrid$Reader" ⟨"SupplyGrid$Reader", "load", "()V"⟩ ⟨"SupplyGrid$Reader", "load", "()V"⟩) ∈ lw_all := lw_g (lw_at lw_ms 13 rfl) rfl
theorem qs14 : (Cond.selects "SupplyGrid$Reader" ⟨"SupplyGrid$Reader", "budget", "()V"⟩ ⟨"SupplyGrid$Reader", "budget", "()V"⟩) ∈ lw_all := lw_g (lw_at lw_ms 14 rfl) rfl
theorem qs15 : (Cond.selects "SupplyGrid" ⟨"SupplyGrid", "solved", "()LSupplyGrid$Solved;"⟩ ⟨"SupplyGrid", "solved", "()LSupplyGrid$Solved;"⟩) ∈ lw_all := lw_g (lw_at lw_ms 15 rfl) rfl
theorem qs16 : (Cond.selects "SupplyGrid$Solved" ⟨"SupplyGrid$Solved", "lays", "(II)V"⟩ ⟨"SupplyGrid$Solved", "lays", "(II)V"⟩) ∈ lw_all := lw_g (lw_at lw_ms 16 rfl) rfl
theorem qs17 : (Cond.selects "SupplyGrid$Solved" ⟨"SupplyGrid$Solved", "ties", "(III)V"⟩ ⟨"SupplyGrid$Solved", "ties", "(III)V"⟩) ∈ lw_all := lw_g (lw_at lw_ms 17 rfl) rfl
theorem qs18 : (Cond.selects "SupplyGrid$Solved" ⟨"SupplyGrid$Solved", "turns", "()V"⟩ ⟨"SupplyGrid$Solved", "turns", "()V"⟩) ∈ lw_all := lw_g (lw_at lw_ms 18 rfl) rfl
theorem qs19 : (Cond.selects "SupplyGrid$Solved" ⟨"SupplyGrid$Solved", "moves", "(II)J"⟩ ⟨"SupplyGrid$Solved", "moves", "(II)J"⟩) ∈ lw_all := lw_g (lw_at lw_ms 19 rfl) rfl
theorem qs20 : (Cond.selects "SupplyGrid" ⟨"SupplyGrid", "isStrap", "(I)Z"⟩ ⟨"SupplyGrid", "isStrap", "(I)Z"⟩) ∈ lw_all := lw_g (lw_at lw_ms 20 rfl) rfl
theorem qs21 : (Cond.selects "SupplyGrid" ⟨"SupplyGrid", "isNode", "(I)Z"⟩ ⟨"SupplyGrid", "isNode", "(I)Z"⟩) ∈ lw_all := lw_g (lw_at lw_ms 21 rfl) rfl
theorem qs22 : (Cond.selects "SupplyGrid" ⟨"SupplyGrid", "givenBy", "(I)J"⟩ ⟨"SupplyGrid", "givenBy", "(I)J"⟩) ∈ lw_all := lw_g (lw_at lw_ms 22 rfl) rfl
theorem qs23 : (Cond.selects "SupplyGrid" ⟨"SupplyGrid", "mostOf", "(I)J"⟩ ⟨"SupplyGrid", "mostOf", "(I)J"⟩) ∈ lw_all := lw_g (lw_at lw_ms 23 rfl) rfl
theorem qs24 : (Cond.selects "SupplyGrid" ⟨"SupplyGrid", "nextOf", "(II)I"⟩ ⟨"SupplyGrid", "nextOf", "(II)I"⟩) ∈ lw_all := lw_g (lw_at lw_ms 24 rfl) rfl
theorem qs25 : (Cond.selects "SupplyGrid" ⟨"SupplyGrid", "laysMosts", "()V"⟩ ⟨"SupplyGrid", "laysMosts", "()V"⟩) ∈ lw_all := lw_g (lw_at lw_ms 25 rfl) rfl
theorem qs26 : (Cond.selects "SupplyGrid" ⟨"SupplyGrid", "feederOf", "(I)I"⟩ ⟨"SupplyGrid", "feederOf", "(I)I"⟩) ∈ lw_all := lw_g (lw_at lw_ms 26 rfl) rfl
theorem qs27 : (Cond.selects "SupplyGrid" ⟨"SupplyGrid", "ages", "(I)I"⟩ ⟨"SupplyGrid", "ages", "(I)I"⟩) ∈ lw_all := lw_g (lw_at lw_ms 27 rfl) rfl
theorem qs28 : (Cond.selects "SupplyGrid" ⟨"SupplyGrid", "bestPad", "(I)I"⟩ ⟨"SupplyGrid", "bestPad", "(I)I"⟩) ∈ lw_all := lw_g (lw_at lw_ms 28 rfl) rfl
theorem qs29 : (Cond.selects "SupplyGrid" ⟨"SupplyGrid", "withPads", "(I)LSupplyGrid$Solved;"⟩ ⟨"SupplyGrid", "withPads", "(I)LSupplyGrid$Solved;"⟩) ∈ lw_all := lw_g (lw_at lw_ms 29 rfl) rfl
theorem qs30 : (Cond.selects "SupplyGrid" ⟨"SupplyGrid", "isBetter", "(LSupplyGrid$Solved;)Z"⟩ ⟨"SupplyGrid", "isBetter", "(LSupplyGrid$Solved;)Z"⟩) ∈ lw_all := lw_g (lw_at lw_ms 30 rfl) rfl
theorem qs31 : (Cond.selects "SupplyGrid" ⟨"SupplyGrid", "keepsScore", "(LSupplyGrid$Solved;)V"⟩ ⟨"SupplyGrid", "keepsScore", "(LSupplyGrid$Solved;)V"⟩) ∈ lw_all := lw_g (lw_at lw_ms 31 rfl) rfl
theorem qs32 : (Cond.selects "SupplyGrid" ⟨"SupplyGrid", "bestPads", "(I)I"⟩ ⟨"SupplyGrid", "bestPads", "(I)I"⟩) ∈ lw_all := lw_g (lw_at lw_ms 32 rfl) rfl
theorem qs33 : (Cond.selects "SupplyGrid" ⟨"SupplyGrid", "widensAll", "()I"⟩ ⟨"SupplyGrid", "widensAll", "()I"⟩) ∈ lw_all := lw_g (lw_at lw_ms 33 rfl) rfl
theorem qs34 : (Cond.selects "SupplyGrid" ⟨"SupplyGrid", "bestWider", "()I"⟩ ⟨"SupplyGrid", "bestWider", "()I"⟩) ∈ lw_all := lw_g (lw_at lw_ms 34 rfl) rfl
theorem qs35 : (Cond.selects "SupplyGrid" ⟨"SupplyGrid", "fewestOf", "()I"⟩ ⟨"SupplyGrid", "fewestOf", "()I"⟩) ∈ lw_all := lw_g (lw_at lw_ms 35 rfl) rfl
theorem qs36 : (Cond.selects "SupplyGrid" ⟨"SupplyGrid", "canDo", "(III)Z"⟩ ⟨"SupplyGrid", "canDo", "(III)Z"⟩) ∈ lw_all := lw_g (lw_at lw_ms 36 rfl) rfl
theorem qs37 : (Cond.selects "SupplyGrid" ⟨"SupplyGrid", "bestNarrower", "()I"⟩ ⟨"SupplyGrid", "bestNarrower", "()I"⟩) ∈ lw_all := lw_g (lw_at lw_ms 37 rfl) rfl
theorem qs38 : (Cond.selects "SupplyGrid" ⟨"SupplyGrid", "without", "(I)LSupplyGrid$Solved;"⟩ ⟨"SupplyGrid", "without", "(I)LSupplyGrid$Solved;"⟩) ∈ lw_all := lw_g (lw_at lw_ms 38 rfl) rfl
theorem qs39 : (Cond.selects "SupplyGrid" ⟨"SupplyGrid", "isWorse", "(LSupplyGrid$Solved;)Z"⟩ ⟨"SupplyGrid", "isWorse", "(LSupplyGrid$Solved;)Z"⟩) ∈ lw_all := lw_g (lw_at lw_ms 39 rfl) rfl
theorem qs40 : (Cond.selects "SupplyGrid" ⟨"SupplyGrid", "pairsOf", "(I)I"⟩ ⟨"SupplyGrid", "pairsOf", "(I)I"⟩) ∈ lw_all := lw_g (lw_at lw_ms 40 rfl) rfl
theorem qs41 : (Cond.selects "SupplyGrid" ⟨"SupplyGrid", "isPair", "(II)Z"⟩ ⟨"SupplyGrid", "isPair", "(II)Z"⟩) ∈ lw_all := lw_g (lw_at lw_ms 41 rfl) rfl
theorem qs42 : (Cond.selects "SupplyGrid" ⟨"SupplyGrid", "byDraws", "()LSupplyGrid$Solved;"⟩ ⟨"SupplyGrid", "byDraws", "()LSupplyGrid$Solved;"⟩) ∈ lw_all := lw_g (lw_at lw_ms 42 rfl) rfl
theorem qs43 : (Cond.selects "SupplyGrid" ⟨"SupplyGrid", "draw", "(I)I"⟩ ⟨"SupplyGrid", "draw", "(I)I"⟩) ∈ lw_all := lw_g (lw_at lw_ms 43 rfl) rfl
theorem qs44 : (Cond.selects "SupplyGrid" ⟨"SupplyGrid", "isFull", "()Z"⟩ ⟨"SupplyGrid", "isFull", "()Z"⟩) ∈ lw_all := lw_g (lw_at lw_ms 44 rfl) rfl
theorem qs45 : (Cond.selects "java/util/ArrayList" ⟨"java/util/ArrayList", "add", "(Ljava/lang/Object;[Ljava/lang/Object;I)V"⟩ ⟨"java/util/ArrayList", "add", "(Ljava/lang/Object;[Ljava/lang/Object;I)V"⟩) ∈ lw_all := lw_g (lw_at lw_ms 45 rfl) rfl
theorem qs46 : (Cond.selects "java/util/ArrayList" ⟨"java/util/ArrayList", "grow", "()[Ljava/lang/Object;"⟩ ⟨"java/util/ArrayList", "grow", "()[Ljava/lang/Object;"⟩) ∈ lw_all := lw_g (lw_at lw_ms 46 rfl) rfl
theorem qs47 : (Cond.selects "java/util/ArrayList" ⟨"java/util/ArrayList", "grow", "(I)[Ljava/lang/Object;"⟩ ⟨"java/util/ArrayList", "grow", "(I)[Ljava/lang/Object;"⟩) ∈ lw_all := lw_g (lw_at lw_ms 47 rfl) rfl
theorem qs48 : (Cond.selects "SupplyGrid" ⟨"SupplyGrid", "takesBack", "()V"⟩ ⟨"SupplyGrid", "takesBack", "()V"⟩) ∈ lw_all := lw_g (lw_at lw_ms 48 rfl) rfl
theorem qs49 : (Cond.selects "java/util/ArrayList" ⟨"java/util/ArrayList", "fastRemove", "([Ljava/lang/Object;I)V"⟩ ⟨"java/util/ArrayList", "fastRemove", "([Ljava/lang/Object;I)V"⟩) ∈ lw_all := lw_g (lw_at lw_ms 49 rfl) rfl
theorem qs50 : (Cond.selects "SupplyGridModel" ⟨"SupplyGridModel", "advance", "()V"⟩ ⟨"SupplyGridModel", "advance", "()V"⟩) ∈ lw_all := lw_g (lw_at lw_ms 50 rfl) rfl
theorem qs51 : (Cond.selects "SupplyGridModel" ⟨"SupplyGridModel", "see", "(I)I"⟩ ⟨"SupplyGridModel", "see", "(I)I"⟩) ∈ lw_all := lw_g (lw_at lw_ms 51 rfl) rfl
theorem qs52 : (Cond.selects "SupplyGridModel" ⟨"SupplyGridModel", "good", "()Z"⟩ ⟨"SupplyGridModel", "good", "()Z"⟩) ∈ lw_all := lw_g (lw_at lw_ms 52 rfl) rfl
theorem qs53 : (Cond.selects "SupplyGridModel" ⟨"SupplyGridModel", "readText", "()V"⟩ ⟨"SupplyGridModel", "readText", "()V"⟩) ∈ lw_all := lw_g (lw_at lw_ms 53 rfl) rfl
theorem qs54 : (Cond.selects "SupplyGridModel" ⟨"SupplyGridModel", "readFirst", "()V"⟩ ⟨"SupplyGridModel", "readFirst", "()V"⟩) ∈ lw_all := lw_g (lw_at lw_ms 54 rfl) rfl
theorem qs55 : (Cond.selects "SupplyGridModel" ⟨"SupplyGridModel", "expects", "(Ljava/lang/String;)V"⟩ ⟨"SupplyGridModel", "expects", "(Ljava/lang/String;)V"⟩) ∈ lw_all := lw_g (lw_at lw_ms 55 rfl) rfl
theorem qs56 : (Cond.selects "SupplyGridModel" ⟨"SupplyGridModel", "is", "(Ljava/lang/String;)Z"⟩ ⟨"SupplyGridModel", "is", "(Ljava/lang/String;)Z"⟩) ∈ lw_all := lw_g (lw_at lw_ms 56 rfl) rfl
theorem qs57 : (Cond.selects "SupplyGridModel" ⟨"SupplyGridModel", "errs", "(I)V"⟩ ⟨"SupplyGridModel", "errs", "(I)V"⟩) ∈ lw_all := lw_g (lw_at lw_ms 57 rfl) rfl
theorem qs58 : (Cond.selects "SupplyGridModel" ⟨"SupplyGridModel", "told", "(Ljava/lang/String;II)I"⟩ ⟨"SupplyGridModel", "told", "(Ljava/lang/String;II)I"⟩) ∈ lw_all := lw_g (lw_at lw_ms 58 rfl) rfl
theorem qs59 : (Cond.selects "SupplyGridModel" ⟨"SupplyGridModel", "takes", "(II)I"⟩ ⟨"SupplyGridModel", "takes", "(II)I"⟩) ∈ lw_all := lw_g (lw_at lw_ms 59 rfl) rfl
theorem qs60 : (Cond.selects "SupplyGridModel" ⟨"SupplyGridModel", "laysStraps", "(II)V"⟩ ⟨"SupplyGridModel", "laysStraps", "(II)V"⟩) ∈ lw_all := lw_g (lw_at lw_ms 60 rfl) rfl
theorem qs61 : (Cond.selects "SupplyGridModel" ⟨"SupplyGridModel", "addsStrap", "(II)V"⟩ ⟨"SupplyGridModel", "addsStrap", "(II)V"⟩) ∈ lw_all := lw_g (lw_at lw_ms 61 rfl) rfl
theorem qs62 : (Cond.selects "SupplyGridModel" ⟨"SupplyGridModel", "readLine", "()V"⟩ ⟨"SupplyGridModel", "readLine", "()V"⟩) ∈ lw_all := lw_g (lw_at lw_ms 62 rfl) rfl
theorem qs63 : (Cond.selects "SupplyGridModel" ⟨"SupplyGridModel", "readStrap", "()V"⟩ ⟨"SupplyGridModel", "readStrap", "()V"⟩) ∈ lw_all := lw_g (lw_at lw_ms 63 rfl) rfl
theorem qs64 : (Cond.selects "SupplyGridModel" ⟨"SupplyGridModel", "readPlace", "(I)I"⟩ ⟨"SupplyGridModel", "readPlace", "(I)I"⟩) ∈ lw_all := lw_g (lw_at lw_ms 64 rfl) rfl
theorem qs65 : (Cond.selects "SupplyGridModel" ⟨"SupplyGridModel", "strapOf", "(II)I"⟩ ⟨"SupplyGridModel", "strapOf", "(II)I"⟩) ∈ lw_all := lw_g (lw_at lw_ms 65 rfl) rfl
theorem qs66 : (Cond.selects "SupplyGridModel" ⟨"SupplyGridModel", "readLoad", "()V"⟩ ⟨"SupplyGridModel", "readLoad", "()V"⟩) ∈ lw_all := lw_g (lw_at lw_ms 66 rfl) rfl
theorem qs67 : (Cond.selects "SupplyGridModel" ⟨"SupplyGridModel", "readBudget", "()V"⟩ ⟨"SupplyGridModel", "readBudget", "()V"⟩) ∈ lw_all := lw_g (lw_at lw_ms 67 rfl) rfl
theorem qs68 : (Cond.selects "SupplyGridModel" ⟨"SupplyGridModel", "straps", "()I"⟩ ⟨"SupplyGridModel", "straps", "()I"⟩) ∈ lw_all := lw_g (lw_at lw_ms 68 rfl) rfl
theorem qs69 : (Cond.selects "SupplyGridModel" ⟨"SupplyGridModel", "isGrid", "()Z"⟩ ⟨"SupplyGridModel", "isGrid", "()Z"⟩) ∈ lw_all := lw_g (lw_at lw_ms 69 rfl) rfl
theorem qs70 : (Cond.selects "SupplyGridModel" ⟨"SupplyGridModel", "asks", "()Z"⟩ ⟨"SupplyGridModel", "asks", "()Z"⟩) ∈ lw_all := lw_g (lw_at lw_ms 70 rfl) rfl
theorem qs71 : (Cond.selects "SupplyGridModel" ⟨"SupplyGridModel", "lays", "()V"⟩ ⟨"SupplyGridModel", "lays", "()V"⟩) ∈ lw_all := lw_g (lw_at lw_ms 71 rfl) rfl
theorem qs72 : (Cond.selects "SupplyGridModel" ⟨"SupplyGridModel", "solves", "(I)V"⟩ ⟨"SupplyGridModel", "solves", "(I)V"⟩) ∈ lw_all := lw_g (lw_at lw_ms 72 rfl) rfl
theorem qs73 : (Cond.selects "SupplyGridModel" ⟨"SupplyGridModel", "nodes", "()I"⟩ ⟨"SupplyGridModel", "nodes", "()I"⟩) ∈ lw_all := lw_g (lw_at lw_ms 73 rfl) rfl
theorem qs74 : (Cond.selects "SupplyGridModel" ⟨"SupplyGridModel", "comesTo", "(I)I"⟩ ⟨"SupplyGridModel", "comesTo", "(I)I"⟩) ∈ lw_all := lw_g (lw_at lw_ms 74 rfl) rfl
theorem qs75 : (Cond.selects "SupplyGridModel" ⟨"SupplyGridModel", "laysCells", "()V"⟩ ⟨"SupplyGridModel", "laysCells", "()V"⟩) ∈ lw_all := lw_g (lw_at lw_ms 75 rfl) rfl
theorem qs76 : (Cond.selects "SupplyGridModel" ⟨"SupplyGridModel", "brings", "()V"⟩ ⟨"SupplyGridModel", "brings", "()V"⟩) ∈ lw_all := lw_g (lw_at lw_ms 76 rfl) rfl
theorem qs77 : (Cond.selects "SupplyGridModel" ⟨"SupplyGridModel", "isStrap", "(I)Z"⟩ ⟨"SupplyGridModel", "isStrap", "(I)Z"⟩) ∈ lw_all := lw_g (lw_at lw_ms 77 rfl) rfl
theorem qs78 : (Cond.selects "SupplyGridModel" ⟨"SupplyGridModel", "isNode", "(I)Z"⟩ ⟨"SupplyGridModel", "isNode", "(I)Z"⟩) ∈ lw_all := lw_g (lw_at lw_ms 78 rfl) rfl
theorem qs79 : (Cond.selects "SupplyGridModel" ⟨"SupplyGridModel", "isDead", "(I)Z"⟩ ⟨"SupplyGridModel", "isDead", "(I)Z"⟩) ∈ lw_all := lw_g (lw_at lw_ms 79 rfl) rfl
theorem qs80 : (Cond.selects "SupplyGridModel" ⟨"SupplyGridModel", "dropOf", "(I)J"⟩ ⟨"SupplyGridModel", "dropOf", "(I)J"⟩) ∈ lw_all := lw_g (lw_at lw_ms 80 rfl) rfl
theorem qs81 : (Cond.selects "SupplyGridModel" ⟨"SupplyGridModel", "movesOf", "(II)J"⟩ ⟨"SupplyGridModel", "movesOf", "(II)J"⟩) ∈ lw_all := lw_g (lw_at lw_ms 81 rfl) rfl
theorem qs82 : (Cond.selects "SupplyGridModel" ⟨"SupplyGridModel", "throughOf", "(I)J"⟩ ⟨"SupplyGridModel", "throughOf", "(I)J"⟩) ∈ lw_all := lw_g (lw_at lw_ms 82 rfl) rfl
theorem qs83 : (Cond.selects "SupplyGridModel" ⟨"SupplyGridModel", "givesOf", "(I)J"⟩ ⟨"SupplyGridModel", "givesOf", "(I)J"⟩) ∈ lw_all := lw_g (lw_at lw_ms 83 rfl) rfl
theorem qs84 : (Cond.selects "SupplyGridModel" ⟨"SupplyGridModel", "mostDrop", "()J"⟩ ⟨"SupplyGridModel", "mostDrop", "()J"⟩) ∈ lw_all := lw_g (lw_at lw_ms 84 rfl) rfl
theorem qs85 : (Cond.selects "SupplyGridModel" ⟨"SupplyGridModel", "doesHold", "()Z"⟩ ⟨"SupplyGridModel", "doesHold", "()Z"⟩) ∈ lw_all := lw_g (lw_at lw_ms 85 rfl) rfl
theorem qs86 : (Cond.selects "SupplyGridModel" ⟨"SupplyGridModel", "deadLoads", "()I"⟩ ⟨"SupplyGridModel", "deadLoads", "()I"⟩) ∈ lw_all := lw_g (lw_at lw_ms 86 rfl) rfl
theorem qs87 : (Cond.selects "SupplyGridModel" ⟨"SupplyGridModel", "feederOf", "(I)I"⟩ ⟨"SupplyGridModel", "feederOf", "(I)I"⟩) ∈ lw_all := lw_g (lw_at lw_ms 87 rfl) rfl
theorem qs88 : (Cond.selects "SupplyGridModel" ⟨"SupplyGridModel", "comesBy", "(II)J"⟩ ⟨"SupplyGridModel", "comesBy", "(II)J"⟩) ∈ lw_all := lw_g (lw_at lw_ms 88 rfl) rfl
theorem qs89 : (Cond.selects "SupplyGridModel" ⟨"SupplyGridModel", "mostOf", "(I)J"⟩ ⟨"SupplyGridModel", "mostOf", "(I)J"⟩) ∈ lw_all := lw_g (lw_at lw_ms 89 rfl) rfl
theorem qs90 : (Cond.selects "SupplyGridModel" ⟨"SupplyGridModel", "draws", "(I)V"⟩ ⟨"SupplyGridModel", "draws", "(I)V"⟩) ∈ lw_all := lw_g (lw_at lw_ms 90 rfl) rfl
theorem qs91 : (Cond.selects "SupplyGridModel" ⟨"SupplyGridModel", "isAhead", "(III)Z"⟩ ⟨"SupplyGridModel", "isAhead", "(III)Z"⟩) ∈ lw_all := lw_g (lw_at lw_ms 91 rfl) rfl
theorem qs92 : (Cond.selects "SupplyGridModel" ⟨"SupplyGridModel", "heatOf", "(I)J"⟩ ⟨"SupplyGridModel", "heatOf", "(I)J"⟩) ∈ lw_all := lw_g (lw_at lw_ms 92 rfl) rfl
theorem qs93 : (Cond.selects "SupplyGridModel" ⟨"SupplyGridModel", "wears", "()I"⟩ ⟨"SupplyGridModel", "wears", "()I"⟩) ∈ lw_all := lw_g (lw_at lw_ms 93 rfl) rfl
theorem qs94 : (Cond.selects "SupplyGridModel" ⟨"SupplyGridModel", "puts", "()V"⟩ ⟨"SupplyGridModel", "puts", "()V"⟩) ∈ lw_all := lw_g (lw_at lw_ms 94 rfl) rfl
theorem qs95 : (Cond.selects "SupplyGridModel" ⟨"SupplyGridModel", "ages", "()I"⟩ ⟨"SupplyGridModel", "ages", "()I"⟩) ∈ lw_all := lw_g (lw_at lw_ms 95 rfl) rfl
theorem qs96 : (Cond.selects "SupplyGridModel" ⟨"SupplyGridModel", "takesOut", "()V"⟩ ⟨"SupplyGridModel", "takesOut", "()V"⟩) ∈ lw_all := lw_g (lw_at lw_ms 96 rfl) rfl
theorem qs97 : (Cond.selects "SupplyGridModel" ⟨"SupplyGridModel", "nextPad", "()I"⟩ ⟨"SupplyGridModel", "nextPad", "()I"⟩) ∈ lw_all := lw_g (lw_at lw_ms 97 rfl) rfl
theorem qs98 : (Cond.selects "SupplyGridModel" ⟨"SupplyGridModel", "beginsWithout", "()V"⟩ ⟨"SupplyGridModel", "beginsWithout", "()V"⟩) ∈ lw_all := lw_g (lw_at lw_ms 98 rfl) rfl
theorem qs99 : (Cond.selects "SupplyGridModel" ⟨"SupplyGridModel", "scores", "()I"⟩ ⟨"SupplyGridModel", "scores", "()I"⟩) ∈ lw_all := lw_g (lw_at lw_ms 99 rfl) rfl
theorem qs100 : (Cond.selects "SupplyGridModel" ⟨"SupplyGridModel", "keeps", "()V"⟩ ⟨"SupplyGridModel", "keeps", "()V"⟩) ∈ lw_all := lw_g (lw_at lw_ms 100 rfl) rfl
theorem qs101 : (Cond.selects "SupplyGridModel" ⟨"SupplyGridModel", "bestPads", "(I)I"⟩ ⟨"SupplyGridModel", "bestPads", "(I)I"⟩) ∈ lw_all := lw_g (lw_at lw_ms 101 rfl) rfl
theorem qs102 : (Cond.selects "SupplyGridModel" ⟨"SupplyGridModel", "laysWidened", "()Z"⟩ ⟨"SupplyGridModel", "laysWidened", "()Z"⟩) ∈ lw_all := lw_g (lw_at lw_ms 102 rfl) rfl
theorem qs103 : (Cond.selects "SupplyGridModel" ⟨"SupplyGridModel", "widensAll", "()V"⟩ ⟨"SupplyGridModel", "widensAll", "()V"⟩) ∈ lw_all := lw_g (lw_at lw_ms 103 rfl) rfl
theorem qs104 : (Cond.selects "SupplyGridModel" ⟨"SupplyGridModel", "nextWider", "()I"⟩ ⟨"SupplyGridModel", "nextWider", "()I"⟩) ∈ lw_all := lw_g (lw_at lw_ms 104 rfl) rfl
theorem qs105 : (Cond.selects "SupplyGridModel" ⟨"SupplyGridModel", "beginsWith", "()V"⟩ ⟨"SupplyGridModel", "beginsWith", "()V"⟩) ∈ lw_all := lw_g (lw_at lw_ms 105 rfl) rfl
theorem qs106 : (Cond.selects "SupplyGridModel" ⟨"SupplyGridModel", "fewestOf", "()I"⟩ ⟨"SupplyGridModel", "fewestOf", "()I"⟩) ∈ lw_all := lw_g (lw_at lw_ms 106 rfl) rfl
theorem qs107 : (Cond.selects "SupplyGridModel" ⟨"SupplyGridModel", "does", "(III)Z"⟩ ⟨"SupplyGridModel", "does", "(III)Z"⟩) ∈ lw_all := lw_g (lw_at lw_ms 107 rfl) rfl
theorem qs108 : (Cond.selects "SupplyGridModel" ⟨"SupplyGridModel", "slimsAll", "()I"⟩ ⟨"SupplyGridModel", "slimsAll", "()I"⟩) ∈ lw_all := lw_g (lw_at lw_ms 108 rfl) rfl
theorem qs109 : (Cond.selects "SupplyGridModel" ⟨"SupplyGridModel", "nextSlim", "()I"⟩ ⟨"SupplyGridModel", "nextSlim", "()I"⟩) ∈ lw_all := lw_g (lw_at lw_ms 109 rfl) rfl
theorem qs110 : (Cond.selects "SupplyGridModel" ⟨"SupplyGridModel", "pairBy", "(I)I"⟩ ⟨"SupplyGridModel", "pairBy", "(I)I"⟩) ∈ lw_all := lw_g (lw_at lw_ms 110 rfl) rfl
theorem qs111 : (Cond.selects "SupplyGridModel" ⟨"SupplyGridModel", "isPair", "(II)Z"⟩ ⟨"SupplyGridModel", "isPair", "(II)Z"⟩) ∈ lw_all := lw_g (lw_at lw_ms 111 rfl) rfl
theorem qs112 : (Cond.selects "SupplyGridModel" ⟨"SupplyGridModel", "holdsWithout", "(II)Z"⟩ ⟨"SupplyGridModel", "holdsWithout", "(II)Z"⟩) ∈ lw_all := lw_g (lw_at lw_ms 112 rfl) rfl
theorem qs113 : (Cond.selects "SupplyGridModel" ⟨"SupplyGridModel", "tries", "(II)I"⟩ ⟨"SupplyGridModel", "tries", "(II)I"⟩) ∈ lw_all := lw_g (lw_at lw_ms 113 rfl) rfl
theorem qs114 : (Cond.selects "SupplyGridModel" ⟨"SupplyGridModel", "draws1", "(I)I"⟩ ⟨"SupplyGridModel", "draws1", "(I)I"⟩) ∈ lw_all := lw_g (lw_at lw_ms 114 rfl) rfl
theorem qs115 : (Cond.selects "SupplyGridModel" ⟨"SupplyGridModel", "isFull", "()Z"⟩ ⟨"SupplyGridModel", "isFull", "()Z"⟩) ∈ lw_all := lw_g (lw_at lw_ms 115 rfl) rfl
theorem qs116 : (Cond.selects "SupplyGridModel" ⟨"SupplyGridModel", "remembers", "(II)V"⟩ ⟨"SupplyGridModel", "remembers", "(II)V"⟩) ∈ lw_all := lw_g (lw_at lw_ms 116 rfl) rfl
theorem qs117 : (Cond.selects "SupplyGridModel" ⟨"SupplyGridModel", "takesBack", "()V"⟩ ⟨"SupplyGridModel", "takesBack", "()V"⟩) ∈ lw_all := lw_g (lw_at lw_ms 117 rfl) rfl
