-- ===== PART A: goes FIRST, ahead of the names: the tables' words, and 'selects' of the private methods out of them =====
/-- a private method of a class that the tables say can be made, by its rows of tables_1 -/
def lw_okq (q : MethodName × Nat) : Prop := (q.1.cls ≠ "java/lang/invoke/MethodHandle" ∧ q.1.cls ≠ "java/lang/invoke/VarHandle") ∧ Cond.instantiable q.1.cls q.2 ∈ tables_1 ∧ Cond.privateMethod q.1 ∈ tables_1 ∧ Cond.instanceMethod q.1 ∈ tables_1
set_option maxRecDepth 100000
theorem lw_t1 {w : Cond} (h : w ∈ tables_1_1) : w ∈ tables_1 := List.mem_append_left _ h
theorem lw_t2 {w : Cond} (h : w ∈ tables_1_2) : w ∈ tables_1 := List.mem_append_right _ (List.mem_append_left _ h)
theorem lw_t3 {w : Cond} (h : w ∈ tables_1_3) : w ∈ tables_1 := List.mem_append_right _ (List.mem_append_right _ (List.mem_append_left _ h))
theorem lw_t4 {w : Cond} (h : w ∈ tables_1_4) : w ∈ tables_1 := List.mem_append_right _ (List.mem_append_right _ (List.mem_append_right _ (List.mem_append_left _ h)))
theorem lw_t5 {w : Cond} (h : w ∈ tables_1_5) : w ∈ tables_1 := List.mem_append_right _ (List.mem_append_right _ (List.mem_append_right _ (List.mem_append_right _ (List.mem_append_left _ h))))
theorem lw_t6 {w : Cond} (h : w ∈ tables_1_6) : w ∈ tables_1 := List.mem_append_right _ (List.mem_append_right _ (List.mem_append_right _ (List.mem_append_right _ (List.mem_append_right _ h))))
theorem lw_p0 : lw_okq (⟨"TankField", "noTank", "(I)Z"⟩, 15) := ⟨⟨by decide +kernel, by decide +kernel⟩, lw_t1 (List.mem_of_getElem? (i := 24) rfl), lw_t1 (List.mem_of_getElem? (i := 147) rfl), lw_t1 (List.mem_of_getElem? (i := 148) rfl)⟩
theorem lw_p1 : lw_okq (⟨"TankField$Tank", "next", "(II)I"⟩, 6) := ⟨⟨by decide +kernel, by decide +kernel⟩, lw_t1 (List.mem_of_getElem? (i := 112) rfl), lw_t1 (List.mem_of_getElem? (i := 186) rfl), lw_t1 (List.mem_of_getElem? (i := 187) rfl)⟩
theorem lw_p2 : lw_okq (⟨"TankField", "refusedHit", "(IIII)I"⟩, 15) := ⟨⟨by decide +kernel, by decide +kernel⟩, lw_t1 (List.mem_of_getElem? (i := 24) rfl), lw_t1 (List.mem_of_getElem? (i := 201) rfl), lw_t1 (List.mem_of_getElem? (i := 202) rfl)⟩
theorem lw_p3 : lw_okq (⟨"TankField", "made", "(IIII)LTankField$Plain;"⟩, 15) := ⟨⟨by decide +kernel, by decide +kernel⟩, lw_t1 (List.mem_of_getElem? (i := 24) rfl), lw_t1 (List.mem_of_getElem? (i := 205) rfl), lw_t1 (List.mem_of_getElem? (i := 206) rfl)⟩
theorem lw_p4 : lw_okq (⟨"TankField", "noHit", "(I)Z"⟩, 15) := ⟨⟨by decide +kernel, by decide +kernel⟩, lw_t1 (List.mem_of_getElem? (i := 24) rfl), lw_t2 (List.mem_of_getElem? (i := 68) rfl), lw_t2 (List.mem_of_getElem? (i := 69) rfl)⟩
theorem lw_p5 : lw_okq (⟨"TankField", "built", "(I)LTankField$Building;"⟩, 15) := ⟨⟨by decide +kernel, by decide +kernel⟩, lw_t1 (List.mem_of_getElem? (i := 24) rfl), lw_t2 (List.mem_of_getElem? (i := 126) rfl), lw_t2 (List.mem_of_getElem? (i := 127) rfl)⟩
theorem lw_p6 : lw_okq (⟨"TankField", "joinNear", "(I)V"⟩, 15) := ⟨⟨by decide +kernel, by decide +kernel⟩, lw_t1 (List.mem_of_getElem? (i := 24) rfl), lw_t2 (List.mem_of_getElem? (i := 130) rfl), lw_t2 (List.mem_of_getElem? (i := 131) rfl)⟩
theorem lw_p7 : lw_okq (⟨"TankField", "isAsked", "(II)Z"⟩, 15) := ⟨⟨by decide +kernel, by decide +kernel⟩, lw_t1 (List.mem_of_getElem? (i := 24) rfl), lw_t2 (List.mem_of_getElem? (i := 134) rfl), lw_t2 (List.mem_of_getElem? (i := 135) rfl)⟩
theorem lw_p8 : lw_okq (⟨"TankField", "rootOf", "(I)I"⟩, 15) := ⟨⟨by decide +kernel, by decide +kernel⟩, lw_t1 (List.mem_of_getElem? (i := 24) rfl), lw_t2 (List.mem_of_getElem? (i := 145) rfl), lw_t2 (List.mem_of_getElem? (i := 146) rfl)⟩
theorem lw_p9 : lw_okq (⟨"TankField", "eventOf", "(II)LTankField$Event;"⟩, 15) := ⟨⟨by decide +kernel, by decide +kernel⟩, lw_t1 (List.mem_of_getElem? (i := 24) rfl), lw_t2 (List.mem_of_getElem? (i := 149) rfl), lw_t2 (List.mem_of_getElem? (i := 150) rfl)⟩
theorem lw_p10 : lw_okq (⟨"TankField", "noEvent", "(I)Z"⟩, 15) := ⟨⟨by decide +kernel, by decide +kernel⟩, lw_t1 (List.mem_of_getElem? (i := 24) rfl), lw_t2 (List.mem_of_getElem? (i := 207) rfl), lw_t2 (List.mem_of_getElem? (i := 208) rfl)⟩
theorem lw_p11 : lw_okq (⟨"TankField", "noMember", "(II)Z"⟩, 15) := ⟨⟨by decide +kernel, by decide +kernel⟩, lw_t1 (List.mem_of_getElem? (i := 24) rfl), lw_t3 (List.mem_of_getElem? (i := 5) rfl), lw_t3 (List.mem_of_getElem? (i := 6) rfl)⟩
theorem lw_p12 : lw_okq (⟨"java/lang/NullPointerException", "getExtendedNPEMessage", "()Ljava/lang/String;"⟩, 8) := ⟨⟨by decide +kernel, by decide +kernel⟩, lw_t3 (List.mem_of_getElem? (i := 87) rfl), lw_t3 (List.mem_of_getElem? (i := 85) rfl), lw_t3 (List.mem_of_getElem? (i := 86) rfl)⟩
theorem lw_p13 : lw_okq (⟨"java/lang/Throwable", "fillInStackTrace", "(I)Ljava/lang/Throwable;"⟩, 6) := ⟨⟨by decide +kernel, by decide +kernel⟩, lw_t3 (List.mem_of_getElem? (i := 99) rfl), lw_t3 (List.mem_of_getElem? (i := 97) rfl), lw_t3 (List.mem_of_getElem? (i := 98) rfl)⟩
theorem lw_p14 : lw_okq (⟨"TankField", "refused", "(I)I"⟩, 15) := ⟨⟨by decide +kernel, by decide +kernel⟩, lw_t1 (List.mem_of_getElem? (i := 24) rfl), lw_t3 (List.mem_of_getElem? (i := 146) rfl), lw_t3 (List.mem_of_getElem? (i := 147) rfl)⟩
theorem lw_p15 : lw_okq (⟨"TankField", "fails", "(I)I"⟩, 15) := ⟨⟨by decide +kernel, by decide +kernel⟩, lw_t1 (List.mem_of_getElem? (i := 24) rfl), lw_t3 (List.mem_of_getElem? (i := 164) rfl), lw_t3 (List.mem_of_getElem? (i := 165) rfl)⟩
def lw_privs_1 : List (MethodName × Nat) := [(⟨"TankField", "noTank", "(I)Z"⟩, 15), (⟨"TankField$Tank", "next", "(II)I"⟩, 6), (⟨"TankField", "refusedHit", "(IIII)I"⟩, 15), (⟨"TankField", "made", "(IIII)LTankField$Plain;"⟩, 15), (⟨"TankField", "noHit", "(I)Z"⟩, 15), (⟨"TankField", "built", "(I)LTankField$Building;"⟩, 15), (⟨"TankField", "joinNear", "(I)V"⟩, 15), (⟨"TankField", "isAsked", "(II)Z"⟩, 15), (⟨"TankField", "rootOf", "(I)I"⟩, 15), (⟨"TankField", "eventOf", "(II)LTankField$Event;"⟩, 15), (⟨"TankField", "noEvent", "(I)Z"⟩, 15), (⟨"TankField", "noMember", "(II)Z"⟩, 15), (⟨"java/lang/NullPointerException", "getExtendedNPEMessage", "()Ljava/lang/String;"⟩, 8), (⟨"java/lang/Throwable", "fillInStackTrace", "(I)Ljava/lang/Throwable;"⟩, 6), (⟨"TankField", "refused", "(I)I"⟩, 15), (⟨"TankField", "fails", "(I)I"⟩, 15)]
theorem lw_r1 : ∀ q ∈ lw_privs_1, lw_okq q := List.forall_mem_cons.mpr ⟨lw_p0, List.forall_mem_cons.mpr ⟨lw_p1, List.forall_mem_cons.mpr ⟨lw_p2, List.forall_mem_cons.mpr ⟨lw_p3, List.forall_mem_cons.mpr ⟨lw_p4, List.forall_mem_cons.mpr ⟨lw_p5, List.forall_mem_cons.mpr ⟨lw_p6, List.forall_mem_cons.mpr ⟨lw_p7, List.forall_mem_cons.mpr ⟨lw_p8, List.forall_mem_cons.mpr ⟨lw_p9, List.forall_mem_cons.mpr ⟨lw_p10, List.forall_mem_cons.mpr ⟨lw_p11, List.forall_mem_cons.mpr ⟨lw_p12, List.forall_mem_cons.mpr ⟨lw_p13, List.forall_mem_cons.mpr ⟨lw_p14, List.forall_mem_cons.mpr ⟨lw_p15, fun _ h => absurd h List.not_mem_nil⟩⟩⟩⟩⟩⟩⟩⟩⟩⟩⟩⟩⟩⟩⟩⟩
theorem lw_p16 : lw_okq (⟨"TankField", "rowIn", "(I)Ljava/lang/Object;"⟩, 15) := ⟨⟨by decide +kernel, by decide +kernel⟩, lw_t1 (List.mem_of_getElem? (i := 24) rfl), lw_t4 (List.mem_of_getElem? (i := 4) rfl), lw_t4 (List.mem_of_getElem? (i := 5) rfl)⟩
theorem lw_p17 : lw_okq (⟨"TankField", "failsLong", "(I)J"⟩, 15) := ⟨⟨by decide +kernel, by decide +kernel⟩, lw_t1 (List.mem_of_getElem? (i := 24) rfl), lw_t4 (List.mem_of_getElem? (i := 11) rfl), lw_t4 (List.mem_of_getElem? (i := 12) rfl)⟩
theorem lw_p18 : lw_okq (⟨"TankField", "added", "([I)I"⟩, 15) := ⟨⟨by decide +kernel, by decide +kernel⟩, lw_t1 (List.mem_of_getElem? (i := 24) rfl), lw_t4 (List.mem_of_getElem? (i := 41) rfl), lw_t4 (List.mem_of_getElem? (i := 42) rfl)⟩
theorem lw_p19 : lw_okq (⟨"TankFieldModel", "against", "(IIII)I"⟩, 40) := ⟨⟨by decide +kernel, by decide +kernel⟩, lw_t4 (List.mem_of_getElem? (i := 160) rfl), lw_t5 (List.mem_of_getElem? (i := 58) rfl), lw_t5 (List.mem_of_getElem? (i := 59) rfl)⟩
theorem lw_p20 : lw_okq (⟨"TankFieldModel", "isTank", "(I)Z"⟩, 40) := ⟨⟨by decide +kernel, by decide +kernel⟩, lw_t4 (List.mem_of_getElem? (i := 160) rfl), lw_t5 (List.mem_of_getElem? (i := 62) rfl), lw_t5 (List.mem_of_getElem? (i := 63) rfl)⟩
theorem lw_p21 : lw_okq (⟨"TankFieldModel", "addHit", "(IIII)V"⟩, 40) := ⟨⟨by decide +kernel, by decide +kernel⟩, lw_t4 (List.mem_of_getElem? (i := 160) rfl), lw_t5 (List.mem_of_getElem? (i := 66) rfl), lw_t5 (List.mem_of_getElem? (i := 67) rfl)⟩
theorem lw_p22 : lw_okq (⟨"TankFieldModel", "fails", "(I)I"⟩, 40) := ⟨⟨by decide +kernel, by decide +kernel⟩, lw_t4 (List.mem_of_getElem? (i := 160) rfl), lw_t5 (List.mem_of_getElem? (i := 74) rfl), lw_t5 (List.mem_of_getElem? (i := 75) rfl)⟩
theorem lw_p23 : lw_okq (⟨"TankFieldModel", "isLooked", "(I)Z"⟩, 40) := ⟨⟨by decide +kernel, by decide +kernel⟩, lw_t4 (List.mem_of_getElem? (i := 160) rfl), lw_t5 (List.mem_of_getElem? (i := 91) rfl), lw_t5 (List.mem_of_getElem? (i := 92) rfl)⟩
theorem lw_p24 : lw_okq (⟨"TankFieldModel", "downUpTo", "(II)I"⟩, 40) := ⟨⟨by decide +kernel, by decide +kernel⟩, lw_t4 (List.mem_of_getElem? (i := 160) rfl), lw_t5 (List.mem_of_getElem? (i := 95) rfl), lw_t5 (List.mem_of_getElem? (i := 96) rfl)⟩
theorem lw_p25 : lw_okq (⟨"TankFieldModel", "isHit", "(I)Z"⟩, 40) := ⟨⟨by decide +kernel, by decide +kernel⟩, lw_t4 (List.mem_of_getElem? (i := 160) rfl), lw_t5 (List.mem_of_getElem? (i := 103) rfl), lw_t5 (List.mem_of_getElem? (i := 104) rfl)⟩
theorem lw_p26 : lw_okq (⟨"TankFieldModel", "rightTime", "(I)I"⟩, 40) := ⟨⟨by decide +kernel, by decide +kernel⟩, lw_t4 (List.mem_of_getElem? (i := 160) rfl), lw_t5 (List.mem_of_getElem? (i := 107) rfl), lw_t5 (List.mem_of_getElem? (i := 108) rfl)⟩
theorem lw_p27 : lw_okq (⟨"TankFieldModel", "kindOf", "(I)I"⟩, 40) := ⟨⟨by decide +kernel, by decide +kernel⟩, lw_t4 (List.mem_of_getElem? (i := 160) rfl), lw_t5 (List.mem_of_getElem? (i := 111) rfl), lw_t5 (List.mem_of_getElem? (i := 112) rfl)⟩
theorem lw_p28 : lw_okq (⟨"TankFieldModel", "amountOf", "(I)I"⟩, 40) := ⟨⟨by decide +kernel, by decide +kernel⟩, lw_t4 (List.mem_of_getElem? (i := 160) rfl), lw_t5 (List.mem_of_getElem? (i := 115) rfl), lw_t5 (List.mem_of_getElem? (i := 116) rfl)⟩
theorem lw_p29 : lw_okq (⟨"TankFieldModel", "make", "(I)V"⟩, 40) := ⟨⟨by decide +kernel, by decide +kernel⟩, lw_t4 (List.mem_of_getElem? (i := 160) rfl), lw_t5 (List.mem_of_getElem? (i := 135) rfl), lw_t5 (List.mem_of_getElem? (i := 136) rfl)⟩
theorem lw_p30 : lw_okq (⟨"TankFieldModel", "join", "(I)V"⟩, 40) := ⟨⟨by decide +kernel, by decide +kernel⟩, lw_t4 (List.mem_of_getElem? (i := 160) rfl), lw_t5 (List.mem_of_getElem? (i := 139) rfl), lw_t5 (List.mem_of_getElem? (i := 140) rfl)⟩
theorem lw_p31 : lw_okq (⟨"TankFieldModel", "isNear", "(II)Z"⟩, 40) := ⟨⟨by decide +kernel, by decide +kernel⟩, lw_t4 (List.mem_of_getElem? (i := 160) rfl), lw_t5 (List.mem_of_getElem? (i := 143) rfl), lw_t5 (List.mem_of_getElem? (i := 144) rfl)⟩
def lw_privs_2 : List (MethodName × Nat) := [(⟨"TankField", "rowIn", "(I)Ljava/lang/Object;"⟩, 15), (⟨"TankField", "failsLong", "(I)J"⟩, 15), (⟨"TankField", "added", "([I)I"⟩, 15), (⟨"TankFieldModel", "against", "(IIII)I"⟩, 40), (⟨"TankFieldModel", "isTank", "(I)Z"⟩, 40), (⟨"TankFieldModel", "addHit", "(IIII)V"⟩, 40), (⟨"TankFieldModel", "fails", "(I)I"⟩, 40), (⟨"TankFieldModel", "isLooked", "(I)Z"⟩, 40), (⟨"TankFieldModel", "downUpTo", "(II)I"⟩, 40), (⟨"TankFieldModel", "isHit", "(I)Z"⟩, 40), (⟨"TankFieldModel", "rightTime", "(I)I"⟩, 40), (⟨"TankFieldModel", "kindOf", "(I)I"⟩, 40), (⟨"TankFieldModel", "amountOf", "(I)I"⟩, 40), (⟨"TankFieldModel", "make", "(I)V"⟩, 40), (⟨"TankFieldModel", "join", "(I)V"⟩, 40), (⟨"TankFieldModel", "isNear", "(II)Z"⟩, 40)]
theorem lw_r2 : ∀ q ∈ lw_privs_2, lw_okq q := List.forall_mem_cons.mpr ⟨lw_p16, List.forall_mem_cons.mpr ⟨lw_p17, List.forall_mem_cons.mpr ⟨lw_p18, List.forall_mem_cons.mpr ⟨lw_p19, List.forall_mem_cons.mpr ⟨lw_p20, List.forall_mem_cons.mpr ⟨lw_p21, List.forall_mem_cons.mpr ⟨lw_p22, List.forall_mem_cons.mpr ⟨lw_p23, List.forall_mem_cons.mpr ⟨lw_p24, List.forall_mem_cons.mpr ⟨lw_p25, List.forall_mem_cons.mpr ⟨lw_p26, List.forall_mem_cons.mpr ⟨lw_p27, List.forall_mem_cons.mpr ⟨lw_p28, List.forall_mem_cons.mpr ⟨lw_p29, List.forall_mem_cons.mpr ⟨lw_p30, List.forall_mem_cons.mpr ⟨lw_p31, fun _ h => absurd h List.not_mem_nil⟩⟩⟩⟩⟩⟩⟩⟩⟩⟩⟩⟩⟩⟩⟩⟩
theorem lw_p32 : lw_okq (⟨"TankFieldModel", "findBest", "(I)I"⟩, 40) := ⟨⟨by decide +kernel, by decide +kernel⟩, lw_t4 (List.mem_of_getElem? (i := 160) rfl), lw_t5 (List.mem_of_getElem? (i := 147) rfl), lw_t5 (List.mem_of_getElem? (i := 148) rfl)⟩
theorem lw_p33 : lw_okq (⟨"TankFieldModel", "isAhead", "(II)Z"⟩, 40) := ⟨⟨by decide +kernel, by decide +kernel⟩, lw_t4 (List.mem_of_getElem? (i := 160) rfl), lw_t5 (List.mem_of_getElem? (i := 151) rfl), lw_t5 (List.mem_of_getElem? (i := 152) rfl)⟩
theorem lw_p34 : lw_okq (⟨"TankFieldModel", "isNew", "(I)Z"⟩, 40) := ⟨⟨by decide +kernel, by decide +kernel⟩, lw_t4 (List.mem_of_getElem? (i := 160) rfl), lw_t5 (List.mem_of_getElem? (i := 159) rfl), lw_t5 (List.mem_of_getElem? (i := 160) rfl)⟩
theorem lw_p35 : lw_okq (⟨"TankFieldModel", "isEvent", "(I)Z"⟩, 40) := ⟨⟨by decide +kernel, by decide +kernel⟩, lw_t4 (List.mem_of_getElem? (i := 160) rfl), lw_t5 (List.mem_of_getElem? (i := 167) rfl), lw_t5 (List.mem_of_getElem? (i := 168) rfl)⟩
theorem lw_p36 : lw_okq (⟨"TankFieldModel", "leastTime", "(I)I"⟩, 40) := ⟨⟨by decide +kernel, by decide +kernel⟩, lw_t4 (List.mem_of_getElem? (i := 160) rfl), lw_t5 (List.mem_of_getElem? (i := 179) rfl), lw_t5 (List.mem_of_getElem? (i := 180) rfl)⟩
theorem lw_p37 : lw_okq (⟨"TankFieldModel", "isMember", "(II)Z"⟩, 40) := ⟨⟨by decide +kernel, by decide +kernel⟩, lw_t4 (List.mem_of_getElem? (i := 160) rfl), lw_t5 (List.mem_of_getElem? (i := 187) rfl), lw_t5 (List.mem_of_getElem? (i := 188) rfl)⟩
theorem lw_p38 : lw_okq (⟨"TankFieldModel", "makeFront", "(I)V"⟩, 40) := ⟨⟨by decide +kernel, by decide +kernel⟩, lw_t4 (List.mem_of_getElem? (i := 160) rfl), lw_t5 (List.mem_of_getElem? (i := 195) rfl), lw_t5 (List.mem_of_getElem? (i := 196) rfl)⟩
theorem lw_p39 : lw_okq (⟨"TankFieldModel", "errorOf", "(II)J"⟩, 40) := ⟨⟨by decide +kernel, by decide +kernel⟩, lw_t4 (List.mem_of_getElem? (i := 160) rfl), lw_t5 (List.mem_of_getElem? (i := 206) rfl), lw_t5 (List.mem_of_getElem? (i := 207) rfl)⟩
theorem lw_p40 : lw_okq (⟨"TankFieldModel", "lost", "(I)J"⟩, 40) := ⟨⟨by decide +kernel, by decide +kernel⟩, lw_t4 (List.mem_of_getElem? (i := 160) rfl), lw_t5 (List.mem_of_getElem? (i := 235) rfl), lw_t5 (List.mem_of_getElem? (i := 236) rfl)⟩
theorem lw_p41 : lw_okq (⟨"TankFieldModel", "begins", "(I)V"⟩, 40) := ⟨⟨by decide +kernel, by decide +kernel⟩, lw_t4 (List.mem_of_getElem? (i := 160) rfl), lw_t6 (List.mem_of_getElem? (i := 3) rfl), lw_t6 (List.mem_of_getElem? (i := 4) rfl)⟩
def lw_privs_3 : List (MethodName × Nat) := [(⟨"TankFieldModel", "findBest", "(I)I"⟩, 40), (⟨"TankFieldModel", "isAhead", "(II)Z"⟩, 40), (⟨"TankFieldModel", "isNew", "(I)Z"⟩, 40), (⟨"TankFieldModel", "isEvent", "(I)Z"⟩, 40), (⟨"TankFieldModel", "leastTime", "(I)I"⟩, 40), (⟨"TankFieldModel", "isMember", "(II)Z"⟩, 40), (⟨"TankFieldModel", "makeFront", "(I)V"⟩, 40), (⟨"TankFieldModel", "errorOf", "(II)J"⟩, 40), (⟨"TankFieldModel", "lost", "(I)J"⟩, 40), (⟨"TankFieldModel", "begins", "(I)V"⟩, 40)]
theorem lw_r3 : ∀ q ∈ lw_privs_3, lw_okq q := List.forall_mem_cons.mpr ⟨lw_p32, List.forall_mem_cons.mpr ⟨lw_p33, List.forall_mem_cons.mpr ⟨lw_p34, List.forall_mem_cons.mpr ⟨lw_p35, List.forall_mem_cons.mpr ⟨lw_p36, List.forall_mem_cons.mpr ⟨lw_p37, List.forall_mem_cons.mpr ⟨lw_p38, List.forall_mem_cons.mpr ⟨lw_p39, List.forall_mem_cons.mpr ⟨lw_p40, List.forall_mem_cons.mpr ⟨lw_p41, fun _ h => absurd h List.not_mem_nil⟩⟩⟩⟩⟩⟩⟩⟩⟩⟩
def lw_privs : List (MethodName × Nat) := lw_privs_1 ++ (lw_privs_2 ++ (lw_privs_3))
def lw_tbl : List Cond := k2_sels lw_privs ++ tables_1
theorem lw_privs_ok : ∀ q ∈ lw_privs, lw_okq q := by
  show ∀ q ∈ lw_privs_1 ++ (lw_privs_2 ++ (lw_privs_3)), lw_okq q
  exact List.forall_mem_append.mpr ⟨lw_r1, List.forall_mem_append.mpr ⟨lw_r2, lw_r3⟩⟩
-- ===== ONE list of words for every method: the tables' words that hold all through a run =====
def lw_all : List Cond := lw_tbl.filter goodWord
/-- a word of the tables by its place: claim/WORDS.tsv -/
theorem lw_w {w : Cond} (i : Nat) (h : lw_tbl[i]? = some w) (g : goodWord w = true) : w ∈ lw_all := List.mem_filter.mpr ⟨List.mem_of_getElem? h, g⟩
theorem lw_all_tbl {w : Cond} (h : w ∈ lw_all) : w ∈ lw_tbl := (List.mem_filter.mp h).1
theorem lw_self : GoodIn lw_all lw_all := fun w h => ⟨h, good_of_word (List.mem_filter.mp h).2⟩
/-- a class's field words, by their places -/
theorem lw_in (ws : List Cond) (ps : List Nat) (hp : ws = ps.filterMap (fun i => lw_tbl[i]?)) (hg : ws.all goodWord = true) : ∀ w ∈ ws, w ∈ lw_all := by
  intro w h
  have h1 := List.all_eq_true.mp hg w h
  rw [hp] at h
  obtain ⟨i, -, hi⟩ := List.mem_filterMap.mp h
  exact lw_w i hi h1
/-- the words of a contract for the method y with code b, L locals, answer r -/
abbrev ws_ (y : MethodName) (b : ByteArray) (L : Nat) (r : Option FieldType) : List Cond := Cond.code y b L r :: lw_all
theorem lw_meth {y : MethodName} {b : ByteArray} {L : Nat} {r : Option FieldType} (h : Cond.code y b L r ∈ lw_all) : GoodIn lw_all (ws_ y b L r) := by
  intro w hw
  rcases List.mem_cons.mp hw with e | e
  · rw [e]
    exact lw_self _ h
  · exact lw_self _ e
theorem lw_app {a c : List Cond} (ha : ∀ w ∈ a, w ∈ lw_all) (hc : GoodIn lw_all c) : GoodIn lw_all (a ++ c) := by
  intro w hw
  rcases List.mem_append.mp hw with e | e
  · exact lw_self w (ha w e)
  · exact hc w e
/-- what a call through an object asks: cwV n hts (lw_V ..) -/
theorem lw_V {own : String} {idx : Nat} {C : String} {y : MethodName} {b : ByteArray} {L : Nat} {r : Option FieldType} (h1 : Cond.methodLink own idx y ∈ lw_all) (h2 : Cond.instanceMethod y ∈ lw_all) (h3 : Cond.selects C y y ∈ lw_all) (h4 : Cond.initialized C ∈ lw_all) (h5 : Cond.code y b L r ∈ lw_all) : GoodIn lw_all (wsV own idx C y (ws_ y b L r)) := by
  refine lw_app ?_ (lw_meth h5)
  intro w hw
  simp only [List.mem_cons, List.not_mem_nil, or_false] at hw
  rcases hw with e | e | e | e
  · rw [e]; exact h1
  · rw [e]; exact h2
  · rw [e]; exact h3
  · rw [e]; exact h4
/-- what a static call asks: va_cwS n hts (lw_S ..) -/
theorem lw_S {own : String} {idx : Nat} {y : MethodName} {b : ByteArray} {L : Nat} {r : Option FieldType} (h1 : Cond.methodLink own idx y ∈ lw_all) (h2 : Cond.static y ∈ lw_all) (h3 : Cond.initialized y.cls ∈ lw_all) (h4 : Cond.code y b L r ∈ lw_all) : GoodIn lw_all (va_wsS own idx y (ws_ y b L r)) := by
  refine lw_app ?_ (lw_meth h4)
  intro w hw
  simp only [List.mem_cons, List.not_mem_nil, or_false] at hw
  rcases hw with e | e | e
  · rw [e]; exact h1
  · rw [e]; exact h2
  · rw [e]; exact h3
/-- the words of a contract for a method WITH HANDLERS (hh: its table) -/
abbrev wsW_ (y : MethodName) (b : ByteArray) (L : Nat) (r : Option FieldType) (hh : List (Nat × Nat × Nat × Nat)) : List Cond := Cond.codeWith y b L r hh :: lw_all
theorem lw_methW {y : MethodName} {b : ByteArray} {L : Nat} {r : Option FieldType} {hh : List (Nat × Nat × Nat × Nat)} (h : Cond.codeWith y b L r hh ∈ lw_all) : GoodIn lw_all (wsW_ y b L r hh) := by
  intro w hw
  rcases List.mem_cons.mp hw with e | e
  · rw [e]
    exact lw_self _ h
  · exact lw_self _ e
/-- any list of words by their places (lw_in), good -/
theorem lw_good {ws : List Cond} (h : ∀ w ∈ ws, w ∈ lw_all) : GoodIn lw_all ws := fun w hw => lw_self w (h w hw)
/-- what a call of a method with handlers asks: vx_cwVW n hts (lw_VW ..), vx_cwSW n hts (lw_SW ..) -/
theorem lw_VW {own : String} {idx : Nat} {C : String} {y : MethodName} {b : ByteArray} {L : Nat} {r : Option FieldType} {hh : List (Nat × Nat × Nat × Nat)} (h1 : Cond.methodLink own idx y ∈ lw_all) (h2 : Cond.instanceMethod y ∈ lw_all) (h3 : Cond.selects C y y ∈ lw_all) (h4 : Cond.initialized C ∈ lw_all) (h5 : Cond.codeWith y b L r hh ∈ lw_all) : GoodIn lw_all (wsV own idx C y (wsW_ y b L r hh)) := by
  refine lw_app ?_ (lw_methW h5)
  intro w hw
  simp only [List.mem_cons, List.not_mem_nil, or_false] at hw
  rcases hw with e | e | e | e
  · rw [e]; exact h1
  · rw [e]; exact h2
  · rw [e]; exact h3
  · rw [e]; exact h4
theorem lw_SW {own : String} {idx : Nat} {y : MethodName} {b : ByteArray} {L : Nat} {r : Option FieldType} {hh : List (Nat × Nat × Nat × Nat)} (h1 : Cond.methodLink own idx y ∈ lw_all) (h2 : Cond.static y ∈ lw_all) (h3 : Cond.initialized y.cls ∈ lw_all) (h4 : Cond.codeWith y b L r hh ∈ lw_all) : GoodIn lw_all (va_wsS own idx y (wsW_ y b L r hh)) := by
  refine lw_app ?_ (lw_methW h4)
  intro w hw
  simp only [List.mem_cons, List.not_mem_nil, or_false] at hw
  rcases hw with e | e | e
  · rw [e]; exact h1
  · rw [e]; exact h2
  · rw [e]; exact h3
/-- a word by its place in its run of the tables -/
theorem lw_at {r : List Cond} (hr : ∀ w ∈ r, w ∈ lw_tbl) {w : Cond} (i : Nat) (h : r[i]? = some w) : w ∈ lw_tbl := hr w (List.mem_of_getElem? h)
theorem lw_g {w : Cond} (h : w ∈ lw_tbl) (g : goodWord w = true) : w ∈ lw_all := List.mem_filter.mpr ⟨h, g⟩
theorem lw_ms : ∀ w ∈ k2_sels lw_privs, w ∈ lw_tbl := fun w h => show w ∈ k2_sels lw_privs ++ tables_1 from List.mem_append_left _ h
theorem lw_m1 : ∀ w ∈ tables_1_1, w ∈ lw_tbl := fun w h => show w ∈ k2_sels lw_privs ++ tables_1 from List.mem_append_right (k2_sels lw_privs) (show w ∈ tables_1 from List.mem_append_left _ h)
theorem lw_m2 : ∀ w ∈ tables_1_2, w ∈ lw_tbl := fun w h => show w ∈ k2_sels lw_privs ++ tables_1 from List.mem_append_right (k2_sels lw_privs) (show w ∈ tables_1 from List.mem_append_right _ (List.mem_append_left _ h))
theorem lw_m3 : ∀ w ∈ tables_1_3, w ∈ lw_tbl := fun w h => show w ∈ k2_sels lw_privs ++ tables_1 from List.mem_append_right (k2_sels lw_privs) (show w ∈ tables_1 from List.mem_append_right _ (List.mem_append_right _ (List.mem_append_left _ h)))
theorem lw_m4 : ∀ w ∈ tables_1_4, w ∈ lw_tbl := fun w h => show w ∈ k2_sels lw_privs ++ tables_1 from List.mem_append_right (k2_sels lw_privs) (show w ∈ tables_1 from List.mem_append_right _ (List.mem_append_right _ (List.mem_append_right _ (List.mem_append_left _ h))))
theorem lw_m5 : ∀ w ∈ tables_1_5, w ∈ lw_tbl := fun w h => show w ∈ k2_sels lw_privs ++ tables_1 from List.mem_append_right (k2_sels lw_privs) (show w ∈ tables_1 from List.mem_append_right _ (List.mem_append_right _ (List.mem_append_right _ (List.mem_append_right _ (List.mem_append_left _ h)))))
theorem lw_m6 : ∀ w ∈ tables_1_6, w ∈ lw_tbl := fun w h => show w ∈ k2_sels lw_privs ++ tables_1 from List.mem_append_right (k2_sels lw_privs) (show w ∈ tables_1 from List.mem_append_right _ (List.mem_append_right _ (List.mem_append_right _ (List.mem_append_right _ (List.mem_append_right _ h)))))
theorem qs0 : (Cond.selects "TankField" ⟨"TankField", "noTank", "(I)Z"⟩ ⟨"TankField", "noTank", "(I)Z"⟩) ∈ lw_all := lw_g (lw_at lw_ms 0 rfl) rfl
theorem qs1 : (Cond.selects "TankField$Tank" ⟨"TankField$Tank", "next", "(II)I"⟩ ⟨"TankField$Tank", "next", "(II)I"⟩) ∈ lw_all := lw_g (lw_at lw_ms 1 rfl) rfl
theorem qs2 : (Cond.selects "TankField" ⟨"TankField", "refusedHit", "(IIII)I"⟩ ⟨"TankField", "refusedHit", "(IIII)I"⟩) ∈ lw_all := lw_g (lw_at lw_ms 2 rfl) rfl
theorem qs3 : (Cond.selects "TankField" ⟨"TankField", "made", "(IIII)LTankField$Plain;"⟩ ⟨"TankField", "made", "(IIII)LTankField$Plain;"⟩) ∈ lw_all := lw_g (lw_at lw_ms 3 rfl) rfl
theorem qs4 : (Cond.selects "TankField" ⟨"TankField", "noHit", "(I)Z"⟩ ⟨"TankField", "noHit", "(I)Z"⟩) ∈ lw_all := lw_g (lw_at lw_ms 4 rfl) rfl
theorem qs5 : (Cond.selects "TankField" ⟨"TankField", "built", "(I)LTankField$Building;"⟩ ⟨"TankField", "built", "(I)LTankField$Building;"⟩) ∈ lw_all := lw_g (lw_at lw_ms 5 rfl) rfl
theorem qs6 : (Cond.selects "TankField" ⟨"TankField", "joinNear", "(I)V"⟩ ⟨"TankField", "joinNear", "(I)V"⟩) ∈ lw_all := lw_g (lw_at lw_ms 6 rfl) rfl
theorem qs7 : (Cond.selects "TankField" ⟨"TankField", "isAsked", "(II)Z"⟩ ⟨"TankField", "isAsked", "(II)Z"⟩) ∈ lw_all := lw_g (lw_at lw_ms 7 rfl) rfl
theorem qs8 : (Cond.selects "TankField" ⟨"TankField", "rootOf", "(I)I"⟩ ⟨"TankField", "rootOf", "(I)I"⟩) ∈ lw_all := lw_g (lw_at lw_ms 8 rfl) rfl
theorem qs9 : (Cond.selects "TankField" ⟨"TankField", "eventOf", "(II)LTankField$Event;"⟩ ⟨"TankField", "eventOf", "(II)LTankField$Event;"⟩) ∈ lw_all := lw_g (lw_at lw_ms 9 rfl) rfl
theorem qs10 : (Cond.selects "TankField" ⟨"TankField", "noEvent", "(I)Z"⟩ ⟨"TankField", "noEvent", "(I)Z"⟩) ∈ lw_all := lw_g (lw_at lw_ms 10 rfl) rfl
theorem qs11 : (Cond.selects "TankField" ⟨"TankField", "noMember", "(II)Z"⟩ ⟨"TankField", "noMember", "(II)Z"⟩) ∈ lw_all := lw_g (lw_at lw_ms 11 rfl) rfl
theorem qs12 : (Cond.selects "java/lang/NullPointerException" ⟨"java/lang/NullPointerException", "getExtendedNPEMessage", "()Ljava/lang/String;"⟩ ⟨"java/lang/NullPointerException", "getExtendedNPEMessage", "()Ljava/lang/String;"⟩) ∈ lw_all := lw_g (lw_at lw_ms 12 rfl) rfl
theorem qs13 : (Cond.selects "java/lang/Throwable" ⟨"java/lang/Throwable", "fillInStackTrace", "(I)Ljava/lang/Throwable;"⟩ ⟨"java/lang/Throwable", "fillInStackTrace", "(I)Ljava/lang/Throwable;"⟩) ∈ lw_all := lw_g (lw_at lw_ms 13 rfl) rfl
theorem qs14 : (Cond.selects "TankField" ⟨"TankField", "refused", "(I)I"⟩ ⟨"TankField", "refused", "(I)I"⟩) ∈ lw_all := lw_g (lw_at lw_ms 14 rfl) rfl
theorem qs15 : (Cond.selects "TankField" ⟨"TankField", "fails", "(I)I"⟩ ⟨"TankField", "fails", "(I)I"⟩) ∈ lw_all := lw_g (lw_at lw_ms 15 rfl) rfl
theorem qs16 : (Cond.selects "TankField" ⟨"TankField", "rowIn", "(I)Ljava/lang/Object;"⟩ ⟨"TankField", "rowIn", "(I)Ljava/lang/Object;"⟩) ∈ lw_all := lw_g (lw_at lw_ms 16 rfl) rfl
theorem qs17 : (Cond.selects "TankField" ⟨"TankField", "failsLong", "(I)J"⟩ ⟨"TankField", "failsLong", "(I)J"⟩) ∈ lw_all := lw_g (lw_at lw_ms 17 rfl) rfl
theorem qs18 : (Cond.selects "TankField" ⟨"TankField", "added", "([I)I"⟩ ⟨"TankField", "added", "([I)I"⟩) ∈ lw_all := lw_g (lw_at lw_ms 18 rfl) rfl
theorem qs19 : (Cond.selects "TankFieldModel" ⟨"TankFieldModel", "against", "(IIII)I"⟩ ⟨"TankFieldModel", "against", "(IIII)I"⟩) ∈ lw_all := lw_g (lw_at lw_ms 19 rfl) rfl
theorem qs20 : (Cond.selects "TankFieldModel" ⟨"TankFieldModel", "isTank", "(I)Z"⟩ ⟨"TankFieldModel", "isTank", "(I)Z"⟩) ∈ lw_all := lw_g (lw_at lw_ms 20 rfl) rfl
theorem qs21 : (Cond.selects "TankFieldModel" ⟨"TankFieldModel", "addHit", "(IIII)V"⟩ ⟨"TankFieldModel", "addHit", "(IIII)V"⟩) ∈ lw_all := lw_g (lw_at lw_ms 21 rfl) rfl
theorem qs22 : (Cond.selects "TankFieldModel" ⟨"TankFieldModel", "fails", "(I)I"⟩ ⟨"TankFieldModel", "fails", "(I)I"⟩) ∈ lw_all := lw_g (lw_at lw_ms 22 rfl) rfl
theorem qs23 : (Cond.selects "TankFieldModel" ⟨"TankFieldModel", "isLooked", "(I)Z"⟩ ⟨"TankFieldModel", "isLooked", "(I)Z"⟩) ∈ lw_all := lw_g (lw_at lw_ms 23 rfl) rfl
theorem qs24 : (Cond.selects "TankFieldModel" ⟨"TankFieldModel", "downUpTo", "(II)I"⟩ ⟨"TankFieldModel", "downUpTo", "(II)I"⟩) ∈ lw_all := lw_g (lw_at lw_ms 24 rfl) rfl
theorem qs25 : (Cond.selects "TankFieldModel" ⟨"TankFieldModel", "isHit", "(I)Z"⟩ ⟨"TankFieldModel", "isHit", "(I)Z"⟩) ∈ lw_all := lw_g (lw_at lw_ms 25 rfl) rfl
theorem qs26 : (Cond.selects "TankFieldModel" ⟨"TankFieldModel", "rightTime", "(I)I"⟩ ⟨"TankFieldModel", "rightTime", "(I)I"⟩) ∈ lw_all := lw_g (lw_at lw_ms 26 rfl) rfl
theorem qs27 : (Cond.selects "TankFieldModel" ⟨"TankFieldModel", "kindOf", "(I)I"⟩ ⟨"TankFieldModel", "kindOf", "(I)I"⟩) ∈ lw_all := lw_g (lw_at lw_ms 27 rfl) rfl
theorem qs28 : (Cond.selects "TankFieldModel" ⟨"TankFieldModel", "amountOf", "(I)I"⟩ ⟨"TankFieldModel", "amountOf", "(I)I"⟩) ∈ lw_all := lw_g (lw_at lw_ms 28 rfl) rfl
theorem qs29 : (Cond.selects "TankFieldModel" ⟨"TankFieldModel", "make", "(I)V"⟩ ⟨"TankFieldModel", "make", "(I)V"⟩) ∈ lw_all := lw_g (lw_at lw_ms 29 rfl) rfl
theorem qs30 : (Cond.selects "TankFieldModel" ⟨"TankFieldModel", "join", "(I)V"⟩ ⟨"TankFieldModel", "join", "(I)V"⟩) ∈ lw_all := lw_g (lw_at lw_ms 30 rfl) rfl
theorem qs31 : (Cond.selects "TankFieldModel" ⟨"TankFieldModel", "isNear", "(II)Z"⟩ ⟨"TankFieldModel", "isNear", "(II)Z"⟩) ∈ lw_all := lw_g (lw_at lw_ms 31 rfl) rfl
theorem qs32 : (Cond.selects "TankFieldModel" ⟨"TankFieldModel", "findBest", "(I)I"⟩ ⟨"TankFieldModel", "findBest", "(I)I"⟩) ∈ lw_all := lw_g (lw_at lw_ms 32 rfl) rfl
theorem qs33 : (Cond.selects "TankFieldModel" ⟨"TankFieldModel", "isAhead", "(II)Z"⟩ ⟨"TankFieldModel", "isAhead", "(II)Z"⟩) ∈ lw_all := lw_g (lw_at lw_ms 33 rfl) rfl
theorem qs34 : (Cond.selects "TankFieldModel" ⟨"TankFieldModel", "isNew", "(I)Z"⟩ ⟨"TankFieldModel", "isNew", "(I)Z"⟩) ∈ lw_all := lw_g (lw_at lw_ms 34 rfl) rfl
theorem qs35 : (Cond.selects "TankFieldModel" ⟨"TankFieldModel", "isEvent", "(I)Z"⟩ ⟨"TankFieldModel", "isEvent", "(I)Z"⟩) ∈ lw_all := lw_g (lw_at lw_ms 35 rfl) rfl
theorem qs36 : (Cond.selects "TankFieldModel" ⟨"TankFieldModel", "leastTime", "(I)I"⟩ ⟨"TankFieldModel", "leastTime", "(I)I"⟩) ∈ lw_all := lw_g (lw_at lw_ms 36 rfl) rfl
theorem qs37 : (Cond.selects "TankFieldModel" ⟨"TankFieldModel", "isMember", "(II)Z"⟩ ⟨"TankFieldModel", "isMember", "(II)Z"⟩) ∈ lw_all := lw_g (lw_at lw_ms 37 rfl) rfl
theorem qs38 : (Cond.selects "TankFieldModel" ⟨"TankFieldModel", "makeFront", "(I)V"⟩ ⟨"TankFieldModel", "makeFront", "(I)V"⟩) ∈ lw_all := lw_g (lw_at lw_ms 38 rfl) rfl
theorem qs39 : (Cond.selects "TankFieldModel" ⟨"TankFieldModel", "errorOf", "(II)J"⟩ ⟨"TankFieldModel", "errorOf", "(II)J"⟩) ∈ lw_all := lw_g (lw_at lw_ms 39 rfl) rfl
theorem qs40 : (Cond.selects "TankFieldModel" ⟨"TankFieldModel", "lost", "(I)J"⟩ ⟨"TankFieldModel", "lost", "(I)J"⟩) ∈ lw_all := lw_g (lw_at lw_ms 40 rfl) rfl
theorem qs41 : (Cond.selects "TankFieldModel" ⟨"TankFieldModel", "begins", "(I)V"⟩ ⟨"TankFieldModel", "begins", "(I)V"⟩) ∈ lw_all := lw_g (lw_at lw_ms 41 rfl) rfl
