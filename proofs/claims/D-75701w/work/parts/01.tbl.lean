-- ===== PART A: goes FIRST, ahead of the names: the tables' words, and 'selects' of the private methods out of them =====
/-- a private method of a class that the tables say can be made, by its rows of tables_1 -/
def lw_okq (q : MethodName × Nat) : Prop := (q.1.cls ≠ "java/lang/invoke/MethodHandle" ∧ q.1.cls ≠ "java/lang/invoke/VarHandle") ∧ Cond.instantiable q.1.cls q.2 ∈ tables_1 ∧ Cond.privateMethod q.1 ∈ tables_1 ∧ Cond.instanceMethod q.1 ∈ tables_1
set_option maxRecDepth 100000
theorem lw_t1 {w : Cond} (h : w ∈ tables_1_1) : w ∈ tables_1 := List.mem_append_left _ h
theorem lw_t2 {w : Cond} (h : w ∈ tables_1_2) : w ∈ tables_1 := List.mem_append_right _ (List.mem_append_left _ h)
theorem lw_t3 {w : Cond} (h : w ∈ tables_1_3) : w ∈ tables_1 := List.mem_append_right _ (List.mem_append_right _ (List.mem_append_left _ h))
theorem lw_t4 {w : Cond} (h : w ∈ tables_1_4) : w ∈ tables_1 := List.mem_append_right _ (List.mem_append_right _ (List.mem_append_right _ (List.mem_append_left _ h)))
theorem lw_t5 {w : Cond} (h : w ∈ tables_1_5) : w ∈ tables_1 := List.mem_append_right _ (List.mem_append_right _ (List.mem_append_right _ (List.mem_append_right _ (List.mem_append_left _ h))))
theorem lw_t6 {w : Cond} (h : w ∈ tables_1_6) : w ∈ tables_1 := List.mem_append_right _ (List.mem_append_right _ (List.mem_append_right _ (List.mem_append_right _ (List.mem_append_right _ (List.mem_append_left _ h)))))
theorem lw_t7 {w : Cond} (h : w ∈ tables_1_7) : w ∈ tables_1 := List.mem_append_right _ (List.mem_append_right _ (List.mem_append_right _ (List.mem_append_right _ (List.mem_append_right _ (List.mem_append_right _ (List.mem_append_left _ h))))))
theorem lw_t8 {w : Cond} (h : w ∈ tables_1_8) : w ∈ tables_1 := List.mem_append_right _ (List.mem_append_right _ (List.mem_append_right _ (List.mem_append_right _ (List.mem_append_right _ (List.mem_append_right _ (List.mem_append_right _ h))))))
theorem lw_p0 : lw_okq (⟨"HighSpots", "push", "(I)V"⟩, 21) := ⟨⟨by decide +kernel, by decide +kernel⟩, lw_t1 (List.mem_of_getElem? (i := 26) rfl), lw_t1 (List.mem_of_getElem? (i := 213) rfl), lw_t1 (List.mem_of_getElem? (i := 214) rfl)⟩
theorem lw_p1 : lw_okq (⟨"HighSpots$Reader", "isGood", "()Z"⟩, 7) := ⟨⟨by decide +kernel, by decide +kernel⟩, lw_t1 (List.mem_of_getElem? (i := 221) rfl), lw_t2 (List.mem_of_getElem? (i := 16) rfl), lw_t2 (List.mem_of_getElem? (i := 17) rfl)⟩
theorem lw_p2 : lw_okq (⟨"HighSpots$Reader", "clause", "()V"⟩, 7) := ⟨⟨by decide +kernel, by decide +kernel⟩, lw_t1 (List.mem_of_getElem? (i := 221) rfl), lw_t2 (List.mem_of_getElem? (i := 20) rfl), lw_t2 (List.mem_of_getElem? (i := 21) rfl)⟩
theorem lw_p3 : lw_okq (⟨"HighSpots$Reader", "here", "()I"⟩, 7) := ⟨⟨by decide +kernel, by decide +kernel⟩, lw_t1 (List.mem_of_getElem? (i := 221) rfl), lw_t2 (List.mem_of_getElem? (i := 24) rfl), lw_t2 (List.mem_of_getElem? (i := 25) rfl)⟩
theorem lw_p4 : lw_okq (⟨"HighSpots$Reader", "bad", "(II)V"⟩, 7) := ⟨⟨by decide +kernel, by decide +kernel⟩, lw_t1 (List.mem_of_getElem? (i := 221) rfl), lw_t2 (List.mem_of_getElem? (i := 115) rfl), lw_t2 (List.mem_of_getElem? (i := 116) rfl)⟩
theorem lw_p5 : lw_okq (⟨"HighSpots$Reader", "sum", "()LHighSpots$Sum;"⟩, 7) := ⟨⟨by decide +kernel, by decide +kernel⟩, lw_t1 (List.mem_of_getElem? (i := 221) rfl), lw_t2 (List.mem_of_getElem? (i := 119) rfl), lw_t2 (List.mem_of_getElem? (i := 120) rfl)⟩
theorem lw_p6 : lw_okq (⟨"HighSpots$Reader", "product", "()LHighSpots$Sum;"⟩, 7) := ⟨⟨by decide +kernel, by decide +kernel⟩, lw_t1 (List.mem_of_getElem? (i := 221) rfl), lw_t2 (List.mem_of_getElem? (i := 125) rfl), lw_t2 (List.mem_of_getElem? (i := 126) rfl)⟩
theorem lw_p7 : lw_okq (⟨"HighSpots$Reader", "factor", "()LHighSpots$Sum;"⟩, 7) := ⟨⟨by decide +kernel, by decide +kernel⟩, lw_t1 (List.mem_of_getElem? (i := 221) rfl), lw_t2 (List.mem_of_getElem? (i := 129) rfl), lw_t2 (List.mem_of_getElem? (i := 130) rfl)⟩
theorem lw_p8 : lw_okq (⟨"HighSpots$Reader", "opens", "()V"⟩, 7) := ⟨⟨by decide +kernel, by decide +kernel⟩, lw_t1 (List.mem_of_getElem? (i := 221) rfl), lw_t2 (List.mem_of_getElem? (i := 133) rfl), lw_t2 (List.mem_of_getElem? (i := 134) rfl)⟩
theorem lw_p9 : lw_okq (⟨"HighSpots$Reader", "must", "(I)V"⟩, 7) := ⟨⟨by decide +kernel, by decide +kernel⟩, lw_t1 (List.mem_of_getElem? (i := 221) rfl), lw_t2 (List.mem_of_getElem? (i := 137) rfl), lw_t2 (List.mem_of_getElem? (i := 138) rfl)⟩
theorem lw_p10 : lw_okq (⟨"HighSpots$Reader", "seesDigit", "()Z"⟩, 7) := ⟨⟨by decide +kernel, by decide +kernel⟩, lw_t1 (List.mem_of_getElem? (i := 221) rfl), lw_t2 (List.mem_of_getElem? (i := 141) rfl), lw_t2 (List.mem_of_getElem? (i := 142) rfl)⟩
theorem lw_p11 : lw_okq (⟨"HighSpots$Reader", "number", "()I"⟩, 7) := ⟨⟨by decide +kernel, by decide +kernel⟩, lw_t1 (List.mem_of_getElem? (i := 221) rfl), lw_t2 (List.mem_of_getElem? (i := 147) rfl), lw_t2 (List.mem_of_getElem? (i := 148) rfl)⟩
theorem lw_p12 : lw_okq (⟨"HighSpots$Reader", "condition", "()LHighSpots$Condition;"⟩, 7) := ⟨⟨by decide +kernel, by decide +kernel⟩, lw_t1 (List.mem_of_getElem? (i := 221) rfl), lw_t2 (List.mem_of_getElem? (i := 188) rfl), lw_t2 (List.mem_of_getElem? (i := 189) rfl)⟩
theorem lw_p13 : lw_okq (⟨"HighSpots$Reader", "pieces", "()LHighSpots$Condition;"⟩, 7) := ⟨⟨by decide +kernel, by decide +kernel⟩, lw_t1 (List.mem_of_getElem? (i := 221) rfl), lw_t2 (List.mem_of_getElem? (i := 194) rfl), lw_t2 (List.mem_of_getElem? (i := 195) rfl)⟩
theorem lw_p14 : lw_okq (⟨"HighSpots$Reader", "piece", "()LHighSpots$Condition;"⟩, 7) := ⟨⟨by decide +kernel, by decide +kernel⟩, lw_t1 (List.mem_of_getElem? (i := 221) rfl), lw_t2 (List.mem_of_getElem? (i := 198) rfl), lw_t2 (List.mem_of_getElem? (i := 199) rfl)⟩
theorem lw_p15 : lw_okq (⟨"HighSpots$Caster", "line", "()V"⟩, 9) := ⟨⟨by decide +kernel, by decide +kernel⟩, lw_t3 (List.mem_of_getElem? (i := 10) rfl), lw_t3 (List.mem_of_getElem? (i := 53) rfl), lw_t3 (List.mem_of_getElem? (i := 54) rfl)⟩
def lw_privs_1 : List (MethodName × Nat) := [(⟨"HighSpots", "push", "(I)V"⟩, 21), (⟨"HighSpots$Reader", "isGood", "()Z"⟩, 7), (⟨"HighSpots$Reader", "clause", "()V"⟩, 7), (⟨"HighSpots$Reader", "here", "()I"⟩, 7), (⟨"HighSpots$Reader", "bad", "(II)V"⟩, 7), (⟨"HighSpots$Reader", "sum", "()LHighSpots$Sum;"⟩, 7), (⟨"HighSpots$Reader", "product", "()LHighSpots$Sum;"⟩, 7), (⟨"HighSpots$Reader", "factor", "()LHighSpots$Sum;"⟩, 7), (⟨"HighSpots$Reader", "opens", "()V"⟩, 7), (⟨"HighSpots$Reader", "must", "(I)V"⟩, 7), (⟨"HighSpots$Reader", "seesDigit", "()Z"⟩, 7), (⟨"HighSpots$Reader", "number", "()I"⟩, 7), (⟨"HighSpots$Reader", "condition", "()LHighSpots$Condition;"⟩, 7), (⟨"HighSpots$Reader", "pieces", "()LHighSpots$Condition;"⟩, 7), (⟨"HighSpots$Reader", "piece", "()LHighSpots$Condition;"⟩, 7), (⟨"HighSpots$Caster", "line", "()V"⟩, 9)]
theorem lw_r1 : ∀ q ∈ lw_privs_1, lw_okq q := List.forall_mem_cons.mpr ⟨lw_p0, List.forall_mem_cons.mpr ⟨lw_p1, List.forall_mem_cons.mpr ⟨lw_p2, List.forall_mem_cons.mpr ⟨lw_p3, List.forall_mem_cons.mpr ⟨lw_p4, List.forall_mem_cons.mpr ⟨lw_p5, List.forall_mem_cons.mpr ⟨lw_p6, List.forall_mem_cons.mpr ⟨lw_p7, List.forall_mem_cons.mpr ⟨lw_p8, List.forall_mem_cons.mpr ⟨lw_p9, List.forall_mem_cons.mpr ⟨lw_p10, List.forall_mem_cons.mpr ⟨lw_p11, List.forall_mem_cons.mpr ⟨lw_p12, List.forall_mem_cons.mpr ⟨lw_p13, List.forall_mem_cons.mpr ⟨lw_p14, List.forall_mem_cons.mpr ⟨lw_p15, fun _ h => absurd h List.not_mem_nil⟩⟩⟩⟩⟩⟩⟩⟩⟩⟩⟩⟩⟩⟩⟩⟩
theorem lw_p16 : lw_okq (⟨"HighSpots$Caster", "heights", "(II)V"⟩, 9) := ⟨⟨by decide +kernel, by decide +kernel⟩, lw_t3 (List.mem_of_getElem? (i := 10) rfl), lw_t3 (List.mem_of_getElem? (i := 97) rfl), lw_t3 (List.mem_of_getElem? (i := 98) rfl)⟩
theorem lw_p17 : lw_okq (⟨"HighSpots$Guide", "all", "()V"⟩, 9) := ⟨⟨by decide +kernel, by decide +kernel⟩, lw_t3 (List.mem_of_getElem? (i := 133) rfl), lw_t3 (List.mem_of_getElem? (i := 162) rfl), lw_t3 (List.mem_of_getElem? (i := 163) rfl)⟩
theorem lw_p18 : lw_okq (⟨"HighSpots$Guide", "one", "()V"⟩, 9) := ⟨⟨by decide +kernel, by decide +kernel⟩, lw_t3 (List.mem_of_getElem? (i := 133) rfl), lw_t3 (List.mem_of_getElem? (i := 169) rfl), lw_t3 (List.mem_of_getElem? (i := 170) rfl)⟩
theorem lw_p19 : lw_okq (⟨"HighSpots$Guide", "rounds", "()V"⟩, 9) := ⟨⟨by decide +kernel, by decide +kernel⟩, lw_t3 (List.mem_of_getElem? (i := 133) rfl), lw_t3 (List.mem_of_getElem? (i := 184) rfl), lw_t3 (List.mem_of_getElem? (i := 185) rfl)⟩
theorem lw_p20 : lw_okq (⟨"HighSpots", "firstMarked", "()I"⟩, 21) := ⟨⟨by decide +kernel, by decide +kernel⟩, lw_t1 (List.mem_of_getElem? (i := 26) rfl), lw_t3 (List.mem_of_getElem? (i := 239) rfl), lw_t4 (List.mem_of_getElem? (i := 0) rfl)⟩
theorem lw_p21 : lw_okq (⟨"HighSpots", "faced", "(I)I"⟩, 21) := ⟨⟨by decide +kernel, by decide +kernel⟩, lw_t1 (List.mem_of_getElem? (i := 26) rfl), lw_t4 (List.mem_of_getElem? (i := 3) rfl), lw_t4 (List.mem_of_getElem? (i := 4) rfl)⟩
theorem lw_p22 : lw_okq (⟨"HighSpots", "widest", "(I)I"⟩, 21) := ⟨⟨by decide +kernel, by decide +kernel⟩, lw_t1 (List.mem_of_getElem? (i := 26) rfl), lw_t4 (List.mem_of_getElem? (i := 8) rfl), lw_t4 (List.mem_of_getElem? (i := 9) rfl)⟩
theorem lw_p23 : lw_okq (⟨"HighSpots", "gapsIn", "(I)I"⟩, 21) := ⟨⟨by decide +kernel, by decide +kernel⟩, lw_t1 (List.mem_of_getElem? (i := 26) rfl), lw_t4 (List.mem_of_getElem? (i := 23) rfl), lw_t4 (List.mem_of_getElem? (i := 24) rfl)⟩
theorem lw_p24 : lw_okq (⟨"HighSpots", "comes", "(I)I"⟩, 21) := ⟨⟨by decide +kernel, by decide +kernel⟩, lw_t1 (List.mem_of_getElem? (i := 26) rfl), lw_t4 (List.mem_of_getElem? (i := 31) rfl), lw_t4 (List.mem_of_getElem? (i := 32) rfl)⟩
theorem lw_p25 : lw_okq (⟨"HighSpots", "laysHighest", "()V"⟩, 21) := ⟨⟨by decide +kernel, by decide +kernel⟩, lw_t1 (List.mem_of_getElem? (i := 26) rfl), lw_t4 (List.mem_of_getElem? (i := 39) rfl), lw_t4 (List.mem_of_getElem? (i := 40) rfl)⟩
theorem lw_p26 : lw_okq (⟨"HighSpots", "fed", "(I)I"⟩, 21) := ⟨⟨by decide +kernel, by decide +kernel⟩, lw_t1 (List.mem_of_getElem? (i := 26) rfl), lw_t4 (List.mem_of_getElem? (i := 48) rfl), lw_t4 (List.mem_of_getElem? (i := 49) rfl)⟩
theorem lw_p27 : lw_okq (⟨"HighSpots", "strokesTo", "(I)I"⟩, 21) := ⟨⟨by decide +kernel, by decide +kernel⟩, lw_t1 (List.mem_of_getElem? (i := 26) rfl), lw_t4 (List.mem_of_getElem? (i := 52) rfl), lw_t4 (List.mem_of_getElem? (i := 53) rfl)⟩
theorem lw_p28 : lw_okq (⟨"HighSpots", "overOf", "(II)I"⟩, 21) := ⟨⟨by decide +kernel, by decide +kernel⟩, lw_t1 (List.mem_of_getElem? (i := 26) rfl), lw_t4 (List.mem_of_getElem? (i := 64) rfl), lw_t4 (List.mem_of_getElem? (i := 65) rfl)⟩
theorem lw_p29 : lw_okq (⟨"HighSpots", "isOneSided", "(I)Z"⟩, 21) := ⟨⟨by decide +kernel, by decide +kernel⟩, lw_t1 (List.mem_of_getElem? (i := 26) rfl), lw_t4 (List.mem_of_getElem? (i := 81) rfl), lw_t4 (List.mem_of_getElem? (i := 82) rfl)⟩
theorem lw_p30 : lw_okq (⟨"HighSpots", "groups", "(I)I"⟩, 21) := ⟨⟨by decide +kernel, by decide +kernel⟩, lw_t1 (List.mem_of_getElem? (i := 26) rfl), lw_t4 (List.mem_of_getElem? (i := 89) rfl), lw_t4 (List.mem_of_getElem? (i := 90) rfl)⟩
theorem lw_p31 : lw_okq (⟨"HighSpots", "takesSpot", "(I)I"⟩, 21) := ⟨⟨by decide +kernel, by decide +kernel⟩, lw_t1 (List.mem_of_getElem? (i := 26) rfl), lw_t4 (List.mem_of_getElem? (i := 93) rfl), lw_t4 (List.mem_of_getElem? (i := 94) rfl)⟩
def lw_privs_2 : List (MethodName × Nat) := [(⟨"HighSpots$Caster", "heights", "(II)V"⟩, 9), (⟨"HighSpots$Guide", "all", "()V"⟩, 9), (⟨"HighSpots$Guide", "one", "()V"⟩, 9), (⟨"HighSpots$Guide", "rounds", "()V"⟩, 9), (⟨"HighSpots", "firstMarked", "()I"⟩, 21), (⟨"HighSpots", "faced", "(I)I"⟩, 21), (⟨"HighSpots", "widest", "(I)I"⟩, 21), (⟨"HighSpots", "gapsIn", "(I)I"⟩, 21), (⟨"HighSpots", "comes", "(I)I"⟩, 21), (⟨"HighSpots", "laysHighest", "()V"⟩, 21), (⟨"HighSpots", "fed", "(I)I"⟩, 21), (⟨"HighSpots", "strokesTo", "(I)I"⟩, 21), (⟨"HighSpots", "overOf", "(II)I"⟩, 21), (⟨"HighSpots", "isOneSided", "(I)Z"⟩, 21), (⟨"HighSpots", "groups", "(I)I"⟩, 21), (⟨"HighSpots", "takesSpot", "(I)I"⟩, 21)]
theorem lw_r2 : ∀ q ∈ lw_privs_2, lw_okq q := List.forall_mem_cons.mpr ⟨lw_p16, List.forall_mem_cons.mpr ⟨lw_p17, List.forall_mem_cons.mpr ⟨lw_p18, List.forall_mem_cons.mpr ⟨lw_p19, List.forall_mem_cons.mpr ⟨lw_p20, List.forall_mem_cons.mpr ⟨lw_p21, List.forall_mem_cons.mpr ⟨lw_p22, List.forall_mem_cons.mpr ⟨lw_p23, List.forall_mem_cons.mpr ⟨lw_p24, List.forall_mem_cons.mpr ⟨lw_p25, List.forall_mem_cons.mpr ⟨lw_p26, List.forall_mem_cons.mpr ⟨lw_p27, List.forall_mem_cons.mpr ⟨lw_p28, List.forall_mem_cons.mpr ⟨lw_p29, List.forall_mem_cons.mpr ⟨lw_p30, List.forall_mem_cons.mpr ⟨lw_p31, fun _ h => absurd h List.not_mem_nil⟩⟩⟩⟩⟩⟩⟩⟩⟩⟩⟩⟩⟩⟩⟩⟩
theorem lw_p32 : lw_okq (⟨"HighSpots", "nextCorner", "(I)I"⟩, 21) := ⟨⟨by decide +kernel, by decide +kernel⟩, lw_t1 (List.mem_of_getElem? (i := 26) rfl), lw_t4 (List.mem_of_getElem? (i := 104) rfl), lw_t4 (List.mem_of_getElem? (i := 105) rfl)⟩
theorem lw_p33 : lw_okq (⟨"HighSpots", "touchingBy", "(I)I"⟩, 21) := ⟨⟨by decide +kernel, by decide +kernel⟩, lw_t1 (List.mem_of_getElem? (i := 26) rfl), lw_t4 (List.mem_of_getElem? (i := 131) rfl), lw_t4 (List.mem_of_getElem? (i := 132) rfl)⟩
theorem lw_p34 : lw_okq (⟨"HighSpots", "touching", "()I"⟩, 21) := ⟨⟨by decide +kernel, by decide +kernel⟩, lw_t1 (List.mem_of_getElem? (i := 26) rfl), lw_t4 (List.mem_of_getElem? (i := 135) rfl), lw_t4 (List.mem_of_getElem? (i := 136) rfl)⟩
theorem lw_p35 : lw_okq (⟨"HighSpots", "greatestSum", "()I"⟩, 21) := ⟨⟨by decide +kernel, by decide +kernel⟩, lw_t1 (List.mem_of_getElem? (i := 26) rfl), lw_t4 (List.mem_of_getElem? (i := 139) rfl), lw_t4 (List.mem_of_getElem? (i := 140) rfl)⟩
theorem lw_p36 : lw_okq (⟨"HighSpots", "extremes", "(IZ)I"⟩, 21) := ⟨⟨by decide +kernel, by decide +kernel⟩, lw_t1 (List.mem_of_getElem? (i := 26) rfl), lw_t4 (List.mem_of_getElem? (i := 155) rfl), lw_t4 (List.mem_of_getElem? (i := 156) rfl)⟩
theorem lw_p37 : lw_okq (⟨"HighSpots", "isAbove", "(IIZ)Z"⟩, 21) := ⟨⟨by decide +kernel, by decide +kernel⟩, lw_t1 (List.mem_of_getElem? (i := 26) rfl), lw_t4 (List.mem_of_getElem? (i := 159) rfl), lw_t4 (List.mem_of_getElem? (i := 160) rfl)⟩
theorem lw_p38 : lw_okq (⟨"HighSpots", "highestPlace", "(I)I"⟩, 21) := ⟨⟨by decide +kernel, by decide +kernel⟩, lw_t1 (List.mem_of_getElem? (i := 26) rfl), lw_t4 (List.mem_of_getElem? (i := 163) rfl), lw_t4 (List.mem_of_getElem? (i := 164) rfl)⟩
theorem lw_p39 : lw_okq (⟨"HighSpots", "climbFrom", "(II)I"⟩, 21) := ⟨⟨by decide +kernel, by decide +kernel⟩, lw_t1 (List.mem_of_getElem? (i := 26) rfl), lw_t4 (List.mem_of_getElem? (i := 171) rfl), lw_t4 (List.mem_of_getElem? (i := 172) rfl)⟩
theorem lw_p40 : lw_okq (⟨"HighSpots", "lowestBeside", "(II)I"⟩, 21) := ⟨⟨by decide +kernel, by decide +kernel⟩, lw_t1 (List.mem_of_getElem? (i := 26) rfl), lw_t4 (List.mem_of_getElem? (i := 179) rfl), lw_t4 (List.mem_of_getElem? (i := 180) rfl)⟩
theorem lw_p41 : lw_okq (⟨"HighSpots", "laysLevels", "([I)V"⟩, 21) := ⟨⟨by decide +kernel, by decide +kernel⟩, lw_t1 (List.mem_of_getElem? (i := 26) rfl), lw_t4 (List.mem_of_getElem? (i := 195) rfl), lw_t4 (List.mem_of_getElem? (i := 196) rfl)⟩
theorem lw_p42 : lw_okq (⟨"HighSpots", "gapsOf", "(III)I"⟩, 21) := ⟨⟨by decide +kernel, by decide +kernel⟩, lw_t1 (List.mem_of_getElem? (i := 26) rfl), lw_t4 (List.mem_of_getElem? (i := 206) rfl), lw_t4 (List.mem_of_getElem? (i := 207) rfl)⟩
theorem lw_p43 : lw_okq (⟨"HighSpots", "stopped", "(I)I"⟩, 21) := ⟨⟨by decide +kernel, by decide +kernel⟩, lw_t1 (List.mem_of_getElem? (i := 26) rfl), lw_t4 (List.mem_of_getElem? (i := 214) rfl), lw_t4 (List.mem_of_getElem? (i := 215) rfl)⟩
theorem lw_p44 : lw_okq (⟨"HighSpots", "unlikeGlides", "()I"⟩, 21) := ⟨⟨by decide +kernel, by decide +kernel⟩, lw_t1 (List.mem_of_getElem? (i := 26) rfl), lw_t4 (List.mem_of_getElem? (i := 218) rfl), lw_t4 (List.mem_of_getElem? (i := 219) rfl)⟩
theorem lw_p45 : lw_okq (⟨"HighSpots$Bench", "isRubbed", "(IIII)V"⟩, 6) := ⟨⟨by decide +kernel, by decide +kernel⟩, lw_t1 (List.mem_of_getElem? (i := 55) rfl), lw_t4 (List.mem_of_getElem? (i := 235) rfl), lw_t4 (List.mem_of_getElem? (i := 236) rfl)⟩
theorem lw_p46 : lw_okq (⟨"HighSpots$Moment", "is", "(II)V"⟩, 2) := ⟨⟨by decide +kernel, by decide +kernel⟩, lw_t1 (List.mem_of_getElem? (i := 34) rfl), lw_t5 (List.mem_of_getElem? (i := 3) rfl), lw_t5 (List.mem_of_getElem? (i := 4) rfl)⟩
theorem lw_p47 : lw_okq (⟨"HighSpots$Bench", "draw", "()I"⟩, 6) := ⟨⟨by decide +kernel, by decide +kernel⟩, lw_t1 (List.mem_of_getElem? (i := 55) rfl), lw_t5 (List.mem_of_getElem? (i := 9) rfl), lw_t5 (List.mem_of_getElem? (i := 10) rfl)⟩
def lw_privs_3 : List (MethodName × Nat) := [(⟨"HighSpots", "nextCorner", "(I)I"⟩, 21), (⟨"HighSpots", "touchingBy", "(I)I"⟩, 21), (⟨"HighSpots", "touching", "()I"⟩, 21), (⟨"HighSpots", "greatestSum", "()I"⟩, 21), (⟨"HighSpots", "extremes", "(IZ)I"⟩, 21), (⟨"HighSpots", "isAbove", "(IIZ)Z"⟩, 21), (⟨"HighSpots", "highestPlace", "(I)I"⟩, 21), (⟨"HighSpots", "climbFrom", "(II)I"⟩, 21), (⟨"HighSpots", "lowestBeside", "(II)I"⟩, 21), (⟨"HighSpots", "laysLevels", "([I)V"⟩, 21), (⟨"HighSpots", "gapsOf", "(III)I"⟩, 21), (⟨"HighSpots", "stopped", "(I)I"⟩, 21), (⟨"HighSpots", "unlikeGlides", "()I"⟩, 21), (⟨"HighSpots$Bench", "isRubbed", "(IIII)V"⟩, 6), (⟨"HighSpots$Moment", "is", "(II)V"⟩, 2), (⟨"HighSpots$Bench", "draw", "()I"⟩, 6)]
theorem lw_r3 : ∀ q ∈ lw_privs_3, lw_okq q := List.forall_mem_cons.mpr ⟨lw_p32, List.forall_mem_cons.mpr ⟨lw_p33, List.forall_mem_cons.mpr ⟨lw_p34, List.forall_mem_cons.mpr ⟨lw_p35, List.forall_mem_cons.mpr ⟨lw_p36, List.forall_mem_cons.mpr ⟨lw_p37, List.forall_mem_cons.mpr ⟨lw_p38, List.forall_mem_cons.mpr ⟨lw_p39, List.forall_mem_cons.mpr ⟨lw_p40, List.forall_mem_cons.mpr ⟨lw_p41, List.forall_mem_cons.mpr ⟨lw_p42, List.forall_mem_cons.mpr ⟨lw_p43, List.forall_mem_cons.mpr ⟨lw_p44, List.forall_mem_cons.mpr ⟨lw_p45, List.forall_mem_cons.mpr ⟨lw_p46, List.forall_mem_cons.mpr ⟨lw_p47, fun _ h => absurd h List.not_mem_nil⟩⟩⟩⟩⟩⟩⟩⟩⟩⟩⟩⟩⟩⟩⟩⟩
theorem lw_p48 : lw_okq (⟨"HighSpots", "keptOff", "()I"⟩, 21) := ⟨⟨by decide +kernel, by decide +kernel⟩, lw_t1 (List.mem_of_getElem? (i := 26) rfl), lw_t5 (List.mem_of_getElem? (i := 102) rfl), lw_t5 (List.mem_of_getElem? (i := 103) rfl)⟩
theorem lw_p49 : lw_okq (⟨"HighSpotsModel", "types", "(I)V"⟩, 57) := ⟨⟨by decide +kernel, by decide +kernel⟩, lw_t5 (List.mem_of_getElem? (i := 106) rfl), lw_t6 (List.mem_of_getElem? (i := 69) rfl), lw_t6 (List.mem_of_getElem? (i := 70) rfl)⟩
theorem lw_p50 : lw_okq (⟨"HighSpotsModel", "beginsText", "(I)V"⟩, 57) := ⟨⟨by decide +kernel, by decide +kernel⟩, lw_t5 (List.mem_of_getElem? (i := 106) rfl), lw_t6 (List.mem_of_getElem? (i := 77) rfl), lw_t6 (List.mem_of_getElem? (i := 78) rfl)⟩
theorem lw_p51 : lw_okq (⟨"HighSpotsModel", "readsRule", "()Z"⟩, 57) := ⟨⟨by decide +kernel, by decide +kernel⟩, lw_t5 (List.mem_of_getElem? (i := 106) rfl), lw_t6 (List.mem_of_getElem? (i := 81) rfl), lw_t6 (List.mem_of_getElem? (i := 82) rfl)⟩
theorem lw_p52 : lw_okq (⟨"HighSpotsModel", "here", "()I"⟩, 57) := ⟨⟨by decide +kernel, by decide +kernel⟩, lw_t5 (List.mem_of_getElem? (i := 106) rfl), lw_t6 (List.mem_of_getElem? (i := 85) rfl), lw_t6 (List.mem_of_getElem? (i := 86) rfl)⟩
theorem lw_p53 : lw_okq (⟨"HighSpotsModel", "wrongAt", "(II)Z"⟩, 57) := ⟨⟨by decide +kernel, by decide +kernel⟩, lw_t5 (List.mem_of_getElem? (i := 106) rfl), lw_t6 (List.mem_of_getElem? (i := 89) rfl), lw_t6 (List.mem_of_getElem? (i := 90) rfl)⟩
theorem lw_p54 : lw_okq (⟨"HighSpotsModel", "readsSum", "()Z"⟩, 57) := ⟨⟨by decide +kernel, by decide +kernel⟩, lw_t5 (List.mem_of_getElem? (i := 106) rfl), lw_t6 (List.mem_of_getElem? (i := 93) rfl), lw_t6 (List.mem_of_getElem? (i := 94) rfl)⟩
theorem lw_p55 : lw_okq (⟨"HighSpotsModel", "readsFactor", "()Z"⟩, 57) := ⟨⟨by decide +kernel, by decide +kernel⟩, lw_t5 (List.mem_of_getElem? (i := 106) rfl), lw_t6 (List.mem_of_getElem? (i := 97) rfl), lw_t6 (List.mem_of_getElem? (i := 98) rfl)⟩
theorem lw_p56 : lw_okq (⟨"HighSpotsModel", "opens", "(I)Z"⟩, 57) := ⟨⟨by decide +kernel, by decide +kernel⟩, lw_t5 (List.mem_of_getElem? (i := 106) rfl), lw_t6 (List.mem_of_getElem? (i := 101) rfl), lw_t6 (List.mem_of_getElem? (i := 102) rfl)⟩
theorem lw_p57 : lw_okq (⟨"HighSpotsModel", "isDigit", "()Z"⟩, 57) := ⟨⟨by decide +kernel, by decide +kernel⟩, lw_t5 (List.mem_of_getElem? (i := 106) rfl), lw_t6 (List.mem_of_getElem? (i := 106) rfl), lw_t6 (List.mem_of_getElem? (i := 107) rfl)⟩
theorem lw_p58 : lw_okq (⟨"HighSpotsModel", "readsNumber", "()Z"⟩, 57) := ⟨⟨by decide +kernel, by decide +kernel⟩, lw_t5 (List.mem_of_getElem? (i := 106) rfl), lw_t6 (List.mem_of_getElem? (i := 110) rfl), lw_t6 (List.mem_of_getElem? (i := 111) rfl)⟩
theorem lw_p59 : lw_okq (⟨"HighSpotsModel", "notes", "(II)V"⟩, 57) := ⟨⟨by decide +kernel, by decide +kernel⟩, lw_t5 (List.mem_of_getElem? (i := 106) rfl), lw_t6 (List.mem_of_getElem? (i := 114) rfl), lw_t6 (List.mem_of_getElem? (i := 115) rfl)⟩
theorem lw_p60 : lw_okq (⟨"HighSpotsModel", "closesSums", "(Z)V"⟩, 57) := ⟨⟨by decide +kernel, by decide +kernel⟩, lw_t5 (List.mem_of_getElem? (i := 106) rfl), lw_t6 (List.mem_of_getElem? (i := 124) rfl), lw_t6 (List.mem_of_getElem? (i := 125) rfl)⟩
theorem lw_p61 : lw_okq (⟨"HighSpotsModel", "waitTop", "()I"⟩, 57) := ⟨⟨by decide +kernel, by decide +kernel⟩, lw_t5 (List.mem_of_getElem? (i := 106) rfl), lw_t6 (List.mem_of_getElem? (i := 128) rfl), lw_t6 (List.mem_of_getElem? (i := 129) rfl)⟩
theorem lw_p62 : lw_okq (⟨"HighSpotsModel", "hasOpenSum", "(I)Z"⟩, 57) := ⟨⟨by decide +kernel, by decide +kernel⟩, lw_t5 (List.mem_of_getElem? (i := 106) rfl), lw_t6 (List.mem_of_getElem? (i := 132) rfl), lw_t6 (List.mem_of_getElem? (i := 133) rfl)⟩
theorem lw_p63 : lw_okq (⟨"HighSpotsModel", "readsCondition", "()Z"⟩, 57) := ⟨⟨by decide +kernel, by decide +kernel⟩, lw_t5 (List.mem_of_getElem? (i := 106) rfl), lw_t6 (List.mem_of_getElem? (i := 136) rfl), lw_t6 (List.mem_of_getElem? (i := 137) rfl)⟩
def lw_privs_4 : List (MethodName × Nat) := [(⟨"HighSpots", "keptOff", "()I"⟩, 21), (⟨"HighSpotsModel", "types", "(I)V"⟩, 57), (⟨"HighSpotsModel", "beginsText", "(I)V"⟩, 57), (⟨"HighSpotsModel", "readsRule", "()Z"⟩, 57), (⟨"HighSpotsModel", "here", "()I"⟩, 57), (⟨"HighSpotsModel", "wrongAt", "(II)Z"⟩, 57), (⟨"HighSpotsModel", "readsSum", "()Z"⟩, 57), (⟨"HighSpotsModel", "readsFactor", "()Z"⟩, 57), (⟨"HighSpotsModel", "opens", "(I)Z"⟩, 57), (⟨"HighSpotsModel", "isDigit", "()Z"⟩, 57), (⟨"HighSpotsModel", "readsNumber", "()Z"⟩, 57), (⟨"HighSpotsModel", "notes", "(II)V"⟩, 57), (⟨"HighSpotsModel", "closesSums", "(Z)V"⟩, 57), (⟨"HighSpotsModel", "waitTop", "()I"⟩, 57), (⟨"HighSpotsModel", "hasOpenSum", "(I)Z"⟩, 57), (⟨"HighSpotsModel", "readsCondition", "()Z"⟩, 57)]
theorem lw_r4 : ∀ q ∈ lw_privs_4, lw_okq q := List.forall_mem_cons.mpr ⟨lw_p48, List.forall_mem_cons.mpr ⟨lw_p49, List.forall_mem_cons.mpr ⟨lw_p50, List.forall_mem_cons.mpr ⟨lw_p51, List.forall_mem_cons.mpr ⟨lw_p52, List.forall_mem_cons.mpr ⟨lw_p53, List.forall_mem_cons.mpr ⟨lw_p54, List.forall_mem_cons.mpr ⟨lw_p55, List.forall_mem_cons.mpr ⟨lw_p56, List.forall_mem_cons.mpr ⟨lw_p57, List.forall_mem_cons.mpr ⟨lw_p58, List.forall_mem_cons.mpr ⟨lw_p59, List.forall_mem_cons.mpr ⟨lw_p60, List.forall_mem_cons.mpr ⟨lw_p61, List.forall_mem_cons.mpr ⟨lw_p62, List.forall_mem_cons.mpr ⟨lw_p63, fun _ h => absurd h List.not_mem_nil⟩⟩⟩⟩⟩⟩⟩⟩⟩⟩⟩⟩⟩⟩⟩⟩
theorem lw_p64 : lw_okq (⟨"HighSpotsModel", "readsCompared", "()Z"⟩, 57) := ⟨⟨by decide +kernel, by decide +kernel⟩, lw_t5 (List.mem_of_getElem? (i := 106) rfl), lw_t6 (List.mem_of_getElem? (i := 140) rfl), lw_t6 (List.mem_of_getElem? (i := 141) rfl)⟩
theorem lw_p65 : lw_okq (⟨"HighSpotsModel", "endsPiece", "()V"⟩, 57) := ⟨⟨by decide +kernel, by decide +kernel⟩, lw_t5 (List.mem_of_getElem? (i := 106) rfl), lw_t6 (List.mem_of_getElem? (i := 144) rfl), lw_t6 (List.mem_of_getElem? (i := 145) rfl)⟩
theorem lw_p66 : lw_okq (⟨"HighSpotsModel", "lands", "(Z)V"⟩, 57) := ⟨⟨by decide +kernel, by decide +kernel⟩, lw_t5 (List.mem_of_getElem? (i := 106) rfl), lw_t6 (List.mem_of_getElem? (i := 148) rfl), lw_t6 (List.mem_of_getElem? (i := 149) rfl)⟩
theorem lw_p67 : lw_okq (⟨"HighSpotsModel", "jumps", "(I)V"⟩, 57) := ⟨⟨by decide +kernel, by decide +kernel⟩, lw_t5 (List.mem_of_getElem? (i := 106) rfl), lw_t6 (List.mem_of_getElem? (i := 152) rfl), lw_t6 (List.mem_of_getElem? (i := 153) rfl)⟩
theorem lw_p68 : lw_okq (⟨"HighSpotsModel", "takes", "(I)Z"⟩, 57) := ⟨⟨by decide +kernel, by decide +kernel⟩, lw_t5 (List.mem_of_getElem? (i := 106) rfl), lw_t6 (List.mem_of_getElem? (i := 156) rfl), lw_t6 (List.mem_of_getElem? (i := 157) rfl)⟩
theorem lw_p69 : lw_okq (⟨"HighSpotsModel", "readsRow", "()Z"⟩, 57) := ⟨⟨by decide +kernel, by decide +kernel⟩, lw_t5 (List.mem_of_getElem? (i := 106) rfl), lw_t6 (List.mem_of_getElem? (i := 164) rfl), lw_t6 (List.mem_of_getElem? (i := 165) rfl)⟩
theorem lw_p70 : lw_okq (⟨"HighSpotsModel", "readsHeights", "(I)Z"⟩, 57) := ⟨⟨by decide +kernel, by decide +kernel⟩, lw_t5 (List.mem_of_getElem? (i := 106) rfl), lw_t6 (List.mem_of_getElem? (i := 168) rfl), lw_t6 (List.mem_of_getElem? (i := 169) rfl)⟩
theorem lw_p71 : lw_okq (⟨"HighSpotsModel", "readsStep", "()Z"⟩, 57) := ⟨⟨by decide +kernel, by decide +kernel⟩, lw_t5 (List.mem_of_getElem? (i := 106) rfl), lw_t6 (List.mem_of_getElem? (i := 176) rfl), lw_t6 (List.mem_of_getElem? (i := 177) rfl)⟩
theorem lw_p72 : lw_okq (⟨"HighSpotsModel", "endsGroup", "()Z"⟩, 57) := ⟨⟨by decide +kernel, by decide +kernel⟩, lw_t5 (List.mem_of_getElem? (i := 106) rfl), lw_t6 (List.mem_of_getElem? (i := 180) rfl), lw_t6 (List.mem_of_getElem? (i := 181) rfl)⟩
theorem lw_p73 : lw_okq (⟨"HighSpotsModel", "laysSteps", "(III)Z"⟩, 57) := ⟨⟨by decide +kernel, by decide +kernel⟩, lw_t5 (List.mem_of_getElem? (i := 106) rfl), lw_t6 (List.mem_of_getElem? (i := 187) rfl), lw_t6 (List.mem_of_getElem? (i := 188) rfl)⟩
theorem lw_p74 : lw_okq (⟨"HighSpotsModel", "opensGroup", "(II)Z"⟩, 57) := ⟨⟨by decide +kernel, by decide +kernel⟩, lw_t5 (List.mem_of_getElem? (i := 106) rfl), lw_t6 (List.mem_of_getElem? (i := 191) rfl), lw_t6 (List.mem_of_getElem? (i := 192) rfl)⟩
theorem lw_p75 : lw_okq (⟨"HighSpotsModel", "opening", "(II)I"⟩, 57) := ⟨⟨by decide +kernel, by decide +kernel⟩, lw_t5 (List.mem_of_getElem? (i := 106) rfl), lw_t6 (List.mem_of_getElem? (i := 205) rfl), lw_t6 (List.mem_of_getElem? (i := 206) rfl)⟩
theorem lw_p76 : lw_okq (⟨"HighSpotsModel", "sumAt", "(III)I"⟩, 57) := ⟨⟨by decide +kernel, by decide +kernel⟩, lw_t5 (List.mem_of_getElem? (i := 106) rfl), lw_t6 (List.mem_of_getElem? (i := 209) rfl), lw_t6 (List.mem_of_getElem? (i := 210) rfl)⟩
theorem lw_p77 : lw_okq (⟨"HighSpotsModel", "upperAt", "(I)I"⟩, 57) := ⟨⟨by decide +kernel, by decide +kernel⟩, lw_t5 (List.mem_of_getElem? (i := 106) rfl), lw_t6 (List.mem_of_getElem? (i := 216) rfl), lw_t6 (List.mem_of_getElem? (i := 217) rfl)⟩
theorem lw_p78 : lw_okq (⟨"HighSpotsModel", "lowerAt", "(I)I"⟩, 57) := ⟨⟨by decide +kernel, by decide +kernel⟩, lw_t5 (List.mem_of_getElem? (i := 106) rfl), lw_t6 (List.mem_of_getElem? (i := 220) rfl), lw_t6 (List.mem_of_getElem? (i := 221) rfl)⟩
theorem lw_p79 : lw_okq (⟨"HighSpotsModel", "marks", "(III)I"⟩, 57) := ⟨⟨by decide +kernel, by decide +kernel⟩, lw_t5 (List.mem_of_getElem? (i := 106) rfl), lw_t6 (List.mem_of_getElem? (i := 227) rfl), lw_t6 (List.mem_of_getElem? (i := 228) rfl)⟩
def lw_privs_5 : List (MethodName × Nat) := [(⟨"HighSpotsModel", "readsCompared", "()Z"⟩, 57), (⟨"HighSpotsModel", "endsPiece", "()V"⟩, 57), (⟨"HighSpotsModel", "lands", "(Z)V"⟩, 57), (⟨"HighSpotsModel", "jumps", "(I)V"⟩, 57), (⟨"HighSpotsModel", "takes", "(I)Z"⟩, 57), (⟨"HighSpotsModel", "readsRow", "()Z"⟩, 57), (⟨"HighSpotsModel", "readsHeights", "(I)Z"⟩, 57), (⟨"HighSpotsModel", "readsStep", "()Z"⟩, 57), (⟨"HighSpotsModel", "endsGroup", "()Z"⟩, 57), (⟨"HighSpotsModel", "laysSteps", "(III)Z"⟩, 57), (⟨"HighSpotsModel", "opensGroup", "(II)Z"⟩, 57), (⟨"HighSpotsModel", "opening", "(II)I"⟩, 57), (⟨"HighSpotsModel", "sumAt", "(III)I"⟩, 57), (⟨"HighSpotsModel", "upperAt", "(I)I"⟩, 57), (⟨"HighSpotsModel", "lowerAt", "(I)I"⟩, 57), (⟨"HighSpotsModel", "marks", "(III)I"⟩, 57)]
theorem lw_r5 : ∀ q ∈ lw_privs_5, lw_okq q := List.forall_mem_cons.mpr ⟨lw_p64, List.forall_mem_cons.mpr ⟨lw_p65, List.forall_mem_cons.mpr ⟨lw_p66, List.forall_mem_cons.mpr ⟨lw_p67, List.forall_mem_cons.mpr ⟨lw_p68, List.forall_mem_cons.mpr ⟨lw_p69, List.forall_mem_cons.mpr ⟨lw_p70, List.forall_mem_cons.mpr ⟨lw_p71, List.forall_mem_cons.mpr ⟨lw_p72, List.forall_mem_cons.mpr ⟨lw_p73, List.forall_mem_cons.mpr ⟨lw_p74, List.forall_mem_cons.mpr ⟨lw_p75, List.forall_mem_cons.mpr ⟨lw_p76, List.forall_mem_cons.mpr ⟨lw_p77, List.forall_mem_cons.mpr ⟨lw_p78, List.forall_mem_cons.mpr ⟨lw_p79, fun _ h => absurd h List.not_mem_nil⟩⟩⟩⟩⟩⟩⟩⟩⟩⟩⟩⟩⟩⟩⟩⟩
theorem lw_p80 : lw_okq (⟨"HighSpotsModel", "firstMarked", "()I"⟩, 57) := ⟨⟨by decide +kernel, by decide +kernel⟩, lw_t5 (List.mem_of_getElem? (i := 106) rfl), lw_t6 (List.mem_of_getElem? (i := 231) rfl), lw_t6 (List.mem_of_getElem? (i := 232) rfl)⟩
theorem lw_p81 : lw_okq (⟨"HighSpotsModel", "greatestGap", "(II)I"⟩, 57) := ⟨⟨by decide +kernel, by decide +kernel⟩, lw_t5 (List.mem_of_getElem? (i := 106) rfl), lw_t6 (List.mem_of_getElem? (i := 238) rfl), lw_t6 (List.mem_of_getElem? (i := 239) rfl)⟩
theorem lw_p82 : lw_okq (⟨"HighSpotsModel", "openingOf", "(I)I"⟩, 57) := ⟨⟨by decide +kernel, by decide +kernel⟩, lw_t5 (List.mem_of_getElem? (i := 106) rfl), lw_t7 (List.mem_of_getElem? (i := 10) rfl), lw_t7 (List.mem_of_getElem? (i := 11) rfl)⟩
theorem lw_p83 : lw_okq (⟨"HighSpotsModel", "gapsOf", "(I)I"⟩, 57) := ⟨⟨by decide +kernel, by decide +kernel⟩, lw_t5 (List.mem_of_getElem? (i := 106) rfl), lw_t7 (List.mem_of_getElem? (i := 18) rfl), lw_t7 (List.mem_of_getElem? (i := 19) rfl)⟩
theorem lw_p84 : lw_okq (⟨"HighSpotsModel", "rounds", "(II)I"⟩, 57) := ⟨⟨by decide +kernel, by decide +kernel⟩, lw_t5 (List.mem_of_getElem? (i := 106) rfl), lw_t7 (List.mem_of_getElem? (i := 26) rfl), lw_t7 (List.mem_of_getElem? (i := 27) rfl)⟩
theorem lw_p85 : lw_okq (⟨"HighSpotsModel", "laysOpenings", "()V"⟩, 57) := ⟨⟨by decide +kernel, by decide +kernel⟩, lw_t5 (List.mem_of_getElem? (i := 106) rfl), lw_t7 (List.mem_of_getElem? (i := 30) rfl), lw_t7 (List.mem_of_getElem? (i := 31) rfl)⟩
theorem lw_p86 : lw_okq (⟨"HighSpotsModel", "freest", "(I)I"⟩, 57) := ⟨⟨by decide +kernel, by decide +kernel⟩, lw_t5 (List.mem_of_getElem? (i := 106) rfl), lw_t7 (List.mem_of_getElem? (i := 44) rfl), lw_t7 (List.mem_of_getElem? (i := 45) rfl)⟩
theorem lw_p87 : lw_okq (⟨"HighSpotsModel", "octet", "(I)I"⟩, 57) := ⟨⟨by decide +kernel, by decide +kernel⟩, lw_t5 (List.mem_of_getElem? (i := 106) rfl), lw_t7 (List.mem_of_getElem? (i := 52) rfl), lw_t7 (List.mem_of_getElem? (i := 53) rfl)⟩
theorem lw_p88 : lw_okq (⟨"HighSpotsModel", "restAt", "(I)I"⟩, 57) := ⟨⟨by decide +kernel, by decide +kernel⟩, lw_t5 (List.mem_of_getElem? (i := 106) rfl), lw_t7 (List.mem_of_getElem? (i := 56) rfl), lw_t7 (List.mem_of_getElem? (i := 57) rfl)⟩
theorem lw_p89 : lw_okq (⟨"HighSpotsModel", "strokesTo", "(I)I"⟩, 57) := ⟨⟨by decide +kernel, by decide +kernel⟩, lw_t5 (List.mem_of_getElem? (i := 106) rfl), lw_t7 (List.mem_of_getElem? (i := 60) rfl), lw_t7 (List.mem_of_getElem? (i := 61) rfl)⟩
theorem lw_p90 : lw_okq (⟨"HighSpotsModel", "above", "(II)I"⟩, 57) := ⟨⟨by decide +kernel, by decide +kernel⟩, lw_t5 (List.mem_of_getElem? (i := 106) rfl), lw_t7 (List.mem_of_getElem? (i := 72) rfl), lw_t7 (List.mem_of_getElem? (i := 73) rfl)⟩
theorem lw_p91 : lw_okq (⟨"HighSpotsModel", "takes1", "(III)V"⟩, 57) := ⟨⟨by decide +kernel, by decide +kernel⟩, lw_t5 (List.mem_of_getElem? (i := 106) rfl), lw_t7 (List.mem_of_getElem? (i := 80) rfl), lw_t7 (List.mem_of_getElem? (i := 81) rfl)⟩
theorem lw_p92 : lw_okq (⟨"HighSpotsModel", "gathers", "()V"⟩, 57) := ⟨⟨by decide +kernel, by decide +kernel⟩, lw_t5 (List.mem_of_getElem? (i := 106) rfl), lw_t7 (List.mem_of_getElem? (i := 88) rfl), lw_t7 (List.mem_of_getElem? (i := 89) rfl)⟩
theorem lw_p93 : lw_okq (⟨"HighSpotsModel", "lowestBeside", "(I)I"⟩, 57) := ⟨⟨by decide +kernel, by decide +kernel⟩, lw_t5 (List.mem_of_getElem? (i := 106) rfl), lw_t7 (List.mem_of_getElem? (i := 92) rfl), lw_t7 (List.mem_of_getElem? (i := 93) rfl)⟩
theorem lw_p94 : lw_okq (⟨"HighSpotsModel", "laysTouching", "()V"⟩, 57) := ⟨⟨by decide +kernel, by decide +kernel⟩, lw_t5 (List.mem_of_getElem? (i := 106) rfl), lw_t7 (List.mem_of_getElem? (i := 107) rfl), lw_t7 (List.mem_of_getElem? (i := 108) rfl)⟩
theorem lw_p95 : lw_okq (⟨"HighSpotsModel", "isEdge", "(II)Z"⟩, 57) := ⟨⟨by decide +kernel, by decide +kernel⟩, lw_t5 (List.mem_of_getElem? (i := 106) rfl), lw_t7 (List.mem_of_getElem? (i := 138) rfl), lw_t7 (List.mem_of_getElem? (i := 139) rfl)⟩
def lw_privs_6 : List (MethodName × Nat) := [(⟨"HighSpotsModel", "firstMarked", "()I"⟩, 57), (⟨"HighSpotsModel", "greatestGap", "(II)I"⟩, 57), (⟨"HighSpotsModel", "openingOf", "(I)I"⟩, 57), (⟨"HighSpotsModel", "gapsOf", "(I)I"⟩, 57), (⟨"HighSpotsModel", "rounds", "(II)I"⟩, 57), (⟨"HighSpotsModel", "laysOpenings", "()V"⟩, 57), (⟨"HighSpotsModel", "freest", "(I)I"⟩, 57), (⟨"HighSpotsModel", "octet", "(I)I"⟩, 57), (⟨"HighSpotsModel", "restAt", "(I)I"⟩, 57), (⟨"HighSpotsModel", "strokesTo", "(I)I"⟩, 57), (⟨"HighSpotsModel", "above", "(II)I"⟩, 57), (⟨"HighSpotsModel", "takes1", "(III)V"⟩, 57), (⟨"HighSpotsModel", "gathers", "()V"⟩, 57), (⟨"HighSpotsModel", "lowestBeside", "(I)I"⟩, 57), (⟨"HighSpotsModel", "laysTouching", "()V"⟩, 57), (⟨"HighSpotsModel", "isEdge", "(II)Z"⟩, 57)]
theorem lw_r6 : ∀ q ∈ lw_privs_6, lw_okq q := List.forall_mem_cons.mpr ⟨lw_p80, List.forall_mem_cons.mpr ⟨lw_p81, List.forall_mem_cons.mpr ⟨lw_p82, List.forall_mem_cons.mpr ⟨lw_p83, List.forall_mem_cons.mpr ⟨lw_p84, List.forall_mem_cons.mpr ⟨lw_p85, List.forall_mem_cons.mpr ⟨lw_p86, List.forall_mem_cons.mpr ⟨lw_p87, List.forall_mem_cons.mpr ⟨lw_p88, List.forall_mem_cons.mpr ⟨lw_p89, List.forall_mem_cons.mpr ⟨lw_p90, List.forall_mem_cons.mpr ⟨lw_p91, List.forall_mem_cons.mpr ⟨lw_p92, List.forall_mem_cons.mpr ⟨lw_p93, List.forall_mem_cons.mpr ⟨lw_p94, List.forall_mem_cons.mpr ⟨lw_p95, fun _ h => absurd h List.not_mem_nil⟩⟩⟩⟩⟩⟩⟩⟩⟩⟩⟩⟩⟩⟩⟩⟩
theorem lw_p96 : lw_okq (⟨"HighSpotsModel", "touchLeaning", "(I)I"⟩, 57) := ⟨⟨by decide +kernel, by decide +kernel⟩, lw_t5 (List.mem_of_getElem? (i := 106) rfl), lw_t7 (List.mem_of_getElem? (i := 146) rfl), lw_t7 (List.mem_of_getElem? (i := 147) rfl)⟩
theorem lw_p97 : lw_okq (⟨"HighSpotsModel", "highOf", "(II)I"⟩, 57) := ⟨⟨by decide +kernel, by decide +kernel⟩, lw_t5 (List.mem_of_getElem? (i := 106) rfl), lw_t7 (List.mem_of_getElem? (i := 163) rfl), lw_t7 (List.mem_of_getElem? (i := 164) rfl)⟩
theorem lw_p98 : lw_okq (⟨"HighSpotsModel", "peaks", "(II)I"⟩, 57) := ⟨⟨by decide +kernel, by decide +kernel⟩, lw_t5 (List.mem_of_getElem? (i := 106) rfl), lw_t7 (List.mem_of_getElem? (i := 167) rfl), lw_t7 (List.mem_of_getElem? (i := 168) rfl)⟩
theorem lw_p99 : lw_okq (⟨"HighSpotsModel", "isAbove", "(III)Z"⟩, 57) := ⟨⟨by decide +kernel, by decide +kernel⟩, lw_t5 (List.mem_of_getElem? (i := 106) rfl), lw_t7 (List.mem_of_getElem? (i := 171) rfl), lw_t7 (List.mem_of_getElem? (i := 172) rfl)⟩
theorem lw_p100 : lw_okq (⟨"HighSpotsModel", "climbFrom", "(II)I"⟩, 57) := ⟨⟨by decide +kernel, by decide +kernel⟩, lw_t5 (List.mem_of_getElem? (i := 106) rfl), lw_t7 (List.mem_of_getElem? (i := 179) rfl), lw_t7 (List.mem_of_getElem? (i := 180) rfl)⟩
theorem lw_p101 : lw_okq (⟨"HighSpotsModel", "lowestBy", "(II)I"⟩, 57) := ⟨⟨by decide +kernel, by decide +kernel⟩, lw_t5 (List.mem_of_getElem? (i := 106) rfl), lw_t7 (List.mem_of_getElem? (i := 187) rfl), lw_t7 (List.mem_of_getElem? (i := 188) rfl)⟩
theorem lw_p102 : lw_okq (⟨"HighSpotsModel", "staysIn", "(I)Z"⟩, 57) := ⟨⟨by decide +kernel, by decide +kernel⟩, lw_t5 (List.mem_of_getElem? (i := 106) rfl), lw_t7 (List.mem_of_getElem? (i := 195) rfl), lw_t7 (List.mem_of_getElem? (i := 196) rfl)⟩
theorem lw_p103 : lw_okq (⟨"HighSpotsModel", "gapsMoved", "(III)I"⟩, 57) := ⟨⟨by decide +kernel, by decide +kernel⟩, lw_t5 (List.mem_of_getElem? (i := 106) rfl), lw_t7 (List.mem_of_getElem? (i := 206) rfl), lw_t7 (List.mem_of_getElem? (i := 207) rfl)⟩
theorem lw_p104 : lw_okq (⟨"HighSpotsModel", "glides", "(I)V"⟩, 57) := ⟨⟨by decide +kernel, by decide +kernel⟩, lw_t5 (List.mem_of_getElem? (i := 106) rfl), lw_t7 (List.mem_of_getElem? (i := 214) rfl), lw_t7 (List.mem_of_getElem? (i := 215) rfl)⟩
theorem lw_p105 : lw_okq (⟨"HighSpotsModel", "wears", "(II)I"⟩, 57) := ⟨⟨by decide +kernel, by decide +kernel⟩, lw_t5 (List.mem_of_getElem? (i := 106) rfl), lw_t7 (List.mem_of_getElem? (i := 225) rfl), lw_t7 (List.mem_of_getElem? (i := 226) rfl)⟩
theorem lw_p106 : lw_okq (⟨"HighSpotsModel", "wearsNight", "(I)I"⟩, 57) := ⟨⟨by decide +kernel, by decide +kernel⟩, lw_t5 (List.mem_of_getElem? (i := 106) rfl), lw_t7 (List.mem_of_getElem? (i := 229) rfl), lw_t7 (List.mem_of_getElem? (i := 230) rfl)⟩
theorem lw_p107 : lw_okq (⟨"HighSpotsModel", "wearsAt", "(III)I"⟩, 57) := ⟨⟨by decide +kernel, by decide +kernel⟩, lw_t5 (List.mem_of_getElem? (i := 106) rfl), lw_t7 (List.mem_of_getElem? (i := 233) rfl), lw_t7 (List.mem_of_getElem? (i := 234) rfl)⟩
theorem lw_p108 : lw_okq (⟨"HighSpotsModel", "lotGoes", "()I"⟩, 57) := ⟨⟨by decide +kernel, by decide +kernel⟩, lw_t5 (List.mem_of_getElem? (i := 106) rfl), lw_t7 (List.mem_of_getElem? (i := 237) rfl), lw_t7 (List.mem_of_getElem? (i := 238) rfl)⟩
theorem lw_p109 : lw_okq (⟨"HighSpotsModel", "firstOf", "(I)I"⟩, 57) := ⟨⟨by decide +kernel, by decide +kernel⟩, lw_t5 (List.mem_of_getElem? (i := 106) rfl), lw_t8 (List.mem_of_getElem? (i := 2) rfl), lw_t8 (List.mem_of_getElem? (i := 3) rfl)⟩
theorem lw_p110 : lw_okq (⟨"HighSpotsModel", "reckonsTo", "(II)I"⟩, 57) := ⟨⟨by decide +kernel, by decide +kernel⟩, lw_t5 (List.mem_of_getElem? (i := 106) rfl), lw_t8 (List.mem_of_getElem? (i := 6) rfl), lw_t8 (List.mem_of_getElem? (i := 7) rfl)⟩
theorem lw_p111 : lw_okq (⟨"HighSpotsModel", "wornBy", "(II)I"⟩, 57) := ⟨⟨by decide +kernel, by decide +kernel⟩, lw_t5 (List.mem_of_getElem? (i := 106) rfl), lw_t8 (List.mem_of_getElem? (i := 13) rfl), lw_t8 (List.mem_of_getElem? (i := 14) rfl)⟩
def lw_privs_7 : List (MethodName × Nat) := [(⟨"HighSpotsModel", "touchLeaning", "(I)I"⟩, 57), (⟨"HighSpotsModel", "highOf", "(II)I"⟩, 57), (⟨"HighSpotsModel", "peaks", "(II)I"⟩, 57), (⟨"HighSpotsModel", "isAbove", "(III)Z"⟩, 57), (⟨"HighSpotsModel", "climbFrom", "(II)I"⟩, 57), (⟨"HighSpotsModel", "lowestBy", "(II)I"⟩, 57), (⟨"HighSpotsModel", "staysIn", "(I)Z"⟩, 57), (⟨"HighSpotsModel", "gapsMoved", "(III)I"⟩, 57), (⟨"HighSpotsModel", "glides", "(I)V"⟩, 57), (⟨"HighSpotsModel", "wears", "(II)I"⟩, 57), (⟨"HighSpotsModel", "wearsNight", "(I)I"⟩, 57), (⟨"HighSpotsModel", "wearsAt", "(III)I"⟩, 57), (⟨"HighSpotsModel", "lotGoes", "()I"⟩, 57), (⟨"HighSpotsModel", "firstOf", "(I)I"⟩, 57), (⟨"HighSpotsModel", "reckonsTo", "(II)I"⟩, 57), (⟨"HighSpotsModel", "wornBy", "(II)I"⟩, 57)]
theorem lw_r7 : ∀ q ∈ lw_privs_7, lw_okq q := List.forall_mem_cons.mpr ⟨lw_p96, List.forall_mem_cons.mpr ⟨lw_p97, List.forall_mem_cons.mpr ⟨lw_p98, List.forall_mem_cons.mpr ⟨lw_p99, List.forall_mem_cons.mpr ⟨lw_p100, List.forall_mem_cons.mpr ⟨lw_p101, List.forall_mem_cons.mpr ⟨lw_p102, List.forall_mem_cons.mpr ⟨lw_p103, List.forall_mem_cons.mpr ⟨lw_p104, List.forall_mem_cons.mpr ⟨lw_p105, List.forall_mem_cons.mpr ⟨lw_p106, List.forall_mem_cons.mpr ⟨lw_p107, List.forall_mem_cons.mpr ⟨lw_p108, List.forall_mem_cons.mpr ⟨lw_p109, List.forall_mem_cons.mpr ⟨lw_p110, List.forall_mem_cons.mpr ⟨lw_p111, fun _ h => absurd h List.not_mem_nil⟩⟩⟩⟩⟩⟩⟩⟩⟩⟩⟩⟩⟩⟩⟩⟩
theorem lw_p112 : lw_okq (⟨"HighSpotsModel", "shelves", "(I)V"⟩, 57) := ⟨⟨by decide +kernel, by decide +kernel⟩, lw_t5 (List.mem_of_getElem? (i := 106) rfl), lw_t8 (List.mem_of_getElem? (i := 21) rfl), lw_t8 (List.mem_of_getElem? (i := 22) rfl)⟩
theorem lw_p113 : lw_okq (⟨"HighSpotsModel", "triedIs", "(II)I"⟩, 57) := ⟨⟨by decide +kernel, by decide +kernel⟩, lw_t5 (List.mem_of_getElem? (i := 106) rfl), lw_t8 (List.mem_of_getElem? (i := 25) rfl), lw_t8 (List.mem_of_getElem? (i := 26) rfl)⟩
theorem lw_p114 : lw_okq (⟨"HighSpotsModel", "takesBack", "(I)V"⟩, 57) := ⟨⟨by decide +kernel, by decide +kernel⟩, lw_t5 (List.mem_of_getElem? (i := 106) rfl), lw_t8 (List.mem_of_getElem? (i := 29) rfl), lw_t8 (List.mem_of_getElem? (i := 30) rfl)⟩
theorem lw_p115 : lw_okq (⟨"HighSpotsModel", "offMany", "()I"⟩, 57) := ⟨⟨by decide +kernel, by decide +kernel⟩, lw_t5 (List.mem_of_getElem? (i := 106) rfl), lw_t8 (List.mem_of_getElem? (i := 58) rfl), lw_t8 (List.mem_of_getElem? (i := 59) rfl)⟩
def lw_privs_8 : List (MethodName × Nat) := [(⟨"HighSpotsModel", "shelves", "(I)V"⟩, 57), (⟨"HighSpotsModel", "triedIs", "(II)I"⟩, 57), (⟨"HighSpotsModel", "takesBack", "(I)V"⟩, 57), (⟨"HighSpotsModel", "offMany", "()I"⟩, 57)]
theorem lw_r8 : ∀ q ∈ lw_privs_8, lw_okq q := List.forall_mem_cons.mpr ⟨lw_p112, List.forall_mem_cons.mpr ⟨lw_p113, List.forall_mem_cons.mpr ⟨lw_p114, List.forall_mem_cons.mpr ⟨lw_p115, fun _ h => absurd h List.not_mem_nil⟩⟩⟩⟩
def lw_privs : List (MethodName × Nat) := lw_privs_1 ++ (lw_privs_2 ++ (lw_privs_3 ++ (lw_privs_4 ++ (lw_privs_5 ++ (lw_privs_6 ++ (lw_privs_7 ++ (lw_privs_8)))))))
def lw_tbl : List Cond := k2_sels lw_privs ++ tables_1
theorem lw_privs_ok : ∀ q ∈ lw_privs, lw_okq q := by
  show ∀ q ∈ lw_privs_1 ++ (lw_privs_2 ++ (lw_privs_3 ++ (lw_privs_4 ++ (lw_privs_5 ++ (lw_privs_6 ++ (lw_privs_7 ++ (lw_privs_8))))))), lw_okq q
  exact List.forall_mem_append.mpr ⟨lw_r1, List.forall_mem_append.mpr ⟨lw_r2, List.forall_mem_append.mpr ⟨lw_r3, List.forall_mem_append.mpr ⟨lw_r4, List.forall_mem_append.mpr ⟨lw_r5, List.forall_mem_append.mpr ⟨lw_r6, List.forall_mem_append.mpr ⟨lw_r7, lw_r8⟩⟩⟩⟩⟩⟩⟩
-- ===== ONE list of words for every method: the tables' words that hold all through a run =====
def lw_all : List Cond := lw_tbl.filter goodWord
/-- a word of the tables by its place: claim/WORDS.tsv -/
theorem lw_w {w : Cond} (i : Nat) (h : lw_tbl[i]? = some w) (g : goodWord w = true) : w ∈ lw_all := List.mem_filter.mpr ⟨List.mem_of_getElem? h, g⟩
theorem lw_all_tbl {w : Cond} (h : w ∈ lw_all) : w ∈ lw_tbl := (List.mem_filter.mp h).1
theorem lw_self : GoodIn lw_all lw_all := fun w h => ⟨h, good_of_word (List.mem_filter.mp h).2⟩
/-- a class's field words, by their places -/
theorem lw_in (ws : List Cond) (ps : List Nat) (hp : ws = ps.filterMap (fun i => lw_tbl[i]?)) (hg : ws.all goodWord = true) : ∀ w ∈ ws, w ∈ lw_all := by
  intro w h
  have h1 := List.all_eq_true.mp hg w h
  rw [hp] at h
  obtain ⟨i, -, hi⟩ := List.mem_filterMap.mp h
  exact lw_w i hi h1
/-- the words of a contract for the method y with code b, L locals, answer r -/
abbrev ws_ (y : MethodName) (b : ByteArray) (L : Nat) (r : Option FieldType) : List Cond := Cond.code y b L r :: lw_all
theorem lw_meth {y : MethodName} {b : ByteArray} {L : Nat} {r : Option FieldType} (h : Cond.code y b L r ∈ lw_all) : GoodIn lw_all (ws_ y b L r) := by
  intro w hw
  rcases List.mem_cons.mp hw with e | e
  · rw [e]
    exact lw_self _ h
  · exact lw_self _ e
theorem lw_app {a c : List Cond} (ha : ∀ w ∈ a, w ∈ lw_all) (hc : GoodIn lw_all c) : GoodIn lw_all (a ++ c) := by
  intro w hw
  rcases List.mem_append.mp hw with e | e
  · exact lw_self w (ha w e)
  · exact hc w e
/-- what a call through an object asks: cwV n hts (lw_V ..) -/
theorem lw_V {own : String} {idx : Nat} {C : String} {y : MethodName} {b : ByteArray} {L : Nat} {r : Option FieldType} (h1 : Cond.methodLink own idx y ∈ lw_all) (h2 : Cond.instanceMethod y ∈ lw_all) (h3 : Cond.selects C y y ∈ lw_all) (h4 : Cond.initialized C ∈ lw_all) (h5 : Cond.code y b L r ∈ lw_all) : GoodIn lw_all (wsV own idx C y (ws_ y b L r)) := by
  refine lw_app ?_ (lw_meth h5)
  intro w hw
  simp only [List.mem_cons, List.not_mem_nil, or_false] at hw
  rcases hw with e | e | e | e
  · rw [e]; exact h1
  · rw [e]; exact h2
  · rw [e]; exact h3
  · rw [e]; exact h4
/-- what a static call asks: va_cwS n hts (lw_S ..) -/
theorem lw_S {own : String} {idx : Nat} {y : MethodName} {b : ByteArray} {L : Nat} {r : Option FieldType} (h1 : Cond.methodLink own idx y ∈ lw_all) (h2 : Cond.static y ∈ lw_all) (h3 : Cond.initialized y.cls ∈ lw_all) (h4 : Cond.code y b L r ∈ lw_all) : GoodIn lw_all (va_wsS own idx y (ws_ y b L r)) := by
  refine lw_app ?_ (lw_meth h4)
  intro w hw
  simp only [List.mem_cons, List.not_mem_nil, or_false] at hw
  rcases hw with e | e | e
  · rw [e]; exact h1
  · rw [e]; exact h2
  · rw [e]; exact h3
/-- the words of a contract for a method WITH HANDLERS (hh: its table) -/
abbrev wsW_ (y : MethodName) (b : ByteArray) (L : Nat) (r : Option FieldType) (hh : List (Nat × Nat × Nat × Nat)) : List Cond := Cond.codeWith y b L r hh :: lw_all
theorem lw_methW {y : MethodName} {b : ByteArray} {L : Nat} {r : Option FieldType} {hh : List (Nat × Nat × Nat × Nat)} (h : Cond.codeWith y b L r hh ∈ lw_all) : GoodIn lw_all (wsW_ y b L r hh) := by
  intro w hw
  rcases List.mem_cons.mp hw with e | e
  · rw [e]
    exact lw_self _ h
  · exact lw_self _ e
/-- any list of words by their places (lw_in), good -/
theorem lw_good {ws : List Cond} (h : ∀ w ∈ ws, w ∈ lw_all) : GoodIn lw_all ws := fun w hw => lw_self w (h w hw)
/-- what a call of a method with handlers asks: vx_cwVW n hts (lw_VW ..), vx_cwSW n hts (lw_SW ..) -/
theorem lw_VW {own : String} {idx : Nat} {C : String} {y : MethodName} {b : ByteArray} {L : Nat} {r : Option FieldType} {hh : List (Nat × Nat × Nat × Nat)} (h1 : Cond.methodLink own idx y ∈ lw_all) (h2 : Cond.instanceMethod y ∈ lw_all) (h3 : Cond.selects C y y ∈ lw_all) (h4 : Cond.initialized C ∈ lw_all) (h5 : Cond.codeWith y b L r hh ∈ lw_all) : GoodIn lw_all (wsV own idx C y (wsW_ y b L r hh)) := by
  refine lw_app ?_ (lw_methW h5)
  intro w hw
  simp only [List.mem_cons, List.not_mem_nil, or_false] at hw
  rcases hw with e | e | e | e
  · rw [e]; exact h1
  · rw [e]; exact h2
  · rw [e]; exact h3
  · rw [e]; exact h4
theorem lw_SW {own : String} {idx : Nat} {y : MethodName} {b : ByteArray} {L : Nat} {r : Option FieldType} {hh : List (Nat × Nat × Nat × Nat)} (h1 : Cond.methodLink own idx y ∈ lw_all) (h2 : Cond.static y ∈ lw_all) (h3 : Cond.initialized y.cls ∈ lw_all) (h4 : Cond.codeWith y b L r hh ∈ lw_all) : GoodIn lw_all (va_wsS own idx y (wsW_ y b L r hh)) := by
  refine lw_app ?_ (lw_methW h4)
  intro w hw
  simp only [List.mem_cons, List.not_mem_nil, or_false] at hw
  rcases hw with e | e | e
  · rw [e]; exact h1
  · rw [e]; exact h2
  · rw [e]; exact h3
/-- a word by its place in its run of the tables -/
theorem lw_at {r : List Cond} (hr : ∀ w ∈ r, w ∈ lw_tbl) {w : Cond} (i : Nat) (h : r[i]? = some w) : w ∈ lw_tbl := hr w (List.mem_of_getElem? h)
theorem lw_g {w : Cond} (h : w ∈ lw_tbl) (g : goodWord w = true) : w ∈ lw_all := List.mem_filter.mpr ⟨h, g⟩
theorem lw_ms : ∀ w ∈ k2_sels lw_privs, w ∈ lw_tbl := fun w h => show w ∈ k2_sels lw_privs ++ tables_1 from List.mem_append_left _ h
theorem lw_m1 : ∀ w ∈ tables_1_1, w ∈ lw_tbl := fun w h => show w ∈ k2_sels lw_privs ++ tables_1 from List.mem_append_right (k2_sels lw_privs) (show w ∈ tables_1 from List.mem_append_left _ h)
theorem lw_m2 : ∀ w ∈ tables_1_2, w ∈ lw_tbl := fun w h => show w ∈ k2_sels lw_privs ++ tables_1 from List.mem_append_right (k2_sels lw_privs) (show w ∈ tables_1 from List.mem_append_right _ (List.mem_append_left _ h))
theorem lw_m3 : ∀ w ∈ tables_1_3, w ∈ lw_tbl := fun w h => show w ∈ k2_sels lw_privs ++ tables_1 from List.mem_append_right (k2_sels lw_privs) (show w ∈ tables_1 from List.mem_append_right _ (List.mem_append_right _ (List.mem_append_left _ h)))
theorem lw_m4 : ∀ w ∈ tables_1_4, w ∈ lw_tbl := fun w h => show w ∈ k2_sels lw_privs ++ tables_1 from List.mem_append_right (k2_sels lw_privs) (show w ∈ tables_1 from List.mem_append_right _ (List.mem_append_right _ (List.mem_append_right _ (List.mem_append_left _ h))))
theorem lw_m5 : ∀ w ∈ tables_1_5, w ∈ lw_tbl := fun w h => show w ∈ k2_sels lw_privs ++ tables_1 from List.mem_append_right (k2_sels lw_privs) (show w ∈ tables_1 from List.mem_append_right _ (List.mem_append_right _ (List.mem_append_right _ (List.mem_append_right _ (List.mem_append_left _ h)))))
theorem lw_m6 : ∀ w ∈ tables_1_6, w ∈ lw_tbl := fun w h => show w ∈ k2_sels lw_privs ++ tables_1 from List.mem_append_right (k2_sels lw_privs) (show w ∈ tables_1 from List.mem_append_right _ (List.mem_append_right _ (List.mem_append_right _ (List.mem_append_right _ (List.mem_append_right _ (List.mem_append_left _ h))))))
theorem lw_m7 : ∀ w ∈ tables_1_7, w ∈ lw_tbl := fun w h => show w ∈ k2_sels lw_privs ++ tables_1 from List.mem_append_right (k2_sels lw_privs) (show w ∈ tables_1 from List.mem_append_right _ (List.mem_append_right _ (List.mem_append_right _ (List.mem_append_right _ (List.mem_append_right _ (List.mem_append_right _ (List.mem_append_left _ h)))))))
theorem lw_m8 : ∀ w ∈ tables_1_8, w ∈ lw_tbl := fun w h => show w ∈ k2_sels lw_privs ++ tables_1 from List.mem_append_right (k2_sels lw_privs) (show w ∈ tables_1 from List.mem_append_right _ (List.mem_append_right _ (List.mem_append_right _ (List.mem_append_right _ (List.mem_append_right _ (List.mem_append_right _ (List.mem_append_right _ h)))))))
theorem qs0 : (Cond.selects "HighSpots" ⟨"HighSpots", "push", "(I)V"⟩ ⟨"HighSpots", "push", "(I)V"⟩) ∈ lw_all := lw_g (lw_at lw_ms 0 rfl) rfl
theorem qs1 : (Cond.selects "HighSpots$Reader" ⟨"HighSpots$Reader", "isGood", "()Z"⟩ ⟨"HighSpots$Reader", "isGood", "()Z"⟩) ∈ lw_all := lw_g (lw_at lw_ms 1 rfl) rfl
theorem qs2 : (Cond.selects "HighSpots$Reader" ⟨"HighSpots$Reader", "clause", "()V"⟩ ⟨"HighSpots$Reader", "clause", "()V"⟩) ∈ lw_all := lw_g (lw_at lw_ms 2 rfl) rfl
theorem qs3 : (Cond.selects "HighSpots$Reader" ⟨"HighSpots$Reader", "here", "()I"⟩ ⟨"HighSpots$Reader", "here", "()I"⟩) ∈ lw_all := lw_g (lw_at lw_ms 3 rfl) rfl
theorem qs4 : (Cond.selects "HighSpots$Reader" ⟨"HighSpots$Reader", "bad", "(II)V"⟩ ⟨"HighSpots$Reader", "bad", "(II)V"⟩) ∈ lw_all := lw_g (lw_at lw_ms 4 rfl) rfl
theorem qs5 : (Cond.selects "HighSpots$Reader" ⟨"HighSpots$Reader", "sum", "()LHighSpots$Sum;"⟩ ⟨"HighSpots$Reader", "sum", "()LHighSpots$Sum;"⟩) ∈ lw_all := lw_g (lw_at lw_ms 5 rfl) rfl
theorem qs6 : (Cond.selects "HighSpots$Reader" ⟨"HighSpots$Reader", "product", "()LHighSpots$Sum;"⟩ ⟨"HighSpots$Reader", "product", "()LHighSpots$Sum;"⟩) ∈ lw_all := lw_g (lw_at lw_ms 6 rfl) rfl
theorem qs7 : (Cond.selects "HighSpots$Reader" ⟨"HighSpots$Reader", "factor", "()LHighSpots$Sum;"⟩ ⟨"HighSpots$Reader", "factor", "()LHighSpots$Sum;"⟩) ∈ lw_all := lw_g (lw_at lw_ms 7 rfl) rfl
theorem qs8 : (Cond.selects "HighSpots$Reader" ⟨"HighSpots$Reader", "opens", "()V"⟩ ⟨"HighSpots$Reader", "opens", "()V"⟩) ∈ lw_all := lw_g (lw_at lw_ms 8 rfl) rfl
theorem qs9 : (Cond.selects "HighSpots$Reader" ⟨"HighSpots$Reader", "must", "(I)V"⟩ ⟨"HighSpots$Reader", "must", "(I)V"⟩) ∈ lw_all := lw_g (lw_at lw_ms 9 rfl) rfl
theorem qs10 : (Cond.selects "HighSpots$Reader" ⟨"HighSpots$Reader", "seesDigit", "()Z"⟩ ⟨"HighSpots$Reader", "seesDigit", "()Z"⟩) ∈ lw_all := lw_g (lw_at lw_ms 10 rfl) rfl
theorem qs11 : (Cond.selects "HighSpots$Reader" ⟨"HighSpots$Reader", "number", "()I"⟩ ⟨"HighSpots$Reader", "number", "()I"⟩) ∈ lw_all := lw_g (lw_at lw_ms 11 rfl) rfl
theorem qs12 : (Cond.selects "HighSpots$Reader" ⟨"HighSpots$Reader", "condition", "()LHighSpots$Condition;"⟩ ⟨"HighSpots$Reader", "condition", "()LHighSpots$Condition;"⟩) ∈ lw_all := lw_g (lw_at lw_ms 12 rfl) rfl
theorem qs13 : (Cond.selects "HighSpots$Reader" ⟨"HighSpots$Reader", "pieces", "()LHighSpots$Condition;"⟩ ⟨"HighSpots$Reader", "pieces", "()LHighSpots$Condition;"⟩) ∈ lw_all := lw_g (lw_at lw_ms 13 rfl) rfl
theorem qs14 : (Cond.selects "HighSpots$Reader" ⟨"HighSpots$Reader", "piece", "()LHighSpots$Condition;"⟩ ⟨"HighSpots$Reader", "piece", "()LHighSpots$Condition;"⟩) ∈ lw_all := lw_g (lw_at lw_ms 14 rfl) rfl
theorem qs15 : (Cond.selects "HighSpots$Caster" ⟨"HighSpots$Caster", "line", "()V"⟩ ⟨"HighSpots$Caster", "line", "()V"⟩) ∈ lw_all := lw_g (lw_at lw_ms 15 rfl) rfl
theorem qs16 : (Cond.selects "HighSpots$Caster" ⟨"HighSpots$Caster", "heights", "(II)V"⟩ ⟨"HighSpots$Caster", "heights", "(II)V"⟩) ∈ lw_all := lw_g (lw_at lw_ms 16 rfl) rfl
theorem qs17 : (Cond.selects "HighSpots$Guide" ⟨"HighSpots$Guide", "all", "()V"⟩ ⟨"HighSpots$Guide", "all", "()V"⟩) ∈ lw_all := lw_g (lw_at lw_ms 17 rfl) rfl
theorem qs18 : (Cond.selects "HighSpots$Guide" ⟨"HighSpots$Guide", "one", "()V"⟩ ⟨"HighSpots$Guide", "one", "()V"⟩) ∈ lw_all := lw_g (lw_at lw_ms 18 rfl) rfl
theorem qs19 : (Cond.selects "HighSpots$Guide" ⟨"HighSpots$Guide", "rounds", "()V"⟩ ⟨"HighSpots$Guide", "rounds", "()V"⟩) ∈ lw_all := lw_g (lw_at lw_ms 19 rfl) rfl
theorem qs20 : (Cond.selects "HighSpots" ⟨"HighSpots", "firstMarked", "()I"⟩ ⟨"HighSpots", "firstMarked", "()I"⟩) ∈ lw_all := lw_g (lw_at lw_ms 20 rfl) rfl
theorem qs21 : (Cond.selects "HighSpots" ⟨"HighSpots", "faced", "(I)I"⟩ ⟨"HighSpots", "faced", "(I)I"⟩) ∈ lw_all := lw_g (lw_at lw_ms 21 rfl) rfl
theorem qs22 : (Cond.selects "HighSpots" ⟨"HighSpots", "widest", "(I)I"⟩ ⟨"HighSpots", "widest", "(I)I"⟩) ∈ lw_all := lw_g (lw_at lw_ms 22 rfl) rfl
theorem qs23 : (Cond.selects "HighSpots" ⟨"HighSpots", "gapsIn", "(I)I"⟩ ⟨"HighSpots", "gapsIn", "(I)I"⟩) ∈ lw_all := lw_g (lw_at lw_ms 23 rfl) rfl
theorem qs24 : (Cond.selects "HighSpots" ⟨"HighSpots", "comes", "(I)I"⟩ ⟨"HighSpots", "comes", "(I)I"⟩) ∈ lw_all := lw_g (lw_at lw_ms 24 rfl) rfl
theorem qs25 : (Cond.selects "HighSpots" ⟨"HighSpots", "laysHighest", "()V"⟩ ⟨"HighSpots", "laysHighest", "()V"⟩) ∈ lw_all := lw_g (lw_at lw_ms 25 rfl) rfl
theorem qs26 : (Cond.selects "HighSpots" ⟨"HighSpots", "fed", "(I)I"⟩ ⟨"HighSpots", "fed", "(I)I"⟩) ∈ lw_all := lw_g (lw_at lw_ms 26 rfl) rfl
theorem qs27 : (Cond.selects "HighSpots" ⟨"HighSpots", "strokesTo", "(I)I"⟩ ⟨"HighSpots", "strokesTo", "(I)I"⟩) ∈ lw_all := lw_g (lw_at lw_ms 27 rfl) rfl
theorem qs28 : (Cond.selects "HighSpots" ⟨"HighSpots", "overOf", "(II)I"⟩ ⟨"HighSpots", "overOf", "(II)I"⟩) ∈ lw_all := lw_g (lw_at lw_ms 28 rfl) rfl
theorem qs29 : (Cond.selects "HighSpots" ⟨"HighSpots", "isOneSided", "(I)Z"⟩ ⟨"HighSpots", "isOneSided", "(I)Z"⟩) ∈ lw_all := lw_g (lw_at lw_ms 29 rfl) rfl
theorem qs30 : (Cond.selects "HighSpots" ⟨"HighSpots", "groups", "(I)I"⟩ ⟨"HighSpots", "groups", "(I)I"⟩) ∈ lw_all := lw_g (lw_at lw_ms 30 rfl) rfl
theorem qs31 : (Cond.selects "HighSpots" ⟨"HighSpots", "takesSpot", "(I)I"⟩ ⟨"HighSpots", "takesSpot", "(I)I"⟩) ∈ lw_all := lw_g (lw_at lw_ms 31 rfl) rfl
theorem qs32 : (Cond.selects "HighSpots" ⟨"HighSpots", "nextCorner", "(I)I"⟩ ⟨"HighSpots", "nextCorner", "(I)I"⟩) ∈ lw_all := lw_g (lw_at lw_ms 32 rfl) rfl
theorem qs33 : (Cond.selects "HighSpots" ⟨"HighSpots", "touchingBy", "(I)I"⟩ ⟨"HighSpots", "touchingBy", "(I)I"⟩) ∈ lw_all := lw_g (lw_at lw_ms 33 rfl) rfl
theorem qs34 : (Cond.selects "HighSpots" ⟨"HighSpots", "touching", "()I"⟩ ⟨"HighSpots", "touching", "()I"⟩) ∈ lw_all := lw_g (lw_at lw_ms 34 rfl) rfl
theorem qs35 : (Cond.selects "HighSpots" ⟨"HighSpots", "greatestSum", "()I"⟩ ⟨"HighSpots", "greatestSum", "()I"⟩) ∈ lw_all := lw_g (lw_at lw_ms 35 rfl) rfl
theorem qs36 : (Cond.selects "HighSpots" ⟨"HighSpots", "extremes", "(IZ)I"⟩ ⟨"HighSpots", "extremes", "(IZ)I"⟩) ∈ lw_all := lw_g (lw_at lw_ms 36 rfl) rfl
theorem qs37 : (Cond.selects "HighSpots" ⟨"HighSpots", "isAbove", "(IIZ)Z"⟩ ⟨"HighSpots", "isAbove", "(IIZ)Z"⟩) ∈ lw_all := lw_g (lw_at lw_ms 37 rfl) rfl
theorem qs38 : (Cond.selects "HighSpots" ⟨"HighSpots", "highestPlace", "(I)I"⟩ ⟨"HighSpots", "highestPlace", "(I)I"⟩) ∈ lw_all := lw_g (lw_at lw_ms 38 rfl) rfl
theorem qs39 : (Cond.selects "HighSpots" ⟨"HighSpots", "climbFrom", "(II)I"⟩ ⟨"HighSpots", "climbFrom", "(II)I"⟩) ∈ lw_all := lw_g (lw_at lw_ms 39 rfl) rfl
theorem qs40 : (Cond.selects "HighSpots" ⟨"HighSpots", "lowestBeside", "(II)I"⟩ ⟨"HighSpots", "lowestBeside", "(II)I"⟩) ∈ lw_all := lw_g (lw_at lw_ms 40 rfl) rfl
theorem qs41 : (Cond.selects "HighSpots" ⟨"HighSpots", "laysLevels", "([I)V"⟩ ⟨"HighSpots", "laysLevels", "([I)V"⟩) ∈ lw_all := lw_g (lw_at lw_ms 41 rfl) rfl
theorem qs42 : (Cond.selects "HighSpots" ⟨"HighSpots", "gapsOf", "(III)I"⟩ ⟨"HighSpots", "gapsOf", "(III)I"⟩) ∈ lw_all := lw_g (lw_at lw_ms 42 rfl) rfl
theorem qs43 : (Cond.selects "HighSpots" ⟨"HighSpots", "stopped", "(I)I"⟩ ⟨"HighSpots", "stopped", "(I)I"⟩) ∈ lw_all := lw_g (lw_at lw_ms 43 rfl) rfl
theorem qs44 : (Cond.selects "HighSpots" ⟨"HighSpots", "unlikeGlides", "()I"⟩ ⟨"HighSpots", "unlikeGlides", "()I"⟩) ∈ lw_all := lw_g (lw_at lw_ms 44 rfl) rfl
theorem qs45 : (Cond.selects "HighSpots$Bench" ⟨"HighSpots$Bench", "isRubbed", "(IIII)V"⟩ ⟨"HighSpots$Bench", "isRubbed", "(IIII)V"⟩) ∈ lw_all := lw_g (lw_at lw_ms 45 rfl) rfl
theorem qs46 : (Cond.selects "HighSpots$Moment" ⟨"HighSpots$Moment", "is", "(II)V"⟩ ⟨"HighSpots$Moment", "is", "(II)V"⟩) ∈ lw_all := lw_g (lw_at lw_ms 46 rfl) rfl
theorem qs47 : (Cond.selects "HighSpots$Bench" ⟨"HighSpots$Bench", "draw", "()I"⟩ ⟨"HighSpots$Bench", "draw", "()I"⟩) ∈ lw_all := lw_g (lw_at lw_ms 47 rfl) rfl
theorem qs48 : (Cond.selects "HighSpots" ⟨"HighSpots", "keptOff", "()I"⟩ ⟨"HighSpots", "keptOff", "()I"⟩) ∈ lw_all := lw_g (lw_at lw_ms 48 rfl) rfl
theorem qs49 : (Cond.selects "HighSpotsModel" ⟨"HighSpotsModel", "types", "(I)V"⟩ ⟨"HighSpotsModel", "types", "(I)V"⟩) ∈ lw_all := lw_g (lw_at lw_ms 49 rfl) rfl
theorem qs50 : (Cond.selects "HighSpotsModel" ⟨"HighSpotsModel", "beginsText", "(I)V"⟩ ⟨"HighSpotsModel", "beginsText", "(I)V"⟩) ∈ lw_all := lw_g (lw_at lw_ms 50 rfl) rfl
theorem qs51 : (Cond.selects "HighSpotsModel" ⟨"HighSpotsModel", "readsRule", "()Z"⟩ ⟨"HighSpotsModel", "readsRule", "()Z"⟩) ∈ lw_all := lw_g (lw_at lw_ms 51 rfl) rfl
theorem qs52 : (Cond.selects "HighSpotsModel" ⟨"HighSpotsModel", "here", "()I"⟩ ⟨"HighSpotsModel", "here", "()I"⟩) ∈ lw_all := lw_g (lw_at lw_ms 52 rfl) rfl
theorem qs53 : (Cond.selects "HighSpotsModel" ⟨"HighSpotsModel", "wrongAt", "(II)Z"⟩ ⟨"HighSpotsModel", "wrongAt", "(II)Z"⟩) ∈ lw_all := lw_g (lw_at lw_ms 53 rfl) rfl
theorem qs54 : (Cond.selects "HighSpotsModel" ⟨"HighSpotsModel", "readsSum", "()Z"⟩ ⟨"HighSpotsModel", "readsSum", "()Z"⟩) ∈ lw_all := lw_g (lw_at lw_ms 54 rfl) rfl
theorem qs55 : (Cond.selects "HighSpotsModel" ⟨"HighSpotsModel", "readsFactor", "()Z"⟩ ⟨"HighSpotsModel", "readsFactor", "()Z"⟩) ∈ lw_all := lw_g (lw_at lw_ms 55 rfl) rfl
theorem qs56 : (Cond.selects "HighSpotsModel" ⟨"HighSpotsModel", "opens", "(I)Z"⟩ ⟨"HighSpotsModel", "opens", "(I)Z"⟩) ∈ lw_all := lw_g (lw_at lw_ms 56 rfl) rfl
theorem qs57 : (Cond.selects "HighSpotsModel" ⟨"HighSpotsModel", "isDigit", "()Z"⟩ ⟨"HighSpotsModel", "isDigit", "()Z"⟩) ∈ lw_all := lw_g (lw_at lw_ms 57 rfl) rfl
theorem qs58 : (Cond.selects "HighSpotsModel" ⟨"HighSpotsModel", "readsNumber", "()Z"⟩ ⟨"HighSpotsModel", "readsNumber", "()Z"⟩) ∈ lw_all := lw_g (lw_at lw_ms 58 rfl) rfl
theorem qs59 : (Cond.selects "HighSpotsModel" ⟨"HighSpotsModel", "notes", "(II)V"⟩ ⟨"HighSpotsModel", "notes", "(II)V"⟩) ∈ lw_all := lw_g (lw_at lw_ms 59 rfl) rfl
theorem qs60 : (Cond.selects "HighSpotsModel" ⟨"HighSpotsModel", "closesSums", "(Z)V"⟩ ⟨"HighSpotsModel", "closesSums", "(Z)V"⟩) ∈ lw_all := lw_g (lw_at lw_ms 60 rfl) rfl
theorem qs61 : (Cond.selects "HighSpotsModel" ⟨"HighSpotsModel", "waitTop", "()I"⟩ ⟨"HighSpotsModel", "waitTop", "()I"⟩) ∈ lw_all := lw_g (lw_at lw_ms 61 rfl) rfl
theorem qs62 : (Cond.selects "HighSpotsModel" ⟨"HighSpotsModel", "hasOpenSum", "(I)Z"⟩ ⟨"HighSpotsModel", "hasOpenSum", "(I)Z"⟩) ∈ lw_all := lw_g (lw_at lw_ms 62 rfl) rfl
theorem qs63 : (Cond.selects "HighSpotsModel" ⟨"HighSpotsModel", "readsCondition", "()Z"⟩ ⟨"HighSpotsModel", "readsCondition", "()Z"⟩) ∈ lw_all := lw_g (lw_at lw_ms 63 rfl) rfl
theorem qs64 : (Cond.selects "HighSpotsModel" ⟨"HighSpotsModel", "readsCompared", "()Z"⟩ ⟨"HighSpotsModel", "readsCompared", "()Z"⟩) ∈ lw_all := lw_g (lw_at lw_ms 64 rfl) rfl
theorem qs65 : (Cond.selects "HighSpotsModel" ⟨"HighSpotsModel", "endsPiece", "()V"⟩ ⟨"HighSpotsModel", "endsPiece", "()V"⟩) ∈ lw_all := lw_g (lw_at lw_ms 65 rfl) rfl
theorem qs66 : (Cond.selects "HighSpotsModel" ⟨"HighSpotsModel", "lands", "(Z)V"⟩ ⟨"HighSpotsModel", "lands", "(Z)V"⟩) ∈ lw_all := lw_g (lw_at lw_ms 66 rfl) rfl
theorem qs67 : (Cond.selects "HighSpotsModel" ⟨"HighSpotsModel", "jumps", "(I)V"⟩ ⟨"HighSpotsModel", "jumps", "(I)V"⟩) ∈ lw_all := lw_g (lw_at lw_ms 67 rfl) rfl
theorem qs68 : (Cond.selects "HighSpotsModel" ⟨"HighSpotsModel", "takes", "(I)Z"⟩ ⟨"HighSpotsModel", "takes", "(I)Z"⟩) ∈ lw_all := lw_g (lw_at lw_ms 68 rfl) rfl
theorem qs69 : (Cond.selects "HighSpotsModel" ⟨"HighSpotsModel", "readsRow", "()Z"⟩ ⟨"HighSpotsModel", "readsRow", "()Z"⟩) ∈ lw_all := lw_g (lw_at lw_ms 69 rfl) rfl
theorem qs70 : (Cond.selects "HighSpotsModel" ⟨"HighSpotsModel", "readsHeights", "(I)Z"⟩ ⟨"HighSpotsModel", "readsHeights", "(I)Z"⟩) ∈ lw_all := lw_g (lw_at lw_ms 70 rfl) rfl
theorem qs71 : (Cond.selects "HighSpotsModel" ⟨"HighSpotsModel", "readsStep", "()Z"⟩ ⟨"HighSpotsModel", "readsStep", "()Z"⟩) ∈ lw_all := lw_g (lw_at lw_ms 71 rfl) rfl
theorem qs72 : (Cond.selects "HighSpotsModel" ⟨"HighSpotsModel", "endsGroup", "()Z"⟩ ⟨"HighSpotsModel", "endsGroup", "()Z"⟩) ∈ lw_all := lw_g (lw_at lw_ms 72 rfl) rfl
theorem qs73 : (Cond.selects "HighSpotsModel" ⟨"HighSpotsModel", "laysSteps", "(III)Z"⟩ ⟨"HighSpotsModel", "laysSteps", "(III)Z"⟩) ∈ lw_all := lw_g (lw_at lw_ms 73 rfl) rfl
theorem qs74 : (Cond.selects "HighSpotsModel" ⟨"HighSpotsModel", "opensGroup", "(II)Z"⟩ ⟨"HighSpotsModel", "opensGroup", "(II)Z"⟩) ∈ lw_all := lw_g (lw_at lw_ms 74 rfl) rfl
theorem qs75 : (Cond.selects "HighSpotsModel" ⟨"HighSpotsModel", "opening", "(II)I"⟩ ⟨"HighSpotsModel", "opening", "(II)I"⟩) ∈ lw_all := lw_g (lw_at lw_ms 75 rfl) rfl
theorem qs76 : (Cond.selects "HighSpotsModel" ⟨"HighSpotsModel", "sumAt", "(III)I"⟩ ⟨"HighSpotsModel", "sumAt", "(III)I"⟩) ∈ lw_all := lw_g (lw_at lw_ms 76 rfl) rfl
theorem qs77 : (Cond.selects "HighSpotsModel" ⟨"HighSpotsModel", "upperAt", "(I)I"⟩ ⟨"HighSpotsModel", "upperAt", "(I)I"⟩) ∈ lw_all := lw_g (lw_at lw_ms 77 rfl) rfl
theorem qs78 : (Cond.selects "HighSpotsModel" ⟨"HighSpotsModel", "lowerAt", "(I)I"⟩ ⟨"HighSpotsModel", "lowerAt", "(I)I"⟩) ∈ lw_all := lw_g (lw_at lw_ms 78 rfl) rfl
theorem qs79 : (Cond.selects "HighSpotsModel" ⟨"HighSpotsModel", "marks", "(III)I"⟩ ⟨"HighSpotsModel", "marks", "(III)I"⟩) ∈ lw_all := lw_g (lw_at lw_ms 79 rfl) rfl
theorem qs80 : (Cond.selects "HighSpotsModel" ⟨"HighSpotsModel", "firstMarked", "()I"⟩ ⟨"HighSpotsModel", "firstMarked", "()I"⟩) ∈ lw_all := lw_g (lw_at lw_ms 80 rfl) rfl
theorem qs81 : (Cond.selects "HighSpotsModel" ⟨"HighSpotsModel", "greatestGap", "(II)I"⟩ ⟨"HighSpotsModel", "greatestGap", "(II)I"⟩) ∈ lw_all := lw_g (lw_at lw_ms 81 rfl) rfl
theorem qs82 : (Cond.selects "HighSpotsModel" ⟨"HighSpotsModel", "openingOf", "(I)I"⟩ ⟨"HighSpotsModel", "openingOf", "(I)I"⟩) ∈ lw_all := lw_g (lw_at lw_ms 82 rfl) rfl
theorem qs83 : (Cond.selects "HighSpotsModel" ⟨"HighSpotsModel", "gapsOf", "(I)I"⟩ ⟨"HighSpotsModel", "gapsOf", "(I)I"⟩) ∈ lw_all := lw_g (lw_at lw_ms 83 rfl) rfl
theorem qs84 : (Cond.selects "HighSpotsModel" ⟨"HighSpotsModel", "rounds", "(II)I"⟩ ⟨"HighSpotsModel", "rounds", "(II)I"⟩) ∈ lw_all := lw_g (lw_at lw_ms 84 rfl) rfl
theorem qs85 : (Cond.selects "HighSpotsModel" ⟨"HighSpotsModel", "laysOpenings", "()V"⟩ ⟨"HighSpotsModel", "laysOpenings", "()V"⟩) ∈ lw_all := lw_g (lw_at lw_ms 85 rfl) rfl
theorem qs86 : (Cond.selects "HighSpotsModel" ⟨"HighSpotsModel", "freest", "(I)I"⟩ ⟨"HighSpotsModel", "freest", "(I)I"⟩) ∈ lw_all := lw_g (lw_at lw_ms 86 rfl) rfl
theorem qs87 : (Cond.selects "HighSpotsModel" ⟨"HighSpotsModel", "octet", "(I)I"⟩ ⟨"HighSpotsModel", "octet", "(I)I"⟩) ∈ lw_all := lw_g (lw_at lw_ms 87 rfl) rfl
theorem qs88 : (Cond.selects "HighSpotsModel" ⟨"HighSpotsModel", "restAt", "(I)I"⟩ ⟨"HighSpotsModel", "restAt", "(I)I"⟩) ∈ lw_all := lw_g (lw_at lw_ms 88 rfl) rfl
theorem qs89 : (Cond.selects "HighSpotsModel" ⟨"HighSpotsModel", "strokesTo", "(I)I"⟩ ⟨"HighSpotsModel", "strokesTo", "(I)I"⟩) ∈ lw_all := lw_g (lw_at lw_ms 89 rfl) rfl
theorem qs90 : (Cond.selects "HighSpotsModel" ⟨"HighSpotsModel", "above", "(II)I"⟩ ⟨"HighSpotsModel", "above", "(II)I"⟩) ∈ lw_all := lw_g (lw_at lw_ms 90 rfl) rfl
theorem qs91 : (Cond.selects "HighSpotsModel" ⟨"HighSpotsModel", "takes1", "(III)V"⟩ ⟨"HighSpotsModel", "takes1", "(III)V"⟩) ∈ lw_all := lw_g (lw_at lw_ms 91 rfl) rfl
theorem qs92 : (Cond.selects "HighSpotsModel" ⟨"HighSpotsModel", "gathers", "()V"⟩ ⟨"HighSpotsModel", "gathers", "()V"⟩) ∈ lw_all := lw_g (lw_at lw_ms 92 rfl) rfl
theorem qs93 : (Cond.selects "HighSpotsModel" ⟨"HighSpotsModel", "lowestBeside", "(I)I"⟩ ⟨"HighSpotsModel", "lowestBeside", "(I)I"⟩) ∈ lw_all := lw_g (lw_at lw_ms 93 rfl) rfl
theorem qs94 : (Cond.selects "HighSpotsModel" ⟨"HighSpotsModel", "laysTouching", "()V"⟩ ⟨"HighSpotsModel", "laysTouching", "()V"⟩) ∈ lw_all := lw_g (lw_at lw_ms 94 rfl) rfl
theorem qs95 : (Cond.selects "HighSpotsModel" ⟨"HighSpotsModel", "isEdge", "(II)Z"⟩ ⟨"HighSpotsModel", "isEdge", "(II)Z"⟩) ∈ lw_all := lw_g (lw_at lw_ms 95 rfl) rfl
theorem qs96 : (Cond.selects "HighSpotsModel" ⟨"HighSpotsModel", "touchLeaning", "(I)I"⟩ ⟨"HighSpotsModel", "touchLeaning", "(I)I"⟩) ∈ lw_all := lw_g (lw_at lw_ms 96 rfl) rfl
theorem qs97 : (Cond.selects "HighSpotsModel" ⟨"HighSpotsModel", "highOf", "(II)I"⟩ ⟨"HighSpotsModel", "highOf", "(II)I"⟩) ∈ lw_all := lw_g (lw_at lw_ms 97 rfl) rfl
theorem qs98 : (Cond.selects "HighSpotsModel" ⟨"HighSpotsModel", "peaks", "(II)I"⟩ ⟨"HighSpotsModel", "peaks", "(II)I"⟩) ∈ lw_all := lw_g (lw_at lw_ms 98 rfl) rfl
theorem qs99 : (Cond.selects "HighSpotsModel" ⟨"HighSpotsModel", "isAbove", "(III)Z"⟩ ⟨"HighSpotsModel", "isAbove", "(III)Z"⟩) ∈ lw_all := lw_g (lw_at lw_ms 99 rfl) rfl
theorem qs100 : (Cond.selects "HighSpotsModel" ⟨"HighSpotsModel", "climbFrom", "(II)I"⟩ ⟨"HighSpotsModel", "climbFrom", "(II)I"⟩) ∈ lw_all := lw_g (lw_at lw_ms 100 rfl) rfl
theorem qs101 : (Cond.selects "HighSpotsModel" ⟨"HighSpotsModel", "lowestBy", "(II)I"⟩ ⟨"HighSpotsModel", "lowestBy", "(II)I"⟩) ∈ lw_all := lw_g (lw_at lw_ms 101 rfl) rfl
theorem qs102 : (Cond.selects "HighSpotsModel" ⟨"HighSpotsModel", "staysIn", "(I)Z"⟩ ⟨"HighSpotsModel", "staysIn", "(I)Z"⟩) ∈ lw_all := lw_g (lw_at lw_ms 102 rfl) rfl
theorem qs103 : (Cond.selects "HighSpotsModel" ⟨"HighSpotsModel", "gapsMoved", "(III)I"⟩ ⟨"HighSpotsModel", "gapsMoved", "(III)I"⟩) ∈ lw_all := lw_g (lw_at lw_ms 103 rfl) rfl
theorem qs104 : (Cond.selects "HighSpotsModel" ⟨"HighSpotsModel", "glides", "(I)V"⟩ ⟨"HighSpotsModel", "glides", "(I)V"⟩) ∈ lw_all := lw_g (lw_at lw_ms 104 rfl) rfl
theorem qs105 : (Cond.selects "HighSpotsModel" ⟨"HighSpotsModel", "wears", "(II)I"⟩ ⟨"HighSpotsModel", "wears", "(II)I"⟩) ∈ lw_all := lw_g (lw_at lw_ms 105 rfl) rfl
theorem qs106 : (Cond.selects "HighSpotsModel" ⟨"HighSpotsModel", "wearsNight", "(I)I"⟩ ⟨"HighSpotsModel", "wearsNight", "(I)I"⟩) ∈ lw_all := lw_g (lw_at lw_ms 106 rfl) rfl
theorem qs107 : (Cond.selects "HighSpotsModel" ⟨"HighSpotsModel", "wearsAt", "(III)I"⟩ ⟨"HighSpotsModel", "wearsAt", "(III)I"⟩) ∈ lw_all := lw_g (lw_at lw_ms 107 rfl) rfl
theorem qs108 : (Cond.selects "HighSpotsModel" ⟨"HighSpotsModel", "lotGoes", "()I"⟩ ⟨"HighSpotsModel", "lotGoes", "()I"⟩) ∈ lw_all := lw_g (lw_at lw_ms 108 rfl) rfl
theorem qs109 : (Cond.selects "HighSpotsModel" ⟨"HighSpotsModel", "firstOf", "(I)I"⟩ ⟨"HighSpotsModel", "firstOf", "(I)I"⟩) ∈ lw_all := lw_g (lw_at lw_ms 109 rfl) rfl
theorem qs110 : (Cond.selects "HighSpotsModel" ⟨"HighSpotsModel", "reckonsTo", "(II)I"⟩ ⟨"HighSpotsModel", "reckonsTo", "(II)I"⟩) ∈ lw_all := lw_g (lw_at lw_ms 110 rfl) rfl
theorem qs111 : (Cond.selects "HighSpotsModel" ⟨"HighSpotsModel", "wornBy", "(II)I"⟩ ⟨"HighSpotsModel", "wornBy", "(II)I"⟩) ∈ lw_all := lw_g (lw_at lw_ms 111 rfl) rfl
theorem qs112 : (Cond.selects "HighSpotsModel" ⟨"HighSpotsModel", "shelves", "(I)V"⟩ ⟨"HighSpotsModel", "shelves", "(I)V"⟩) ∈ lw_all := lw_g (lw_at lw_ms 112 rfl) rfl
theorem qs113 : (Cond.selects "HighSpotsModel" ⟨"HighSpotsModel", "triedIs", "(II)I"⟩ ⟨"HighSpotsModel", "triedIs", "(II)I"⟩) ∈ lw_all := lw_g (lw_at lw_ms 113 rfl) rfl
theorem qs114 : (Cond.selects "HighSpotsModel" ⟨"HighSpotsModel", "takesBack", "(I)V"⟩ ⟨"HighSpotsModel", "takesBack", "(I)V"⟩) ∈ lw_all := lw_g (lw_at lw_ms 114 rfl) rfl
theorem qs115 : (Cond.selects "HighSpotsModel" ⟨"HighSpotsModel", "offMany", "()I"⟩ ⟨"HighSpotsModel", "offMany", "()I"⟩) ∈ lw_all := lw_g (lw_at lw_ms 115 rfl) rfl
