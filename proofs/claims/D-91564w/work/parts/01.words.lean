-- ===== PART A: goes FIRST, ahead of the names: the tables' words, and 'selects' of the private methods out of them =====
/-- a private method of a class that the tables say can be made, by its rows of tables_1 -/
def lw_okq (q : MethodName × Nat) : Prop := (q.1.cls ≠ "java/lang/invoke/MethodHandle" ∧ q.1.cls ≠ "java/lang/invoke/VarHandle") ∧ Cond.instantiable q.1.cls q.2 ∈ tables_1 ∧ Cond.privateMethod q.1 ∈ tables_1 ∧ Cond.instanceMethod q.1 ∈ tables_1
set_option maxRecDepth 100000
theorem lw_t1 {w : Cond} (h : w ∈ tables_1_1) : w ∈ tables_1 := List.mem_append_left _ h
theorem lw_t2 {w : Cond} (h : w ∈ tables_1_2) : w ∈ tables_1 := List.mem_append_right _ (List.mem_append_left _ h)
theorem lw_t3 {w : Cond} (h : w ∈ tables_1_3) : w ∈ tables_1 := List.mem_append_right _ (List.mem_append_right _ (List.mem_append_left _ h))
theorem lw_t4 {w : Cond} (h : w ∈ tables_1_4) : w ∈ tables_1 := List.mem_append_right _ (List.mem_append_right _ (List.mem_append_right _ (List.mem_append_left _ h)))
theorem lw_t5 {w : Cond} (h : w ∈ tables_1_5) : w ∈ tables_1 := List.mem_append_right _ (List.mem_append_right _ (List.mem_append_right _ (List.mem_append_right _ (List.mem_append_left _ h))))
theorem lw_t6 {w : Cond} (h : w ∈ tables_1_6) : w ∈ tables_1 := List.mem_append_right _ (List.mem_append_right _ (List.mem_append_right _ (List.mem_append_right _ (List.mem_append_right _ (List.mem_append_left _ h)))))
theorem lw_t7 {w : Cond} (h : w ∈ tables_1_7) : w ∈ tables_1 := List.mem_append_right _ (List.mem_append_right _ (List.mem_append_right _ (List.mem_append_right _ (List.mem_append_right _ (List.mem_append_right _ (List.mem_append_left _ h))))))
theorem lw_t8 {w : Cond} (h : w ∈ tables_1_8) : w ∈ tables_1 := List.mem_append_right _ (List.mem_append_right _ (List.mem_append_right _ (List.mem_append_right _ (List.mem_append_right _ (List.mem_append_right _ (List.mem_append_right _ h))))))
theorem lw_p0 : lw_okq (⟨"WheelLand", "ways", "()V"⟩, 35) := ⟨⟨by decide +kernel, by decide +kernel⟩, lw_t1 (List.mem_of_getElem? (i := 25) rfl), lw_t2 (List.mem_of_getElem? (i := 74) rfl), lw_t2 (List.mem_of_getElem? (i := 75) rfl)⟩
theorem lw_p1 : lw_okq (⟨"WheelLand", "leads", "(III)V"⟩, 35) := ⟨⟨by decide +kernel, by decide +kernel⟩, lw_t1 (List.mem_of_getElem? (i := 25) rfl), lw_t2 (List.mem_of_getElem? (i := 78) rfl), lw_t2 (List.mem_of_getElem? (i := 79) rfl)⟩
theorem lw_p2 : lw_okq (⟨"WheelLand", "findVillage", "(I)LWheelLand$Village;"⟩, 35) := ⟨⟨by decide +kernel, by decide +kernel⟩, lw_t1 (List.mem_of_getElem? (i := 25) rfl), lw_t2 (List.mem_of_getElem? (i := 86) rfl), lw_t2 (List.mem_of_getElem? (i := 87) rfl)⟩
theorem lw_p3 : lw_okq (⟨"WheelLand", "farOf", "(LWheelLand$Village;LWheelLand$Village;)I"⟩, 35) := ⟨⟨by decide +kernel, by decide +kernel⟩, lw_t1 (List.mem_of_getElem? (i := 25) rfl), lw_t2 (List.mem_of_getElem? (i := 94) rfl), lw_t2 (List.mem_of_getElem? (i := 95) rfl)⟩
theorem lw_p4 : lw_okq (⟨"WheelLand", "findHouse", "(I)LWheelLand$House;"⟩, 35) := ⟨⟨by decide +kernel, by decide +kernel⟩, lw_t1 (List.mem_of_getElem? (i := 25) rfl), lw_t2 (List.mem_of_getElem? (i := 170) rfl), lw_t2 (List.mem_of_getElem? (i := 171) rfl)⟩
theorem lw_p5 : lw_okq (⟨"WheelLand", "ends", "()V"⟩, 35) := ⟨⟨by decide +kernel, by decide +kernel⟩, lw_t1 (List.mem_of_getElem? (i := 25) rfl), lw_t2 (List.mem_of_getElem? (i := 217) rfl), lw_t2 (List.mem_of_getElem? (i := 218) rfl)⟩
theorem lw_p6 : lw_okq (⟨"WheelLand", "spins", "(LWheelLand$House;)V"⟩, 35) := ⟨⟨by decide +kernel, by decide +kernel⟩, lw_t1 (List.mem_of_getElem? (i := 25) rfl), lw_t2 (List.mem_of_getElem? (i := 221) rfl), lw_t2 (List.mem_of_getElem? (i := 222) rfl)⟩
theorem lw_p7 : lw_okq (⟨"WheelLand", "buys", "(LWheelLand$House;)V"⟩, 35) := ⟨⟨by decide +kernel, by decide +kernel⟩, lw_t1 (List.mem_of_getElem? (i := 25) rfl), lw_t3 (List.mem_of_getElem? (i := 56) rfl), lw_t3 (List.mem_of_getElem? (i := 57) rfl)⟩
theorem lw_p8 : lw_okq (⟨"WheelLand", "choice", "(LWheelLand$House;)I"⟩, 35) := ⟨⟨by decide +kernel, by decide +kernel⟩, lw_t1 (List.mem_of_getElem? (i := 25) rfl), lw_t3 (List.mem_of_getElem? (i := 60) rfl), lw_t3 (List.mem_of_getElem? (i := 61) rfl)⟩
theorem lw_p9 : lw_okq (⟨"WheelLand", "dutyAt", "(LWheelLand$Village;)I"⟩, 35) := ⟨⟨by decide +kernel, by decide +kernel⟩, lw_t1 (List.mem_of_getElem? (i := 25) rfl), lw_t3 (List.mem_of_getElem? (i := 64) rfl), lw_t3 (List.mem_of_getElem? (i := 65) rfl)⟩
theorem lw_p10 : lw_okq (⟨"WheelLand", "clears", "(I)V"⟩, 35) := ⟨⟨by decide +kernel, by decide +kernel⟩, lw_t1 (List.mem_of_getElem? (i := 25) rfl), lw_t3 (List.mem_of_getElem? (i := 68) rfl), lw_t3 (List.mem_of_getElem? (i := 69) rfl)⟩
theorem lw_p11 : lw_okq (⟨"WheelLand", "value", "(I)I"⟩, 35) := ⟨⟨by decide +kernel, by decide +kernel⟩, lw_t1 (List.mem_of_getElem? (i := 25) rfl), lw_t3 (List.mem_of_getElem? (i := 73) rfl), lw_t3 (List.mem_of_getElem? (i := 74) rfl)⟩
theorem lw_p12 : lw_okq (⟨"WheelLand", "inForce", "(II)I"⟩, 35) := ⟨⟨by decide +kernel, by decide +kernel⟩, lw_t1 (List.mem_of_getElem? (i := 25) rfl), lw_t3 (List.mem_of_getElem? (i := 77) rfl), lw_t3 (List.mem_of_getElem? (i := 78) rfl)⟩
theorem lw_p13 : lw_okq (⟨"WheelLand", "words", "()V"⟩, 35) := ⟨⟨by decide +kernel, by decide +kernel⟩, lw_t1 (List.mem_of_getElem? (i := 25) rfl), lw_t3 (List.mem_of_getElem? (i := 112) rfl), lw_t3 (List.mem_of_getElem? (i := 113) rfl)⟩
theorem lw_p14 : lw_okq (⟨"WheelLand", "asksHouse", "(ILWheelLand$House;)I"⟩, 35) := ⟨⟨by decide +kernel, by decide +kernel⟩, lw_t1 (List.mem_of_getElem? (i := 25) rfl), lw_t3 (List.mem_of_getElem? (i := 116) rfl), lw_t3 (List.mem_of_getElem? (i := 117) rfl)⟩
theorem lw_p15 : lw_okq (⟨"WheelLand", "ofHouse", "(LWheelLand$House;)V"⟩, 35) := ⟨⟨by decide +kernel, by decide +kernel⟩, lw_t1 (List.mem_of_getElem? (i := 25) rfl), lw_t3 (List.mem_of_getElem? (i := 120) rfl), lw_t3 (List.mem_of_getElem? (i := 121) rfl)⟩
def lw_privs_1 : List (MethodName × Nat) := [(⟨"WheelLand", "ways", "()V"⟩, 35), (⟨"WheelLand", "leads", "(III)V"⟩, 35), (⟨"WheelLand", "findVillage", "(I)LWheelLand$Village;"⟩, 35), (⟨"WheelLand", "farOf", "(LWheelLand$Village;LWheelLand$Village;)I"⟩, 35), (⟨"WheelLand", "findHouse", "(I)LWheelLand$House;"⟩, 35), (⟨"WheelLand", "ends", "()V"⟩, 35), (⟨"WheelLand", "spins", "(LWheelLand$House;)V"⟩, 35), (⟨"WheelLand", "buys", "(LWheelLand$House;)V"⟩, 35), (⟨"WheelLand", "choice", "(LWheelLand$House;)I"⟩, 35), (⟨"WheelLand", "dutyAt", "(LWheelLand$Village;)I"⟩, 35), (⟨"WheelLand", "clears", "(I)V"⟩, 35), (⟨"WheelLand", "value", "(I)I"⟩, 35), (⟨"WheelLand", "inForce", "(II)I"⟩, 35), (⟨"WheelLand", "words", "()V"⟩, 35), (⟨"WheelLand", "asksHouse", "(ILWheelLand$House;)I"⟩, 35), (⟨"WheelLand", "ofHouse", "(LWheelLand$House;)V"⟩, 35)]
theorem lw_r1 : ∀ q ∈ lw_privs_1, lw_okq q := List.forall_mem_cons.mpr ⟨lw_p0, List.forall_mem_cons.mpr ⟨lw_p1, List.forall_mem_cons.mpr ⟨lw_p2, List.forall_mem_cons.mpr ⟨lw_p3, List.forall_mem_cons.mpr ⟨lw_p4, List.forall_mem_cons.mpr ⟨lw_p5, List.forall_mem_cons.mpr ⟨lw_p6, List.forall_mem_cons.mpr ⟨lw_p7, List.forall_mem_cons.mpr ⟨lw_p8, List.forall_mem_cons.mpr ⟨lw_p9, List.forall_mem_cons.mpr ⟨lw_p10, List.forall_mem_cons.mpr ⟨lw_p11, List.forall_mem_cons.mpr ⟨lw_p12, List.forall_mem_cons.mpr ⟨lw_p13, List.forall_mem_cons.mpr ⟨lw_p14, List.forall_mem_cons.mpr ⟨lw_p15, fun _ h => absurd h List.not_mem_nil⟩⟩⟩⟩⟩⟩⟩⟩⟩⟩⟩⟩⟩⟩⟩⟩
theorem lw_p16 : lw_okq (⟨"WheelLand", "tells", "()V"⟩, 35) := ⟨⟨by decide +kernel, by decide +kernel⟩, lw_t1 (List.mem_of_getElem? (i := 25) rfl), lw_t3 (List.mem_of_getElem? (i := 130) rfl), lw_t3 (List.mem_of_getElem? (i := 131) rfl)⟩
theorem lw_p17 : lw_okq (⟨"WheelLand", "findLot", "(I)LWheelLand$Lot;"⟩, 35) := ⟨⟨by decide +kernel, by decide +kernel⟩, lw_t1 (List.mem_of_getElem? (i := 25) rfl), lw_t3 (List.mem_of_getElem? (i := 138) rfl), lw_t3 (List.mem_of_getElem? (i := 139) rfl)⟩
theorem lw_p18 : lw_okq (⟨"WheelLand", "feeds", "(I)V"⟩, 35) := ⟨⟨by decide +kernel, by decide +kernel⟩, lw_t1 (List.mem_of_getElem? (i := 25) rfl), lw_t3 (List.mem_of_getElem? (i := 146) rfl), lw_t3 (List.mem_of_getElem? (i := 147) rfl)⟩
theorem lw_p19 : lw_okq (⟨"WheelLand$Reader", "next", "()V"⟩, 8) := ⟨⟨by decide +kernel, by decide +kernel⟩, lw_t1 (List.mem_of_getElem? (i := 43) rfl), lw_t3 (List.mem_of_getElem? (i := 177) rfl), lw_t3 (List.mem_of_getElem? (i := 178) rfl)⟩
theorem lw_p20 : lw_okq (⟨"WheelLand$Reader", "errs", "()V"⟩, 8) := ⟨⟨by decide +kernel, by decide +kernel⟩, lw_t1 (List.mem_of_getElem? (i := 43) rfl), lw_t4 (List.mem_of_getElem? (i := 30) rfl), lw_t4 (List.mem_of_getElem? (i := 31) rfl)⟩
theorem lw_p21 : lw_okq (⟨"java/lang/Throwable", "fillInStackTrace", "(I)Ljava/lang/Throwable;"⟩, 6) := ⟨⟨by decide +kernel, by decide +kernel⟩, lw_t4 (List.mem_of_getElem? (i := 70) rfl), lw_t4 (List.mem_of_getElem? (i := 68) rfl), lw_t4 (List.mem_of_getElem? (i := 69) rfl)⟩
theorem lw_p22 : lw_okq (⟨"WheelLand$Reader", "isOver", "()Z"⟩, 8) := ⟨⟨by decide +kernel, by decide +kernel⟩, lw_t1 (List.mem_of_getElem? (i := 43) rfl), lw_t4 (List.mem_of_getElem? (i := 102) rfl), lw_t4 (List.mem_of_getElem? (i := 103) rfl)⟩
theorem lw_p23 : lw_okq (⟨"WheelLand$Reader", "word", "(Ljava/lang/String;)I"⟩, 8) := ⟨⟨by decide +kernel, by decide +kernel⟩, lw_t1 (List.mem_of_getElem? (i := 43) rfl), lw_t4 (List.mem_of_getElem? (i := 107) rfl), lw_t4 (List.mem_of_getElem? (i := 108) rfl)⟩
theorem lw_p24 : lw_okq (⟨"WheelLand$Reader", "sum", "()V"⟩, 8) := ⟨⟨by decide +kernel, by decide +kernel⟩, lw_t1 (List.mem_of_getElem? (i := 43) rfl), lw_t4 (List.mem_of_getElem? (i := 133) rfl), lw_t4 (List.mem_of_getElem? (i := 134) rfl)⟩
theorem lw_p25 : lw_okq (⟨"WheelLand$Reader", "product", "()V"⟩, 8) := ⟨⟨by decide +kernel, by decide +kernel⟩, lw_t1 (List.mem_of_getElem? (i := 43) rfl), lw_t4 (List.mem_of_getElem? (i := 137) rfl), lw_t4 (List.mem_of_getElem? (i := 138) rfl)⟩
theorem lw_p26 : lw_okq (⟨"WheelLand$Reader", "factor", "()V"⟩, 8) := ⟨⟨by decide +kernel, by decide +kernel⟩, lw_t1 (List.mem_of_getElem? (i := 43) rfl), lw_t4 (List.mem_of_getElem? (i := 141) rfl), lw_t4 (List.mem_of_getElem? (i := 142) rfl)⟩
theorem lw_p27 : lw_okq (⟨"WheelLand$Reader", "is", "(I)Z"⟩, 8) := ⟨⟨by decide +kernel, by decide +kernel⟩, lw_t1 (List.mem_of_getElem? (i := 43) rfl), lw_t4 (List.mem_of_getElem? (i := 145) rfl), lw_t4 (List.mem_of_getElem? (i := 146) rfl)⟩
theorem lw_p28 : lw_okq (⟨"WheelLand$Reader", "opens", "()V"⟩, 8) := ⟨⟨by decide +kernel, by decide +kernel⟩, lw_t1 (List.mem_of_getElem? (i := 43) rfl), lw_t4 (List.mem_of_getElem? (i := 149) rfl), lw_t4 (List.mem_of_getElem? (i := 150) rfl)⟩
theorem lw_p29 : lw_okq (⟨"WheelLand$Reader", "needs", "(I)V"⟩, 8) := ⟨⟨by decide +kernel, by decide +kernel⟩, lw_t1 (List.mem_of_getElem? (i := 43) rfl), lw_t4 (List.mem_of_getElem? (i := 153) rfl), lw_t4 (List.mem_of_getElem? (i := 154) rfl)⟩
theorem lw_p30 : lw_okq (⟨"WheelLand$Reader", "notes", "(II)V"⟩, 8) := ⟨⟨by decide +kernel, by decide +kernel⟩, lw_t1 (List.mem_of_getElem? (i := 43) rfl), lw_t4 (List.mem_of_getElem? (i := 159) rfl), lw_t4 (List.mem_of_getElem? (i := 160) rfl)⟩
theorem lw_p31 : lw_okq (⟨"WheelLand$Reader", "either", "()V"⟩, 8) := ⟨⟨by decide +kernel, by decide +kernel⟩, lw_t1 (List.mem_of_getElem? (i := 43) rfl), lw_t4 (List.mem_of_getElem? (i := 164) rfl), lw_t4 (List.mem_of_getElem? (i := 165) rfl)⟩
def lw_privs_2 : List (MethodName × Nat) := [(⟨"WheelLand", "tells", "()V"⟩, 35), (⟨"WheelLand", "findLot", "(I)LWheelLand$Lot;"⟩, 35), (⟨"WheelLand", "feeds", "(I)V"⟩, 35), (⟨"WheelLand$Reader", "next", "()V"⟩, 8), (⟨"WheelLand$Reader", "errs", "()V"⟩, 8), (⟨"java/lang/Throwable", "fillInStackTrace", "(I)Ljava/lang/Throwable;"⟩, 6), (⟨"WheelLand$Reader", "isOver", "()Z"⟩, 8), (⟨"WheelLand$Reader", "word", "(Ljava/lang/String;)I"⟩, 8), (⟨"WheelLand$Reader", "sum", "()V"⟩, 8), (⟨"WheelLand$Reader", "product", "()V"⟩, 8), (⟨"WheelLand$Reader", "factor", "()V"⟩, 8), (⟨"WheelLand$Reader", "is", "(I)Z"⟩, 8), (⟨"WheelLand$Reader", "opens", "()V"⟩, 8), (⟨"WheelLand$Reader", "needs", "(I)V"⟩, 8), (⟨"WheelLand$Reader", "notes", "(II)V"⟩, 8), (⟨"WheelLand$Reader", "either", "()V"⟩, 8)]
theorem lw_r2 : ∀ q ∈ lw_privs_2, lw_okq q := List.forall_mem_cons.mpr ⟨lw_p16, List.forall_mem_cons.mpr ⟨lw_p17, List.forall_mem_cons.mpr ⟨lw_p18, List.forall_mem_cons.mpr ⟨lw_p19, List.forall_mem_cons.mpr ⟨lw_p20, List.forall_mem_cons.mpr ⟨lw_p21, List.forall_mem_cons.mpr ⟨lw_p22, List.forall_mem_cons.mpr ⟨lw_p23, List.forall_mem_cons.mpr ⟨lw_p24, List.forall_mem_cons.mpr ⟨lw_p25, List.forall_mem_cons.mpr ⟨lw_p26, List.forall_mem_cons.mpr ⟨lw_p27, List.forall_mem_cons.mpr ⟨lw_p28, List.forall_mem_cons.mpr ⟨lw_p29, List.forall_mem_cons.mpr ⟨lw_p30, List.forall_mem_cons.mpr ⟨lw_p31, fun _ h => absurd h List.not_mem_nil⟩⟩⟩⟩⟩⟩⟩⟩⟩⟩⟩⟩⟩⟩⟩⟩
theorem lw_p32 : lw_okq (⟨"WheelLand$Reader", "both", "()V"⟩, 8) := ⟨⟨by decide +kernel, by decide +kernel⟩, lw_t1 (List.mem_of_getElem? (i := 43) rfl), lw_t4 (List.mem_of_getElem? (i := 168) rfl), lw_t4 (List.mem_of_getElem? (i := 169) rfl)⟩
theorem lw_p33 : lw_okq (⟨"WheelLand$Reader", "holds", "()V"⟩, 8) := ⟨⟨by decide +kernel, by decide +kernel⟩, lw_t1 (List.mem_of_getElem? (i := 43) rfl), lw_t4 (List.mem_of_getElem? (i := 172) rfl), lw_t4 (List.mem_of_getElem? (i := 173) rfl)⟩
theorem lw_p34 : lw_okq (⟨"WheelLand$Reader", "isWord", "(Ljava/lang/String;)Z"⟩, 8) := ⟨⟨by decide +kernel, by decide +kernel⟩, lw_t1 (List.mem_of_getElem? (i := 43) rfl), lw_t4 (List.mem_of_getElem? (i := 177) rfl), lw_t4 (List.mem_of_getElem? (i := 178) rfl)⟩
theorem lw_p35 : lw_okq (⟨"WheelLand", "barAll", "(LWheelLand$House;LWheelLand$Lot;I)I"⟩, 35) := ⟨⟨by decide +kernel, by decide +kernel⟩, lw_t1 (List.mem_of_getElem? (i := 25) rfl), lw_t4 (List.mem_of_getElem? (i := 228) rfl), lw_t4 (List.mem_of_getElem? (i := 229) rfl)⟩
theorem lw_p36 : lw_okq (⟨"WheelLand", "barOf", "(LWheelLand$House;LWheelLand$Lot;I)I"⟩, 35) := ⟨⟨by decide +kernel, by decide +kernel⟩, lw_t1 (List.mem_of_getElem? (i := 25) rfl), lw_t4 (List.mem_of_getElem? (i := 232) rfl), lw_t4 (List.mem_of_getElem? (i := 233) rfl)⟩
theorem lw_p37 : lw_okq (⟨"WheelLand", "asksLot", "(ILWheelLand$Lot;LWheelLand$House;I)I"⟩, 35) := ⟨⟨by decide +kernel, by decide +kernel⟩, lw_t1 (List.mem_of_getElem? (i := 25) rfl), lw_t4 (List.mem_of_getElem? (i := 236) rfl), lw_t4 (List.mem_of_getElem? (i := 237) rfl)⟩
theorem lw_p38 : lw_okq (⟨"WheelLand", "asks", "(ILWheelLand$House;IIIII)I"⟩, 35) := ⟨⟨by decide +kernel, by decide +kernel⟩, lw_t1 (List.mem_of_getElem? (i := 25) rfl), lw_t5 (List.mem_of_getElem? (i := 0) rfl), lw_t5 (List.mem_of_getElem? (i := 1) rfl)⟩
theorem lw_p39 : lw_okq (⟨"WheelLand", "findCloth", "(I)LWheelLand$Cloth;"⟩, 35) := ⟨⟨by decide +kernel, by decide +kernel⟩, lw_t1 (List.mem_of_getElem? (i := 25) rfl), lw_t5 (List.mem_of_getElem? (i := 36) rfl), lw_t5 (List.mem_of_getElem? (i := 37) rfl)⟩
theorem lw_p40 : lw_okq (⟨"WheelLand$Hands", "tries", "(III)V"⟩, 11) := ⟨⟨by decide +kernel, by decide +kernel⟩, lw_t1 (List.mem_of_getElem? (i := 76) rfl), lw_t5 (List.mem_of_getElem? (i := 57) rfl), lw_t5 (List.mem_of_getElem? (i := 58) rfl)⟩
theorem lw_p41 : lw_okq (⟨"WheelLand$Hands", "judges", "(II)V"⟩, 11) := ⟨⟨by decide +kernel, by decide +kernel⟩, lw_t1 (List.mem_of_getElem? (i := 76) rfl), lw_t5 (List.mem_of_getElem? (i := 61) rfl), lw_t5 (List.mem_of_getElem? (i := 62) rfl)⟩
theorem lw_p42 : lw_okq (⟨"WheelLand", "spunWith", "(I)I"⟩, 35) := ⟨⟨by decide +kernel, by decide +kernel⟩, lw_t1 (List.mem_of_getElem? (i := 25) rfl), lw_t5 (List.mem_of_getElem? (i := 124) rfl), lw_t5 (List.mem_of_getElem? (i := 125) rfl)⟩
theorem lw_p43 : lw_okq (⟨"WheelLand", "with", "(IIII)I"⟩, 35) := ⟨⟨by decide +kernel, by decide +kernel⟩, lw_t1 (List.mem_of_getElem? (i := 25) rfl), lw_t5 (List.mem_of_getElem? (i := 146) rfl), lw_t5 (List.mem_of_getElem? (i := 147) rfl)⟩
theorem lw_p44 : lw_okq (⟨"WheelLandModel", "isVillage", "(I)Z"⟩, 97) := ⟨⟨by decide +kernel, by decide +kernel⟩, lw_t5 (List.mem_of_getElem? (i := 162) rfl), lw_t7 (List.mem_of_getElem? (i := 22) rfl), lw_t7 (List.mem_of_getElem? (i := 23) rfl)⟩
theorem lw_p45 : lw_okq (⟨"WheelLandModel", "farOf", "(II)I"⟩, 97) := ⟨⟨by decide +kernel, by decide +kernel⟩, lw_t5 (List.mem_of_getElem? (i := 162) rfl), lw_t7 (List.mem_of_getElem? (i := 30) rfl), lw_t7 (List.mem_of_getElem? (i := 31) rfl)⟩
theorem lw_p46 : lw_okq (⟨"WheelLandModel", "isHouse", "(I)Z"⟩, 97) := ⟨⟨by decide +kernel, by decide +kernel⟩, lw_t5 (List.mem_of_getElem? (i := 162) rfl), lw_t7 (List.mem_of_getElem? (i := 42) rfl), lw_t7 (List.mem_of_getElem? (i := 43) rfl)⟩
theorem lw_p47 : lw_okq (⟨"WheelLandModel", "hasLoom", "(I)Z"⟩, 97) := ⟨⟨by decide +kernel, by decide +kernel⟩, lw_t5 (List.mem_of_getElem? (i := 162) rfl), lw_t7 (List.mem_of_getElem? (i := 46) rfl), lw_t7 (List.mem_of_getElem? (i := 47) rfl)⟩
def lw_privs_3 : List (MethodName × Nat) := [(⟨"WheelLand$Reader", "both", "()V"⟩, 8), (⟨"WheelLand$Reader", "holds", "()V"⟩, 8), (⟨"WheelLand$Reader", "isWord", "(Ljava/lang/String;)Z"⟩, 8), (⟨"WheelLand", "barAll", "(LWheelLand$House;LWheelLand$Lot;I)I"⟩, 35), (⟨"WheelLand", "barOf", "(LWheelLand$House;LWheelLand$Lot;I)I"⟩, 35), (⟨"WheelLand", "asksLot", "(ILWheelLand$Lot;LWheelLand$House;I)I"⟩, 35), (⟨"WheelLand", "asks", "(ILWheelLand$House;IIIII)I"⟩, 35), (⟨"WheelLand", "findCloth", "(I)LWheelLand$Cloth;"⟩, 35), (⟨"WheelLand$Hands", "tries", "(III)V"⟩, 11), (⟨"WheelLand$Hands", "judges", "(II)V"⟩, 11), (⟨"WheelLand", "spunWith", "(I)I"⟩, 35), (⟨"WheelLand", "with", "(IIII)I"⟩, 35), (⟨"WheelLandModel", "isVillage", "(I)Z"⟩, 97), (⟨"WheelLandModel", "farOf", "(II)I"⟩, 97), (⟨"WheelLandModel", "isHouse", "(I)Z"⟩, 97), (⟨"WheelLandModel", "hasLoom", "(I)Z"⟩, 97)]
theorem lw_r3 : ∀ q ∈ lw_privs_3, lw_okq q := List.forall_mem_cons.mpr ⟨lw_p32, List.forall_mem_cons.mpr ⟨lw_p33, List.forall_mem_cons.mpr ⟨lw_p34, List.forall_mem_cons.mpr ⟨lw_p35, List.forall_mem_cons.mpr ⟨lw_p36, List.forall_mem_cons.mpr ⟨lw_p37, List.forall_mem_cons.mpr ⟨lw_p38, List.forall_mem_cons.mpr ⟨lw_p39, List.forall_mem_cons.mpr ⟨lw_p40, List.forall_mem_cons.mpr ⟨lw_p41, List.forall_mem_cons.mpr ⟨lw_p42, List.forall_mem_cons.mpr ⟨lw_p43, List.forall_mem_cons.mpr ⟨lw_p44, List.forall_mem_cons.mpr ⟨lw_p45, List.forall_mem_cons.mpr ⟨lw_p46, List.forall_mem_cons.mpr ⟨lw_p47, fun _ h => absurd h List.not_mem_nil⟩⟩⟩⟩⟩⟩⟩⟩⟩⟩⟩⟩⟩⟩⟩⟩
theorem lw_p48 : lw_okq (⟨"WheelLandModel", "feeds", "(I)V"⟩, 97) := ⟨⟨by decide +kernel, by decide +kernel⟩, lw_t5 (List.mem_of_getElem? (i := 162) rfl), lw_t7 (List.mem_of_getElem? (i := 72) rfl), lw_t7 (List.mem_of_getElem? (i := 73) rfl)⟩
theorem lw_p49 : lw_okq (⟨"WheelLandModel", "reads", "()V"⟩, 97) := ⟨⟨by decide +kernel, by decide +kernel⟩, lw_t5 (List.mem_of_getElem? (i := 162) rfl), lw_t7 (List.mem_of_getElem? (i := 84) rfl), lw_t7 (List.mem_of_getElem? (i := 85) rfl)⟩
theorem lw_p50 : lw_okq (⟨"WheelLandModel", "skips", "()V"⟩, 97) := ⟨⟨by decide +kernel, by decide +kernel⟩, lw_t5 (List.mem_of_getElem? (i := 162) rfl), lw_t7 (List.mem_of_getElem? (i := 88) rfl), lw_t7 (List.mem_of_getElem? (i := 89) rfl)⟩
theorem lw_p51 : lw_okq (⟨"WheelLandModel", "clauses", "()Z"⟩, 97) := ⟨⟨by decide +kernel, by decide +kernel⟩, lw_t5 (List.mem_of_getElem? (i := 162) rfl), lw_t7 (List.mem_of_getElem? (i := 98) rfl), lw_t7 (List.mem_of_getElem? (i := 99) rfl)⟩
theorem lw_p52 : lw_okq (⟨"WheelLandModel", "isWord", "(Ljava/lang/String;)Z"⟩, 97) := ⟨⟨by decide +kernel, by decide +kernel⟩, lw_t5 (List.mem_of_getElem? (i := 162) rfl), lw_t7 (List.mem_of_getElem? (i := 102) rfl), lw_t7 (List.mem_of_getElem? (i := 103) rfl)⟩
theorem lw_p53 : lw_okq (⟨"WheelLandModel", "passes", "(Z)Z"⟩, 97) := ⟨⟨by decide +kernel, by decide +kernel⟩, lw_t5 (List.mem_of_getElem? (i := 162) rfl), lw_t7 (List.mem_of_getElem? (i := 108) rfl), lw_t7 (List.mem_of_getElem? (i := 109) rfl)⟩
theorem lw_p54 : lw_okq (⟨"WheelLandModel", "fails", "()Z"⟩, 97) := ⟨⟨by decide +kernel, by decide +kernel⟩, lw_t5 (List.mem_of_getElem? (i := 162) rfl), lw_t7 (List.mem_of_getElem? (i := 112) rfl), lw_t7 (List.mem_of_getElem? (i := 113) rfl)⟩
theorem lw_p55 : lw_okq (⟨"WheelLandModel", "goesOn", "()V"⟩, 97) := ⟨⟨by decide +kernel, by decide +kernel⟩, lw_t5 (List.mem_of_getElem? (i := 162) rfl), lw_t7 (List.mem_of_getElem? (i := 116) rfl), lw_t7 (List.mem_of_getElem? (i := 117) rfl)⟩
theorem lw_p56 : lw_okq (⟨"WheelLandModel", "sum", "(I)Z"⟩, 97) := ⟨⟨by decide +kernel, by decide +kernel⟩, lw_t5 (List.mem_of_getElem? (i := 162) rfl), lw_t7 (List.mem_of_getElem? (i := 120) rfl), lw_t7 (List.mem_of_getElem? (i := 121) rfl)⟩
theorem lw_p57 : lw_okq (⟨"WheelLandModel", "product", "(I)Z"⟩, 97) := ⟨⟨by decide +kernel, by decide +kernel⟩, lw_t5 (List.mem_of_getElem? (i := 162) rfl), lw_t7 (List.mem_of_getElem? (i := 124) rfl), lw_t7 (List.mem_of_getElem? (i := 125) rfl)⟩
theorem lw_p58 : lw_okq (⟨"WheelLandModel", "factor", "(I)Z"⟩, 97) := ⟨⟨by decide +kernel, by decide +kernel⟩, lw_t5 (List.mem_of_getElem? (i := 162) rfl), lw_t7 (List.mem_of_getElem? (i := 128) rfl), lw_t7 (List.mem_of_getElem? (i := 129) rfl)⟩
theorem lw_p59 : lw_okq (⟨"WheelLandModel", "isSign", "(I)Z"⟩, 97) := ⟨⟨by decide +kernel, by decide +kernel⟩, lw_t5 (List.mem_of_getElem? (i := 162) rfl), lw_t7 (List.mem_of_getElem? (i := 132) rfl), lw_t7 (List.mem_of_getElem? (i := 133) rfl)⟩
theorem lw_p60 : lw_okq (⟨"WheelLandModel", "isNumber", "()Z"⟩, 97) := ⟨⟨by decide +kernel, by decide +kernel⟩, lw_t5 (List.mem_of_getElem? (i := 162) rfl), lw_t7 (List.mem_of_getElem? (i := 136) rfl), lw_t7 (List.mem_of_getElem? (i := 137) rfl)⟩
theorem lw_p61 : lw_okq (⟨"WheelLandModel", "puts", "(II)Z"⟩, 97) := ⟨⟨by decide +kernel, by decide +kernel⟩, lw_t5 (List.mem_of_getElem? (i := 162) rfl), lw_t7 (List.mem_of_getElem? (i := 142) rfl), lw_t7 (List.mem_of_getElem? (i := 143) rfl)⟩
theorem lw_p62 : lw_okq (⟨"WheelLandModel", "either", "(I)Z"⟩, 97) := ⟨⟨by decide +kernel, by decide +kernel⟩, lw_t5 (List.mem_of_getElem? (i := 162) rfl), lw_t7 (List.mem_of_getElem? (i := 146) rfl), lw_t7 (List.mem_of_getElem? (i := 147) rfl)⟩
theorem lw_p63 : lw_okq (⟨"WheelLandModel", "each", "(I)Z"⟩, 97) := ⟨⟨by decide +kernel, by decide +kernel⟩, lw_t5 (List.mem_of_getElem? (i := 162) rfl), lw_t7 (List.mem_of_getElem? (i := 150) rfl), lw_t7 (List.mem_of_getElem? (i := 151) rfl)⟩
def lw_privs_4 : List (MethodName × Nat) := [(⟨"WheelLandModel", "feeds", "(I)V"⟩, 97), (⟨"WheelLandModel", "reads", "()V"⟩, 97), (⟨"WheelLandModel", "skips", "()V"⟩, 97), (⟨"WheelLandModel", "clauses", "()Z"⟩, 97), (⟨"WheelLandModel", "isWord", "(Ljava/lang/String;)Z"⟩, 97), (⟨"WheelLandModel", "passes", "(Z)Z"⟩, 97), (⟨"WheelLandModel", "fails", "()Z"⟩, 97), (⟨"WheelLandModel", "goesOn", "()V"⟩, 97), (⟨"WheelLandModel", "sum", "(I)Z"⟩, 97), (⟨"WheelLandModel", "product", "(I)Z"⟩, 97), (⟨"WheelLandModel", "factor", "(I)Z"⟩, 97), (⟨"WheelLandModel", "isSign", "(I)Z"⟩, 97), (⟨"WheelLandModel", "isNumber", "()Z"⟩, 97), (⟨"WheelLandModel", "puts", "(II)Z"⟩, 97), (⟨"WheelLandModel", "either", "(I)Z"⟩, 97), (⟨"WheelLandModel", "each", "(I)Z"⟩, 97)]
theorem lw_r4 : ∀ q ∈ lw_privs_4, lw_okq q := List.forall_mem_cons.mpr ⟨lw_p48, List.forall_mem_cons.mpr ⟨lw_p49, List.forall_mem_cons.mpr ⟨lw_p50, List.forall_mem_cons.mpr ⟨lw_p51, List.forall_mem_cons.mpr ⟨lw_p52, List.forall_mem_cons.mpr ⟨lw_p53, List.forall_mem_cons.mpr ⟨lw_p54, List.forall_mem_cons.mpr ⟨lw_p55, List.forall_mem_cons.mpr ⟨lw_p56, List.forall_mem_cons.mpr ⟨lw_p57, List.forall_mem_cons.mpr ⟨lw_p58, List.forall_mem_cons.mpr ⟨lw_p59, List.forall_mem_cons.mpr ⟨lw_p60, List.forall_mem_cons.mpr ⟨lw_p61, List.forall_mem_cons.mpr ⟨lw_p62, List.forall_mem_cons.mpr ⟨lw_p63, fun _ h => absurd h List.not_mem_nil⟩⟩⟩⟩⟩⟩⟩⟩⟩⟩⟩⟩⟩⟩⟩⟩
theorem lw_p64 : lw_okq (⟨"WheelLandModel", "test", "(I)Z"⟩, 97) := ⟨⟨by decide +kernel, by decide +kernel⟩, lw_t5 (List.mem_of_getElem? (i := 162) rfl), lw_t7 (List.mem_of_getElem? (i := 154) rfl), lw_t7 (List.mem_of_getElem? (i := 155) rfl)⟩
theorem lw_p65 : lw_okq (⟨"WheelLandModel", "sheetFor", "(II)I"⟩, 97) := ⟨⟨by decide +kernel, by decide +kernel⟩, lw_t5 (List.mem_of_getElem? (i := 162) rfl), lw_t7 (List.mem_of_getElem? (i := 174) rfl), lw_t7 (List.mem_of_getElem? (i := 175) rfl)⟩
theorem lw_p66 : lw_okq (⟨"WheelLandModel", "isLot", "(I)Z"⟩, 97) := ⟨⟨by decide +kernel, by decide +kernel⟩, lw_t5 (List.mem_of_getElem? (i := 162) rfl), lw_t7 (List.mem_of_getElem? (i := 182) rfl), lw_t7 (List.mem_of_getElem? (i := 183) rfl)⟩
theorem lw_p67 : lw_okq (⟨"WheelLandModel", "owing", "(I)I"⟩, 97) := ⟨⟨by decide +kernel, by decide +kernel⟩, lw_t5 (List.mem_of_getElem? (i := 162) rfl), lw_t7 (List.mem_of_getElem? (i := 190) rfl), lw_t7 (List.mem_of_getElem? (i := 191) rfl)⟩
theorem lw_p68 : lw_okq (⟨"WheelLandModel", "canAsk", "(III)Z"⟩, 97) := ⟨⟨by decide +kernel, by decide +kernel⟩, lw_t5 (List.mem_of_getElem? (i := 162) rfl), lw_t7 (List.mem_of_getElem? (i := 205) rfl), lw_t7 (List.mem_of_getElem? (i := 206) rfl)⟩
theorem lw_p69 : lw_okq (⟨"WheelLandModel", "barred", "(III)I"⟩, 97) := ⟨⟨by decide +kernel, by decide +kernel⟩, lw_t5 (List.mem_of_getElem? (i := 162) rfl), lw_t7 (List.mem_of_getElem? (i := 211) rfl), lw_t7 (List.mem_of_getElem? (i := 212) rfl)⟩
theorem lw_p70 : lw_okq (⟨"WheelLandModel", "barOf", "(III)I"⟩, 97) := ⟨⟨by decide +kernel, by decide +kernel⟩, lw_t5 (List.mem_of_getElem? (i := 162) rfl), lw_t7 (List.mem_of_getElem? (i := 215) rfl), lw_t7 (List.mem_of_getElem? (i := 216) rfl)⟩
theorem lw_p71 : lw_okq (⟨"WheelLandModel", "asksOf", "(III)V"⟩, 97) := ⟨⟨by decide +kernel, by decide +kernel⟩, lw_t5 (List.mem_of_getElem? (i := 162) rfl), lw_t7 (List.mem_of_getElem? (i := 219) rfl), lw_t7 (List.mem_of_getElem? (i := 220) rfl)⟩
theorem lw_p72 : lw_okq (⟨"WheelLandModel", "asksOf", "(IIIIII)V"⟩, 97) := ⟨⟨by decide +kernel, by decide +kernel⟩, lw_t5 (List.mem_of_getElem? (i := 162) rfl), lw_t7 (List.mem_of_getElem? (i := 223) rfl), lw_t7 (List.mem_of_getElem? (i := 224) rfl)⟩
theorem lw_p73 : lw_okq (⟨"WheelLandModel", "asksOf", "(I)V"⟩, 97) := ⟨⟨by decide +kernel, by decide +kernel⟩, lw_t5 (List.mem_of_getElem? (i := 162) rfl), lw_t7 (List.mem_of_getElem? (i := 227) rfl), lw_t7 (List.mem_of_getElem? (i := 228) rfl)⟩
theorem lw_p74 : lw_okq (⟨"WheelLandModel", "clears", "()V"⟩, 97) := ⟨⟨by decide +kernel, by decide +kernel⟩, lw_t5 (List.mem_of_getElem? (i := 162) rfl), lw_t7 (List.mem_of_getElem? (i := 231) rfl), lw_t7 (List.mem_of_getElem? (i := 232) rfl)⟩
theorem lw_p75 : lw_okq (⟨"WheelLandModel", "tells", "(I)I"⟩, 97) := ⟨⟨by decide +kernel, by decide +kernel⟩, lw_t5 (List.mem_of_getElem? (i := 162) rfl), lw_t7 (List.mem_of_getElem? (i := 238) rfl), lw_t7 (List.mem_of_getElem? (i := 239) rfl)⟩
theorem lw_p76 : lw_okq (⟨"WheelLandModel", "isCloth", "(I)Z"⟩, 97) := ⟨⟨by decide +kernel, by decide +kernel⟩, lw_t5 (List.mem_of_getElem? (i := 162) rfl), lw_t8 (List.mem_of_getElem? (i := 18) rfl), lw_t8 (List.mem_of_getElem? (i := 19) rfl)⟩
theorem lw_p77 : lw_okq (⟨"WheelLandModel", "handsFor", "(I)Z"⟩, 97) := ⟨⟨by decide +kernel, by decide +kernel⟩, lw_t5 (List.mem_of_getElem? (i := 162) rfl), lw_t8 (List.mem_of_getElem? (i := 34) rfl), lw_t8 (List.mem_of_getElem? (i := 35) rfl)⟩
theorem lw_p78 : lw_okq (⟨"WheelLandModel", "tries", "(I)V"⟩, 97) := ⟨⟨by decide +kernel, by decide +kernel⟩, lw_t5 (List.mem_of_getElem? (i := 162) rfl), lw_t8 (List.mem_of_getElem? (i := 38) rfl), lw_t8 (List.mem_of_getElem? (i := 39) rfl)⟩
theorem lw_p79 : lw_okq (⟨"WheelLandModel", "looks", "()V"⟩, 97) := ⟨⟨by decide +kernel, by decide +kernel⟩, lw_t5 (List.mem_of_getElem? (i := 162) rfl), lw_t8 (List.mem_of_getElem? (i := 42) rfl), lw_t8 (List.mem_of_getElem? (i := 43) rfl)⟩
def lw_privs_5 : List (MethodName × Nat) := [(⟨"WheelLandModel", "test", "(I)Z"⟩, 97), (⟨"WheelLandModel", "sheetFor", "(II)I"⟩, 97), (⟨"WheelLandModel", "isLot", "(I)Z"⟩, 97), (⟨"WheelLandModel", "owing", "(I)I"⟩, 97), (⟨"WheelLandModel", "canAsk", "(III)Z"⟩, 97), (⟨"WheelLandModel", "barred", "(III)I"⟩, 97), (⟨"WheelLandModel", "barOf", "(III)I"⟩, 97), (⟨"WheelLandModel", "asksOf", "(III)V"⟩, 97), (⟨"WheelLandModel", "asksOf", "(IIIIII)V"⟩, 97), (⟨"WheelLandModel", "asksOf", "(I)V"⟩, 97), (⟨"WheelLandModel", "clears", "()V"⟩, 97), (⟨"WheelLandModel", "tells", "(I)I"⟩, 97), (⟨"WheelLandModel", "isCloth", "(I)Z"⟩, 97), (⟨"WheelLandModel", "handsFor", "(I)Z"⟩, 97), (⟨"WheelLandModel", "tries", "(I)V"⟩, 97), (⟨"WheelLandModel", "looks", "()V"⟩, 97)]
theorem lw_r5 : ∀ q ∈ lw_privs_5, lw_okq q := List.forall_mem_cons.mpr ⟨lw_p64, List.forall_mem_cons.mpr ⟨lw_p65, List.forall_mem_cons.mpr ⟨lw_p66, List.forall_mem_cons.mpr ⟨lw_p67, List.forall_mem_cons.mpr ⟨lw_p68, List.forall_mem_cons.mpr ⟨lw_p69, List.forall_mem_cons.mpr ⟨lw_p70, List.forall_mem_cons.mpr ⟨lw_p71, List.forall_mem_cons.mpr ⟨lw_p72, List.forall_mem_cons.mpr ⟨lw_p73, List.forall_mem_cons.mpr ⟨lw_p74, List.forall_mem_cons.mpr ⟨lw_p75, List.forall_mem_cons.mpr ⟨lw_p76, List.forall_mem_cons.mpr ⟨lw_p77, List.forall_mem_cons.mpr ⟨lw_p78, List.forall_mem_cons.mpr ⟨lw_p79, fun _ h => absurd h List.not_mem_nil⟩⟩⟩⟩⟩⟩⟩⟩⟩⟩⟩⟩⟩⟩⟩⟩
theorem lw_p80 : lw_okq (⟨"WheelLandModel", "dutyAt", "(I)I"⟩, 97) := ⟨⟨by decide +kernel, by decide +kernel⟩, lw_t5 (List.mem_of_getElem? (i := 162) rfl), lw_t8 (List.mem_of_getElem? (i := 73) rfl), lw_t8 (List.mem_of_getElem? (i := 74) rfl)⟩
theorem lw_p81 : lw_okq (⟨"WheelLandModel", "canHand", "(I)Z"⟩, 97) := ⟨⟨by decide +kernel, by decide +kernel⟩, lw_t5 (List.mem_of_getElem? (i := 162) rfl), lw_t8 (List.mem_of_getElem? (i := 77) rfl), lw_t8 (List.mem_of_getElem? (i := 78) rfl)⟩
theorem lw_p82 : lw_okq (⟨"WheelLandModel", "canMill", "(I)Z"⟩, 97) := ⟨⟨by decide +kernel, by decide +kernel⟩, lw_t5 (List.mem_of_getElem? (i := 162) rfl), lw_t8 (List.mem_of_getElem? (i := 81) rfl), lw_t8 (List.mem_of_getElem? (i := 82) rfl)⟩
theorem lw_p83 : lw_okq (⟨"WheelLandModel", "falseOf", "(IZ)I"⟩, 97) := ⟨⟨by decide +kernel, by decide +kernel⟩, lw_t5 (List.mem_of_getElem? (i := 162) rfl), lw_t8 (List.mem_of_getElem? (i := 93) rfl), lw_t8 (List.mem_of_getElem? (i := 94) rfl)⟩
theorem lw_p84 : lw_okq (⟨"WheelLandModel", "week", "()V"⟩, 97) := ⟨⟨by decide +kernel, by decide +kernel⟩, lw_t5 (List.mem_of_getElem? (i := 162) rfl), lw_t8 (List.mem_of_getElem? (i := 106) rfl), lw_t8 (List.mem_of_getElem? (i := 107) rfl)⟩
theorem lw_p85 : lw_okq (⟨"WheelLandModel", "lays", "()V"⟩, 97) := ⟨⟨by decide +kernel, by decide +kernel⟩, lw_t5 (List.mem_of_getElem? (i := 162) rfl), lw_t8 (List.mem_of_getElem? (i := 110) rfl), lw_t8 (List.mem_of_getElem? (i := 111) rfl)⟩
theorem lw_p86 : lw_okq (⟨"WheelLandModel", "asIs", "()V"⟩, 97) := ⟨⟨by decide +kernel, by decide +kernel⟩, lw_t5 (List.mem_of_getElem? (i := 162) rfl), lw_t8 (List.mem_of_getElem? (i := 114) rfl), lw_t8 (List.mem_of_getElem? (i := 115) rfl)⟩
theorem lw_p87 : lw_okq (⟨"WheelLandModel", "spins", "()I"⟩, 97) := ⟨⟨by decide +kernel, by decide +kernel⟩, lw_t5 (List.mem_of_getElem? (i := 162) rfl), lw_t8 (List.mem_of_getElem? (i := 118) rfl), lw_t8 (List.mem_of_getElem? (i := 119) rfl)⟩
theorem lw_p88 : lw_okq (⟨"WheelLandModel", "strengthOf", "(II)I"⟩, 97) := ⟨⟨by decide +kernel, by decide +kernel⟩, lw_t5 (List.mem_of_getElem? (i := 162) rfl), lw_t8 (List.mem_of_getElem? (i := 122) rfl), lw_t8 (List.mem_of_getElem? (i := 123) rfl)⟩
theorem lw_p89 : lw_okq (⟨"WheelLandModel", "buys", "(I)V"⟩, 97) := ⟨⟨by decide +kernel, by decide +kernel⟩, lw_t5 (List.mem_of_getElem? (i := 162) rfl), lw_t8 (List.mem_of_getElem? (i := 126) rfl), lw_t8 (List.mem_of_getElem? (i := 127) rfl)⟩
theorem lw_p90 : lw_okq (⟨"WheelLandModel", "seasons", "()V"⟩, 97) := ⟨⟨by decide +kernel, by decide +kernel⟩, lw_t5 (List.mem_of_getElem? (i := 162) rfl), lw_t8 (List.mem_of_getElem? (i := 131) rfl), lw_t8 (List.mem_of_getElem? (i := 132) rfl)⟩
theorem lw_p91 : lw_okq (⟨"WheelLandModel", "goRound", "()V"⟩, 97) := ⟨⟨by decide +kernel, by decide +kernel⟩, lw_t5 (List.mem_of_getElem? (i := 162) rfl), lw_t8 (List.mem_of_getElem? (i := 135) rfl), lw_t8 (List.mem_of_getElem? (i := 136) rfl)⟩
theorem lw_p92 : lw_okq (⟨"WheelLandModel", "spunWith", "(I)I"⟩, 97) := ⟨⟨by decide +kernel, by decide +kernel⟩, lw_t5 (List.mem_of_getElem? (i := 162) rfl), lw_t8 (List.mem_of_getElem? (i := 151) rfl), lw_t8 (List.mem_of_getElem? (i := 152) rfl)⟩
theorem lw_p93 : lw_okq (⟨"WheelLandModel", "costOf", "(I)I"⟩, 97) := ⟨⟨by decide +kernel, by decide +kernel⟩, lw_t5 (List.mem_of_getElem? (i := 162) rfl), lw_t8 (List.mem_of_getElem? (i := 155) rfl), lw_t8 (List.mem_of_getElem? (i := 156) rfl)⟩
def lw_privs_6 : List (MethodName × Nat) := [(⟨"WheelLandModel", "dutyAt", "(I)I"⟩, 97), (⟨"WheelLandModel", "canHand", "(I)Z"⟩, 97), (⟨"WheelLandModel", "canMill", "(I)Z"⟩, 97), (⟨"WheelLandModel", "falseOf", "(IZ)I"⟩, 97), (⟨"WheelLandModel", "week", "()V"⟩, 97), (⟨"WheelLandModel", "lays", "()V"⟩, 97), (⟨"WheelLandModel", "asIs", "()V"⟩, 97), (⟨"WheelLandModel", "spins", "()I"⟩, 97), (⟨"WheelLandModel", "strengthOf", "(II)I"⟩, 97), (⟨"WheelLandModel", "buys", "(I)V"⟩, 97), (⟨"WheelLandModel", "seasons", "()V"⟩, 97), (⟨"WheelLandModel", "goRound", "()V"⟩, 97), (⟨"WheelLandModel", "spunWith", "(I)I"⟩, 97), (⟨"WheelLandModel", "costOf", "(I)I"⟩, 97)]
theorem lw_r6 : ∀ q ∈ lw_privs_6, lw_okq q := List.forall_mem_cons.mpr ⟨lw_p80, List.forall_mem_cons.mpr ⟨lw_p81, List.forall_mem_cons.mpr ⟨lw_p82, List.forall_mem_cons.mpr ⟨lw_p83, List.forall_mem_cons.mpr ⟨lw_p84, List.forall_mem_cons.mpr ⟨lw_p85, List.forall_mem_cons.mpr ⟨lw_p86, List.forall_mem_cons.mpr ⟨lw_p87, List.forall_mem_cons.mpr ⟨lw_p88, List.forall_mem_cons.mpr ⟨lw_p89, List.forall_mem_cons.mpr ⟨lw_p90, List.forall_mem_cons.mpr ⟨lw_p91, List.forall_mem_cons.mpr ⟨lw_p92, List.forall_mem_cons.mpr ⟨lw_p93, fun _ h => absurd h List.not_mem_nil⟩⟩⟩⟩⟩⟩⟩⟩⟩⟩⟩⟩⟩⟩
def lw_privs : List (MethodName × Nat) := lw_privs_1 ++ (lw_privs_2 ++ (lw_privs_3 ++ (lw_privs_4 ++ (lw_privs_5 ++ (lw_privs_6)))))
def lw_tbl : List Cond := k2_sels lw_privs ++ tables_1
theorem lw_privs_ok : ∀ q ∈ lw_privs, lw_okq q := by
  show ∀ q ∈ lw_privs_1 ++ (lw_privs_2 ++ (lw_privs_3 ++ (lw_privs_4 ++ (lw_privs_5 ++ (lw_privs_6))))), lw_okq q
  exact List.forall_mem_append.mpr ⟨lw_r1, List.forall_mem_append.mpr ⟨lw_r2, List.forall_mem_append.mpr ⟨lw_r3, List.forall_mem_append.mpr ⟨lw_r4, List.forall_mem_append.mpr ⟨lw_r5, lw_r6⟩⟩⟩⟩⟩
-- ===== ONE list of words for every method: the tables' words that hold all through a run =====
def lw_all : List Cond := lw_tbl.filter goodWord
/-- a word of the tables by its place: claim/WORDS.tsv -/
theorem lw_w {w : Cond} (i : Nat) (h : lw_tbl[i]? = some w) (g : goodWord w = true) : w ∈ lw_all := List.mem_filter.mpr ⟨List.mem_of_getElem? h, g⟩
theorem lw_all_tbl {w : Cond} (h : w ∈ lw_all) : w ∈ lw_tbl := (List.mem_filter.mp h).1
theorem lw_self : GoodIn lw_all lw_all := fun w h => ⟨h, good_of_word (List.mem_filter.mp h).2⟩
/-- a class's field words, by their places -/
theorem lw_in (ws : List Cond) (ps : List Nat) (hp : ws = ps.filterMap (fun i => lw_tbl[i]?)) (hg : ws.all goodWord = true) : ∀ w ∈ ws, w ∈ lw_all := by
  intro w h
  have h1 := List.all_eq_true.mp hg w h
  rw [hp] at h
  obtain ⟨i, -, hi⟩ := List.mem_filterMap.mp h
  exact lw_w i hi h1
/-- the words of a contract for the method y with code b, L locals, answer r -/
abbrev ws_ (y : MethodName) (b : ByteArray) (L : Nat) (r : Option FieldType) : List Cond := Cond.code y b L r :: lw_all
theorem lw_meth {y : MethodName} {b : ByteArray} {L : Nat} {r : Option FieldType} (h : Cond.code y b L r ∈ lw_all) : GoodIn lw_all (ws_ y b L r) := by
  intro w hw
  rcases List.mem_cons.mp hw with e | e
  · rw [e]
    exact lw_self _ h
  · exact lw_self _ e
theorem lw_app {a c : List Cond} (ha : ∀ w ∈ a, w ∈ lw_all) (hc : GoodIn lw_all c) : GoodIn lw_all (a ++ c) := by
  intro w hw
  rcases List.mem_append.mp hw with e | e
  · exact lw_self w (ha w e)
  · exact hc w e
/-- what a call through an object asks: cwV n hts (lw_V ..) -/
theorem lw_V {own : String} {idx : Nat} {C : String} {y : MethodName} {b : ByteArray} {L : Nat} {r : Option FieldType} (h1 : Cond.methodLink own idx y ∈ lw_all) (h2 : Cond.instanceMethod y ∈ lw_all) (h3 : Cond.selects C y y ∈ lw_all) (h4 : Cond.initialized C ∈ lw_all) (h5 : Cond.code y b L r ∈ lw_all) : GoodIn lw_all (wsV own idx C y (ws_ y b L r)) := by
  refine lw_app ?_ (lw_meth h5)
  intro w hw
  simp only [List.mem_cons, List.not_mem_nil, or_false] at hw
  rcases hw with e | e | e | e
  · rw [e]; exact h1
  · rw [e]; exact h2
  · rw [e]; exact h3
  · rw [e]; exact h4
/-- what a static call asks: va_cwS n hts (lw_S ..) -/
theorem lw_S {own : String} {idx : Nat} {y : MethodName} {b : ByteArray} {L : Nat} {r : Option FieldType} (h1 : Cond.methodLink own idx y ∈ lw_all) (h2 : Cond.static y ∈ lw_all) (h3 : Cond.initialized y.cls ∈ lw_all) (h4 : Cond.code y b L r ∈ lw_all) : GoodIn lw_all (va_wsS own idx y (ws_ y b L r)) := by
  refine lw_app ?_ (lw_meth h4)
  intro w hw
  simp only [List.mem_cons, List.not_mem_nil, or_false] at hw
  rcases hw with e | e | e
  · rw [e]; exact h1
  · rw [e]; exact h2
  · rw [e]; exact h3
/-- the words of a contract for a method WITH HANDLERS (hh: its table) -/
abbrev wsW_ (y : MethodName) (b : ByteArray) (L : Nat) (r : Option FieldType) (hh : List (Nat × Nat × Nat × Nat)) : List Cond := Cond.codeWith y b L r hh :: lw_all
theorem lw_methW {y : MethodName} {b : ByteArray} {L : Nat} {r : Option FieldType} {hh : List (Nat × Nat × Nat × Nat)} (h : Cond.codeWith y b L r hh ∈ lw_all) : GoodIn lw_all (wsW_ y b L r hh) := by
  intro w hw
  rcases List.mem_cons.mp hw with e | e
  · rw [e]
    exact lw_self _ h
  · exact lw_self _ e
/-- any list of words by their places (lw_in), good -/
theorem lw_good {ws : List Cond} (h : ∀ w ∈ ws, w ∈ lw_all) : GoodIn lw_all ws := fun w hw => lw_self w (h w hw)
/-- what a call of a method with handlers asks: vx_cwVW n hts (lw_VW ..), vx_cwSW n hts (lw_SW ..) -/
theorem lw_VW {own : String} {idx : Nat} {C : String} {y : MethodName} {b : ByteArray} {L : Nat} {r : Option FieldType} {hh : List (Nat × Nat × Nat × Nat)} (h1 : Cond.methodLink own idx y ∈ lw_all) (h2 : Cond.instanceMethod y ∈ lw_all) (h3 : Cond.selects C y y ∈ lw_all) (h4 : Cond.initialized C ∈ lw_all) (h5 : Cond.codeWith y b L r hh ∈ lw_all) : GoodIn lw_all (wsV own idx C y (wsW_ y b L r hh)) := by
  refine lw_app ?_ (lw_methW h5)
  intro w hw
  simp only [List.mem_cons, List.not_mem_nil, or_false] at hw
  rcases hw with e | e | e | e
  · rw [e]; exact h1
  · rw [e]; exact h2
  · rw [e]; exact h3
  · rw [e]; exact h4
theorem lw_SW {own : String} {idx : Nat} {y : MethodName} {b : ByteArray} {L : Nat} {r : Option FieldType} {hh : List (Nat × Nat × Nat × Nat)} (h1 : Cond.methodLink own idx y ∈ lw_all) (h2 : Cond.static y ∈ lw_all) (h3 : Cond.initialized y.cls ∈ lw_all) (h4 : Cond.codeWith y b L r hh ∈ lw_all) : GoodIn lw_all (va_wsS own idx y (wsW_ y b L r hh)) := by
  refine lw_app ?_ (lw_methW h4)
  intro w hw
  simp only [List.mem_cons, List.not_mem_nil, or_false] at hw
  rcases hw with e | e | e
  · rw [e]; exact h1
  · rw [e]; exact h2
  · rw [e]; exact h3
/-- a word by its place in its run of the tables -/
theorem lw_at {r : List Cond} (hr : ∀ w ∈ r, w ∈ lw_tbl) {w : Cond} (i : Nat) (h : r[i]? = some w) : w ∈ lw_tbl := hr w (List.mem_of_getElem? h)
theorem lw_g {w : Cond} (h : w ∈ lw_tbl) (g : goodWord w = true) : w ∈ lw_all := List.mem_filter.mpr ⟨h, g⟩
theorem lw_ms : ∀ w ∈ k2_sels lw_privs, w ∈ lw_tbl := fun w h => show w ∈ k2_sels lw_privs ++ tables_1 from List.mem_append_left _ h
theorem lw_m1 : ∀ w ∈ tables_1_1, w ∈ lw_tbl := fun w h => show w ∈ k2_sels lw_privs ++ tables_1 from List.mem_append_right (k2_sels lw_privs) (show w ∈ tables_1 from List.mem_append_left _ h)
theorem lw_m2 : ∀ w ∈ tables_1_2, w ∈ lw_tbl := fun w h => show w ∈ k2_sels lw_privs ++ tables_1 from List.mem_append_right (k2_sels lw_privs) (show w ∈ tables_1 from List.mem_append_right _ (List.mem_append_left _ h))
theorem lw_m3 : ∀ w ∈ tables_1_3, w ∈ lw_tbl := fun w h => show w ∈ k2_sels lw_privs ++ tables_1 from List.mem_append_right (k2_sels lw_privs) (show w ∈ tables_1 from List.mem_append_right _ (List.mem_append_right _ (List.mem_append_left _ h)))
theorem lw_m4 : ∀ w ∈ tables_1_4, w ∈ lw_tbl := fun w h => show w ∈ k2_sels lw_privs ++ tables_1 from List.mem_append_right (k2_sels lw_privs) (show w ∈ tables_1 from List.mem_append_right _ (List.mem_append_right _ (List.mem_append_right _ (List.mem_append_left _ h))))
theorem lw_m5 : ∀ w ∈ tables_1_5, w ∈ lw_tbl := fun w h => show w ∈ k2_sels lw_privs ++ tables_1 from List.mem_append_right (k2_sels lw_privs) (show w ∈ tables_1 from List.mem_append_right _ (List.mem_append_right _ (List.mem_append_right _ (List.mem_append_right _ (List.mem_append_left _ h)))))
theorem lw_m6 : ∀ w ∈ tables_1_6, w ∈ lw_tbl := fun w h => show w ∈ k2_sels lw_privs ++ tables_1 from List.mem_append_right (k2_sels lw_privs) (show w ∈ tables_1 from List.mem_append_right _ (List.mem_append_right _ (List.mem_append_right _ (List.mem_append_right _ (List.mem_append_right _ (List.mem_append_left _ h))))))
theorem lw_m7 : ∀ w ∈ tables_1_7, w ∈ lw_tbl := fun w h => show w ∈ k2_sels lw_privs ++ tables_1 from List.mem_append_right (k2_sels lw_privs) (show w ∈ tables_1 from List.mem_append_right _ (List.mem_append_right _ (List.mem_append_right _ (List.mem_append_right _ (List.mem_append_right _ (List.mem_append_right _ (List.mem_append_left _ h)))))))
theorem lw_m8 : ∀ w ∈ tables_1_8, w ∈ lw_tbl := fun w h => show w ∈ k2_sels lw_privs ++ tables_1 from List.mem_append_right (k2_sels lw_privs) (show w ∈ tables_1 from List.mem_append_right _ (List.mem_append_right _ (List.mem_append_right _ (List.mem_append_right _ (List.mem_append_right _ (List.mem_append_right _ (List.mem_append_right _ h)))))))
theorem qs0 : (Cond.selects "WheelLand" ⟨"WheelLand", "ways", "()V"⟩ ⟨"WheelLand", "ways", "()V"⟩) ∈ lw_all := lw_g (lw_at lw_ms 0 rfl) rfl
theorem qs1 : (Cond.selects "WheelLand" ⟨"WheelLand", "leads", "(III)V"⟩ ⟨"WheelLand", "leads", "(III)V"⟩) ∈ lw_all := lw_g (lw_at lw_ms 1 rfl) rfl
theorem qs2 : (Cond.selects "WheelLand" ⟨"WheelLand", "findVillage", "(I)LWheelLand$Village;"⟩ ⟨"WheelLand", "findVillage", "(I)LWheelLand$Village;"⟩) ∈ lw_all := lw_g (lw_at lw_ms 2 rfl) rfl
theorem qs3 : (Cond.selects "WheelLand" ⟨"WheelLand", "farOf", "(LWheelLand$Village;LWheelLand$Village;)I"⟩ ⟨"WheelLand", "farOf", "(LWheelLand$Village;LWheelLand$Village;)I"⟩) ∈ lw_all := lw_g (lw_at lw_ms 3 rfl) rfl
theorem qs4 : (Cond.selects "WheelLand" ⟨"WheelLand", "findHouse", "(I)LWheelLand$House;"⟩ ⟨"WheelLand", "findHouse", "(I)LWheelLand$House;"⟩) ∈ lw_all := lw_g (lw_at lw_ms 4 rfl) rfl
theorem qs5 : (Cond.selects "WheelLand" ⟨"WheelLand", "ends", "()V"⟩ ⟨"WheelLand", "ends", "()V"⟩) ∈ lw_all := lw_g (lw_at lw_ms 5 rfl) rfl
theorem qs6 : (Cond.selects "WheelLand" ⟨"WheelLand", "spins", "(LWheelLand$House;)V"⟩ ⟨"WheelLand", "spins", "(LWheelLand$House;)V"⟩) ∈ lw_all := lw_g (lw_at lw_ms 6 rfl) rfl
theorem qs7 : (Cond.selects "WheelLand" ⟨"WheelLand", "buys", "(LWheelLand$House;)V"⟩ ⟨"WheelLand", "buys", "(LWheelLand$House;)V"⟩) ∈ lw_all := lw_g (lw_at lw_ms 7 rfl) rfl
theorem qs8 : (Cond.selects "WheelLand" ⟨"WheelLand", "choice", "(LWheelLand$House;)I"⟩ ⟨"WheelLand", "choice", "(LWheelLand$House;)I"⟩) ∈ lw_all := lw_g (lw_at lw_ms 8 rfl) rfl
theorem qs9 : (Cond.selects "WheelLand" ⟨"WheelLand", "dutyAt", "(LWheelLand$Village;)I"⟩ ⟨"WheelLand", "dutyAt", "(LWheelLand$Village;)I"⟩) ∈ lw_all := lw_g (lw_at lw_ms 9 rfl) rfl
theorem qs10 : (Cond.selects "WheelLand" ⟨"WheelLand", "clears", "(I)V"⟩ ⟨"WheelLand", "clears", "(I)V"⟩) ∈ lw_all := lw_g (lw_at lw_ms 10 rfl) rfl
theorem qs11 : (Cond.selects "WheelLand" ⟨"WheelLand", "value", "(I)I"⟩ ⟨"WheelLand", "value", "(I)I"⟩) ∈ lw_all := lw_g (lw_at lw_ms 11 rfl) rfl
theorem qs12 : (Cond.selects "WheelLand" ⟨"WheelLand", "inForce", "(II)I"⟩ ⟨"WheelLand", "inForce", "(II)I"⟩) ∈ lw_all := lw_g (lw_at lw_ms 12 rfl) rfl
theorem qs13 : (Cond.selects "WheelLand" ⟨"WheelLand", "words", "()V"⟩ ⟨"WheelLand", "words", "()V"⟩) ∈ lw_all := lw_g (lw_at lw_ms 13 rfl) rfl
theorem qs14 : (Cond.selects "WheelLand" ⟨"WheelLand", "asksHouse", "(ILWheelLand$House;)I"⟩ ⟨"WheelLand", "asksHouse", "(ILWheelLand$House;)I"⟩) ∈ lw_all := lw_g (lw_at lw_ms 14 rfl) rfl
theorem qs15 : (Cond.selects "WheelLand" ⟨"WheelLand", "ofHouse", "(LWheelLand$House;)V"⟩ ⟨"WheelLand", "ofHouse", "(LWheelLand$House;)V"⟩) ∈ lw_all := lw_g (lw_at lw_ms 15 rfl) rfl
theorem qs16 : (Cond.selects "WheelLand" ⟨"WheelLand", "tells", "()V"⟩ ⟨"WheelLand", "tells", "()V"⟩) ∈ lw_all := lw_g (lw_at lw_ms 16 rfl) rfl
theorem qs17 : (Cond.selects "WheelLand" ⟨"WheelLand", "findLot", "(I)LWheelLand$Lot;"⟩ ⟨"WheelLand", "findLot", "(I)LWheelLand$Lot;"⟩) ∈ lw_all := lw_g (lw_at lw_ms 17 rfl) rfl
theorem qs18 : (Cond.selects "WheelLand" ⟨"WheelLand", "feeds", "(I)V"⟩ ⟨"WheelLand", "feeds", "(I)V"⟩) ∈ lw_all := lw_g (lw_at lw_ms 18 rfl) rfl
theorem qs19 : (Cond.selects "WheelLand$Reader" ⟨"WheelLand$Reader", "next", "()V"⟩ ⟨"WheelLand$Reader", "next", "()V"⟩) ∈ lw_all := lw_g (lw_at lw_ms 19 rfl) rfl
theorem qs20 : (Cond.selects "WheelLand$Reader" ⟨"WheelLand$Reader", "errs", "()V"⟩ ⟨"WheelLand$Reader", "errs", "()V"⟩) ∈ lw_all := lw_g (lw_at lw_ms 20 rfl) rfl
theorem qs21 : (Cond.selects "java/lang/Throwable" ⟨"java/lang/Throwable", "fillInStackTrace", "(I)Ljava/lang/Throwable;"⟩ ⟨"java/lang/Throwable", "fillInStackTrace", "(I)Ljava/lang/Throwable;"⟩) ∈ lw_all := lw_g (lw_at lw_ms 21 rfl) rfl
theorem qs22 : (Cond.selects "WheelLand$Reader" ⟨"WheelLand$Reader", "isOver", "()Z"⟩ ⟨"WheelLand$Reader", "isOver", "()Z"⟩) ∈ lw_all := lw_g (lw_at lw_ms 22 rfl) rfl
theorem qs23 : (Cond.selects "WheelLand$Reader" ⟨"WheelLand$Reader", "word", "(Ljava/lang/String;)I"⟩ ⟨"WheelLand$Reader", "word", "(Ljava/lang/String;)I"⟩) ∈ lw_all := lw_g (lw_at lw_ms 23 rfl) rfl
theorem qs24 : (Cond.selects "WheelLand$Reader" ⟨"WheelLand$Reader", "sum", "()V"⟩ ⟨"WheelLand$Reader", "sum", "()V"⟩) ∈ lw_all := lw_g (lw_at lw_ms 24 rfl) rfl
theorem qs25 : (Cond.selects "WheelLand$Reader" ⟨"WheelLand$Reader", "product", "()V"⟩ ⟨"WheelLand$Reader", "product", "()V"⟩) ∈ lw_all := lw_g (lw_at lw_ms 25 rfl) rfl
theorem qs26 : (Cond.selects "WheelLand$Reader" ⟨"WheelLand$Reader", "factor", "()V"⟩ ⟨"WheelLand$Reader", "factor", "()V"⟩) ∈ lw_all := lw_g (lw_at lw_ms 26 rfl) rfl
theorem qs27 : (Cond.selects "WheelLand$Reader" ⟨"WheelLand$Reader", "is", "(I)Z"⟩ ⟨"WheelLand$Reader", "is", "(I)Z"⟩) ∈ lw_all := lw_g (lw_at lw_ms 27 rfl) rfl
theorem qs28 : (Cond.selects "WheelLand$Reader" ⟨"WheelLand$Reader", "opens", "()V"⟩ ⟨"WheelLand$Reader", "opens", "()V"⟩) ∈ lw_all := lw_g (lw_at lw_ms 28 rfl) rfl
theorem qs29 : (Cond.selects "WheelLand$Reader" ⟨"WheelLand$Reader", "needs", "(I)V"⟩ ⟨"WheelLand$Reader", "needs", "(I)V"⟩) ∈ lw_all := lw_g (lw_at lw_ms 29 rfl) rfl
theorem qs30 : (Cond.selects "WheelLand$Reader" ⟨"WheelLand$Reader", "notes", "(II)V"⟩ ⟨"WheelLand$Reader", "notes", "(II)V"⟩) ∈ lw_all := lw_g (lw_at lw_ms 30 rfl) rfl
theorem qs31 : (Cond.selects "WheelLand$Reader" ⟨"WheelLand$Reader", "either", "()V"⟩ ⟨"WheelLand$Reader", "either", "()V"⟩) ∈ lw_all := lw_g (lw_at lw_ms 31 rfl) rfl
theorem qs32 : (Cond.selects "WheelLand$Reader" ⟨"WheelLand$Reader", "both", "()V"⟩ ⟨"WheelLand$Reader", "both", "()V"⟩) ∈ lw_all := lw_g (lw_at lw_ms 32 rfl) rfl
theorem qs33 : (Cond.selects "WheelLand$Reader" ⟨"WheelLand$Reader", "holds", "()V"⟩ ⟨"WheelLand$Reader", "holds", "()V"⟩) ∈ lw_all := lw_g (lw_at lw_ms 33 rfl) rfl
theorem qs34 : (Cond.selects "WheelLand$Reader" ⟨"WheelLand$Reader", "isWord", "(Ljava/lang/String;)Z"⟩ ⟨"WheelLand$Reader", "isWord", "(Ljava/lang/String;)Z"⟩) ∈ lw_all := lw_g (lw_at lw_ms 34 rfl) rfl
theorem qs35 : (Cond.selects "WheelLand" ⟨"WheelLand", "barAll", "(LWheelLand$House;LWheelLand$Lot;I)I"⟩ ⟨"WheelLand", "barAll", "(LWheelLand$House;LWheelLand$Lot;I)I"⟩) ∈ lw_all := lw_g (lw_at lw_ms 35 rfl) rfl
theorem qs36 : (Cond.selects "WheelLand" ⟨"WheelLand", "barOf", "(LWheelLand$House;LWheelLand$Lot;I)I"⟩ ⟨"WheelLand", "barOf", "(LWheelLand$House;LWheelLand$Lot;I)I"⟩) ∈ lw_all := lw_g (lw_at lw_ms 36 rfl) rfl
theorem qs37 : (Cond.selects "WheelLand" ⟨"WheelLand", "asksLot", "(ILWheelLand$Lot;LWheelLand$House;I)I"⟩ ⟨"WheelLand", "asksLot", "(ILWheelLand$Lot;LWheelLand$House;I)I"⟩) ∈ lw_all := lw_g (lw_at lw_ms 37 rfl) rfl
theorem qs38 : (Cond.selects "WheelLand" ⟨"WheelLand", "asks", "(ILWheelLand$House;IIIII)I"⟩ ⟨"WheelLand", "asks", "(ILWheelLand$House;IIIII)I"⟩) ∈ lw_all := lw_g (lw_at lw_ms 38 rfl) rfl
theorem qs39 : (Cond.selects "WheelLand" ⟨"WheelLand", "findCloth", "(I)LWheelLand$Cloth;"⟩ ⟨"WheelLand", "findCloth", "(I)LWheelLand$Cloth;"⟩) ∈ lw_all := lw_g (lw_at lw_ms 39 rfl) rfl
theorem qs40 : (Cond.selects "WheelLand$Hands" ⟨"WheelLand$Hands", "tries", "(III)V"⟩ ⟨"WheelLand$Hands", "tries", "(III)V"⟩) ∈ lw_all := lw_g (lw_at lw_ms 40 rfl) rfl
theorem qs41 : (Cond.selects "WheelLand$Hands" ⟨"WheelLand$Hands", "judges", "(II)V"⟩ ⟨"WheelLand$Hands", "judges", "(II)V"⟩) ∈ lw_all := lw_g (lw_at lw_ms 41 rfl) rfl
theorem qs42 : (Cond.selects "WheelLand" ⟨"WheelLand", "spunWith", "(I)I"⟩ ⟨"WheelLand", "spunWith", "(I)I"⟩) ∈ lw_all := lw_g (lw_at lw_ms 42 rfl) rfl
theorem qs43 : (Cond.selects "WheelLand" ⟨"WheelLand", "with", "(IIII)I"⟩ ⟨"WheelLand", "with", "(IIII)I"⟩) ∈ lw_all := lw_g (lw_at lw_ms 43 rfl) rfl
theorem qs44 : (Cond.selects "WheelLandModel" ⟨"WheelLandModel", "isVillage", "(I)Z"⟩ ⟨"WheelLandModel", "isVillage", "(I)Z"⟩) ∈ lw_all := lw_g (lw_at lw_ms 44 rfl) rfl
theorem qs45 : (Cond.selects "WheelLandModel" ⟨"WheelLandModel", "farOf", "(II)I"⟩ ⟨"WheelLandModel", "farOf", "(II)I"⟩) ∈ lw_all := lw_g (lw_at lw_ms 45 rfl) rfl
theorem qs46 : (Cond.selects "WheelLandModel" ⟨"WheelLandModel", "isHouse", "(I)Z"⟩ ⟨"WheelLandModel", "isHouse", "(I)Z"⟩) ∈ lw_all := lw_g (lw_at lw_ms 46 rfl) rfl
theorem qs47 : (Cond.selects "WheelLandModel" ⟨"WheelLandModel", "hasLoom", "(I)Z"⟩ ⟨"WheelLandModel", "hasLoom", "(I)Z"⟩) ∈ lw_all := lw_g (lw_at lw_ms 47 rfl) rfl
theorem qs48 : (Cond.selects "WheelLandModel" ⟨"WheelLandModel", "feeds", "(I)V"⟩ ⟨"WheelLandModel", "feeds", "(I)V"⟩) ∈ lw_all := lw_g (lw_at lw_ms 48 rfl) rfl
theorem qs49 : (Cond.selects "WheelLandModel" ⟨"WheelLandModel", "reads", "()V"⟩ ⟨"WheelLandModel", "reads", "()V"⟩) ∈ lw_all := lw_g (lw_at lw_ms 49 rfl) rfl
theorem qs50 : (Cond.selects "WheelLandModel" ⟨"WheelLandModel", "skips", "()V"⟩ ⟨"WheelLandModel", "skips", "()V"⟩) ∈ lw_all := lw_g (lw_at lw_ms 50 rfl) rfl
theorem qs51 : (Cond.selects "WheelLandModel" ⟨"WheelLandModel", "clauses", "()Z"⟩ ⟨"WheelLandModel", "clauses", "()Z"⟩) ∈ lw_all := lw_g (lw_at lw_ms 51 rfl) rfl
theorem qs52 : (Cond.selects "WheelLandModel" ⟨"WheelLandModel", "isWord", "(Ljava/lang/String;)Z"⟩ ⟨"WheelLandModel", "isWord", "(Ljava/lang/String;)Z"⟩) ∈ lw_all := lw_g (lw_at lw_ms 52 rfl) rfl
theorem qs53 : (Cond.selects "WheelLandModel" ⟨"WheelLandModel", "passes", "(Z)Z"⟩ ⟨"WheelLandModel", "passes", "(Z)Z"⟩) ∈ lw_all := lw_g (lw_at lw_ms 53 rfl) rfl
theorem qs54 : (Cond.selects "WheelLandModel" ⟨"WheelLandModel", "fails", "()Z"⟩ ⟨"WheelLandModel", "fails", "()Z"⟩) ∈ lw_all := lw_g (lw_at lw_ms 54 rfl) rfl
theorem qs55 : (Cond.selects "WheelLandModel" ⟨"WheelLandModel", "goesOn", "()V"⟩ ⟨"WheelLandModel", "goesOn", "()V"⟩) ∈ lw_all := lw_g (lw_at lw_ms 55 rfl) rfl
theorem qs56 : (Cond.selects "WheelLandModel" ⟨"WheelLandModel", "sum", "(I)Z"⟩ ⟨"WheelLandModel", "sum", "(I)Z"⟩) ∈ lw_all := lw_g (lw_at lw_ms 56 rfl) rfl
theorem qs57 : (Cond.selects "WheelLandModel" ⟨"WheelLandModel", "product", "(I)Z"⟩ ⟨"WheelLandModel", "product", "(I)Z"⟩) ∈ lw_all := lw_g (lw_at lw_ms 57 rfl) rfl
theorem qs58 : (Cond.selects "WheelLandModel" ⟨"WheelLandModel", "factor", "(I)Z"⟩ ⟨"WheelLandModel", "factor", "(I)Z"⟩) ∈ lw_all := lw_g (lw_at lw_ms 58 rfl) rfl
theorem qs59 : (Cond.selects "WheelLandModel" ⟨"WheelLandModel", "isSign", "(I)Z"⟩ ⟨"WheelLandModel", "isSign", "(I)Z"⟩) ∈ lw_all := lw_g (lw_at lw_ms 59 rfl) rfl
theorem qs60 : (Cond.selects "WheelLandModel" ⟨"WheelLandModel", "isNumber", "()Z"⟩ ⟨"WheelLandModel", "isNumber", "()Z"⟩) ∈ lw_all := lw_g (lw_at lw_ms 60 rfl) rfl
theorem qs61 : (Cond.selects "WheelLandModel" ⟨"WheelLandModel", "puts", "(II)Z"⟩ ⟨"WheelLandModel", "puts", "(II)Z"⟩) ∈ lw_all := lw_g (lw_at lw_ms 61 rfl) rfl
theorem qs62 : (Cond.selects "WheelLandModel" ⟨"WheelLandModel", "either", "(I)Z"⟩ ⟨"WheelLandModel", "either", "(I)Z"⟩) ∈ lw_all := lw_g (lw_at lw_ms 62 rfl) rfl
theorem qs63 : (Cond.selects "WheelLandModel" ⟨"WheelLandModel", "each", "(I)Z"⟩ ⟨"WheelLandModel", "each", "(I)Z"⟩) ∈ lw_all := lw_g (lw_at lw_ms 63 rfl) rfl
theorem qs64 : (Cond.selects "WheelLandModel" ⟨"WheelLandModel", "test", "(I)Z"⟩ ⟨"WheelLandModel", "test", "(I)Z"⟩) ∈ lw_all := lw_g (lw_at lw_ms 64 rfl) rfl
theorem qs65 : (Cond.selects "WheelLandModel" ⟨"WheelLandModel", "sheetFor", "(II)I"⟩ ⟨"WheelLandModel", "sheetFor", "(II)I"⟩) ∈ lw_all := lw_g (lw_at lw_ms 65 rfl) rfl
theorem qs66 : (Cond.selects "WheelLandModel" ⟨"WheelLandModel", "isLot", "(I)Z"⟩ ⟨"WheelLandModel", "isLot", "(I)Z"⟩) ∈ lw_all := lw_g (lw_at lw_ms 66 rfl) rfl
theorem qs67 : (Cond.selects "WheelLandModel" ⟨"WheelLandModel", "owing", "(I)I"⟩ ⟨"WheelLandModel", "owing", "(I)I"⟩) ∈ lw_all := lw_g (lw_at lw_ms 67 rfl) rfl
theorem qs68 : (Cond.selects "WheelLandModel" ⟨"WheelLandModel", "canAsk", "(III)Z"⟩ ⟨"WheelLandModel", "canAsk", "(III)Z"⟩) ∈ lw_all := lw_g (lw_at lw_ms 68 rfl) rfl
theorem qs69 : (Cond.selects "WheelLandModel" ⟨"WheelLandModel", "barred", "(III)I"⟩ ⟨"WheelLandModel", "barred", "(III)I"⟩) ∈ lw_all := lw_g (lw_at lw_ms 69 rfl) rfl
theorem qs70 : (Cond.selects "WheelLandModel" ⟨"WheelLandModel", "barOf", "(III)I"⟩ ⟨"WheelLandModel", "barOf", "(III)I"⟩) ∈ lw_all := lw_g (lw_at lw_ms 70 rfl) rfl
theorem qs71 : (Cond.selects "WheelLandModel" ⟨"WheelLandModel", "asksOf", "(III)V"⟩ ⟨"WheelLandModel", "asksOf", "(III)V"⟩) ∈ lw_all := lw_g (lw_at lw_ms 71 rfl) rfl
theorem qs72 : (Cond.selects "WheelLandModel" ⟨"WheelLandModel", "asksOf", "(IIIIII)V"⟩ ⟨"WheelLandModel", "asksOf", "(IIIIII)V"⟩) ∈ lw_all := lw_g (lw_at lw_ms 72 rfl) rfl
theorem qs73 : (Cond.selects "WheelLandModel" ⟨"WheelLandModel", "asksOf", "(I)V"⟩ ⟨"WheelLandModel", "asksOf", "(I)V"⟩) ∈ lw_all := lw_g (lw_at lw_ms 73 rfl) rfl
theorem qs74 : (Cond.selects "WheelLandModel" ⟨"WheelLandModel", "clears", "()V"⟩ ⟨"WheelLandModel", "clears", "()V"⟩) ∈ lw_all := lw_g (lw_at lw_ms 74 rfl) rfl
theorem qs75 : (Cond.selects "WheelLandModel" ⟨"WheelLandModel", "tells", "(I)I"⟩ ⟨"WheelLandModel", "tells", "(I)I"⟩) ∈ lw_all := lw_g (lw_at lw_ms 75 rfl) rfl
theorem qs76 : (Cond.selects "WheelLandModel" ⟨"WheelLandModel", "isCloth", "(I)Z"⟩ ⟨"WheelLandModel", "isCloth", "(I)Z"⟩) ∈ lw_all := lw_g (lw_at lw_ms 76 rfl) rfl
theorem qs77 : (Cond.selects "WheelLandModel" ⟨"WheelLandModel", "handsFor", "(I)Z"⟩ ⟨"WheelLandModel", "handsFor", "(I)Z"⟩) ∈ lw_all := lw_g (lw_at lw_ms 77 rfl) rfl
theorem qs78 : (Cond.selects "WheelLandModel" ⟨"WheelLandModel", "tries", "(I)V"⟩ ⟨"WheelLandModel", "tries", "(I)V"⟩) ∈ lw_all := lw_g (lw_at lw_ms 78 rfl) rfl
theorem qs79 : (Cond.selects "WheelLandModel" ⟨"WheelLandModel", "looks", "()V"⟩ ⟨"WheelLandModel", "looks", "()V"⟩) ∈ lw_all := lw_g (lw_at lw_ms 79 rfl) rfl
theorem qs80 : (Cond.selects "WheelLandModel" ⟨"WheelLandModel", "dutyAt", "(I)I"⟩ ⟨"WheelLandModel", "dutyAt", "(I)I"⟩) ∈ lw_all := lw_g (lw_at lw_ms 80 rfl) rfl
theorem qs81 : (Cond.selects "WheelLandModel" ⟨"WheelLandModel", "canHand", "(I)Z"⟩ ⟨"WheelLandModel", "canHand", "(I)Z"⟩) ∈ lw_all := lw_g (lw_at lw_ms 81 rfl) rfl
theorem qs82 : (Cond.selects "WheelLandModel" ⟨"WheelLandModel", "canMill", "(I)Z"⟩ ⟨"WheelLandModel", "canMill", "(I)Z"⟩) ∈ lw_all := lw_g (lw_at lw_ms 82 rfl) rfl
theorem qs83 : (Cond.selects "WheelLandModel" ⟨"WheelLandModel", "falseOf", "(IZ)I"⟩ ⟨"WheelLandModel", "falseOf", "(IZ)I"⟩) ∈ lw_all := lw_g (lw_at lw_ms 83 rfl) rfl
theorem qs84 : (Cond.selects "WheelLandModel" ⟨"WheelLandModel", "week", "()V"⟩ ⟨"WheelLandModel", "week", "()V"⟩) ∈ lw_all := lw_g (lw_at lw_ms 84 rfl) rfl
theorem qs85 : (Cond.selects "WheelLandModel" ⟨"WheelLandModel", "lays", "()V"⟩ ⟨"WheelLandModel", "lays", "()V"⟩) ∈ lw_all := lw_g (lw_at lw_ms 85 rfl) rfl
theorem qs86 : (Cond.selects "WheelLandModel" ⟨"WheelLandModel", "asIs", "()V"⟩ ⟨"WheelLandModel", "asIs", "()V"⟩) ∈ lw_all := lw_g (lw_at lw_ms 86 rfl) rfl
theorem qs87 : (Cond.selects "WheelLandModel" ⟨"WheelLandModel", "spins", "()I"⟩ ⟨"WheelLandModel", "spins", "()I"⟩) ∈ lw_all := lw_g (lw_at lw_ms 87 rfl) rfl
theorem qs88 : (Cond.selects "WheelLandModel" ⟨"WheelLandModel", "strengthOf", "(II)I"⟩ ⟨"WheelLandModel", "strengthOf", "(II)I"⟩) ∈ lw_all := lw_g (lw_at lw_ms 88 rfl) rfl
theorem qs89 : (Cond.selects "WheelLandModel" ⟨"WheelLandModel", "buys", "(I)V"⟩ ⟨"WheelLandModel", "buys", "(I)V"⟩) ∈ lw_all := lw_g (lw_at lw_ms 89 rfl) rfl
theorem qs90 : (Cond.selects "WheelLandModel" ⟨"WheelLandModel", "seasons", "()V"⟩ ⟨"WheelLandModel", "seasons", "()V"⟩) ∈ lw_all := lw_g (lw_at lw_ms 90 rfl) rfl
theorem qs91 : (Cond.selects "WheelLandModel" ⟨"WheelLandModel", "goRound", "()V"⟩ ⟨"WheelLandModel", "goRound", "()V"⟩) ∈ lw_all := lw_g (lw_at lw_ms 91 rfl) rfl
theorem qs92 : (Cond.selects "WheelLandModel" ⟨"WheelLandModel", "spunWith", "(I)I"⟩ ⟨"WheelLandModel", "spunWith", "(I)I"⟩) ∈ lw_all := lw_g (lw_at lw_ms 92 rfl) rfl
theorem qs93 : (Cond.selects "WheelLandModel" ⟨"WheelLandModel", "costOf", "(I)I"⟩ ⟨"WheelLandModel", "costOf", "(I)I"⟩) ∈ lw_all := lw_g (lw_at lw_ms 93 rfl) rfl
