-- ===== PART A: goes FIRST, ahead of the names: the tables' words, and 'selects' of the private methods out of them =====
/-- a private method of a class that the tables say can be made, by its rows of tables_1 -/
def lw_okq (q : MethodName × Nat) : Prop := (q.1.cls ≠ "java/lang/invoke/MethodHandle" ∧ q.1.cls ≠ "java/lang/invoke/VarHandle") ∧ Cond.instantiable q.1.cls q.2 ∈ tables_1 ∧ Cond.privateMethod q.1 ∈ tables_1 ∧ Cond.instanceMethod q.1 ∈ tables_1
set_option maxRecDepth 100000
theorem lw_t1 {w : Cond} (h : w ∈ tables_1_1) : w ∈ tables_1 := List.mem_append_left _ h
theorem lw_t2 {w : Cond} (h : w ∈ tables_1_2) : w ∈ tables_1 := List.mem_append_right _ (List.mem_append_left _ h)
theorem lw_t3 {w : Cond} (h : w ∈ tables_1_3) : w ∈ tables_1 := List.mem_append_right _ (List.mem_append_right _ (List.mem_append_left _ h))
theorem lw_t4 {w : Cond} (h : w ∈ tables_1_4) : w ∈ tables_1 := List.mem_append_right _ (List.mem_append_right _ (List.mem_append_right _ (List.mem_append_left _ h)))
theorem lw_t5 {w : Cond} (h : w ∈ tables_1_5) : w ∈ tables_1 := List.mem_append_right _ (List.mem_append_right _ (List.mem_append_right _ (List.mem_append_right _ (List.mem_append_left _ h))))
theorem lw_t6 {w : Cond} (h : w ∈ tables_1_6) : w ∈ tables_1 := List.mem_append_right _ (List.mem_append_right _ (List.mem_append_right _ (List.mem_append_right _ (List.mem_append_right _ (List.mem_append_left _ h)))))
theorem lw_t7 {w : Cond} (h : w ∈ tables_1_7) : w ∈ tables_1 := List.mem_append_right _ (List.mem_append_right _ (List.mem_append_right _ (List.mem_append_right _ (List.mem_append_right _ (List.mem_append_right _ (List.mem_append_left _ h))))))
theorem lw_t8 {w : Cond} (h : w ∈ tables_1_8) : w ∈ tables_1 := List.mem_append_right _ (List.mem_append_right _ (List.mem_append_right _ (List.mem_append_right _ (List.mem_append_right _ (List.mem_append_right _ (List.mem_append_right _ (List.mem_append_left _ h)))))))
theorem lw_t9 {w : Cond} (h : w ∈ tables_1_9) : w ∈ tables_1 := List.mem_append_right _ (List.mem_append_right _ (List.mem_append_right _ (List.mem_append_right _ (List.mem_append_right _ (List.mem_append_right _ (List.mem_append_right _ (List.mem_append_right _ (List.mem_append_left _ h))))))))
theorem lw_t10 {w : Cond} (h : w ∈ tables_1_10) : w ∈ tables_1 := List.mem_append_right _ (List.mem_append_right _ (List.mem_append_right _ (List.mem_append_right _ (List.mem_append_right _ (List.mem_append_right _ (List.mem_append_right _ (List.mem_append_right _ (List.mem_append_right _ h))))))))
theorem lw_p0 : lw_okq (⟨"java/lang/Throwable", "fillInStackTrace", "(I)Ljava/lang/Throwable;"⟩, 6) := ⟨⟨by decide +kernel, by decide +kernel⟩, lw_t2 (List.mem_of_getElem? (i := 55) rfl), lw_t2 (List.mem_of_getElem? (i := 53) rfl), lw_t2 (List.mem_of_getElem? (i := 54) rfl)⟩
theorem lw_p1 : lw_okq (⟨"java/util/ArrayList", "add", "(Ljava/lang/Object;[Ljava/lang/Object;I)V"⟩, 3) := ⟨⟨by decide +kernel, by decide +kernel⟩, lw_t1 (List.mem_of_getElem? (i := 55) rfl), lw_t2 (List.mem_of_getElem? (i := 136) rfl), lw_t2 (List.mem_of_getElem? (i := 137) rfl)⟩
theorem lw_p2 : lw_okq (⟨"java/util/ArrayList", "grow", "()[Ljava/lang/Object;"⟩, 3) := ⟨⟨by decide +kernel, by decide +kernel⟩, lw_t1 (List.mem_of_getElem? (i := 55) rfl), lw_t2 (List.mem_of_getElem? (i := 140) rfl), lw_t2 (List.mem_of_getElem? (i := 141) rfl)⟩
theorem lw_p3 : lw_okq (⟨"java/util/ArrayList", "grow", "(I)[Ljava/lang/Object;"⟩, 3) := ⟨⟨by decide +kernel, by decide +kernel⟩, lw_t1 (List.mem_of_getElem? (i := 55) rfl), lw_t2 (List.mem_of_getElem? (i := 144) rfl), lw_t2 (List.mem_of_getElem? (i := 145) rfl)⟩
theorem lw_p4 : lw_okq (⟨"LampLeaseOffice$State", "burn", "()I"⟩, 7) := ⟨⟨by decide +kernel, by decide +kernel⟩, lw_t1 (List.mem_of_getElem? (i := 49) rfl), lw_t2 (List.mem_of_getElem? (i := 238) rfl), lw_t2 (List.mem_of_getElem? (i := 239) rfl)⟩
theorem lw_p5 : lw_okq (⟨"LampLeaseOffice$State", "demands", "()[I"⟩, 7) := ⟨⟨by decide +kernel, by decide +kernel⟩, lw_t1 (List.mem_of_getElem? (i := 49) rfl), lw_t3 (List.mem_of_getElem? (i := 45) rfl), lw_t3 (List.mem_of_getElem? (i := 46) rfl)⟩
theorem lw_p6 : lw_okq (⟨"LampLeaseOffice", "record", "(LLampLeaseOffice$State;I)I"⟩, 9) := ⟨⟨by decide +kernel, by decide +kernel⟩, lw_t1 (List.mem_of_getElem? (i := 41) rfl), lw_t4 (List.mem_of_getElem? (i := 205) rfl), lw_t4 (List.mem_of_getElem? (i := 206) rfl)⟩
theorem lw_p7 : lw_okq (⟨"java/util/ArrayList", "fastRemove", "([Ljava/lang/Object;I)V"⟩, 3) := ⟨⟨by decide +kernel, by decide +kernel⟩, lw_t1 (List.mem_of_getElem? (i := 55) rfl), lw_t4 (List.mem_of_getElem? (i := 213) rfl), lw_t4 (List.mem_of_getElem? (i := 214) rfl)⟩
theorem lw_p8 : lw_okq (⟨"LampLeaseOffice$State", "endLease", "(I)V"⟩, 7) := ⟨⟨by decide +kernel, by decide +kernel⟩, lw_t1 (List.mem_of_getElem? (i := 49) rfl), lw_t5 (List.mem_of_getElem? (i := 149) rfl), lw_t5 (List.mem_of_getElem? (i := 150) rfl)⟩
theorem lw_p9 : lw_okq (⟨"LampLeaseOffice$State", "passHour", "()I"⟩, 7) := ⟨⟨by decide +kernel, by decide +kernel⟩, lw_t1 (List.mem_of_getElem? (i := 49) rfl), lw_t5 (List.mem_of_getElem? (i := 165) rfl), lw_t5 (List.mem_of_getElem? (i := 166) rfl)⟩
theorem lw_p10 : lw_okq (⟨"LampLeaseOffice$State", "processRequests", "()V"⟩, 7) := ⟨⟨by decide +kernel, by decide +kernel⟩, lw_t1 (List.mem_of_getElem? (i := 49) rfl), lw_t5 (List.mem_of_getElem? (i := 169) rfl), lw_t5 (List.mem_of_getElem? (i := 170) rfl)⟩
theorem lw_p11 : lw_okq (⟨"LampLeaseOffice$State", "renew", "(LLampLeaseOffice$Request;)V"⟩, 7) := ⟨⟨by decide +kernel, by decide +kernel⟩, lw_t1 (List.mem_of_getElem? (i := 49) rfl), lw_t5 (List.mem_of_getElem? (i := 173) rfl), lw_t5 (List.mem_of_getElem? (i := 174) rfl)⟩
theorem lw_p12 : lw_okq (⟨"LampLeaseOffice$State", "hasLight", "(I)Z"⟩, 7) := ⟨⟨by decide +kernel, by decide +kernel⟩, lw_t1 (List.mem_of_getElem? (i := 49) rfl), lw_t5 (List.mem_of_getElem? (i := 186) rfl), lw_t5 (List.mem_of_getElem? (i := 187) rfl)⟩
theorem lw_p13 : lw_okq (⟨"LampLeaseOffice$State", "endLeases", "()I"⟩, 7) := ⟨⟨by decide +kernel, by decide +kernel⟩, lw_t1 (List.mem_of_getElem? (i := 49) rfl), lw_t5 (List.mem_of_getElem? (i := 195) rfl), lw_t5 (List.mem_of_getElem? (i := 196) rfl)⟩
theorem lw_p14 : lw_okq (⟨"LampLeaseOffice$State", "nextEnd", "(I)I"⟩, 7) := ⟨⟨by decide +kernel, by decide +kernel⟩, lw_t1 (List.mem_of_getElem? (i := 49) rfl), lw_t6 (List.mem_of_getElem? (i := 68) rfl), lw_t6 (List.mem_of_getElem? (i := 69) rfl)⟩
theorem lw_p15 : lw_okq (⟨"LampLeaseOffice$State", "consumptionAfter", "(I)I"⟩, 7) := ⟨⟨by decide +kernel, by decide +kernel⟩, lw_t1 (List.mem_of_getElem? (i := 49) rfl), lw_t6 (List.mem_of_getElem? (i := 72) rfl), lw_t6 (List.mem_of_getElem? (i := 73) rfl)⟩
def lw_privs_1 : List (MethodName × Nat) := [(⟨"java/lang/Throwable", "fillInStackTrace", "(I)Ljava/lang/Throwable;"⟩, 6), (⟨"java/util/ArrayList", "add", "(Ljava/lang/Object;[Ljava/lang/Object;I)V"⟩, 3), (⟨"java/util/ArrayList", "grow", "()[Ljava/lang/Object;"⟩, 3), (⟨"java/util/ArrayList", "grow", "(I)[Ljava/lang/Object;"⟩, 3), (⟨"LampLeaseOffice$State", "burn", "()I"⟩, 7), (⟨"LampLeaseOffice$State", "demands", "()[I"⟩, 7), (⟨"LampLeaseOffice", "record", "(LLampLeaseOffice$State;I)I"⟩, 9), (⟨"java/util/ArrayList", "fastRemove", "([Ljava/lang/Object;I)V"⟩, 3), (⟨"LampLeaseOffice$State", "endLease", "(I)V"⟩, 7), (⟨"LampLeaseOffice$State", "passHour", "()I"⟩, 7), (⟨"LampLeaseOffice$State", "processRequests", "()V"⟩, 7), (⟨"LampLeaseOffice$State", "renew", "(LLampLeaseOffice$Request;)V"⟩, 7), (⟨"LampLeaseOffice$State", "hasLight", "(I)Z"⟩, 7), (⟨"LampLeaseOffice$State", "endLeases", "()I"⟩, 7), (⟨"LampLeaseOffice$State", "nextEnd", "(I)I"⟩, 7), (⟨"LampLeaseOffice$State", "consumptionAfter", "(I)I"⟩, 7)]
theorem lw_r1 : ∀ q ∈ lw_privs_1, lw_okq q := List.forall_mem_cons.mpr ⟨lw_p0, List.forall_mem_cons.mpr ⟨lw_p1, List.forall_mem_cons.mpr ⟨lw_p2, List.forall_mem_cons.mpr ⟨lw_p3, List.forall_mem_cons.mpr ⟨lw_p4, List.forall_mem_cons.mpr ⟨lw_p5, List.forall_mem_cons.mpr ⟨lw_p6, List.forall_mem_cons.mpr ⟨lw_p7, List.forall_mem_cons.mpr ⟨lw_p8, List.forall_mem_cons.mpr ⟨lw_p9, List.forall_mem_cons.mpr ⟨lw_p10, List.forall_mem_cons.mpr ⟨lw_p11, List.forall_mem_cons.mpr ⟨lw_p12, List.forall_mem_cons.mpr ⟨lw_p13, List.forall_mem_cons.mpr ⟨lw_p14, List.forall_mem_cons.mpr ⟨lw_p15, fun _ h => absurd h List.not_mem_nil⟩⟩⟩⟩⟩⟩⟩⟩⟩⟩⟩⟩⟩⟩⟩⟩
theorem lw_p16 : lw_okq (⟨"LampLeaseOffice", "request", "(I)LLampLeaseOffice$Request;"⟩, 9) := ⟨⟨by decide +kernel, by decide +kernel⟩, lw_t1 (List.mem_of_getElem? (i := 41) rfl), lw_t6 (List.mem_of_getElem? (i := 97) rfl), lw_t6 (List.mem_of_getElem? (i := 98) rfl)⟩
theorem lw_p17 : lw_okq (⟨"LampLeaseOffice", "carryOutInput", "()I"⟩, 9) := ⟨⟨by decide +kernel, by decide +kernel⟩, lw_t1 (List.mem_of_getElem? (i := 41) rfl), lw_t6 (List.mem_of_getElem? (i := 183) rfl), lw_t6 (List.mem_of_getElem? (i := 184) rfl)⟩
theorem lw_p18 : lw_okq (⟨"LampLeaseOffice$Parser", "command", "(LLampLeaseOffice$State;I)V"⟩, 5) := ⟨⟨by decide +kernel, by decide +kernel⟩, lw_t6 (List.mem_of_getElem? (i := 189) rfl), lw_t6 (List.mem_of_getElem? (i := 215) rfl), lw_t6 (List.mem_of_getElem? (i := 216) rfl)⟩
theorem lw_p19 : lw_okq (⟨"LampLeaseOffice$Parser", "keyword", "()Ljava/lang/String;"⟩, 5) := ⟨⟨by decide +kernel, by decide +kernel⟩, lw_t6 (List.mem_of_getElem? (i := 189) rfl), lw_t6 (List.mem_of_getElem? (i := 224) rfl), lw_t6 (List.mem_of_getElem? (i := 225) rfl)⟩
theorem lw_p20 : lw_okq (⟨"LampLeaseOffice$Parser", "peek", "(I)C"⟩, 5) := ⟨⟨by decide +kernel, by decide +kernel⟩, lw_t6 (List.mem_of_getElem? (i := 189) rfl), lw_t6 (List.mem_of_getElem? (i := 228) rfl), lw_t6 (List.mem_of_getElem? (i := 229) rfl)⟩
theorem lw_p21 : lw_okq (⟨"LampLeaseOffice$Parser", "next", "(CC)C"⟩, 5) := ⟨⟨by decide +kernel, by decide +kernel⟩, lw_t6 (List.mem_of_getElem? (i := 189) rfl), lw_t7 (List.mem_of_getElem? (i := 15) rfl), lw_t7 (List.mem_of_getElem? (i := 16) rfl)⟩
theorem lw_p22 : lw_okq (⟨"LampLeaseOffice$Parser", "sees", "(CC)Z"⟩, 5) := ⟨⟨by decide +kernel, by decide +kernel⟩, lw_t6 (List.mem_of_getElem? (i := 189) rfl), lw_t7 (List.mem_of_getElem? (i := 19) rfl), lw_t7 (List.mem_of_getElem? (i := 20) rfl)⟩
theorem lw_p23 : lw_okq (⟨"LampLeaseOffice$Parser", "readNumbers", "(Ljava/lang/String;)V"⟩, 5) := ⟨⟨by decide +kernel, by decide +kernel⟩, lw_t6 (List.mem_of_getElem? (i := 189) rfl), lw_t7 (List.mem_of_getElem? (i := 51) rfl), lw_t7 (List.mem_of_getElem? (i := 52) rfl)⟩
theorem lw_p24 : lw_okq (⟨"LampLeaseOffice$Parser", "number", "(I)I"⟩, 5) := ⟨⟨by decide +kernel, by decide +kernel⟩, lw_t6 (List.mem_of_getElem? (i := 189) rfl), lw_t7 (List.mem_of_getElem? (i := 120) rfl), lw_t7 (List.mem_of_getElem? (i := 121) rfl)⟩
theorem lw_p25 : lw_okq (⟨"LampLeaseOffice$Parser", "carryOut", "(LLampLeaseOffice$State;Ljava/lang/String;)V"⟩, 5) := ⟨⟨by decide +kernel, by decide +kernel⟩, lw_t6 (List.mem_of_getElem? (i := 189) rfl), lw_t7 (List.mem_of_getElem? (i := 124) rfl), lw_t7 (List.mem_of_getElem? (i := 125) rfl)⟩
theorem lw_p26 : lw_okq (⟨"LampLeaseOfficeModel", "keep", "()V"⟩, 19) := ⟨⟨by decide +kernel, by decide +kernel⟩, lw_t7 (List.mem_of_getElem? (i := 229) rfl), lw_t8 (List.mem_of_getElem? (i := 61) rfl), lw_t8 (List.mem_of_getElem? (i := 62) rfl)⟩
theorem lw_p27 : lw_okq (⟨"LampLeaseOfficeModel", "doAddShip", "()I"⟩, 19) := ⟨⟨by decide +kernel, by decide +kernel⟩, lw_t7 (List.mem_of_getElem? (i := 229) rfl), lw_t8 (List.mem_of_getElem? (i := 66) rfl), lw_t8 (List.mem_of_getElem? (i := 67) rfl)⟩
theorem lw_p28 : lw_okq (⟨"LampLeaseOfficeModel", "fails", "(I)I"⟩, 19) := ⟨⟨by decide +kernel, by decide +kernel⟩, lw_t7 (List.mem_of_getElem? (i := 229) rfl), lw_t8 (List.mem_of_getElem? (i := 70) rfl), lw_t8 (List.mem_of_getElem? (i := 71) rfl)⟩
theorem lw_p29 : lw_okq (⟨"LampLeaseOfficeModel", "ends", "(I)I"⟩, 19) := ⟨⟨by decide +kernel, by decide +kernel⟩, lw_t7 (List.mem_of_getElem? (i := 229) rfl), lw_t8 (List.mem_of_getElem? (i := 74) rfl), lw_t8 (List.mem_of_getElem? (i := 75) rfl)⟩
theorem lw_p30 : lw_okq (⟨"LampLeaseOfficeModel", "doAddLamp", "(I)I"⟩, 19) := ⟨⟨by decide +kernel, by decide +kernel⟩, lw_t7 (List.mem_of_getElem? (i := 229) rfl), lw_t8 (List.mem_of_getElem? (i := 82) rfl), lw_t8 (List.mem_of_getElem? (i := 83) rfl)⟩
theorem lw_p31 : lw_okq (⟨"LampLeaseOfficeModel", "sets", "(III)V"⟩, 19) := ⟨⟨by decide +kernel, by decide +kernel⟩, lw_t7 (List.mem_of_getElem? (i := 229) rfl), lw_t8 (List.mem_of_getElem? (i := 89) rfl), lw_t8 (List.mem_of_getElem? (i := 90) rfl)⟩
def lw_privs_2 : List (MethodName × Nat) := [(⟨"LampLeaseOffice", "request", "(I)LLampLeaseOffice$Request;"⟩, 9), (⟨"LampLeaseOffice", "carryOutInput", "()I"⟩, 9), (⟨"LampLeaseOffice$Parser", "command", "(LLampLeaseOffice$State;I)V"⟩, 5), (⟨"LampLeaseOffice$Parser", "keyword", "()Ljava/lang/String;"⟩, 5), (⟨"LampLeaseOffice$Parser", "peek", "(I)C"⟩, 5), (⟨"LampLeaseOffice$Parser", "next", "(CC)C"⟩, 5), (⟨"LampLeaseOffice$Parser", "sees", "(CC)Z"⟩, 5), (⟨"LampLeaseOffice$Parser", "readNumbers", "(Ljava/lang/String;)V"⟩, 5), (⟨"LampLeaseOffice$Parser", "number", "(I)I"⟩, 5), (⟨"LampLeaseOffice$Parser", "carryOut", "(LLampLeaseOffice$State;Ljava/lang/String;)V"⟩, 5), (⟨"LampLeaseOfficeModel", "keep", "()V"⟩, 19), (⟨"LampLeaseOfficeModel", "doAddShip", "()I"⟩, 19), (⟨"LampLeaseOfficeModel", "fails", "(I)I"⟩, 19), (⟨"LampLeaseOfficeModel", "ends", "(I)I"⟩, 19), (⟨"LampLeaseOfficeModel", "doAddLamp", "(I)I"⟩, 19), (⟨"LampLeaseOfficeModel", "sets", "(III)V"⟩, 19)]
theorem lw_r2 : ∀ q ∈ lw_privs_2, lw_okq q := List.forall_mem_cons.mpr ⟨lw_p16, List.forall_mem_cons.mpr ⟨lw_p17, List.forall_mem_cons.mpr ⟨lw_p18, List.forall_mem_cons.mpr ⟨lw_p19, List.forall_mem_cons.mpr ⟨lw_p20, List.forall_mem_cons.mpr ⟨lw_p21, List.forall_mem_cons.mpr ⟨lw_p22, List.forall_mem_cons.mpr ⟨lw_p23, List.forall_mem_cons.mpr ⟨lw_p24, List.forall_mem_cons.mpr ⟨lw_p25, List.forall_mem_cons.mpr ⟨lw_p26, List.forall_mem_cons.mpr ⟨lw_p27, List.forall_mem_cons.mpr ⟨lw_p28, List.forall_mem_cons.mpr ⟨lw_p29, List.forall_mem_cons.mpr ⟨lw_p30, List.forall_mem_cons.mpr ⟨lw_p31, fun _ h => absurd h List.not_mem_nil⟩⟩⟩⟩⟩⟩⟩⟩⟩⟩⟩⟩⟩⟩⟩⟩
theorem lw_p32 : lw_okq (⟨"LampLeaseOfficeModel", "doAddOil", "(I)I"⟩, 19) := ⟨⟨by decide +kernel, by decide +kernel⟩, lw_t7 (List.mem_of_getElem? (i := 229) rfl), lw_t8 (List.mem_of_getElem? (i := 97) rfl), lw_t8 (List.mem_of_getElem? (i := 98) rfl)⟩
theorem lw_p33 : lw_okq (⟨"LampLeaseOfficeModel", "doLease", "(III)I"⟩, 19) := ⟨⟨by decide +kernel, by decide +kernel⟩, lw_t7 (List.mem_of_getElem? (i := 229) rfl), lw_t8 (List.mem_of_getElem? (i := 105) rfl), lw_t8 (List.mem_of_getElem? (i := 106) rfl)⟩
theorem lw_p34 : lw_okq (⟨"LampLeaseOfficeModel", "isShip", "(I)Z"⟩, 19) := ⟨⟨by decide +kernel, by decide +kernel⟩, lw_t7 (List.mem_of_getElem? (i := 229) rfl), lw_t8 (List.mem_of_getElem? (i := 109) rfl), lw_t8 (List.mem_of_getElem? (i := 110) rfl)⟩
theorem lw_p35 : lw_okq (⟨"LampLeaseOfficeModel", "isLamp", "(I)Z"⟩, 19) := ⟨⟨by decide +kernel, by decide +kernel⟩, lw_t7 (List.mem_of_getElem? (i := 229) rfl), lw_t8 (List.mem_of_getElem? (i := 113) rfl), lw_t8 (List.mem_of_getElem? (i := 114) rfl)⟩
theorem lw_p36 : lw_okq (⟨"LampLeaseOfficeModel", "isOut", "(I)Z"⟩, 19) := ⟨⟨by decide +kernel, by decide +kernel⟩, lw_t7 (List.mem_of_getElem? (i := 229) rfl), lw_t8 (List.mem_of_getElem? (i := 117) rfl), lw_t8 (List.mem_of_getElem? (i := 118) rfl)⟩
theorem lw_p37 : lw_okq (⟨"LampLeaseOfficeModel", "of", "(II)I"⟩, 19) := ⟨⟨by decide +kernel, by decide +kernel⟩, lw_t7 (List.mem_of_getElem? (i := 229) rfl), lw_t8 (List.mem_of_getElem? (i := 121) rfl), lw_t8 (List.mem_of_getElem? (i := 122) rfl)⟩
theorem lw_p38 : lw_okq (⟨"LampLeaseOfficeModel", "ofShip", "(II)I"⟩, 19) := ⟨⟨by decide +kernel, by decide +kernel⟩, lw_t7 (List.mem_of_getElem? (i := 229) rfl), lw_t8 (List.mem_of_getElem? (i := 125) rfl), lw_t8 (List.mem_of_getElem? (i := 126) rfl)⟩
theorem lw_p39 : lw_okq (⟨"LampLeaseOfficeModel", "pays", "(II)V"⟩, 19) := ⟨⟨by decide +kernel, by decide +kernel⟩, lw_t7 (List.mem_of_getElem? (i := 229) rfl), lw_t8 (List.mem_of_getElem? (i := 129) rfl), lw_t8 (List.mem_of_getElem? (i := 130) rfl)⟩
theorem lw_p40 : lw_okq (⟨"LampLeaseOfficeModel", "doRequestRenewal", "(II)I"⟩, 19) := ⟨⟨by decide +kernel, by decide +kernel⟩, lw_t7 (List.mem_of_getElem? (i := 229) rfl), lw_t8 (List.mem_of_getElem? (i := 137) rfl), lw_t8 (List.mem_of_getElem? (i := 138) rfl)⟩
theorem lw_p41 : lw_okq (⟨"LampLeaseOfficeModel", "requestFor", "(I)I"⟩, 19) := ⟨⟨by decide +kernel, by decide +kernel⟩, lw_t7 (List.mem_of_getElem? (i := 229) rfl), lw_t8 (List.mem_of_getElem? (i := 141) rfl), lw_t8 (List.mem_of_getElem? (i := 142) rfl)⟩
theorem lw_p42 : lw_okq (⟨"LampLeaseOfficeModel", "doGiveUp", "(I)I"⟩, 19) := ⟨⟨by decide +kernel, by decide +kernel⟩, lw_t7 (List.mem_of_getElem? (i := 229) rfl), lw_t8 (List.mem_of_getElem? (i := 149) rfl), lw_t8 (List.mem_of_getElem? (i := 150) rfl)⟩
theorem lw_p43 : lw_okq (⟨"LampLeaseOfficeModel", "frees", "(I)V"⟩, 19) := ⟨⟨by decide +kernel, by decide +kernel⟩, lw_t7 (List.mem_of_getElem? (i := 229) rfl), lw_t8 (List.mem_of_getElem? (i := 153) rfl), lw_t8 (List.mem_of_getElem? (i := 154) rfl)⟩
theorem lw_p44 : lw_okq (⟨"LampLeaseOfficeModel", "doPassHours", "(I)I"⟩, 19) := ⟨⟨by decide +kernel, by decide +kernel⟩, lw_t7 (List.mem_of_getElem? (i := 229) rfl), lw_t8 (List.mem_of_getElem? (i := 161) rfl), lw_t8 (List.mem_of_getElem? (i := 162) rfl)⟩
theorem lw_p45 : lw_okq (⟨"LampLeaseOfficeModel", "renews", "()V"⟩, 19) := ⟨⟨by decide +kernel, by decide +kernel⟩, lw_t7 (List.mem_of_getElem? (i := 229) rfl), lw_t8 (List.mem_of_getElem? (i := 165) rfl), lw_t8 (List.mem_of_getElem? (i := 166) rfl)⟩
theorem lw_p46 : lw_okq (⟨"LampLeaseOfficeModel", "burns", "()I"⟩, 19) := ⟨⟨by decide +kernel, by decide +kernel⟩, lw_t7 (List.mem_of_getElem? (i := 229) rfl), lw_t8 (List.mem_of_getElem? (i := 169) rfl), lw_t8 (List.mem_of_getElem? (i := 170) rfl)⟩
theorem lw_p47 : lw_okq (⟨"LampLeaseOfficeModel", "fines", "()V"⟩, 19) := ⟨⟨by decide +kernel, by decide +kernel⟩, lw_t7 (List.mem_of_getElem? (i := 229) rfl), lw_t8 (List.mem_of_getElem? (i := 173) rfl), lw_t8 (List.mem_of_getElem? (i := 174) rfl)⟩
def lw_privs_3 : List (MethodName × Nat) := [(⟨"LampLeaseOfficeModel", "doAddOil", "(I)I"⟩, 19), (⟨"LampLeaseOfficeModel", "doLease", "(III)I"⟩, 19), (⟨"LampLeaseOfficeModel", "isShip", "(I)Z"⟩, 19), (⟨"LampLeaseOfficeModel", "isLamp", "(I)Z"⟩, 19), (⟨"LampLeaseOfficeModel", "isOut", "(I)Z"⟩, 19), (⟨"LampLeaseOfficeModel", "of", "(II)I"⟩, 19), (⟨"LampLeaseOfficeModel", "ofShip", "(II)I"⟩, 19), (⟨"LampLeaseOfficeModel", "pays", "(II)V"⟩, 19), (⟨"LampLeaseOfficeModel", "doRequestRenewal", "(II)I"⟩, 19), (⟨"LampLeaseOfficeModel", "requestFor", "(I)I"⟩, 19), (⟨"LampLeaseOfficeModel", "doGiveUp", "(I)I"⟩, 19), (⟨"LampLeaseOfficeModel", "frees", "(I)V"⟩, 19), (⟨"LampLeaseOfficeModel", "doPassHours", "(I)I"⟩, 19), (⟨"LampLeaseOfficeModel", "renews", "()V"⟩, 19), (⟨"LampLeaseOfficeModel", "burns", "()I"⟩, 19), (⟨"LampLeaseOfficeModel", "fines", "()V"⟩, 19)]
theorem lw_r3 : ∀ q ∈ lw_privs_3, lw_okq q := List.forall_mem_cons.mpr ⟨lw_p32, List.forall_mem_cons.mpr ⟨lw_p33, List.forall_mem_cons.mpr ⟨lw_p34, List.forall_mem_cons.mpr ⟨lw_p35, List.forall_mem_cons.mpr ⟨lw_p36, List.forall_mem_cons.mpr ⟨lw_p37, List.forall_mem_cons.mpr ⟨lw_p38, List.forall_mem_cons.mpr ⟨lw_p39, List.forall_mem_cons.mpr ⟨lw_p40, List.forall_mem_cons.mpr ⟨lw_p41, List.forall_mem_cons.mpr ⟨lw_p42, List.forall_mem_cons.mpr ⟨lw_p43, List.forall_mem_cons.mpr ⟨lw_p44, List.forall_mem_cons.mpr ⟨lw_p45, List.forall_mem_cons.mpr ⟨lw_p46, List.forall_mem_cons.mpr ⟨lw_p47, fun _ h => absurd h List.not_mem_nil⟩⟩⟩⟩⟩⟩⟩⟩⟩⟩⟩⟩⟩⟩⟩⟩
theorem lw_p48 : lw_okq (⟨"LampLeaseOfficeModel", "lampsOf", "(IZ)I"⟩, 19) := ⟨⟨by decide +kernel, by decide +kernel⟩, lw_t7 (List.mem_of_getElem? (i := 229) rfl), lw_t8 (List.mem_of_getElem? (i := 177) rfl), lw_t8 (List.mem_of_getElem? (i := 178) rfl)⟩
theorem lw_p49 : lw_okq (⟨"LampLeaseOfficeModel", "endsLeases", "()I"⟩, 19) := ⟨⟨by decide +kernel, by decide +kernel⟩, lw_t7 (List.mem_of_getElem? (i := 229) rfl), lw_t8 (List.mem_of_getElem? (i := 182) rfl), lw_t8 (List.mem_of_getElem? (i := 183) rfl)⟩
theorem lw_p50 : lw_okq (⟨"LampLeaseOfficeModel", "isThere", "(Z)Z"⟩, 19) := ⟨⟨by decide +kernel, by decide +kernel⟩, lw_t7 (List.mem_of_getElem? (i := 229) rfl), lw_t8 (List.mem_of_getElem? (i := 198) rfl), lw_t8 (List.mem_of_getElem? (i := 199) rfl)⟩
theorem lw_p51 : lw_okq (⟨"LampLeaseOfficeModel", "wants", "(I)I"⟩, 19) := ⟨⟨by decide +kernel, by decide +kernel⟩, lw_t7 (List.mem_of_getElem? (i := 229) rfl), lw_t8 (List.mem_of_getElem? (i := 214) rfl), lw_t8 (List.mem_of_getElem? (i := 215) rfl)⟩
theorem lw_p52 : lw_okq (⟨"LampLeaseOfficeModel", "leased", "()I"⟩, 19) := ⟨⟨by decide +kernel, by decide +kernel⟩, lw_t7 (List.mem_of_getElem? (i := 229) rfl), lw_t9 (List.mem_of_getElem? (i := 14) rfl), lw_t9 (List.mem_of_getElem? (i := 15) rfl)⟩
theorem lw_p53 : lw_okq (⟨"LampLeaseOfficeModel", "needed", "()I"⟩, 19) := ⟨⟨by decide +kernel, by decide +kernel⟩, lw_t7 (List.mem_of_getElem? (i := 229) rfl), lw_t9 (List.mem_of_getElem? (i := 26) rfl), lw_t9 (List.mem_of_getElem? (i := 27) rfl)⟩
theorem lw_p54 : lw_okq (⟨"LampLeaseOfficeModel", "partOf", "(I)I"⟩, 19) := ⟨⟨by decide +kernel, by decide +kernel⟩, lw_t7 (List.mem_of_getElem? (i := 229) rfl), lw_t9 (List.mem_of_getElem? (i := 56) rfl), lw_t9 (List.mem_of_getElem? (i := 57) rfl)⟩
theorem lw_p55 : lw_okq (⟨"LampLeaseOfficeModel", "isRequest", "(I)Z"⟩, 19) := ⟨⟨by decide +kernel, by decide +kernel⟩, lw_t7 (List.mem_of_getElem? (i := 229) rfl), lw_t9 (List.mem_of_getElem? (i := 73) rfl), lw_t9 (List.mem_of_getElem? (i := 74) rfl)⟩
theorem lw_p56 : lw_okq (⟨"LampLeaseOfficeModel", "says", "(C)V"⟩, 19) := ⟨⟨by decide +kernel, by decide +kernel⟩, lw_t7 (List.mem_of_getElem? (i := 229) rfl), lw_t9 (List.mem_of_getElem? (i := 113) rfl), lw_t9 (List.mem_of_getElem? (i := 114) rfl)⟩
theorem lw_p57 : lw_okq (⟨"LampLeaseOfficeModel", "saysNumber", "(I)V"⟩, 19) := ⟨⟨by decide +kernel, by decide +kernel⟩, lw_t7 (List.mem_of_getElem? (i := 229) rfl), lw_t9 (List.mem_of_getElem? (i := 117) rfl), lw_t9 (List.mem_of_getElem? (i := 118) rfl)⟩
theorem lw_p58 : lw_okq (⟨"LampLeaseOfficeModel", "readCommand", "()V"⟩, 19) := ⟨⟨by decide +kernel, by decide +kernel⟩, lw_t7 (List.mem_of_getElem? (i := 229) rfl), lw_t9 (List.mem_of_getElem? (i := 133) rfl), lw_t9 (List.mem_of_getElem? (i := 134) rfl)⟩
theorem lw_p59 : lw_okq (⟨"LampLeaseOfficeModel", "behind", "(I)I"⟩, 19) := ⟨⟨by decide +kernel, by decide +kernel⟩, lw_t7 (List.mem_of_getElem? (i := 229) rfl), lw_t9 (List.mem_of_getElem? (i := 137) rfl), lw_t9 (List.mem_of_getElem? (i := 138) rfl)⟩
theorem lw_p60 : lw_okq (⟨"LampLeaseOfficeModel", "skip", "(Ljava/lang/String;)V"⟩, 19) := ⟨⟨by decide +kernel, by decide +kernel⟩, lw_t7 (List.mem_of_getElem? (i := 229) rfl), lw_t9 (List.mem_of_getElem? (i := 143) rfl), lw_t9 (List.mem_of_getElem? (i := 144) rfl)⟩
theorem lw_p61 : lw_okq (⟨"LampLeaseOfficeModel", "readNumber", "(I)I"⟩, 19) := ⟨⟨by decide +kernel, by decide +kernel⟩, lw_t7 (List.mem_of_getElem? (i := 229) rfl), lw_t9 (List.mem_of_getElem? (i := 149) rfl), lw_t9 (List.mem_of_getElem? (i := 150) rfl)⟩
theorem lw_p62 : lw_okq (⟨"LampLeaseOfficeModel", "isDigit", "()Z"⟩, 19) := ⟨⟨by decide +kernel, by decide +kernel⟩, lw_t7 (List.mem_of_getElem? (i := 229) rfl), lw_t9 (List.mem_of_getElem? (i := 154) rfl), lw_t9 (List.mem_of_getElem? (i := 155) rfl)⟩
theorem lw_p63 : lw_okq (⟨"LampLeaseOfficeModel", "does", "(I)Ljava/lang/String;"⟩, 19) := ⟨⟨by decide +kernel, by decide +kernel⟩, lw_t7 (List.mem_of_getElem? (i := 229) rfl), lw_t9 (List.mem_of_getElem? (i := 163) rfl), lw_t9 (List.mem_of_getElem? (i := 164) rfl)⟩
def lw_privs_4 : List (MethodName × Nat) := [(⟨"LampLeaseOfficeModel", "lampsOf", "(IZ)I"⟩, 19), (⟨"LampLeaseOfficeModel", "endsLeases", "()I"⟩, 19), (⟨"LampLeaseOfficeModel", "isThere", "(Z)Z"⟩, 19), (⟨"LampLeaseOfficeModel", "wants", "(I)I"⟩, 19), (⟨"LampLeaseOfficeModel", "leased", "()I"⟩, 19), (⟨"LampLeaseOfficeModel", "needed", "()I"⟩, 19), (⟨"LampLeaseOfficeModel", "partOf", "(I)I"⟩, 19), (⟨"LampLeaseOfficeModel", "isRequest", "(I)Z"⟩, 19), (⟨"LampLeaseOfficeModel", "says", "(C)V"⟩, 19), (⟨"LampLeaseOfficeModel", "saysNumber", "(I)V"⟩, 19), (⟨"LampLeaseOfficeModel", "readCommand", "()V"⟩, 19), (⟨"LampLeaseOfficeModel", "behind", "(I)I"⟩, 19), (⟨"LampLeaseOfficeModel", "skip", "(Ljava/lang/String;)V"⟩, 19), (⟨"LampLeaseOfficeModel", "readNumber", "(I)I"⟩, 19), (⟨"LampLeaseOfficeModel", "isDigit", "()Z"⟩, 19), (⟨"LampLeaseOfficeModel", "does", "(I)Ljava/lang/String;"⟩, 19)]
theorem lw_r4 : ∀ q ∈ lw_privs_4, lw_okq q := List.forall_mem_cons.mpr ⟨lw_p48, List.forall_mem_cons.mpr ⟨lw_p49, List.forall_mem_cons.mpr ⟨lw_p50, List.forall_mem_cons.mpr ⟨lw_p51, List.forall_mem_cons.mpr ⟨lw_p52, List.forall_mem_cons.mpr ⟨lw_p53, List.forall_mem_cons.mpr ⟨lw_p54, List.forall_mem_cons.mpr ⟨lw_p55, List.forall_mem_cons.mpr ⟨lw_p56, List.forall_mem_cons.mpr ⟨lw_p57, List.forall_mem_cons.mpr ⟨lw_p58, List.forall_mem_cons.mpr ⟨lw_p59, List.forall_mem_cons.mpr ⟨lw_p60, List.forall_mem_cons.mpr ⟨lw_p61, List.forall_mem_cons.mpr ⟨lw_p62, List.forall_mem_cons.mpr ⟨lw_p63, fun _ h => absurd h List.not_mem_nil⟩⟩⟩⟩⟩⟩⟩⟩⟩⟩⟩⟩⟩⟩⟩⟩
def lw_privs : List (MethodName × Nat) := lw_privs_1 ++ (lw_privs_2 ++ (lw_privs_3 ++ (lw_privs_4)))
def lw_tbl : List Cond := k2_sels lw_privs ++ tables_1
theorem lw_privs_ok : ∀ q ∈ lw_privs, lw_okq q := by
  show ∀ q ∈ lw_privs_1 ++ (lw_privs_2 ++ (lw_privs_3 ++ (lw_privs_4))), lw_okq q
  exact List.forall_mem_append.mpr ⟨lw_r1, List.forall_mem_append.mpr ⟨lw_r2, List.forall_mem_append.mpr ⟨lw_r3, lw_r4⟩⟩⟩
-- ===== ONE list of words for every method: the tables' words that hold all through a run =====
def lw_all : List Cond := lw_tbl.filter goodWord
/-- a word of the tables by its place: claim/WORDS.tsv -/
theorem lw_w {w : Cond} (i : Nat) (h : lw_tbl[i]? = some w) (g : goodWord w = true) : w ∈ lw_all := List.mem_filter.mpr ⟨List.mem_of_getElem? h, g⟩
theorem lw_all_tbl {w : Cond} (h : w ∈ lw_all) : w ∈ lw_tbl := (List.mem_filter.mp h).1
theorem lw_self : GoodIn lw_all lw_all := fun w h => ⟨h, good_of_word (List.mem_filter.mp h).2⟩
/-- a class's field words, by their places -/
theorem lw_in (ws : List Cond) (ps : List Nat) (hp : ws = ps.filterMap (fun i => lw_tbl[i]?)) (hg : ws.all goodWord = true) : ∀ w ∈ ws, w ∈ lw_all := by
  intro w h
  have h1 := List.all_eq_true.mp hg w h
  rw [hp] at h
  obtain ⟨i, -, hi⟩ := List.mem_filterMap.mp h
  exact lw_w i hi h1
/-- the words of a contract for the method y with code b, L locals, answer r -/
abbrev ws_ (y : MethodName) (b : ByteArray) (L : Nat) (r : Option FieldType) : List Cond := Cond.code y b L r :: lw_all
theorem lw_meth {y : MethodName} {b : ByteArray} {L : Nat} {r : Option FieldType} (h : Cond.code y b L r ∈ lw_all) : GoodIn lw_all (ws_ y b L r) := by
  intro w hw
  rcases List.mem_cons.mp hw with e | e
  · rw [e]
    exact lw_self _ h
  · exact lw_self _ e
theorem lw_app {a c : List Cond} (ha : ∀ w ∈ a, w ∈ lw_all) (hc : GoodIn lw_all c) : GoodIn lw_all (a ++ c) := by
  intro w hw
  rcases List.mem_append.mp hw with e | e
  · exact lw_self w (ha w e)
  · exact hc w e
/-- what a call through an object asks: cwV n hts (lw_V ..) -/
theorem lw_V {own : String} {idx : Nat} {C : String} {y : MethodName} {b : ByteArray} {L : Nat} {r : Option FieldType} (h1 : Cond.methodLink own idx y ∈ lw_all) (h2 : Cond.instanceMethod y ∈ lw_all) (h3 : Cond.selects C y y ∈ lw_all) (h4 : Cond.initialized C ∈ lw_all) (h5 : Cond.code y b L r ∈ lw_all) : GoodIn lw_all (wsV own idx C y (ws_ y b L r)) := by
  refine lw_app ?_ (lw_meth h5)
  intro w hw
  simp only [List.mem_cons, List.not_mem_nil, or_false] at hw
  rcases hw with e | e | e | e
  · rw [e]; exact h1
  · rw [e]; exact h2
  · rw [e]; exact h3
  · rw [e]; exact h4
/-- what a static call asks: va_cwS n hts (lw_S ..) -/
theorem lw_S {own : String} {idx : Nat} {y : MethodName} {b : ByteArray} {L : Nat} {r : Option FieldType} (h1 : Cond.methodLink own idx y ∈ lw_all) (h2 : Cond.static y ∈ lw_all) (h3 : Cond.initialized y.cls ∈ lw_all) (h4 : Cond.code y b L r ∈ lw_all) : GoodIn lw_all (va_wsS own idx y (ws_ y b L r)) := by
  refine lw_app ?_ (lw_meth h4)
  intro w hw
  simp only [List.mem_cons, List.not_mem_nil, or_false] at hw
  rcases hw with e | e | e
  · rw [e]; exact h1
  · rw [e]; exact h2
  · rw [e]; exact h3
/-- the words of a contract for a method WITH HANDLERS (hh: its table) -/
abbrev wsW_ (y : MethodName) (b : ByteArray) (L : Nat) (r : Option FieldType) (hh : List (Nat × Nat × Nat × Nat)) : List Cond := Cond.codeWith y b L r hh :: lw_all
theorem lw_methW {y : MethodName} {b : ByteArray} {L : Nat} {r : Option FieldType} {hh : List (Nat × Nat × Nat × Nat)} (h : Cond.codeWith y b L r hh ∈ lw_all) : GoodIn lw_all (wsW_ y b L r hh) := by
  intro w hw
  rcases List.mem_cons.mp hw with e | e
  · rw [e]
    exact lw_self _ h
  · exact lw_self _ e
/-- any list of words by their places (lw_in), good -/
theorem lw_good {ws : List Cond} (h : ∀ w ∈ ws, w ∈ lw_all) : GoodIn lw_all ws := fun w hw => lw_self w (h w hw)
/-- what a call of a method with handlers asks: vx_cwVW n hts (lw_VW ..), vx_cwSW n hts (lw_SW ..) -/
theorem lw_VW {own : String} {idx : Nat} {C : String} {y : MethodName} {b : ByteArray} {L : Nat} {r : Option FieldType} {hh : List (Nat × Nat × Nat × Nat)} (h1 : Cond.methodLink own idx y ∈ lw_all) (h2 : Cond.instanceMethod y ∈ lw_all) (h3 : Cond.selects C y y ∈ lw_all) (h4 : Cond.initialized C ∈ lw_all) (h5 : Cond.codeWith y b L r hh ∈ lw_all) : GoodIn lw_all (wsV own idx C y (wsW_ y b L r hh)) := by
  refine lw_app ?_ (lw_methW h5)
  intro w hw
  simp only [List.mem_cons, List.not_mem_nil, or_false] at hw
  rcases hw with e | e | e | e
  · rw [e]; exact h1
  · rw [e]; exact h2
  · rw [e]; exact h3
  · rw [e]; exact h4
theorem lw_SW {own : String} {idx : Nat} {y : MethodName} {b : ByteArray} {L : Nat} {r : Option FieldType} {hh : List (Nat × Nat × Nat × Nat)} (h1 : Cond.methodLink own idx y ∈ lw_all) (h2 : Cond.static y ∈ lw_all) (h3 : Cond.initialized y.cls ∈ lw_all) (h4 : Cond.codeWith y b L r hh ∈ lw_all) : GoodIn lw_all (va_wsS own idx y (wsW_ y b L r hh)) := by
  refine lw_app ?_ (lw_methW h4)
  intro w hw
  simp only [List.mem_cons, List.not_mem_nil, or_false] at hw
  rcases hw with e | e | e
  · rw [e]; exact h1
  · rw [e]; exact h2
  · rw [e]; exact h3
/-- a word by its place in its run of the tables -/
theorem lw_at {r : List Cond} (hr : ∀ w ∈ r, w ∈ lw_tbl) {w : Cond} (i : Nat) (h : r[i]? = some w) : w ∈ lw_tbl := hr w (List.mem_of_getElem? h)
theorem lw_g {w : Cond} (h : w ∈ lw_tbl) (g : goodWord w = true) : w ∈ lw_all := List.mem_filter.mpr ⟨h, g⟩
theorem lw_ms : ∀ w ∈ k2_sels lw_privs, w ∈ lw_tbl := fun w h => show w ∈ k2_sels lw_privs ++ tables_1 from List.mem_append_left _ h
theorem lw_m1 : ∀ w ∈ tables_1_1, w ∈ lw_tbl := fun w h => show w ∈ k2_sels lw_privs ++ tables_1 from List.mem_append_right (k2_sels lw_privs) (show w ∈ tables_1 from List.mem_append_left _ h)
theorem lw_m2 : ∀ w ∈ tables_1_2, w ∈ lw_tbl := fun w h => show w ∈ k2_sels lw_privs ++ tables_1 from List.mem_append_right (k2_sels lw_privs) (show w ∈ tables_1 from List.mem_append_right _ (List.mem_append_left _ h))
theorem lw_m3 : ∀ w ∈ tables_1_3, w ∈ lw_tbl := fun w h => show w ∈ k2_sels lw_privs ++ tables_1 from List.mem_append_right (k2_sels lw_privs) (show w ∈ tables_1 from List.mem_append_right _ (List.mem_append_right _ (List.mem_append_left _ h)))
theorem lw_m4 : ∀ w ∈ tables_1_4, w ∈ lw_tbl := fun w h => show w ∈ k2_sels lw_privs ++ tables_1 from List.mem_append_right (k2_sels lw_privs) (show w ∈ tables_1 from List.mem_append_right _ (List.mem_append_right _ (List.mem_append_right _ (List.mem_append_left _ h))))
theorem lw_m5 : ∀ w ∈ tables_1_5, w ∈ lw_tbl := fun w h => show w ∈ k2_sels lw_privs ++ tables_1 from List.mem_append_right (k2_sels lw_privs) (show w ∈ tables_1 from List.mem_append_right _ (List.mem_append_right _ (List.mem_append_right _ (List.mem_append_right _ (List.mem_append_left _ h)))))
theorem lw_m6 : ∀ w ∈ tables_1_6, w ∈ lw_tbl := fun w h => show w ∈ k2_sels lw_privs ++ tables_1 from List.mem_append_right (k2_sels lw_privs) (show w ∈ tables_1 from List.mem_append_right _ (List.mem_append_right _ (List.mem_append_right _ (List.mem_append_right _ (List.mem_append_right _ (List.mem_append_left _ h))))))
theorem lw_m7 : ∀ w ∈ tables_1_7, w ∈ lw_tbl := fun w h => show w ∈ k2_sels lw_privs ++ tables_1 from List.mem_append_right (k2_sels lw_privs) (show w ∈ tables_1 from List.mem_append_right _ (List.mem_append_right _ (List.mem_append_right _ (List.mem_append_right _ (List.mem_append_right _ (List.mem_append_right _ (List.mem_append_left _ h)))))))
theorem lw_m8 : ∀ w ∈ tables_1_8, w ∈ lw_tbl := fun w h => show w ∈ k2_sels lw_privs ++ tables_1 from List.mem_append_right (k2_sels lw_privs) (show w ∈ tables_1 from List.mem_append_right _ (List.mem_append_right _ (List.mem_append_right _ (List.mem_append_right _ (List.mem_append_right _ (List.mem_append_right _ (List.mem_append_right _ (List.mem_append_left _ h))))))))
theorem lw_m9 : ∀ w ∈ tables_1_9, w ∈ lw_tbl := fun w h => show w ∈ k2_sels lw_privs ++ tables_1 from List.mem_append_right (k2_sels lw_privs) (show w ∈ tables_1 from List.mem_append_right _ (List.mem_append_right _ (List.mem_append_right _ (List.mem_append_right _ (List.mem_append_right _ (List.mem_append_right _ (List.mem_append_right _ (List.mem_append_right _ (List.mem_append_left _ h)))))))))
theorem lw_m10 : ∀ w ∈ tables_1_10, w ∈ lw_tbl := fun w h => show w ∈ k2_sels lw_privs ++ tables_1 from List.mem_append_right (k2_sels lw_privs) (show w ∈ tables_1 from List.mem_append_right _ (List.mem_append_right _ (List.mem_append_right _ (List.mem_append_right _ (List.mem_append_right _ (List.mem_append_right _ (List.mem_append_right _ (List.mem_append_right _ (List.mem_append_right _ h)))))))))
theorem qs0 : (Cond.selects "java/lang/Throwable" ⟨"java/lang/Throwable", "fillInStackTrace", "(I)Ljava/lang/Throwable;"⟩ ⟨"java/lang/Throwable", "fillInStackTrace", "(I)Ljava/lang/Throwable;"⟩) ∈ lw_all := lw_g (lw_at lw_ms 0 rfl) rfl
theorem qs1 : (Cond.selects "java/util/ArrayList" ⟨"java/util/ArrayList", "add", "(Ljava/lang/Object;[Ljava/lang/Object;I)V"⟩ ⟨"java/util/ArrayList", "add", "(Ljava/lang/Object;[Ljava/lang/Object;I)V"⟩) ∈ lw_all := lw_g (lw_at lw_ms 1 rfl) rfl
theorem qs2 : (Cond.selects "java/util/ArrayList" ⟨"java/util/ArrayList", "grow", "()[Ljava/lang/Object;"⟩ ⟨"java/util/ArrayList", "grow", "()[Ljava/lang/Object;"⟩) ∈ lw_all := lw_g (lw_at lw_ms 2 rfl) rfl
theorem qs3 : (Cond.selects "java/util/ArrayList" ⟨"java/util/ArrayList", "grow", "(I)[Ljava/lang/Object;"⟩ ⟨"java/util/ArrayList", "grow", "(I)[Ljava/lang/Object;"⟩) ∈ lw_all := lw_g (lw_at lw_ms 3 rfl) rfl
theorem qs4 : (Cond.selects "LampLeaseOffice$State" ⟨"LampLeaseOffice$State", "burn", "()I"⟩ ⟨"LampLeaseOffice$State", "burn", "()I"⟩) ∈ lw_all := lw_g (lw_at lw_ms 4 rfl) rfl
theorem qs5 : (Cond.selects "LampLeaseOffice$State" ⟨"LampLeaseOffice$State", "demands", "()[I"⟩ ⟨"LampLeaseOffice$State", "demands", "()[I"⟩) ∈ lw_all := lw_g (lw_at lw_ms 5 rfl) rfl
theorem qs6 : (Cond.selects "LampLeaseOffice" ⟨"LampLeaseOffice", "record", "(LLampLeaseOffice$State;I)I"⟩ ⟨"LampLeaseOffice", "record", "(LLampLeaseOffice$State;I)I"⟩) ∈ lw_all := lw_g (lw_at lw_ms 6 rfl) rfl
theorem qs7 : (Cond.selects "java/util/ArrayList" ⟨"java/util/ArrayList", "fastRemove", "([Ljava/lang/Object;I)V"⟩ ⟨"java/util/ArrayList", "fastRemove", "([Ljava/lang/Object;I)V"⟩) ∈ lw_all := lw_g (lw_at lw_ms 7 rfl) rfl
theorem qs8 : (Cond.selects "LampLeaseOffice$State" ⟨"LampLeaseOffice$State", "endLease", "(I)V"⟩ ⟨"LampLeaseOffice$State", "endLease", "(I)V"⟩) ∈ lw_all := lw_g (lw_at lw_ms 8 rfl) rfl
theorem qs9 : (Cond.selects "LampLeaseOffice$State" ⟨"LampLeaseOffice$State", "passHour", "()I"⟩ ⟨"LampLeaseOffice$State", "passHour", "()I"⟩) ∈ lw_all := lw_g (lw_at lw_ms 9 rfl) rfl
theorem qs10 : (Cond.selects "LampLeaseOffice$State" ⟨"LampLeaseOffice$State", "processRequests", "()V"⟩ ⟨"LampLeaseOffice$State", "processRequests", "()V"⟩) ∈ lw_all := lw_g (lw_at lw_ms 10 rfl) rfl
theorem qs11 : (Cond.selects "LampLeaseOffice$State" ⟨"LampLeaseOffice$State", "renew", "(LLampLeaseOffice$Request;)V"⟩ ⟨"LampLeaseOffice$State", "renew", "(LLampLeaseOffice$Request;)V"⟩) ∈ lw_all := lw_g (lw_at lw_ms 11 rfl) rfl
theorem qs12 : (Cond.selects "LampLeaseOffice$State" ⟨"LampLeaseOffice$State", "hasLight", "(I)Z"⟩ ⟨"LampLeaseOffice$State", "hasLight", "(I)Z"⟩) ∈ lw_all := lw_g (lw_at lw_ms 12 rfl) rfl
theorem qs13 : (Cond.selects "LampLeaseOffice$State" ⟨"LampLeaseOffice$State", "endLeases", "()I"⟩ ⟨"LampLeaseOffice$State", "endLeases", "()I"⟩) ∈ lw_all := lw_g (lw_at lw_ms 13 rfl) rfl
theorem qs14 : (Cond.selects "LampLeaseOffice$State" ⟨"LampLeaseOffice$State", "nextEnd", "(I)I"⟩ ⟨"LampLeaseOffice$State", "nextEnd", "(I)I"⟩) ∈ lw_all := lw_g (lw_at lw_ms 14 rfl) rfl
theorem qs15 : (Cond.selects "LampLeaseOffice$State" ⟨"LampLeaseOffice$State", "consumptionAfter", "(I)I"⟩ ⟨"LampLeaseOffice$State", "consumptionAfter", "(I)I"⟩) ∈ lw_all := lw_g (lw_at lw_ms 15 rfl) rfl
theorem qs16 : (Cond.selects "LampLeaseOffice" ⟨"LampLeaseOffice", "request", "(I)LLampLeaseOffice$Request;"⟩ ⟨"LampLeaseOffice", "request", "(I)LLampLeaseOffice$Request;"⟩) ∈ lw_all := lw_g (lw_at lw_ms 16 rfl) rfl
theorem qs17 : (Cond.selects "LampLeaseOffice" ⟨"LampLeaseOffice", "carryOutInput", "()I"⟩ ⟨"LampLeaseOffice", "carryOutInput", "()I"⟩) ∈ lw_all := lw_g (lw_at lw_ms 17 rfl) rfl
theorem qs18 : (Cond.selects "LampLeaseOffice$Parser" ⟨"LampLeaseOffice$Parser", "command", "(LLampLeaseOffice$State;I)V"⟩ ⟨"LampLeaseOffice$Parser", "command", "(LLampLeaseOffice$State;I)V"⟩) ∈ lw_all := lw_g (lw_at lw_ms 18 rfl) rfl
theorem qs19 : (Cond.selects "LampLeaseOffice$Parser" ⟨"LampLeaseOffice$Parser", "keyword", "()Ljava/lang/String;"⟩ ⟨"LampLeaseOffice$Parser", "keyword", "()Ljava/lang/String;"⟩) ∈ lw_all := lw_g (lw_at lw_ms 19 rfl) rfl
theorem qs20 : (Cond.selects "LampLeaseOffice$Parser" ⟨"LampLeaseOffice$Parser", "peek", "(I)C"⟩ ⟨"LampLeaseOffice$Parser", "peek", "(I)C"⟩) ∈ lw_all := lw_g (lw_at lw_ms 20 rfl) rfl
theorem qs21 : (Cond.selects "LampLeaseOffice$Parser" ⟨"LampLeaseOffice$Parser", "next", "(CC)C"⟩ ⟨"LampLeaseOffice$Parser", "next", "(CC)C"⟩) ∈ lw_all := lw_g (lw_at lw_ms 21 rfl) rfl
theorem qs22 : (Cond.selects "LampLeaseOffice$Parser" ⟨"LampLeaseOffice$Parser", "sees", "(CC)Z"⟩ ⟨"LampLeaseOffice$Parser", "sees", "(CC)Z"⟩) ∈ lw_all := lw_g (lw_at lw_ms 22 rfl) rfl
theorem qs23 : (Cond.selects "LampLeaseOffice$Parser" ⟨"LampLeaseOffice$Parser", "readNumbers", "(Ljava/lang/String;)V"⟩ ⟨"LampLeaseOffice$Parser", "readNumbers", "(Ljava/lang/String;)V"⟩) ∈ lw_all := lw_g (lw_at lw_ms 23 rfl) rfl
theorem qs24 : (Cond.selects "LampLeaseOffice$Parser" ⟨"LampLeaseOffice$Parser", "number", "(I)I"⟩ ⟨"LampLeaseOffice$Parser", "number", "(I)I"⟩) ∈ lw_all := lw_g (lw_at lw_ms 24 rfl) rfl
theorem qs25 : (Cond.selects "LampLeaseOffice$Parser" ⟨"LampLeaseOffice$Parser", "carryOut", "(LLampLeaseOffice$State;Ljava/lang/String;)V"⟩ ⟨"LampLeaseOffice$Parser", "carryOut", "(LLampLeaseOffice$State;Ljava/lang/String;)V"⟩) ∈ lw_all := lw_g (lw_at lw_ms 25 rfl) rfl
theorem qs26 : (Cond.selects "LampLeaseOfficeModel" ⟨"LampLeaseOfficeModel", "keep", "()V"⟩ ⟨"LampLeaseOfficeModel", "keep", "()V"⟩) ∈ lw_all := lw_g (lw_at lw_ms 26 rfl) rfl
theorem qs27 : (Cond.selects "LampLeaseOfficeModel" ⟨"LampLeaseOfficeModel", "doAddShip", "()I"⟩ ⟨"LampLeaseOfficeModel", "doAddShip", "()I"⟩) ∈ lw_all := lw_g (lw_at lw_ms 27 rfl) rfl
theorem qs28 : (Cond.selects "LampLeaseOfficeModel" ⟨"LampLeaseOfficeModel", "fails", "(I)I"⟩ ⟨"LampLeaseOfficeModel", "fails", "(I)I"⟩) ∈ lw_all := lw_g (lw_at lw_ms 28 rfl) rfl
theorem qs29 : (Cond.selects "LampLeaseOfficeModel" ⟨"LampLeaseOfficeModel", "ends", "(I)I"⟩ ⟨"LampLeaseOfficeModel", "ends", "(I)I"⟩) ∈ lw_all := lw_g (lw_at lw_ms 29 rfl) rfl
theorem qs30 : (Cond.selects "LampLeaseOfficeModel" ⟨"LampLeaseOfficeModel", "doAddLamp", "(I)I"⟩ ⟨"LampLeaseOfficeModel", "doAddLamp", "(I)I"⟩) ∈ lw_all := lw_g (lw_at lw_ms 30 rfl) rfl
theorem qs31 : (Cond.selects "LampLeaseOfficeModel" ⟨"LampLeaseOfficeModel", "sets", "(III)V"⟩ ⟨"LampLeaseOfficeModel", "sets", "(III)V"⟩) ∈ lw_all := lw_g (lw_at lw_ms 31 rfl) rfl
theorem qs32 : (Cond.selects "LampLeaseOfficeModel" ⟨"LampLeaseOfficeModel", "doAddOil", "(I)I"⟩ ⟨"LampLeaseOfficeModel", "doAddOil", "(I)I"⟩) ∈ lw_all := lw_g (lw_at lw_ms 32 rfl) rfl
theorem qs33 : (Cond.selects "LampLeaseOfficeModel" ⟨"LampLeaseOfficeModel", "doLease", "(III)I"⟩ ⟨"LampLeaseOfficeModel", "doLease", "(III)I"⟩) ∈ lw_all := lw_g (lw_at lw_ms 33 rfl) rfl
theorem qs34 : (Cond.selects "LampLeaseOfficeModel" ⟨"LampLeaseOfficeModel", "isShip", "(I)Z"⟩ ⟨"LampLeaseOfficeModel", "isShip", "(I)Z"⟩) ∈ lw_all := lw_g (lw_at lw_ms 34 rfl) rfl
theorem qs35 : (Cond.selects "LampLeaseOfficeModel" ⟨"LampLeaseOfficeModel", "isLamp", "(I)Z"⟩ ⟨"LampLeaseOfficeModel", "isLamp", "(I)Z"⟩) ∈ lw_all := lw_g (lw_at lw_ms 35 rfl) rfl
theorem qs36 : (Cond.selects "LampLeaseOfficeModel" ⟨"LampLeaseOfficeModel", "isOut", "(I)Z"⟩ ⟨"LampLeaseOfficeModel", "isOut", "(I)Z"⟩) ∈ lw_all := lw_g (lw_at lw_ms 36 rfl) rfl
theorem qs37 : (Cond.selects "LampLeaseOfficeModel" ⟨"LampLeaseOfficeModel", "of", "(II)I"⟩ ⟨"LampLeaseOfficeModel", "of", "(II)I"⟩) ∈ lw_all := lw_g (lw_at lw_ms 37 rfl) rfl
theorem qs38 : (Cond.selects "LampLeaseOfficeModel" ⟨"LampLeaseOfficeModel", "ofShip", "(II)I"⟩ ⟨"LampLeaseOfficeModel", "ofShip", "(II)I"⟩) ∈ lw_all := lw_g (lw_at lw_ms 38 rfl) rfl
theorem qs39 : (Cond.selects "LampLeaseOfficeModel" ⟨"LampLeaseOfficeModel", "pays", "(II)V"⟩ ⟨"LampLeaseOfficeModel", "pays", "(II)V"⟩) ∈ lw_all := lw_g (lw_at lw_ms 39 rfl) rfl
theorem qs40 : (Cond.selects "LampLeaseOfficeModel" ⟨"LampLeaseOfficeModel", "doRequestRenewal", "(II)I"⟩ ⟨"LampLeaseOfficeModel", "doRequestRenewal", "(II)I"⟩) ∈ lw_all := lw_g (lw_at lw_ms 40 rfl) rfl
theorem qs41 : (Cond.selects "LampLeaseOfficeModel" ⟨"LampLeaseOfficeModel", "requestFor", "(I)I"⟩ ⟨"LampLeaseOfficeModel", "requestFor", "(I)I"⟩) ∈ lw_all := lw_g (lw_at lw_ms 41 rfl) rfl
theorem qs42 : (Cond.selects "LampLeaseOfficeModel" ⟨"LampLeaseOfficeModel", "doGiveUp", "(I)I"⟩ ⟨"LampLeaseOfficeModel", "doGiveUp", "(I)I"⟩) ∈ lw_all := lw_g (lw_at lw_ms 42 rfl) rfl
theorem qs43 : (Cond.selects "LampLeaseOfficeModel" ⟨"LampLeaseOfficeModel", "frees", "(I)V"⟩ ⟨"LampLeaseOfficeModel", "frees", "(I)V"⟩) ∈ lw_all := lw_g (lw_at lw_ms 43 rfl) rfl
theorem qs44 : (Cond.selects "LampLeaseOfficeModel" ⟨"LampLeaseOfficeModel", "doPassHours", "(I)I"⟩ ⟨"LampLeaseOfficeModel", "doPassHours", "(I)I"⟩) ∈ lw_all := lw_g (lw_at lw_ms 44 rfl) rfl
theorem qs45 : (Cond.selects "LampLeaseOfficeModel" ⟨"LampLeaseOfficeModel", "renews", "()V"⟩ ⟨"LampLeaseOfficeModel", "renews", "()V"⟩) ∈ lw_all := lw_g (lw_at lw_ms 45 rfl) rfl
theorem qs46 : (Cond.selects "LampLeaseOfficeModel" ⟨"LampLeaseOfficeModel", "burns", "()I"⟩ ⟨"LampLeaseOfficeModel", "burns", "()I"⟩) ∈ lw_all := lw_g (lw_at lw_ms 46 rfl) rfl
theorem qs47 : (Cond.selects "LampLeaseOfficeModel" ⟨"LampLeaseOfficeModel", "fines", "()V"⟩ ⟨"LampLeaseOfficeModel", "fines", "()V"⟩) ∈ lw_all := lw_g (lw_at lw_ms 47 rfl) rfl
theorem qs48 : (Cond.selects "LampLeaseOfficeModel" ⟨"LampLeaseOfficeModel", "lampsOf", "(IZ)I"⟩ ⟨"LampLeaseOfficeModel", "lampsOf", "(IZ)I"⟩) ∈ lw_all := lw_g (lw_at lw_ms 48 rfl) rfl
theorem qs49 : (Cond.selects "LampLeaseOfficeModel" ⟨"LampLeaseOfficeModel", "endsLeases", "()I"⟩ ⟨"LampLeaseOfficeModel", "endsLeases", "()I"⟩) ∈ lw_all := lw_g (lw_at lw_ms 49 rfl) rfl
theorem qs50 : (Cond.selects "LampLeaseOfficeModel" ⟨"LampLeaseOfficeModel", "isThere", "(Z)Z"⟩ ⟨"LampLeaseOfficeModel", "isThere", "(Z)Z"⟩) ∈ lw_all := lw_g (lw_at lw_ms 50 rfl) rfl
theorem qs51 : (Cond.selects "LampLeaseOfficeModel" ⟨"LampLeaseOfficeModel", "wants", "(I)I"⟩ ⟨"LampLeaseOfficeModel", "wants", "(I)I"⟩) ∈ lw_all := lw_g (lw_at lw_ms 51 rfl) rfl
theorem qs52 : (Cond.selects "LampLeaseOfficeModel" ⟨"LampLeaseOfficeModel", "leased", "()I"⟩ ⟨"LampLeaseOfficeModel", "leased", "()I"⟩) ∈ lw_all := lw_g (lw_at lw_ms 52 rfl) rfl
theorem qs53 : (Cond.selects "LampLeaseOfficeModel" ⟨"LampLeaseOfficeModel", "needed", "()I"⟩ ⟨"LampLeaseOfficeModel", "needed", "()I"⟩) ∈ lw_all := lw_g (lw_at lw_ms 53 rfl) rfl
theorem qs54 : (Cond.selects "LampLeaseOfficeModel" ⟨"LampLeaseOfficeModel", "partOf", "(I)I"⟩ ⟨"LampLeaseOfficeModel", "partOf", "(I)I"⟩) ∈ lw_all := lw_g (lw_at lw_ms 54 rfl) rfl
theorem qs55 : (Cond.selects "LampLeaseOfficeModel" ⟨"LampLeaseOfficeModel", "isRequest", "(I)Z"⟩ ⟨"LampLeaseOfficeModel", "isRequest", "(I)Z"⟩) ∈ lw_all := lw_g (lw_at lw_ms 55 rfl) rfl
theorem qs56 : (Cond.selects "LampLeaseOfficeModel" ⟨"LampLeaseOfficeModel", "says", "(C)V"⟩ ⟨"LampLeaseOfficeModel", "says", "(C)V"⟩) ∈ lw_all := lw_g (lw_at lw_ms 56 rfl) rfl
theorem qs57 : (Cond.selects "LampLeaseOfficeModel" ⟨"LampLeaseOfficeModel", "saysNumber", "(I)V"⟩ ⟨"LampLeaseOfficeModel", "saysNumber", "(I)V"⟩) ∈ lw_all := lw_g (lw_at lw_ms 57 rfl) rfl
theorem qs58 : (Cond.selects "LampLeaseOfficeModel" ⟨"LampLeaseOfficeModel", "readCommand", "()V"⟩ ⟨"LampLeaseOfficeModel", "readCommand", "()V"⟩) ∈ lw_all := lw_g (lw_at lw_ms 58 rfl) rfl
theorem qs59 : (Cond.selects "LampLeaseOfficeModel" ⟨"LampLeaseOfficeModel", "behind", "(I)I"⟩ ⟨"LampLeaseOfficeModel", "behind", "(I)I"⟩) ∈ lw_all := lw_g (lw_at lw_ms 59 rfl) rfl
theorem qs60 : (Cond.selects "LampLeaseOfficeModel" ⟨"LampLeaseOfficeModel", "skip", "(Ljava/lang/String;)V"⟩ ⟨"LampLeaseOfficeModel", "skip", "(Ljava/lang/String;)V"⟩) ∈ lw_all := lw_g (lw_at lw_ms 60 rfl) rfl
theorem qs61 : (Cond.selects "LampLeaseOfficeModel" ⟨"LampLeaseOfficeModel", "readNumber", "(I)I"⟩ ⟨"LampLeaseOfficeModel", "readNumber", "(I)I"⟩) ∈ lw_all := lw_g (lw_at lw_ms 61 rfl) rfl
theorem qs62 : (Cond.selects "LampLeaseOfficeModel" ⟨"LampLeaseOfficeModel", "isDigit", "()Z"⟩ ⟨"LampLeaseOfficeModel", "isDigit", "()Z"⟩) ∈ lw_all := lw_g (lw_at lw_ms 62 rfl) rfl
theorem qs63 : (Cond.selects "LampLeaseOfficeModel" ⟨"LampLeaseOfficeModel", "does", "(I)Ljava/lang/String;"⟩ ⟨"LampLeaseOfficeModel", "does", "(I)Ljava/lang/String;"⟩) ∈ lw_all := lw_g (lw_at lw_ms 63 rfl) rfl

