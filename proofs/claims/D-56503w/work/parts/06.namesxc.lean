/-! LendlatheLaw -/
set_option maxRecDepth 100000
def RX0 : String := "LendlatheLaw"
abbrev cX0_addMachine : ByteArray := method_3_code
def yX0_addMachine : MethodName := ⟨RX0, "addMachine", "(LLendlathe;II[J)I"⟩
def dkwX0_addMachine_0 : List UInt8 := [45, 3, 42, 27, 28, 182, 0, 7, 133, 80, 167, 0, 11, 58, 4, 4, 172, 58, 4, 5, 172, 3, 172]
abbrev dktX0_addMachine_0 : List UInt8 := dkwX0_addMachine_0 ++ []
theorem dksX0_addMachine_0 : cX0_addMachine.data.toList.drop 0 = dktX0_addMachine_0 := by decide +kernel
theorem dX0_addMachine_0 : decode cX0_addMachine 0 = .ok (.aload_n 3, 1) := dk_45 (dk_at dksX0_addMachine_0 0 rfl rfl)
theorem dX0_addMachine_1 : decode cX0_addMachine 1 = .ok (.iconst 0, 1) := dk_3 (dk_at dksX0_addMachine_0 1 rfl rfl)
theorem dX0_addMachine_2 : decode cX0_addMachine 2 = .ok (.aload_n 0, 1) := dk_42 (dk_at dksX0_addMachine_0 2 rfl rfl)
theorem dX0_addMachine_3 : decode cX0_addMachine 3 = .ok (.iload_n 1, 1) := dk_27 (dk_at dksX0_addMachine_0 3 rfl rfl)
theorem dX0_addMachine_4 : decode cX0_addMachine 4 = .ok (.iload_n 2, 1) := dk_28 (dk_at dksX0_addMachine_0 4 rfl rfl)
theorem dX0_addMachine_5 : decode cX0_addMachine 5 = .ok (.invokevirtual 7, 3) := dk_182 0 7 (dk_at dksX0_addMachine_0 5 rfl rfl)
theorem dX0_addMachine_8 : decode cX0_addMachine 8 = .ok (.i2l, 1) := dk_133 (dk_at dksX0_addMachine_0 8 rfl rfl)
theorem dX0_addMachine_9 : decode cX0_addMachine 9 = .ok (.lastore, 1) := dk_80 (dk_at dksX0_addMachine_0 9 rfl rfl)
theorem dX0_addMachine_10 : decode cX0_addMachine 10 = .ok (.goto 11, 3) := dk_167 0 11 (dk_at dksX0_addMachine_0 10 rfl rfl)
theorem dX0_addMachine_13 : decode cX0_addMachine 13 = .ok (.astore 4, 2) := dk_58 4 (dk_at dksX0_addMachine_0 13 rfl rfl)
theorem dX0_addMachine_15 : decode cX0_addMachine 15 = .ok (.iconst 1, 1) := dk_4 (dk_at dksX0_addMachine_0 15 rfl rfl)
theorem dX0_addMachine_16 : decode cX0_addMachine 16 = .ok (.ireturn, 1) := dk_172 (dk_at dksX0_addMachine_0 16 rfl rfl)
theorem dX0_addMachine_17 : decode cX0_addMachine 17 = .ok (.astore 4, 2) := dk_58 4 (dk_at dksX0_addMachine_0 17 rfl rfl)
theorem dX0_addMachine_19 : decode cX0_addMachine 19 = .ok (.iconst 2, 1) := dk_5 (dk_at dksX0_addMachine_0 19 rfl rfl)
theorem dX0_addMachine_20 : decode cX0_addMachine 20 = .ok (.ireturn, 1) := dk_172 (dk_at dksX0_addMachine_0 20 rfl rfl)
theorem dX0_addMachine_21 : decode cX0_addMachine 21 = .ok (.iconst 0, 1) := dk_3 (dk_at dksX0_addMachine_0 21 rfl rfl)
theorem dX0_addMachine_22 : decode cX0_addMachine 22 = .ok (.ireturn, 1) := dk_172 (dk_at dksX0_addMachine_0 22 rfl rfl)
abbrev cX0_addMember : ByteArray := method_4_code
def yX0_addMember : MethodName := ⟨RX0, "addMember", "(LLendlathe;[J)I"⟩
def dkwX0_addMember_0 : List UInt8 := [43, 3, 42, 182, 0, 17, 133, 80, 167, 0, 6, 77, 4, 172, 3, 172]
abbrev dktX0_addMember_0 : List UInt8 := dkwX0_addMember_0 ++ []
theorem dksX0_addMember_0 : cX0_addMember.data.toList.drop 0 = dktX0_addMember_0 := by decide +kernel
theorem dX0_addMember_0 : decode cX0_addMember 0 = .ok (.aload_n 1, 1) := dk_43 (dk_at dksX0_addMember_0 0 rfl rfl)
theorem dX0_addMember_1 : decode cX0_addMember 1 = .ok (.iconst 0, 1) := dk_3 (dk_at dksX0_addMember_0 1 rfl rfl)
theorem dX0_addMember_2 : decode cX0_addMember 2 = .ok (.aload_n 0, 1) := dk_42 (dk_at dksX0_addMember_0 2 rfl rfl)
theorem dX0_addMember_3 : decode cX0_addMember 3 = .ok (.invokevirtual 17, 3) := dk_182 0 17 (dk_at dksX0_addMember_0 3 rfl rfl)
theorem dX0_addMember_6 : decode cX0_addMember 6 = .ok (.i2l, 1) := dk_133 (dk_at dksX0_addMember_0 6 rfl rfl)
theorem dX0_addMember_7 : decode cX0_addMember 7 = .ok (.lastore, 1) := dk_80 (dk_at dksX0_addMember_0 7 rfl rfl)
theorem dX0_addMember_8 : decode cX0_addMember 8 = .ok (.goto 6, 3) := dk_167 0 6 (dk_at dksX0_addMember_0 8 rfl rfl)
theorem dX0_addMember_11 : decode cX0_addMember 11 = .ok (.astore_n 2, 1) := dk_77 (dk_at dksX0_addMember_0 11 rfl rfl)
theorem dX0_addMember_12 : decode cX0_addMember 12 = .ok (.iconst 1, 1) := dk_4 (dk_at dksX0_addMember_0 12 rfl rfl)
theorem dX0_addMember_13 : decode cX0_addMember 13 = .ok (.ireturn, 1) := dk_172 (dk_at dksX0_addMember_0 13 rfl rfl)
theorem dX0_addMember_14 : decode cX0_addMember 14 = .ok (.iconst 0, 1) := dk_3 (dk_at dksX0_addMember_0 14 rfl rfl)
theorem dX0_addMember_15 : decode cX0_addMember 15 = .ok (.ireturn, 1) := dk_172 (dk_at dksX0_addMember_0 15 rfl rfl)
abbrev cX0_addNeed : ByteArray := method_5_code
def yX0_addNeed : MethodName := ⟨RX0, "addNeed", "(LLendlathe;II[J)I"⟩
def dkwX0_addNeed_1 : List UInt8 := [58, 4, 5, 172, 3, 172]
abbrev dktX0_addNeed_1 : List UInt8 := dkwX0_addNeed_1 ++ []
def dkwX0_addNeed_0 : List UInt8 := [45, 3, 42, 27, 28, 182, 0, 21, 153, 0, 7, 10, 167, 0, 4, 9, 80, 167, 0, 11, 58, 4, 4, 172]
abbrev dktX0_addNeed_0 : List UInt8 := dkwX0_addNeed_0 ++ dktX0_addNeed_1
theorem dksX0_addNeed_0 : cX0_addNeed.data.toList.drop 0 = dktX0_addNeed_0 := by decide +kernel
theorem dksX0_addNeed_1 : cX0_addNeed.data.toList.drop 24 = dktX0_addNeed_1 := dk_seg dksX0_addNeed_0 24 rfl rfl
theorem dX0_addNeed_0 : decode cX0_addNeed 0 = .ok (.aload_n 3, 1) := dk_45 (dk_at dksX0_addNeed_0 0 rfl rfl)
theorem dX0_addNeed_1 : decode cX0_addNeed 1 = .ok (.iconst 0, 1) := dk_3 (dk_at dksX0_addNeed_0 1 rfl rfl)
theorem dX0_addNeed_2 : decode cX0_addNeed 2 = .ok (.aload_n 0, 1) := dk_42 (dk_at dksX0_addNeed_0 2 rfl rfl)
theorem dX0_addNeed_3 : decode cX0_addNeed 3 = .ok (.iload_n 1, 1) := dk_27 (dk_at dksX0_addNeed_0 3 rfl rfl)
theorem dX0_addNeed_4 : decode cX0_addNeed 4 = .ok (.iload_n 2, 1) := dk_28 (dk_at dksX0_addNeed_0 4 rfl rfl)
theorem dX0_addNeed_5 : decode cX0_addNeed 5 = .ok (.invokevirtual 21, 3) := dk_182 0 21 (dk_at dksX0_addNeed_0 5 rfl rfl)
theorem dX0_addNeed_8 : decode cX0_addNeed 8 = .ok (.ifCond .eq 7, 3) := dk_153 0 7 (dk_at dksX0_addNeed_0 8 rfl rfl)
theorem dX0_addNeed_11 : decode cX0_addNeed 11 = .ok (.lconst 1, 1) := dk_10 (dk_at dksX0_addNeed_0 11 rfl rfl)
theorem dX0_addNeed_12 : decode cX0_addNeed 12 = .ok (.goto 4, 3) := dk_167 0 4 (dk_at dksX0_addNeed_0 12 rfl rfl)
theorem dX0_addNeed_15 : decode cX0_addNeed 15 = .ok (.lconst 0, 1) := dk_9 (dk_at dksX0_addNeed_0 15 rfl rfl)
theorem dX0_addNeed_16 : decode cX0_addNeed 16 = .ok (.lastore, 1) := dk_80 (dk_at dksX0_addNeed_0 16 rfl rfl)
theorem dX0_addNeed_17 : decode cX0_addNeed 17 = .ok (.goto 11, 3) := dk_167 0 11 (dk_at dksX0_addNeed_0 17 rfl rfl)
theorem dX0_addNeed_20 : decode cX0_addNeed 20 = .ok (.astore 4, 2) := dk_58 4 (dk_at dksX0_addNeed_0 20 rfl rfl)
theorem dX0_addNeed_22 : decode cX0_addNeed 22 = .ok (.iconst 1, 1) := dk_4 (dk_at dksX0_addNeed_0 22 rfl rfl)
theorem dX0_addNeed_23 : decode cX0_addNeed 23 = .ok (.ireturn, 1) := dk_172 (dk_at dksX0_addNeed_0 23 rfl rfl)
theorem dX0_addNeed_24 : decode cX0_addNeed 24 = .ok (.astore 4, 2) := dk_58 4 (dk_at dksX0_addNeed_1 0 rfl rfl)
theorem dX0_addNeed_26 : decode cX0_addNeed 26 = .ok (.iconst 2, 1) := dk_5 (dk_at dksX0_addNeed_1 2 rfl rfl)
theorem dX0_addNeed_27 : decode cX0_addNeed 27 = .ok (.ireturn, 1) := dk_172 (dk_at dksX0_addNeed_1 3 rfl rfl)
theorem dX0_addNeed_28 : decode cX0_addNeed 28 = .ok (.iconst 0, 1) := dk_3 (dk_at dksX0_addNeed_1 4 rfl rfl)
theorem dX0_addNeed_29 : decode cX0_addNeed 29 = .ok (.ireturn, 1) := dk_172 (dk_at dksX0_addNeed_1 5 rfl rfl)
abbrev cX0_induct : ByteArray := method_6_code
def yX0_induct : MethodName := ⟨RX0, "induct", "(LLendlathe;II[J)I"⟩
def dkwX0_induct_1 : List UInt8 := [172, 3, 172]
abbrev dktX0_induct_1 : List UInt8 := dkwX0_induct_1 ++ []
def dkwX0_induct_0 : List UInt8 := [45, 3, 42, 27, 28, 182, 0, 25, 133, 80, 167, 0, 15, 58, 4, 4, 172, 58, 4, 5, 172, 58, 4, 6]
abbrev dktX0_induct_0 : List UInt8 := dkwX0_induct_0 ++ dktX0_induct_1
theorem dksX0_induct_0 : cX0_induct.data.toList.drop 0 = dktX0_induct_0 := by decide +kernel
theorem dksX0_induct_1 : cX0_induct.data.toList.drop 24 = dktX0_induct_1 := dk_seg dksX0_induct_0 24 rfl rfl
theorem dX0_induct_0 : decode cX0_induct 0 = .ok (.aload_n 3, 1) := dk_45 (dk_at dksX0_induct_0 0 rfl rfl)
theorem dX0_induct_1 : decode cX0_induct 1 = .ok (.iconst 0, 1) := dk_3 (dk_at dksX0_induct_0 1 rfl rfl)
theorem dX0_induct_2 : decode cX0_induct 2 = .ok (.aload_n 0, 1) := dk_42 (dk_at dksX0_induct_0 2 rfl rfl)
theorem dX0_induct_3 : decode cX0_induct 3 = .ok (.iload_n 1, 1) := dk_27 (dk_at dksX0_induct_0 3 rfl rfl)
theorem dX0_induct_4 : decode cX0_induct 4 = .ok (.iload_n 2, 1) := dk_28 (dk_at dksX0_induct_0 4 rfl rfl)
theorem dX0_induct_5 : decode cX0_induct 5 = .ok (.invokevirtual 25, 3) := dk_182 0 25 (dk_at dksX0_induct_0 5 rfl rfl)
theorem dX0_induct_8 : decode cX0_induct 8 = .ok (.i2l, 1) := dk_133 (dk_at dksX0_induct_0 8 rfl rfl)
theorem dX0_induct_9 : decode cX0_induct 9 = .ok (.lastore, 1) := dk_80 (dk_at dksX0_induct_0 9 rfl rfl)
theorem dX0_induct_10 : decode cX0_induct 10 = .ok (.goto 15, 3) := dk_167 0 15 (dk_at dksX0_induct_0 10 rfl rfl)
theorem dX0_induct_13 : decode cX0_induct 13 = .ok (.astore 4, 2) := dk_58 4 (dk_at dksX0_induct_0 13 rfl rfl)
theorem dX0_induct_15 : decode cX0_induct 15 = .ok (.iconst 1, 1) := dk_4 (dk_at dksX0_induct_0 15 rfl rfl)
theorem dX0_induct_16 : decode cX0_induct 16 = .ok (.ireturn, 1) := dk_172 (dk_at dksX0_induct_0 16 rfl rfl)
theorem dX0_induct_17 : decode cX0_induct 17 = .ok (.astore 4, 2) := dk_58 4 (dk_at dksX0_induct_0 17 rfl rfl)
theorem dX0_induct_19 : decode cX0_induct 19 = .ok (.iconst 2, 1) := dk_5 (dk_at dksX0_induct_0 19 rfl rfl)
theorem dX0_induct_20 : decode cX0_induct 20 = .ok (.ireturn, 1) := dk_172 (dk_at dksX0_induct_0 20 rfl rfl)
theorem dX0_induct_21 : decode cX0_induct 21 = .ok (.astore 4, 2) := dk_58 4 (dk_at dksX0_induct_0 21 rfl rfl)
theorem dX0_induct_23 : decode cX0_induct 23 = .ok (.iconst 3, 1) := dk_6 (dk_at dksX0_induct_0 23 rfl rfl)
theorem dX0_induct_24 : decode cX0_induct 24 = .ok (.ireturn, 1) := dk_172 (dk_at dksX0_induct_1 0 rfl rfl)
theorem dX0_induct_25 : decode cX0_induct 25 = .ok (.iconst 0, 1) := dk_3 (dk_at dksX0_induct_1 1 rfl rfl)
theorem dX0_induct_26 : decode cX0_induct 26 = .ok (.ireturn, 1) := dk_172 (dk_at dksX0_induct_1 2 rfl rfl)
abbrev cX0_isLive : ByteArray := method_7_code
def yX0_isLive : MethodName := ⟨RX0, "isLive", "(LLendlathe;III[J)I"⟩
def dkwX0_isLive_1 : List UInt8 := [4, 172, 58, 5, 5, 172, 3, 172]
abbrev dktX0_isLive_1 : List UInt8 := dkwX0_isLive_1 ++ []
def dkwX0_isLive_0 : List UInt8 := [25, 4, 3, 42, 27, 28, 29, 182, 0, 32, 153, 0, 7, 10, 167, 0, 4, 9, 80, 167, 0, 11, 58, 5]
abbrev dktX0_isLive_0 : List UInt8 := dkwX0_isLive_0 ++ dktX0_isLive_1
theorem dksX0_isLive_0 : cX0_isLive.data.toList.drop 0 = dktX0_isLive_0 := by decide +kernel
theorem dksX0_isLive_1 : cX0_isLive.data.toList.drop 24 = dktX0_isLive_1 := dk_seg dksX0_isLive_0 24 rfl rfl
theorem dX0_isLive_0 : decode cX0_isLive 0 = .ok (.aload 4, 2) := dk_25 4 (dk_at dksX0_isLive_0 0 rfl rfl)
theorem dX0_isLive_2 : decode cX0_isLive 2 = .ok (.iconst 0, 1) := dk_3 (dk_at dksX0_isLive_0 2 rfl rfl)
theorem dX0_isLive_3 : decode cX0_isLive 3 = .ok (.aload_n 0, 1) := dk_42 (dk_at dksX0_isLive_0 3 rfl rfl)
theorem dX0_isLive_4 : decode cX0_isLive 4 = .ok (.iload_n 1, 1) := dk_27 (dk_at dksX0_isLive_0 4 rfl rfl)
theorem dX0_isLive_5 : decode cX0_isLive 5 = .ok (.iload_n 2, 1) := dk_28 (dk_at dksX0_isLive_0 5 rfl rfl)
theorem dX0_isLive_6 : decode cX0_isLive 6 = .ok (.iload_n 3, 1) := dk_29 (dk_at dksX0_isLive_0 6 rfl rfl)
theorem dX0_isLive_7 : decode cX0_isLive 7 = .ok (.invokevirtual 32, 3) := dk_182 0 32 (dk_at dksX0_isLive_0 7 rfl rfl)
theorem dX0_isLive_10 : decode cX0_isLive 10 = .ok (.ifCond .eq 7, 3) := dk_153 0 7 (dk_at dksX0_isLive_0 10 rfl rfl)
theorem dX0_isLive_13 : decode cX0_isLive 13 = .ok (.lconst 1, 1) := dk_10 (dk_at dksX0_isLive_0 13 rfl rfl)
theorem dX0_isLive_14 : decode cX0_isLive 14 = .ok (.goto 4, 3) := dk_167 0 4 (dk_at dksX0_isLive_0 14 rfl rfl)
theorem dX0_isLive_17 : decode cX0_isLive 17 = .ok (.lconst 0, 1) := dk_9 (dk_at dksX0_isLive_0 17 rfl rfl)
theorem dX0_isLive_18 : decode cX0_isLive 18 = .ok (.lastore, 1) := dk_80 (dk_at dksX0_isLive_0 18 rfl rfl)
theorem dX0_isLive_19 : decode cX0_isLive 19 = .ok (.goto 11, 3) := dk_167 0 11 (dk_at dksX0_isLive_0 19 rfl rfl)
theorem dX0_isLive_22 : decode cX0_isLive 22 = .ok (.astore 5, 2) := dk_58 5 (dk_at dksX0_isLive_0 22 rfl rfl)
theorem dX0_isLive_24 : decode cX0_isLive 24 = .ok (.iconst 1, 1) := dk_4 (dk_at dksX0_isLive_1 0 rfl rfl)
theorem dX0_isLive_25 : decode cX0_isLive 25 = .ok (.ireturn, 1) := dk_172 (dk_at dksX0_isLive_1 1 rfl rfl)
theorem dX0_isLive_26 : decode cX0_isLive 26 = .ok (.astore 5, 2) := dk_58 5 (dk_at dksX0_isLive_1 2 rfl rfl)
theorem dX0_isLive_28 : decode cX0_isLive 28 = .ok (.iconst 2, 1) := dk_5 (dk_at dksX0_isLive_1 4 rfl rfl)
theorem dX0_isLive_29 : decode cX0_isLive 29 = .ok (.ireturn, 1) := dk_172 (dk_at dksX0_isLive_1 5 rfl rfl)
theorem dX0_isLive_30 : decode cX0_isLive 30 = .ok (.iconst 0, 1) := dk_3 (dk_at dksX0_isLive_1 6 rfl rfl)
theorem dX0_isLive_31 : decode cX0_isLive 31 = .ok (.ireturn, 1) := dk_172 (dk_at dksX0_isLive_1 7 rfl rfl)
abbrev cX0_book : ByteArray := method_8_code
def yX0_book : MethodName := ⟨RX0, "book", "(LLendlathe;IIIIIC[J)I"⟩
def dkwX0_book_1 : List UInt8 := [172, 58, 8, 5, 172, 58, 8, 6, 172, 58, 8, 7, 172, 58, 8, 8, 172, 58, 8, 16, 6, 172, 3, 172]
abbrev dktX0_book_1 : List UInt8 := dkwX0_book_1 ++ []
def dkwX0_book_0 : List UInt8 := [25, 7, 3, 42, 27, 28, 29, 21, 4, 21, 5, 21, 6, 182, 0, 36, 133, 80, 167, 0, 28, 58, 8, 4]
abbrev dktX0_book_0 : List UInt8 := dkwX0_book_0 ++ dktX0_book_1
theorem dksX0_book_0 : cX0_book.data.toList.drop 0 = dktX0_book_0 := by decide +kernel
theorem dksX0_book_1 : cX0_book.data.toList.drop 24 = dktX0_book_1 := dk_seg dksX0_book_0 24 rfl rfl
theorem dX0_book_0 : decode cX0_book 0 = .ok (.aload 7, 2) := dk_25 7 (dk_at dksX0_book_0 0 rfl rfl)
theorem dX0_book_2 : decode cX0_book 2 = .ok (.iconst 0, 1) := dk_3 (dk_at dksX0_book_0 2 rfl rfl)
theorem dX0_book_3 : decode cX0_book 3 = .ok (.aload_n 0, 1) := dk_42 (dk_at dksX0_book_0 3 rfl rfl)
theorem dX0_book_4 : decode cX0_book 4 = .ok (.iload_n 1, 1) := dk_27 (dk_at dksX0_book_0 4 rfl rfl)
theorem dX0_book_5 : decode cX0_book 5 = .ok (.iload_n 2, 1) := dk_28 (dk_at dksX0_book_0 5 rfl rfl)
theorem dX0_book_6 : decode cX0_book 6 = .ok (.iload_n 3, 1) := dk_29 (dk_at dksX0_book_0 6 rfl rfl)
theorem dX0_book_7 : decode cX0_book 7 = .ok (.iload 4, 2) := dk_21 4 (dk_at dksX0_book_0 7 rfl rfl)
theorem dX0_book_9 : decode cX0_book 9 = .ok (.iload 5, 2) := dk_21 5 (dk_at dksX0_book_0 9 rfl rfl)
theorem dX0_book_11 : decode cX0_book 11 = .ok (.iload 6, 2) := dk_21 6 (dk_at dksX0_book_0 11 rfl rfl)
theorem dX0_book_13 : decode cX0_book 13 = .ok (.invokevirtual 36, 3) := dk_182 0 36 (dk_at dksX0_book_0 13 rfl rfl)
theorem dX0_book_16 : decode cX0_book 16 = .ok (.i2l, 1) := dk_133 (dk_at dksX0_book_0 16 rfl rfl)
theorem dX0_book_17 : decode cX0_book 17 = .ok (.lastore, 1) := dk_80 (dk_at dksX0_book_0 17 rfl rfl)
theorem dX0_book_18 : decode cX0_book 18 = .ok (.goto 28, 3) := dk_167 0 28 (dk_at dksX0_book_0 18 rfl rfl)
theorem dX0_book_21 : decode cX0_book 21 = .ok (.astore 8, 2) := dk_58 8 (dk_at dksX0_book_0 21 rfl rfl)
theorem dX0_book_23 : decode cX0_book 23 = .ok (.iconst 1, 1) := dk_4 (dk_at dksX0_book_0 23 rfl rfl)
theorem dX0_book_24 : decode cX0_book 24 = .ok (.ireturn, 1) := dk_172 (dk_at dksX0_book_1 0 rfl rfl)
theorem dX0_book_25 : decode cX0_book 25 = .ok (.astore 8, 2) := dk_58 8 (dk_at dksX0_book_1 1 rfl rfl)
theorem dX0_book_27 : decode cX0_book 27 = .ok (.iconst 2, 1) := dk_5 (dk_at dksX0_book_1 3 rfl rfl)
theorem dX0_book_28 : decode cX0_book 28 = .ok (.ireturn, 1) := dk_172 (dk_at dksX0_book_1 4 rfl rfl)
theorem dX0_book_29 : decode cX0_book 29 = .ok (.astore 8, 2) := dk_58 8 (dk_at dksX0_book_1 5 rfl rfl)
theorem dX0_book_31 : decode cX0_book 31 = .ok (.iconst 3, 1) := dk_6 (dk_at dksX0_book_1 7 rfl rfl)
theorem dX0_book_32 : decode cX0_book 32 = .ok (.ireturn, 1) := dk_172 (dk_at dksX0_book_1 8 rfl rfl)
theorem dX0_book_33 : decode cX0_book 33 = .ok (.astore 8, 2) := dk_58 8 (dk_at dksX0_book_1 9 rfl rfl)
theorem dX0_book_35 : decode cX0_book 35 = .ok (.iconst 4, 1) := dk_7 (dk_at dksX0_book_1 11 rfl rfl)
theorem dX0_book_36 : decode cX0_book 36 = .ok (.ireturn, 1) := dk_172 (dk_at dksX0_book_1 12 rfl rfl)
theorem dX0_book_37 : decode cX0_book 37 = .ok (.astore 8, 2) := dk_58 8 (dk_at dksX0_book_1 13 rfl rfl)
theorem dX0_book_39 : decode cX0_book 39 = .ok (.iconst 5, 1) := dk_8 (dk_at dksX0_book_1 15 rfl rfl)
theorem dX0_book_40 : decode cX0_book 40 = .ok (.ireturn, 1) := dk_172 (dk_at dksX0_book_1 16 rfl rfl)
theorem dX0_book_41 : decode cX0_book 41 = .ok (.astore 8, 2) := dk_58 8 (dk_at dksX0_book_1 17 rfl rfl)
theorem dX0_book_43 : decode cX0_book 43 = .ok (.bipush 6, 2) := dk_16 6 (dk_at dksX0_book_1 19 rfl rfl)
theorem dX0_book_45 : decode cX0_book 45 = .ok (.ireturn, 1) := dk_172 (dk_at dksX0_book_1 21 rfl rfl)
theorem dX0_book_46 : decode cX0_book 46 = .ok (.iconst 0, 1) := dk_3 (dk_at dksX0_book_1 22 rfl rfl)
theorem dX0_book_47 : decode cX0_book 47 = .ok (.ireturn, 1) := dk_172 (dk_at dksX0_book_1 23 rfl rfl)
abbrev cX0_await : ByteArray := method_9_code
def yX0_await : MethodName := ⟨RX0, "await", "(LLendlathe;IIIIIC[J)I"⟩
def dkwX0_await_1 : List UInt8 := [172, 58, 8, 5, 172, 58, 8, 6, 172, 58, 8, 7, 172, 3, 172]
abbrev dktX0_await_1 : List UInt8 := dkwX0_await_1 ++ []
def dkwX0_await_0 : List UInt8 := [25, 7, 3, 42, 27, 28, 29, 21, 4, 21, 5, 21, 6, 182, 0, 44, 133, 80, 167, 0, 19, 58, 8, 4]
abbrev dktX0_await_0 : List UInt8 := dkwX0_await_0 ++ dktX0_await_1
theorem dksX0_await_0 : cX0_await.data.toList.drop 0 = dktX0_await_0 := by decide +kernel
theorem dksX0_await_1 : cX0_await.data.toList.drop 24 = dktX0_await_1 := dk_seg dksX0_await_0 24 rfl rfl
theorem dX0_await_0 : decode cX0_await 0 = .ok (.aload 7, 2) := dk_25 7 (dk_at dksX0_await_0 0 rfl rfl)
theorem dX0_await_2 : decode cX0_await 2 = .ok (.iconst 0, 1) := dk_3 (dk_at dksX0_await_0 2 rfl rfl)
theorem dX0_await_3 : decode cX0_await 3 = .ok (.aload_n 0, 1) := dk_42 (dk_at dksX0_await_0 3 rfl rfl)
theorem dX0_await_4 : decode cX0_await 4 = .ok (.iload_n 1, 1) := dk_27 (dk_at dksX0_await_0 4 rfl rfl)
theorem dX0_await_5 : decode cX0_await 5 = .ok (.iload_n 2, 1) := dk_28 (dk_at dksX0_await_0 5 rfl rfl)
theorem dX0_await_6 : decode cX0_await 6 = .ok (.iload_n 3, 1) := dk_29 (dk_at dksX0_await_0 6 rfl rfl)
theorem dX0_await_7 : decode cX0_await 7 = .ok (.iload 4, 2) := dk_21 4 (dk_at dksX0_await_0 7 rfl rfl)
theorem dX0_await_9 : decode cX0_await 9 = .ok (.iload 5, 2) := dk_21 5 (dk_at dksX0_await_0 9 rfl rfl)
theorem dX0_await_11 : decode cX0_await 11 = .ok (.iload 6, 2) := dk_21 6 (dk_at dksX0_await_0 11 rfl rfl)
theorem dX0_await_13 : decode cX0_await 13 = .ok (.invokevirtual 44, 3) := dk_182 0 44 (dk_at dksX0_await_0 13 rfl rfl)
theorem dX0_await_16 : decode cX0_await 16 = .ok (.i2l, 1) := dk_133 (dk_at dksX0_await_0 16 rfl rfl)
theorem dX0_await_17 : decode cX0_await 17 = .ok (.lastore, 1) := dk_80 (dk_at dksX0_await_0 17 rfl rfl)
theorem dX0_await_18 : decode cX0_await 18 = .ok (.goto 19, 3) := dk_167 0 19 (dk_at dksX0_await_0 18 rfl rfl)
theorem dX0_await_21 : decode cX0_await 21 = .ok (.astore 8, 2) := dk_58 8 (dk_at dksX0_await_0 21 rfl rfl)
theorem dX0_await_23 : decode cX0_await 23 = .ok (.iconst 1, 1) := dk_4 (dk_at dksX0_await_0 23 rfl rfl)
theorem dX0_await_24 : decode cX0_await 24 = .ok (.ireturn, 1) := dk_172 (dk_at dksX0_await_1 0 rfl rfl)
theorem dX0_await_25 : decode cX0_await 25 = .ok (.astore 8, 2) := dk_58 8 (dk_at dksX0_await_1 1 rfl rfl)
theorem dX0_await_27 : decode cX0_await 27 = .ok (.iconst 2, 1) := dk_5 (dk_at dksX0_await_1 3 rfl rfl)
theorem dX0_await_28 : decode cX0_await 28 = .ok (.ireturn, 1) := dk_172 (dk_at dksX0_await_1 4 rfl rfl)
theorem dX0_await_29 : decode cX0_await 29 = .ok (.astore 8, 2) := dk_58 8 (dk_at dksX0_await_1 5 rfl rfl)
theorem dX0_await_31 : decode cX0_await 31 = .ok (.iconst 3, 1) := dk_6 (dk_at dksX0_await_1 7 rfl rfl)
theorem dX0_await_32 : decode cX0_await 32 = .ok (.ireturn, 1) := dk_172 (dk_at dksX0_await_1 8 rfl rfl)
theorem dX0_await_33 : decode cX0_await 33 = .ok (.astore 8, 2) := dk_58 8 (dk_at dksX0_await_1 9 rfl rfl)
theorem dX0_await_35 : decode cX0_await 35 = .ok (.iconst 4, 1) := dk_7 (dk_at dksX0_await_1 11 rfl rfl)
theorem dX0_await_36 : decode cX0_await 36 = .ok (.ireturn, 1) := dk_172 (dk_at dksX0_await_1 12 rfl rfl)
theorem dX0_await_37 : decode cX0_await 37 = .ok (.iconst 0, 1) := dk_3 (dk_at dksX0_await_1 13 rfl rfl)
theorem dX0_await_38 : decode cX0_await 38 = .ok (.ireturn, 1) := dk_172 (dk_at dksX0_await_1 14 rfl rfl)
abbrev cX0_check : ByteArray := method_10_code
def yX0_check : MethodName := ⟨RX0, "check", "(LLendlathe;IIIIIC[J)I"⟩
def dkwX0_check_1 : List UInt8 := [172, 58, 8, 5, 172, 3, 172]
abbrev dktX0_check_1 : List UInt8 := dkwX0_check_1 ++ []
def dkwX0_check_0 : List UInt8 := [25, 7, 3, 42, 27, 28, 29, 21, 4, 21, 5, 21, 6, 182, 0, 47, 133, 80, 167, 0, 11, 58, 8, 4]
abbrev dktX0_check_0 : List UInt8 := dkwX0_check_0 ++ dktX0_check_1
theorem dksX0_check_0 : cX0_check.data.toList.drop 0 = dktX0_check_0 := by decide +kernel
theorem dksX0_check_1 : cX0_check.data.toList.drop 24 = dktX0_check_1 := dk_seg dksX0_check_0 24 rfl rfl
theorem dX0_check_0 : decode cX0_check 0 = .ok (.aload 7, 2) := dk_25 7 (dk_at dksX0_check_0 0 rfl rfl)
theorem dX0_check_2 : decode cX0_check 2 = .ok (.iconst 0, 1) := dk_3 (dk_at dksX0_check_0 2 rfl rfl)
theorem dX0_check_3 : decode cX0_check 3 = .ok (.aload_n 0, 1) := dk_42 (dk_at dksX0_check_0 3 rfl rfl)
theorem dX0_check_4 : decode cX0_check 4 = .ok (.iload_n 1, 1) := dk_27 (dk_at dksX0_check_0 4 rfl rfl)
theorem dX0_check_5 : decode cX0_check 5 = .ok (.iload_n 2, 1) := dk_28 (dk_at dksX0_check_0 5 rfl rfl)
theorem dX0_check_6 : decode cX0_check 6 = .ok (.iload_n 3, 1) := dk_29 (dk_at dksX0_check_0 6 rfl rfl)
theorem dX0_check_7 : decode cX0_check 7 = .ok (.iload 4, 2) := dk_21 4 (dk_at dksX0_check_0 7 rfl rfl)
theorem dX0_check_9 : decode cX0_check 9 = .ok (.iload 5, 2) := dk_21 5 (dk_at dksX0_check_0 9 rfl rfl)
theorem dX0_check_11 : decode cX0_check 11 = .ok (.iload 6, 2) := dk_21 6 (dk_at dksX0_check_0 11 rfl rfl)
theorem dX0_check_13 : decode cX0_check 13 = .ok (.invokevirtual 47, 3) := dk_182 0 47 (dk_at dksX0_check_0 13 rfl rfl)
theorem dX0_check_16 : decode cX0_check 16 = .ok (.i2l, 1) := dk_133 (dk_at dksX0_check_0 16 rfl rfl)
theorem dX0_check_17 : decode cX0_check 17 = .ok (.lastore, 1) := dk_80 (dk_at dksX0_check_0 17 rfl rfl)
theorem dX0_check_18 : decode cX0_check 18 = .ok (.goto 11, 3) := dk_167 0 11 (dk_at dksX0_check_0 18 rfl rfl)
theorem dX0_check_21 : decode cX0_check 21 = .ok (.astore 8, 2) := dk_58 8 (dk_at dksX0_check_0 21 rfl rfl)
theorem dX0_check_23 : decode cX0_check 23 = .ok (.iconst 1, 1) := dk_4 (dk_at dksX0_check_0 23 rfl rfl)
theorem dX0_check_24 : decode cX0_check 24 = .ok (.ireturn, 1) := dk_172 (dk_at dksX0_check_1 0 rfl rfl)
theorem dX0_check_25 : decode cX0_check 25 = .ok (.astore 8, 2) := dk_58 8 (dk_at dksX0_check_1 1 rfl rfl)
theorem dX0_check_27 : decode cX0_check 27 = .ok (.iconst 2, 1) := dk_5 (dk_at dksX0_check_1 3 rfl rfl)
theorem dX0_check_28 : decode cX0_check 28 = .ok (.ireturn, 1) := dk_172 (dk_at dksX0_check_1 4 rfl rfl)
theorem dX0_check_29 : decode cX0_check 29 = .ok (.iconst 0, 1) := dk_3 (dk_at dksX0_check_1 5 rfl rfl)
theorem dX0_check_30 : decode cX0_check 30 = .ok (.ireturn, 1) := dk_172 (dk_at dksX0_check_1 6 rfl rfl)
abbrev cX0_cancel : ByteArray := method_11_code
def yX0_cancel : MethodName := ⟨RX0, "cancel", "(LLendlathe;I[J)I"⟩
def dkwX0_cancel_0 : List UInt8 := [44, 3, 42, 27, 182, 0, 51, 133, 80, 167, 0, 9, 78, 4, 172, 78, 5, 172, 3, 172]
abbrev dktX0_cancel_0 : List UInt8 := dkwX0_cancel_0 ++ []
theorem dksX0_cancel_0 : cX0_cancel.data.toList.drop 0 = dktX0_cancel_0 := by decide +kernel
theorem dX0_cancel_0 : decode cX0_cancel 0 = .ok (.aload_n 2, 1) := dk_44 (dk_at dksX0_cancel_0 0 rfl rfl)
theorem dX0_cancel_1 : decode cX0_cancel 1 = .ok (.iconst 0, 1) := dk_3 (dk_at dksX0_cancel_0 1 rfl rfl)
theorem dX0_cancel_2 : decode cX0_cancel 2 = .ok (.aload_n 0, 1) := dk_42 (dk_at dksX0_cancel_0 2 rfl rfl)
theorem dX0_cancel_3 : decode cX0_cancel 3 = .ok (.iload_n 1, 1) := dk_27 (dk_at dksX0_cancel_0 3 rfl rfl)
theorem dX0_cancel_4 : decode cX0_cancel 4 = .ok (.invokevirtual 51, 3) := dk_182 0 51 (dk_at dksX0_cancel_0 4 rfl rfl)
theorem dX0_cancel_7 : decode cX0_cancel 7 = .ok (.i2l, 1) := dk_133 (dk_at dksX0_cancel_0 7 rfl rfl)
theorem dX0_cancel_8 : decode cX0_cancel 8 = .ok (.lastore, 1) := dk_80 (dk_at dksX0_cancel_0 8 rfl rfl)
theorem dX0_cancel_9 : decode cX0_cancel 9 = .ok (.goto 9, 3) := dk_167 0 9 (dk_at dksX0_cancel_0 9 rfl rfl)
theorem dX0_cancel_12 : decode cX0_cancel 12 = .ok (.astore_n 3, 1) := dk_78 (dk_at dksX0_cancel_0 12 rfl rfl)
theorem dX0_cancel_13 : decode cX0_cancel 13 = .ok (.iconst 1, 1) := dk_4 (dk_at dksX0_cancel_0 13 rfl rfl)
theorem dX0_cancel_14 : decode cX0_cancel 14 = .ok (.ireturn, 1) := dk_172 (dk_at dksX0_cancel_0 14 rfl rfl)
theorem dX0_cancel_15 : decode cX0_cancel 15 = .ok (.astore_n 3, 1) := dk_78 (dk_at dksX0_cancel_0 15 rfl rfl)
theorem dX0_cancel_16 : decode cX0_cancel 16 = .ok (.iconst 2, 1) := dk_5 (dk_at dksX0_cancel_0 16 rfl rfl)
theorem dX0_cancel_17 : decode cX0_cancel 17 = .ok (.ireturn, 1) := dk_172 (dk_at dksX0_cancel_0 17 rfl rfl)
theorem dX0_cancel_18 : decode cX0_cancel 18 = .ok (.iconst 0, 1) := dk_3 (dk_at dksX0_cancel_0 18 rfl rfl)
theorem dX0_cancel_19 : decode cX0_cancel 19 = .ok (.ireturn, 1) := dk_172 (dk_at dksX0_cancel_0 19 rfl rfl)
abbrev cX0_stateOf : ByteArray := method_12_code
def yX0_stateOf : MethodName := ⟨RX0, "stateOf", "(LLendlathe;I[J)I"⟩
def dkwX0_stateOf_0 : List UInt8 := [44, 3, 42, 27, 182, 0, 55, 133, 80, 167, 0, 6, 78, 4, 172, 3, 172]
abbrev dktX0_stateOf_0 : List UInt8 := dkwX0_stateOf_0 ++ []
theorem dksX0_stateOf_0 : cX0_stateOf.data.toList.drop 0 = dktX0_stateOf_0 := by decide +kernel
theorem dX0_stateOf_0 : decode cX0_stateOf 0 = .ok (.aload_n 2, 1) := dk_44 (dk_at dksX0_stateOf_0 0 rfl rfl)
theorem dX0_stateOf_1 : decode cX0_stateOf 1 = .ok (.iconst 0, 1) := dk_3 (dk_at dksX0_stateOf_0 1 rfl rfl)
theorem dX0_stateOf_2 : decode cX0_stateOf 2 = .ok (.aload_n 0, 1) := dk_42 (dk_at dksX0_stateOf_0 2 rfl rfl)
theorem dX0_stateOf_3 : decode cX0_stateOf 3 = .ok (.iload_n 1, 1) := dk_27 (dk_at dksX0_stateOf_0 3 rfl rfl)
theorem dX0_stateOf_4 : decode cX0_stateOf 4 = .ok (.invokevirtual 55, 3) := dk_182 0 55 (dk_at dksX0_stateOf_0 4 rfl rfl)
theorem dX0_stateOf_7 : decode cX0_stateOf 7 = .ok (.i2l, 1) := dk_133 (dk_at dksX0_stateOf_0 7 rfl rfl)
theorem dX0_stateOf_8 : decode cX0_stateOf 8 = .ok (.lastore, 1) := dk_80 (dk_at dksX0_stateOf_0 8 rfl rfl)
theorem dX0_stateOf_9 : decode cX0_stateOf 9 = .ok (.goto 6, 3) := dk_167 0 6 (dk_at dksX0_stateOf_0 9 rfl rfl)
theorem dX0_stateOf_12 : decode cX0_stateOf 12 = .ok (.astore_n 3, 1) := dk_78 (dk_at dksX0_stateOf_0 12 rfl rfl)
theorem dX0_stateOf_13 : decode cX0_stateOf 13 = .ok (.iconst 1, 1) := dk_4 (dk_at dksX0_stateOf_0 13 rfl rfl)
theorem dX0_stateOf_14 : decode cX0_stateOf 14 = .ok (.ireturn, 1) := dk_172 (dk_at dksX0_stateOf_0 14 rfl rfl)
theorem dX0_stateOf_15 : decode cX0_stateOf 15 = .ok (.iconst 0, 1) := dk_3 (dk_at dksX0_stateOf_0 15 rfl rfl)
theorem dX0_stateOf_16 : decode cX0_stateOf 16 = .ok (.ireturn, 1) := dk_172 (dk_at dksX0_stateOf_0 16 rfl rfl)
abbrev cX0_endDay : ByteArray := method_13_code
def yX0_endDay : MethodName := ⟨RX0, "endDay", "(LLendlathe;[J)I"⟩
def dkwX0_endDay_0 : List UInt8 := [43, 3, 42, 182, 0, 58, 133, 80, 167, 0, 6, 77, 4, 172, 3, 172]
abbrev dktX0_endDay_0 : List UInt8 := dkwX0_endDay_0 ++ []
theorem dksX0_endDay_0 : cX0_endDay.data.toList.drop 0 = dktX0_endDay_0 := by decide +kernel
theorem dX0_endDay_0 : decode cX0_endDay 0 = .ok (.aload_n 1, 1) := dk_43 (dk_at dksX0_endDay_0 0 rfl rfl)
theorem dX0_endDay_1 : decode cX0_endDay 1 = .ok (.iconst 0, 1) := dk_3 (dk_at dksX0_endDay_0 1 rfl rfl)
theorem dX0_endDay_2 : decode cX0_endDay 2 = .ok (.aload_n 0, 1) := dk_42 (dk_at dksX0_endDay_0 2 rfl rfl)
theorem dX0_endDay_3 : decode cX0_endDay 3 = .ok (.invokevirtual 58, 3) := dk_182 0 58 (dk_at dksX0_endDay_0 3 rfl rfl)
theorem dX0_endDay_6 : decode cX0_endDay 6 = .ok (.i2l, 1) := dk_133 (dk_at dksX0_endDay_0 6 rfl rfl)
theorem dX0_endDay_7 : decode cX0_endDay 7 = .ok (.lastore, 1) := dk_80 (dk_at dksX0_endDay_0 7 rfl rfl)
theorem dX0_endDay_8 : decode cX0_endDay 8 = .ok (.goto 6, 3) := dk_167 0 6 (dk_at dksX0_endDay_0 8 rfl rfl)
theorem dX0_endDay_11 : decode cX0_endDay 11 = .ok (.astore_n 2, 1) := dk_77 (dk_at dksX0_endDay_0 11 rfl rfl)
theorem dX0_endDay_12 : decode cX0_endDay 12 = .ok (.iconst 1, 1) := dk_4 (dk_at dksX0_endDay_0 12 rfl rfl)
theorem dX0_endDay_13 : decode cX0_endDay 13 = .ok (.ireturn, 1) := dk_172 (dk_at dksX0_endDay_0 13 rfl rfl)
theorem dX0_endDay_14 : decode cX0_endDay 14 = .ok (.iconst 0, 1) := dk_3 (dk_at dksX0_endDay_0 14 rfl rfl)
theorem dX0_endDay_15 : decode cX0_endDay 15 = .ok (.ireturn, 1) := dk_172 (dk_at dksX0_endDay_0 15 rfl rfl)
abbrev cX0_minuteAt : ByteArray := method_14_code
def yX0_minuteAt : MethodName := ⟨RX0, "minuteAt", "(LLendlathe;III[J)I"⟩
def dkwX0_minuteAt_1 : List UInt8 := [172]
abbrev dktX0_minuteAt_1 : List UInt8 := dkwX0_minuteAt_1 ++ []
def dkwX0_minuteAt_0 : List UInt8 := [25, 4, 3, 42, 27, 28, 29, 182, 0, 61, 133, 80, 167, 0, 11, 58, 5, 4, 172, 58, 5, 5, 172, 3]
abbrev dktX0_minuteAt_0 : List UInt8 := dkwX0_minuteAt_0 ++ dktX0_minuteAt_1
theorem dksX0_minuteAt_0 : cX0_minuteAt.data.toList.drop 0 = dktX0_minuteAt_0 := by decide +kernel
theorem dksX0_minuteAt_1 : cX0_minuteAt.data.toList.drop 24 = dktX0_minuteAt_1 := dk_seg dksX0_minuteAt_0 24 rfl rfl
theorem dX0_minuteAt_0 : decode cX0_minuteAt 0 = .ok (.aload 4, 2) := dk_25 4 (dk_at dksX0_minuteAt_0 0 rfl rfl)
theorem dX0_minuteAt_2 : decode cX0_minuteAt 2 = .ok (.iconst 0, 1) := dk_3 (dk_at dksX0_minuteAt_0 2 rfl rfl)
theorem dX0_minuteAt_3 : decode cX0_minuteAt 3 = .ok (.aload_n 0, 1) := dk_42 (dk_at dksX0_minuteAt_0 3 rfl rfl)
theorem dX0_minuteAt_4 : decode cX0_minuteAt 4 = .ok (.iload_n 1, 1) := dk_27 (dk_at dksX0_minuteAt_0 4 rfl rfl)
theorem dX0_minuteAt_5 : decode cX0_minuteAt 5 = .ok (.iload_n 2, 1) := dk_28 (dk_at dksX0_minuteAt_0 5 rfl rfl)
theorem dX0_minuteAt_6 : decode cX0_minuteAt 6 = .ok (.iload_n 3, 1) := dk_29 (dk_at dksX0_minuteAt_0 6 rfl rfl)
theorem dX0_minuteAt_7 : decode cX0_minuteAt 7 = .ok (.invokevirtual 61, 3) := dk_182 0 61 (dk_at dksX0_minuteAt_0 7 rfl rfl)
theorem dX0_minuteAt_10 : decode cX0_minuteAt 10 = .ok (.i2l, 1) := dk_133 (dk_at dksX0_minuteAt_0 10 rfl rfl)
theorem dX0_minuteAt_11 : decode cX0_minuteAt 11 = .ok (.lastore, 1) := dk_80 (dk_at dksX0_minuteAt_0 11 rfl rfl)
theorem dX0_minuteAt_12 : decode cX0_minuteAt 12 = .ok (.goto 11, 3) := dk_167 0 11 (dk_at dksX0_minuteAt_0 12 rfl rfl)
theorem dX0_minuteAt_15 : decode cX0_minuteAt 15 = .ok (.astore 5, 2) := dk_58 5 (dk_at dksX0_minuteAt_0 15 rfl rfl)
theorem dX0_minuteAt_17 : decode cX0_minuteAt 17 = .ok (.iconst 1, 1) := dk_4 (dk_at dksX0_minuteAt_0 17 rfl rfl)
theorem dX0_minuteAt_18 : decode cX0_minuteAt 18 = .ok (.ireturn, 1) := dk_172 (dk_at dksX0_minuteAt_0 18 rfl rfl)
theorem dX0_minuteAt_19 : decode cX0_minuteAt 19 = .ok (.astore 5, 2) := dk_58 5 (dk_at dksX0_minuteAt_0 19 rfl rfl)
theorem dX0_minuteAt_21 : decode cX0_minuteAt 21 = .ok (.iconst 2, 1) := dk_5 (dk_at dksX0_minuteAt_0 21 rfl rfl)
theorem dX0_minuteAt_22 : decode cX0_minuteAt 22 = .ok (.ireturn, 1) := dk_172 (dk_at dksX0_minuteAt_0 22 rfl rfl)
theorem dX0_minuteAt_23 : decode cX0_minuteAt 23 = .ok (.iconst 0, 1) := dk_3 (dk_at dksX0_minuteAt_0 23 rfl rfl)
theorem dX0_minuteAt_24 : decode cX0_minuteAt 24 = .ok (.ireturn, 1) := dk_172 (dk_at dksX0_minuteAt_1 0 rfl rfl)
abbrev cX0_usedMinutes : ByteArray := method_15_code
def yX0_usedMinutes : MethodName := ⟨RX0, "usedMinutes", "(LLendlathe;II[J)I"⟩
def dkwX0_usedMinutes_0 : List UInt8 := [45, 3, 42, 27, 28, 182, 0, 65, 133, 80, 167, 0, 11, 58, 4, 4, 172, 58, 4, 5, 172, 3, 172]
abbrev dktX0_usedMinutes_0 : List UInt8 := dkwX0_usedMinutes_0 ++ []
theorem dksX0_usedMinutes_0 : cX0_usedMinutes.data.toList.drop 0 = dktX0_usedMinutes_0 := by decide +kernel
theorem dX0_usedMinutes_0 : decode cX0_usedMinutes 0 = .ok (.aload_n 3, 1) := dk_45 (dk_at dksX0_usedMinutes_0 0 rfl rfl)
theorem dX0_usedMinutes_1 : decode cX0_usedMinutes 1 = .ok (.iconst 0, 1) := dk_3 (dk_at dksX0_usedMinutes_0 1 rfl rfl)
theorem dX0_usedMinutes_2 : decode cX0_usedMinutes 2 = .ok (.aload_n 0, 1) := dk_42 (dk_at dksX0_usedMinutes_0 2 rfl rfl)
theorem dX0_usedMinutes_3 : decode cX0_usedMinutes 3 = .ok (.iload_n 1, 1) := dk_27 (dk_at dksX0_usedMinutes_0 3 rfl rfl)
theorem dX0_usedMinutes_4 : decode cX0_usedMinutes 4 = .ok (.iload_n 2, 1) := dk_28 (dk_at dksX0_usedMinutes_0 4 rfl rfl)
theorem dX0_usedMinutes_5 : decode cX0_usedMinutes 5 = .ok (.invokevirtual 65, 3) := dk_182 0 65 (dk_at dksX0_usedMinutes_0 5 rfl rfl)
theorem dX0_usedMinutes_8 : decode cX0_usedMinutes 8 = .ok (.i2l, 1) := dk_133 (dk_at dksX0_usedMinutes_0 8 rfl rfl)
theorem dX0_usedMinutes_9 : decode cX0_usedMinutes 9 = .ok (.lastore, 1) := dk_80 (dk_at dksX0_usedMinutes_0 9 rfl rfl)
theorem dX0_usedMinutes_10 : decode cX0_usedMinutes 10 = .ok (.goto 11, 3) := dk_167 0 11 (dk_at dksX0_usedMinutes_0 10 rfl rfl)
theorem dX0_usedMinutes_13 : decode cX0_usedMinutes 13 = .ok (.astore 4, 2) := dk_58 4 (dk_at dksX0_usedMinutes_0 13 rfl rfl)
theorem dX0_usedMinutes_15 : decode cX0_usedMinutes 15 = .ok (.iconst 1, 1) := dk_4 (dk_at dksX0_usedMinutes_0 15 rfl rfl)
theorem dX0_usedMinutes_16 : decode cX0_usedMinutes 16 = .ok (.ireturn, 1) := dk_172 (dk_at dksX0_usedMinutes_0 16 rfl rfl)
theorem dX0_usedMinutes_17 : decode cX0_usedMinutes 17 = .ok (.astore 4, 2) := dk_58 4 (dk_at dksX0_usedMinutes_0 17 rfl rfl)
theorem dX0_usedMinutes_19 : decode cX0_usedMinutes 19 = .ok (.iconst 2, 1) := dk_5 (dk_at dksX0_usedMinutes_0 19 rfl rfl)
theorem dX0_usedMinutes_20 : decode cX0_usedMinutes 20 = .ok (.ireturn, 1) := dk_172 (dk_at dksX0_usedMinutes_0 20 rfl rfl)
theorem dX0_usedMinutes_21 : decode cX0_usedMinutes 21 = .ok (.iconst 0, 1) := dk_3 (dk_at dksX0_usedMinutes_0 21 rfl rfl)
theorem dX0_usedMinutes_22 : decode cX0_usedMinutes 22 = .ok (.ireturn, 1) := dk_172 (dk_at dksX0_usedMinutes_0 22 rfl rfl)
abbrev cX0_usedByMinutes : ByteArray := method_16_code
def yX0_usedByMinutes : MethodName := ⟨RX0, "usedByMinutes", "(LLendlathe;II[J)I"⟩
def dkwX0_usedByMinutes_0 : List UInt8 := [45, 3, 42, 27, 28, 182, 0, 68, 133, 80, 167, 0, 11, 58, 4, 4, 172, 58, 4, 5, 172, 3, 172]
abbrev dktX0_usedByMinutes_0 : List UInt8 := dkwX0_usedByMinutes_0 ++ []
theorem dksX0_usedByMinutes_0 : cX0_usedByMinutes.data.toList.drop 0 = dktX0_usedByMinutes_0 := by decide +kernel
theorem dX0_usedByMinutes_0 : decode cX0_usedByMinutes 0 = .ok (.aload_n 3, 1) := dk_45 (dk_at dksX0_usedByMinutes_0 0 rfl rfl)
theorem dX0_usedByMinutes_1 : decode cX0_usedByMinutes 1 = .ok (.iconst 0, 1) := dk_3 (dk_at dksX0_usedByMinutes_0 1 rfl rfl)
theorem dX0_usedByMinutes_2 : decode cX0_usedByMinutes 2 = .ok (.aload_n 0, 1) := dk_42 (dk_at dksX0_usedByMinutes_0 2 rfl rfl)
theorem dX0_usedByMinutes_3 : decode cX0_usedByMinutes 3 = .ok (.iload_n 1, 1) := dk_27 (dk_at dksX0_usedByMinutes_0 3 rfl rfl)
theorem dX0_usedByMinutes_4 : decode cX0_usedByMinutes 4 = .ok (.iload_n 2, 1) := dk_28 (dk_at dksX0_usedByMinutes_0 4 rfl rfl)
theorem dX0_usedByMinutes_5 : decode cX0_usedByMinutes 5 = .ok (.invokevirtual 68, 3) := dk_182 0 68 (dk_at dksX0_usedByMinutes_0 5 rfl rfl)
theorem dX0_usedByMinutes_8 : decode cX0_usedByMinutes 8 = .ok (.i2l, 1) := dk_133 (dk_at dksX0_usedByMinutes_0 8 rfl rfl)
theorem dX0_usedByMinutes_9 : decode cX0_usedByMinutes 9 = .ok (.lastore, 1) := dk_80 (dk_at dksX0_usedByMinutes_0 9 rfl rfl)
theorem dX0_usedByMinutes_10 : decode cX0_usedByMinutes 10 = .ok (.goto 11, 3) := dk_167 0 11 (dk_at dksX0_usedByMinutes_0 10 rfl rfl)
theorem dX0_usedByMinutes_13 : decode cX0_usedByMinutes 13 = .ok (.astore 4, 2) := dk_58 4 (dk_at dksX0_usedByMinutes_0 13 rfl rfl)
theorem dX0_usedByMinutes_15 : decode cX0_usedByMinutes 15 = .ok (.iconst 1, 1) := dk_4 (dk_at dksX0_usedByMinutes_0 15 rfl rfl)
theorem dX0_usedByMinutes_16 : decode cX0_usedByMinutes 16 = .ok (.ireturn, 1) := dk_172 (dk_at dksX0_usedByMinutes_0 16 rfl rfl)
theorem dX0_usedByMinutes_17 : decode cX0_usedByMinutes 17 = .ok (.astore 4, 2) := dk_58 4 (dk_at dksX0_usedByMinutes_0 17 rfl rfl)
theorem dX0_usedByMinutes_19 : decode cX0_usedByMinutes 19 = .ok (.iconst 2, 1) := dk_5 (dk_at dksX0_usedByMinutes_0 19 rfl rfl)
theorem dX0_usedByMinutes_20 : decode cX0_usedByMinutes 20 = .ok (.ireturn, 1) := dk_172 (dk_at dksX0_usedByMinutes_0 20 rfl rfl)
theorem dX0_usedByMinutes_21 : decode cX0_usedByMinutes 21 = .ok (.iconst 0, 1) := dk_3 (dk_at dksX0_usedByMinutes_0 21 rfl rfl)
theorem dX0_usedByMinutes_22 : decode cX0_usedByMinutes 22 = .ok (.ireturn, 1) := dk_172 (dk_at dksX0_usedByMinutes_0 22 rfl rfl)
abbrev cX0_setupMinutes : ByteArray := method_17_code
def yX0_setupMinutes : MethodName := ⟨RX0, "setupMinutes", "(LLendlathe;II[J)I"⟩
def dkwX0_setupMinutes_0 : List UInt8 := [45, 3, 42, 27, 28, 182, 0, 71, 133, 80, 167, 0, 11, 58, 4, 4, 172, 58, 4, 5, 172, 3, 172]
abbrev dktX0_setupMinutes_0 : List UInt8 := dkwX0_setupMinutes_0 ++ []
theorem dksX0_setupMinutes_0 : cX0_setupMinutes.data.toList.drop 0 = dktX0_setupMinutes_0 := by decide +kernel
theorem dX0_setupMinutes_0 : decode cX0_setupMinutes 0 = .ok (.aload_n 3, 1) := dk_45 (dk_at dksX0_setupMinutes_0 0 rfl rfl)
theorem dX0_setupMinutes_1 : decode cX0_setupMinutes 1 = .ok (.iconst 0, 1) := dk_3 (dk_at dksX0_setupMinutes_0 1 rfl rfl)
theorem dX0_setupMinutes_2 : decode cX0_setupMinutes 2 = .ok (.aload_n 0, 1) := dk_42 (dk_at dksX0_setupMinutes_0 2 rfl rfl)
theorem dX0_setupMinutes_3 : decode cX0_setupMinutes 3 = .ok (.iload_n 1, 1) := dk_27 (dk_at dksX0_setupMinutes_0 3 rfl rfl)
theorem dX0_setupMinutes_4 : decode cX0_setupMinutes 4 = .ok (.iload_n 2, 1) := dk_28 (dk_at dksX0_setupMinutes_0 4 rfl rfl)
theorem dX0_setupMinutes_5 : decode cX0_setupMinutes 5 = .ok (.invokevirtual 71, 3) := dk_182 0 71 (dk_at dksX0_setupMinutes_0 5 rfl rfl)
theorem dX0_setupMinutes_8 : decode cX0_setupMinutes 8 = .ok (.i2l, 1) := dk_133 (dk_at dksX0_setupMinutes_0 8 rfl rfl)
theorem dX0_setupMinutes_9 : decode cX0_setupMinutes 9 = .ok (.lastore, 1) := dk_80 (dk_at dksX0_setupMinutes_0 9 rfl rfl)
theorem dX0_setupMinutes_10 : decode cX0_setupMinutes 10 = .ok (.goto 11, 3) := dk_167 0 11 (dk_at dksX0_setupMinutes_0 10 rfl rfl)
theorem dX0_setupMinutes_13 : decode cX0_setupMinutes 13 = .ok (.astore 4, 2) := dk_58 4 (dk_at dksX0_setupMinutes_0 13 rfl rfl)
theorem dX0_setupMinutes_15 : decode cX0_setupMinutes 15 = .ok (.iconst 1, 1) := dk_4 (dk_at dksX0_setupMinutes_0 15 rfl rfl)
theorem dX0_setupMinutes_16 : decode cX0_setupMinutes 16 = .ok (.ireturn, 1) := dk_172 (dk_at dksX0_setupMinutes_0 16 rfl rfl)
theorem dX0_setupMinutes_17 : decode cX0_setupMinutes 17 = .ok (.astore 4, 2) := dk_58 4 (dk_at dksX0_setupMinutes_0 17 rfl rfl)
theorem dX0_setupMinutes_19 : decode cX0_setupMinutes 19 = .ok (.iconst 2, 1) := dk_5 (dk_at dksX0_setupMinutes_0 19 rfl rfl)
theorem dX0_setupMinutes_20 : decode cX0_setupMinutes 20 = .ok (.ireturn, 1) := dk_172 (dk_at dksX0_setupMinutes_0 20 rfl rfl)
theorem dX0_setupMinutes_21 : decode cX0_setupMinutes 21 = .ok (.iconst 0, 1) := dk_3 (dk_at dksX0_setupMinutes_0 21 rfl rfl)
theorem dX0_setupMinutes_22 : decode cX0_setupMinutes 22 = .ok (.ireturn, 1) := dk_172 (dk_at dksX0_setupMinutes_0 22 rfl rfl)
abbrev cX0_firstStart : ByteArray := method_18_code
def yX0_firstStart : MethodName := ⟨RX0, "firstStart", "(LLendlathe;IIIC[J)I"⟩
def dkwX0_firstStart_1 : List UInt8 := [172, 58, 6, 6, 172, 3, 172]
abbrev dktX0_firstStart_1 : List UInt8 := dkwX0_firstStart_1 ++ []
def dkwX0_firstStart_0 : List UInt8 := [25, 5, 3, 42, 27, 28, 29, 21, 4, 182, 0, 74, 133, 80, 167, 0, 15, 58, 6, 4, 172, 58, 6, 5]
abbrev dktX0_firstStart_0 : List UInt8 := dkwX0_firstStart_0 ++ dktX0_firstStart_1
theorem dksX0_firstStart_0 : cX0_firstStart.data.toList.drop 0 = dktX0_firstStart_0 := by decide +kernel
theorem dksX0_firstStart_1 : cX0_firstStart.data.toList.drop 24 = dktX0_firstStart_1 := dk_seg dksX0_firstStart_0 24 rfl rfl
theorem dX0_firstStart_0 : decode cX0_firstStart 0 = .ok (.aload 5, 2) := dk_25 5 (dk_at dksX0_firstStart_0 0 rfl rfl)
theorem dX0_firstStart_2 : decode cX0_firstStart 2 = .ok (.iconst 0, 1) := dk_3 (dk_at dksX0_firstStart_0 2 rfl rfl)
theorem dX0_firstStart_3 : decode cX0_firstStart 3 = .ok (.aload_n 0, 1) := dk_42 (dk_at dksX0_firstStart_0 3 rfl rfl)
theorem dX0_firstStart_4 : decode cX0_firstStart 4 = .ok (.iload_n 1, 1) := dk_27 (dk_at dksX0_firstStart_0 4 rfl rfl)
theorem dX0_firstStart_5 : decode cX0_firstStart 5 = .ok (.iload_n 2, 1) := dk_28 (dk_at dksX0_firstStart_0 5 rfl rfl)
theorem dX0_firstStart_6 : decode cX0_firstStart 6 = .ok (.iload_n 3, 1) := dk_29 (dk_at dksX0_firstStart_0 6 rfl rfl)
theorem dX0_firstStart_7 : decode cX0_firstStart 7 = .ok (.iload 4, 2) := dk_21 4 (dk_at dksX0_firstStart_0 7 rfl rfl)
theorem dX0_firstStart_9 : decode cX0_firstStart 9 = .ok (.invokevirtual 74, 3) := dk_182 0 74 (dk_at dksX0_firstStart_0 9 rfl rfl)
theorem dX0_firstStart_12 : decode cX0_firstStart 12 = .ok (.i2l, 1) := dk_133 (dk_at dksX0_firstStart_0 12 rfl rfl)
theorem dX0_firstStart_13 : decode cX0_firstStart 13 = .ok (.lastore, 1) := dk_80 (dk_at dksX0_firstStart_0 13 rfl rfl)
theorem dX0_firstStart_14 : decode cX0_firstStart 14 = .ok (.goto 15, 3) := dk_167 0 15 (dk_at dksX0_firstStart_0 14 rfl rfl)
theorem dX0_firstStart_17 : decode cX0_firstStart 17 = .ok (.astore 6, 2) := dk_58 6 (dk_at dksX0_firstStart_0 17 rfl rfl)
theorem dX0_firstStart_19 : decode cX0_firstStart 19 = .ok (.iconst 1, 1) := dk_4 (dk_at dksX0_firstStart_0 19 rfl rfl)
theorem dX0_firstStart_20 : decode cX0_firstStart 20 = .ok (.ireturn, 1) := dk_172 (dk_at dksX0_firstStart_0 20 rfl rfl)
theorem dX0_firstStart_21 : decode cX0_firstStart 21 = .ok (.astore 6, 2) := dk_58 6 (dk_at dksX0_firstStart_0 21 rfl rfl)
theorem dX0_firstStart_23 : decode cX0_firstStart 23 = .ok (.iconst 2, 1) := dk_5 (dk_at dksX0_firstStart_0 23 rfl rfl)
theorem dX0_firstStart_24 : decode cX0_firstStart 24 = .ok (.ireturn, 1) := dk_172 (dk_at dksX0_firstStart_1 0 rfl rfl)
theorem dX0_firstStart_25 : decode cX0_firstStart 25 = .ok (.astore 6, 2) := dk_58 6 (dk_at dksX0_firstStart_1 1 rfl rfl)
theorem dX0_firstStart_27 : decode cX0_firstStart 27 = .ok (.iconst 3, 1) := dk_6 (dk_at dksX0_firstStart_1 3 rfl rfl)
theorem dX0_firstStart_28 : decode cX0_firstStart 28 = .ok (.ireturn, 1) := dk_172 (dk_at dksX0_firstStart_1 4 rfl rfl)
theorem dX0_firstStart_29 : decode cX0_firstStart 29 = .ok (.iconst 0, 1) := dk_3 (dk_at dksX0_firstStart_1 5 rfl rfl)
theorem dX0_firstStart_30 : decode cX0_firstStart 30 = .ok (.ireturn, 1) := dk_172 (dk_at dksX0_firstStart_1 6 rfl rfl)
abbrev cX0_firstByMinutes : ByteArray := method_19_code
def yX0_firstByMinutes : MethodName := ⟨RX0, "firstByMinutes", "(LLendlathe;IIIC[J)I"⟩
def dkwX0_firstByMinutes_1 : List UInt8 := [172, 58, 6, 6, 172, 3, 172]
abbrev dktX0_firstByMinutes_1 : List UInt8 := dkwX0_firstByMinutes_1 ++ []
def dkwX0_firstByMinutes_0 : List UInt8 := [25, 5, 3, 42, 27, 28, 29, 21, 4, 182, 0, 78, 133, 80, 167, 0, 15, 58, 6, 4, 172, 58, 6, 5]
abbrev dktX0_firstByMinutes_0 : List UInt8 := dkwX0_firstByMinutes_0 ++ dktX0_firstByMinutes_1
theorem dksX0_firstByMinutes_0 : cX0_firstByMinutes.data.toList.drop 0 = dktX0_firstByMinutes_0 := by decide +kernel
theorem dksX0_firstByMinutes_1 : cX0_firstByMinutes.data.toList.drop 24 = dktX0_firstByMinutes_1 := dk_seg dksX0_firstByMinutes_0 24 rfl rfl
theorem dX0_firstByMinutes_0 : decode cX0_firstByMinutes 0 = .ok (.aload 5, 2) := dk_25 5 (dk_at dksX0_firstByMinutes_0 0 rfl rfl)
theorem dX0_firstByMinutes_2 : decode cX0_firstByMinutes 2 = .ok (.iconst 0, 1) := dk_3 (dk_at dksX0_firstByMinutes_0 2 rfl rfl)
theorem dX0_firstByMinutes_3 : decode cX0_firstByMinutes 3 = .ok (.aload_n 0, 1) := dk_42 (dk_at dksX0_firstByMinutes_0 3 rfl rfl)
theorem dX0_firstByMinutes_4 : decode cX0_firstByMinutes 4 = .ok (.iload_n 1, 1) := dk_27 (dk_at dksX0_firstByMinutes_0 4 rfl rfl)
theorem dX0_firstByMinutes_5 : decode cX0_firstByMinutes 5 = .ok (.iload_n 2, 1) := dk_28 (dk_at dksX0_firstByMinutes_0 5 rfl rfl)
theorem dX0_firstByMinutes_6 : decode cX0_firstByMinutes 6 = .ok (.iload_n 3, 1) := dk_29 (dk_at dksX0_firstByMinutes_0 6 rfl rfl)
theorem dX0_firstByMinutes_7 : decode cX0_firstByMinutes 7 = .ok (.iload 4, 2) := dk_21 4 (dk_at dksX0_firstByMinutes_0 7 rfl rfl)
theorem dX0_firstByMinutes_9 : decode cX0_firstByMinutes 9 = .ok (.invokevirtual 78, 3) := dk_182 0 78 (dk_at dksX0_firstByMinutes_0 9 rfl rfl)
theorem dX0_firstByMinutes_12 : decode cX0_firstByMinutes 12 = .ok (.i2l, 1) := dk_133 (dk_at dksX0_firstByMinutes_0 12 rfl rfl)
theorem dX0_firstByMinutes_13 : decode cX0_firstByMinutes 13 = .ok (.lastore, 1) := dk_80 (dk_at dksX0_firstByMinutes_0 13 rfl rfl)
theorem dX0_firstByMinutes_14 : decode cX0_firstByMinutes 14 = .ok (.goto 15, 3) := dk_167 0 15 (dk_at dksX0_firstByMinutes_0 14 rfl rfl)
theorem dX0_firstByMinutes_17 : decode cX0_firstByMinutes 17 = .ok (.astore 6, 2) := dk_58 6 (dk_at dksX0_firstByMinutes_0 17 rfl rfl)
theorem dX0_firstByMinutes_19 : decode cX0_firstByMinutes 19 = .ok (.iconst 1, 1) := dk_4 (dk_at dksX0_firstByMinutes_0 19 rfl rfl)
theorem dX0_firstByMinutes_20 : decode cX0_firstByMinutes 20 = .ok (.ireturn, 1) := dk_172 (dk_at dksX0_firstByMinutes_0 20 rfl rfl)
theorem dX0_firstByMinutes_21 : decode cX0_firstByMinutes 21 = .ok (.astore 6, 2) := dk_58 6 (dk_at dksX0_firstByMinutes_0 21 rfl rfl)
theorem dX0_firstByMinutes_23 : decode cX0_firstByMinutes 23 = .ok (.iconst 2, 1) := dk_5 (dk_at dksX0_firstByMinutes_0 23 rfl rfl)
theorem dX0_firstByMinutes_24 : decode cX0_firstByMinutes 24 = .ok (.ireturn, 1) := dk_172 (dk_at dksX0_firstByMinutes_1 0 rfl rfl)
theorem dX0_firstByMinutes_25 : decode cX0_firstByMinutes 25 = .ok (.astore 6, 2) := dk_58 6 (dk_at dksX0_firstByMinutes_1 1 rfl rfl)
theorem dX0_firstByMinutes_27 : decode cX0_firstByMinutes 27 = .ok (.iconst 3, 1) := dk_6 (dk_at dksX0_firstByMinutes_1 3 rfl rfl)
theorem dX0_firstByMinutes_28 : decode cX0_firstByMinutes 28 = .ok (.ireturn, 1) := dk_172 (dk_at dksX0_firstByMinutes_1 4 rfl rfl)
theorem dX0_firstByMinutes_29 : decode cX0_firstByMinutes 29 = .ok (.iconst 0, 1) := dk_3 (dk_at dksX0_firstByMinutes_1 5 rfl rfl)
theorem dX0_firstByMinutes_30 : decode cX0_firstByMinutes 30 = .ok (.ireturn, 1) := dk_172 (dk_at dksX0_firstByMinutes_1 6 rfl rfl)
abbrev cX0_waiting : ByteArray := method_20_code
def yX0_waiting : MethodName := ⟨RX0, "waiting", "(LLendlathe;II[J)I"⟩
def dkwX0_waiting_0 : List UInt8 := [45, 3, 42, 27, 28, 182, 0, 81, 133, 80, 167, 0, 11, 58, 4, 4, 172, 58, 4, 5, 172, 3, 172]
abbrev dktX0_waiting_0 : List UInt8 := dkwX0_waiting_0 ++ []
theorem dksX0_waiting_0 : cX0_waiting.data.toList.drop 0 = dktX0_waiting_0 := by decide +kernel
theorem dX0_waiting_0 : decode cX0_waiting 0 = .ok (.aload_n 3, 1) := dk_45 (dk_at dksX0_waiting_0 0 rfl rfl)
theorem dX0_waiting_1 : decode cX0_waiting 1 = .ok (.iconst 0, 1) := dk_3 (dk_at dksX0_waiting_0 1 rfl rfl)
theorem dX0_waiting_2 : decode cX0_waiting 2 = .ok (.aload_n 0, 1) := dk_42 (dk_at dksX0_waiting_0 2 rfl rfl)
theorem dX0_waiting_3 : decode cX0_waiting 3 = .ok (.iload_n 1, 1) := dk_27 (dk_at dksX0_waiting_0 3 rfl rfl)
theorem dX0_waiting_4 : decode cX0_waiting 4 = .ok (.iload_n 2, 1) := dk_28 (dk_at dksX0_waiting_0 4 rfl rfl)
theorem dX0_waiting_5 : decode cX0_waiting 5 = .ok (.invokevirtual 81, 3) := dk_182 0 81 (dk_at dksX0_waiting_0 5 rfl rfl)
theorem dX0_waiting_8 : decode cX0_waiting 8 = .ok (.i2l, 1) := dk_133 (dk_at dksX0_waiting_0 8 rfl rfl)
theorem dX0_waiting_9 : decode cX0_waiting 9 = .ok (.lastore, 1) := dk_80 (dk_at dksX0_waiting_0 9 rfl rfl)
theorem dX0_waiting_10 : decode cX0_waiting 10 = .ok (.goto 11, 3) := dk_167 0 11 (dk_at dksX0_waiting_0 10 rfl rfl)
theorem dX0_waiting_13 : decode cX0_waiting 13 = .ok (.astore 4, 2) := dk_58 4 (dk_at dksX0_waiting_0 13 rfl rfl)
theorem dX0_waiting_15 : decode cX0_waiting 15 = .ok (.iconst 1, 1) := dk_4 (dk_at dksX0_waiting_0 15 rfl rfl)
theorem dX0_waiting_16 : decode cX0_waiting 16 = .ok (.ireturn, 1) := dk_172 (dk_at dksX0_waiting_0 16 rfl rfl)
theorem dX0_waiting_17 : decode cX0_waiting 17 = .ok (.astore 4, 2) := dk_58 4 (dk_at dksX0_waiting_0 17 rfl rfl)
theorem dX0_waiting_19 : decode cX0_waiting 19 = .ok (.iconst 2, 1) := dk_5 (dk_at dksX0_waiting_0 19 rfl rfl)
theorem dX0_waiting_20 : decode cX0_waiting 20 = .ok (.ireturn, 1) := dk_172 (dk_at dksX0_waiting_0 20 rfl rfl)
theorem dX0_waiting_21 : decode cX0_waiting 21 = .ok (.iconst 0, 1) := dk_3 (dk_at dksX0_waiting_0 21 rfl rfl)
theorem dX0_waiting_22 : decode cX0_waiting 22 = .ok (.ireturn, 1) := dk_172 (dk_at dksX0_waiting_0 22 rfl rfl)
abbrev cX0_deliver : ByteArray := method_21_code
def yX0_deliver : MethodName := ⟨RX0, "deliver", "(LLendlathe;II[J)I"⟩
def dkwX0_deliver_0 : List UInt8 := [45, 3, 42, 27, 28, 182, 0, 84, 133, 80, 167, 0, 11, 58, 4, 4, 172, 58, 4, 5, 172, 3, 172]
abbrev dktX0_deliver_0 : List UInt8 := dkwX0_deliver_0 ++ []
theorem dksX0_deliver_0 : cX0_deliver.data.toList.drop 0 = dktX0_deliver_0 := by decide +kernel
theorem dX0_deliver_0 : decode cX0_deliver 0 = .ok (.aload_n 3, 1) := dk_45 (dk_at dksX0_deliver_0 0 rfl rfl)
theorem dX0_deliver_1 : decode cX0_deliver 1 = .ok (.iconst 0, 1) := dk_3 (dk_at dksX0_deliver_0 1 rfl rfl)
theorem dX0_deliver_2 : decode cX0_deliver 2 = .ok (.aload_n 0, 1) := dk_42 (dk_at dksX0_deliver_0 2 rfl rfl)
theorem dX0_deliver_3 : decode cX0_deliver 3 = .ok (.iload_n 1, 1) := dk_27 (dk_at dksX0_deliver_0 3 rfl rfl)
theorem dX0_deliver_4 : decode cX0_deliver 4 = .ok (.iload_n 2, 1) := dk_28 (dk_at dksX0_deliver_0 4 rfl rfl)
theorem dX0_deliver_5 : decode cX0_deliver 5 = .ok (.invokevirtual 84, 3) := dk_182 0 84 (dk_at dksX0_deliver_0 5 rfl rfl)
theorem dX0_deliver_8 : decode cX0_deliver 8 = .ok (.i2l, 1) := dk_133 (dk_at dksX0_deliver_0 8 rfl rfl)
theorem dX0_deliver_9 : decode cX0_deliver 9 = .ok (.lastore, 1) := dk_80 (dk_at dksX0_deliver_0 9 rfl rfl)
theorem dX0_deliver_10 : decode cX0_deliver 10 = .ok (.goto 11, 3) := dk_167 0 11 (dk_at dksX0_deliver_0 10 rfl rfl)
theorem dX0_deliver_13 : decode cX0_deliver 13 = .ok (.astore 4, 2) := dk_58 4 (dk_at dksX0_deliver_0 13 rfl rfl)
theorem dX0_deliver_15 : decode cX0_deliver 15 = .ok (.iconst 1, 1) := dk_4 (dk_at dksX0_deliver_0 15 rfl rfl)
theorem dX0_deliver_16 : decode cX0_deliver 16 = .ok (.ireturn, 1) := dk_172 (dk_at dksX0_deliver_0 16 rfl rfl)
theorem dX0_deliver_17 : decode cX0_deliver 17 = .ok (.astore 4, 2) := dk_58 4 (dk_at dksX0_deliver_0 17 rfl rfl)
theorem dX0_deliver_19 : decode cX0_deliver 19 = .ok (.iconst 2, 1) := dk_5 (dk_at dksX0_deliver_0 19 rfl rfl)
theorem dX0_deliver_20 : decode cX0_deliver 20 = .ok (.ireturn, 1) := dk_172 (dk_at dksX0_deliver_0 20 rfl rfl)
theorem dX0_deliver_21 : decode cX0_deliver 21 = .ok (.iconst 0, 1) := dk_3 (dk_at dksX0_deliver_0 21 rfl rfl)
theorem dX0_deliver_22 : decode cX0_deliver 22 = .ok (.ireturn, 1) := dk_172 (dk_at dksX0_deliver_0 22 rfl rfl)
abbrev cX0_cut : ByteArray := method_22_code
def yX0_cut : MethodName := ⟨RX0, "cut", "(LLendlathe;III[J)I"⟩
def dkwX0_cut_1 : List UInt8 := [58, 5, 6, 172, 58, 5, 7, 172, 3, 172]
abbrev dktX0_cut_1 : List UInt8 := dkwX0_cut_1 ++ []
def dkwX0_cut_0 : List UInt8 := [25, 4, 3, 42, 27, 28, 29, 182, 0, 87, 133, 80, 167, 0, 19, 58, 5, 4, 172, 58, 5, 5, 172]
abbrev dktX0_cut_0 : List UInt8 := dkwX0_cut_0 ++ dktX0_cut_1
theorem dksX0_cut_0 : cX0_cut.data.toList.drop 0 = dktX0_cut_0 := by decide +kernel
theorem dksX0_cut_1 : cX0_cut.data.toList.drop 23 = dktX0_cut_1 := dk_seg dksX0_cut_0 23 rfl rfl
theorem dX0_cut_0 : decode cX0_cut 0 = .ok (.aload 4, 2) := dk_25 4 (dk_at dksX0_cut_0 0 rfl rfl)
theorem dX0_cut_2 : decode cX0_cut 2 = .ok (.iconst 0, 1) := dk_3 (dk_at dksX0_cut_0 2 rfl rfl)
theorem dX0_cut_3 : decode cX0_cut 3 = .ok (.aload_n 0, 1) := dk_42 (dk_at dksX0_cut_0 3 rfl rfl)
theorem dX0_cut_4 : decode cX0_cut 4 = .ok (.iload_n 1, 1) := dk_27 (dk_at dksX0_cut_0 4 rfl rfl)
theorem dX0_cut_5 : decode cX0_cut 5 = .ok (.iload_n 2, 1) := dk_28 (dk_at dksX0_cut_0 5 rfl rfl)
theorem dX0_cut_6 : decode cX0_cut 6 = .ok (.iload_n 3, 1) := dk_29 (dk_at dksX0_cut_0 6 rfl rfl)
theorem dX0_cut_7 : decode cX0_cut 7 = .ok (.invokevirtual 87, 3) := dk_182 0 87 (dk_at dksX0_cut_0 7 rfl rfl)
theorem dX0_cut_10 : decode cX0_cut 10 = .ok (.i2l, 1) := dk_133 (dk_at dksX0_cut_0 10 rfl rfl)
theorem dX0_cut_11 : decode cX0_cut 11 = .ok (.lastore, 1) := dk_80 (dk_at dksX0_cut_0 11 rfl rfl)
theorem dX0_cut_12 : decode cX0_cut 12 = .ok (.goto 19, 3) := dk_167 0 19 (dk_at dksX0_cut_0 12 rfl rfl)
theorem dX0_cut_15 : decode cX0_cut 15 = .ok (.astore 5, 2) := dk_58 5 (dk_at dksX0_cut_0 15 rfl rfl)
theorem dX0_cut_17 : decode cX0_cut 17 = .ok (.iconst 1, 1) := dk_4 (dk_at dksX0_cut_0 17 rfl rfl)
theorem dX0_cut_18 : decode cX0_cut 18 = .ok (.ireturn, 1) := dk_172 (dk_at dksX0_cut_0 18 rfl rfl)
theorem dX0_cut_19 : decode cX0_cut 19 = .ok (.astore 5, 2) := dk_58 5 (dk_at dksX0_cut_0 19 rfl rfl)
theorem dX0_cut_21 : decode cX0_cut 21 = .ok (.iconst 2, 1) := dk_5 (dk_at dksX0_cut_0 21 rfl rfl)
theorem dX0_cut_22 : decode cX0_cut 22 = .ok (.ireturn, 1) := dk_172 (dk_at dksX0_cut_0 22 rfl rfl)
theorem dX0_cut_23 : decode cX0_cut 23 = .ok (.astore 5, 2) := dk_58 5 (dk_at dksX0_cut_1 0 rfl rfl)
theorem dX0_cut_25 : decode cX0_cut 25 = .ok (.iconst 3, 1) := dk_6 (dk_at dksX0_cut_1 2 rfl rfl)
theorem dX0_cut_26 : decode cX0_cut 26 = .ok (.ireturn, 1) := dk_172 (dk_at dksX0_cut_1 3 rfl rfl)
theorem dX0_cut_27 : decode cX0_cut 27 = .ok (.astore 5, 2) := dk_58 5 (dk_at dksX0_cut_1 4 rfl rfl)
theorem dX0_cut_29 : decode cX0_cut 29 = .ok (.iconst 4, 1) := dk_7 (dk_at dksX0_cut_1 6 rfl rfl)
theorem dX0_cut_30 : decode cX0_cut 30 = .ok (.ireturn, 1) := dk_172 (dk_at dksX0_cut_1 7 rfl rfl)
theorem dX0_cut_31 : decode cX0_cut 31 = .ok (.iconst 0, 1) := dk_3 (dk_at dksX0_cut_1 8 rfl rfl)
theorem dX0_cut_32 : decode cX0_cut 32 = .ok (.ireturn, 1) := dk_172 (dk_at dksX0_cut_1 9 rfl rfl)
abbrev cX0_freeOf : ByteArray := method_23_code
def yX0_freeOf : MethodName := ⟨RX0, "freeOf", "(LLendlathe;I[J)I"⟩
def dkwX0_freeOf_0 : List UInt8 := [44, 3, 42, 27, 182, 0, 91, 133, 80, 167, 0, 6, 78, 4, 172, 3, 172]
abbrev dktX0_freeOf_0 : List UInt8 := dkwX0_freeOf_0 ++ []
theorem dksX0_freeOf_0 : cX0_freeOf.data.toList.drop 0 = dktX0_freeOf_0 := by decide +kernel
theorem dX0_freeOf_0 : decode cX0_freeOf 0 = .ok (.aload_n 2, 1) := dk_44 (dk_at dksX0_freeOf_0 0 rfl rfl)
theorem dX0_freeOf_1 : decode cX0_freeOf 1 = .ok (.iconst 0, 1) := dk_3 (dk_at dksX0_freeOf_0 1 rfl rfl)
theorem dX0_freeOf_2 : decode cX0_freeOf 2 = .ok (.aload_n 0, 1) := dk_42 (dk_at dksX0_freeOf_0 2 rfl rfl)
theorem dX0_freeOf_3 : decode cX0_freeOf 3 = .ok (.iload_n 1, 1) := dk_27 (dk_at dksX0_freeOf_0 3 rfl rfl)
theorem dX0_freeOf_4 : decode cX0_freeOf 4 = .ok (.invokevirtual 91, 3) := dk_182 0 91 (dk_at dksX0_freeOf_0 4 rfl rfl)
theorem dX0_freeOf_7 : decode cX0_freeOf 7 = .ok (.i2l, 1) := dk_133 (dk_at dksX0_freeOf_0 7 rfl rfl)
theorem dX0_freeOf_8 : decode cX0_freeOf 8 = .ok (.lastore, 1) := dk_80 (dk_at dksX0_freeOf_0 8 rfl rfl)
theorem dX0_freeOf_9 : decode cX0_freeOf 9 = .ok (.goto 6, 3) := dk_167 0 6 (dk_at dksX0_freeOf_0 9 rfl rfl)
theorem dX0_freeOf_12 : decode cX0_freeOf 12 = .ok (.astore_n 3, 1) := dk_78 (dk_at dksX0_freeOf_0 12 rfl rfl)
theorem dX0_freeOf_13 : decode cX0_freeOf 13 = .ok (.iconst 1, 1) := dk_4 (dk_at dksX0_freeOf_0 13 rfl rfl)
theorem dX0_freeOf_14 : decode cX0_freeOf 14 = .ok (.ireturn, 1) := dk_172 (dk_at dksX0_freeOf_0 14 rfl rfl)
theorem dX0_freeOf_15 : decode cX0_freeOf 15 = .ok (.iconst 0, 1) := dk_3 (dk_at dksX0_freeOf_0 15 rfl rfl)
theorem dX0_freeOf_16 : decode cX0_freeOf 16 = .ok (.ireturn, 1) := dk_172 (dk_at dksX0_freeOf_0 16 rfl rfl)
abbrev cX0_freeByCuts : ByteArray := method_24_code
def yX0_freeByCuts : MethodName := ⟨RX0, "freeByCuts", "(LLendlathe;I[J)I"⟩
def dkwX0_freeByCuts_0 : List UInt8 := [44, 3, 42, 27, 182, 0, 95, 133, 80, 167, 0, 6, 78, 4, 172, 3, 172]
abbrev dktX0_freeByCuts_0 : List UInt8 := dkwX0_freeByCuts_0 ++ []
theorem dksX0_freeByCuts_0 : cX0_freeByCuts.data.toList.drop 0 = dktX0_freeByCuts_0 := by decide +kernel
theorem dX0_freeByCuts_0 : decode cX0_freeByCuts 0 = .ok (.aload_n 2, 1) := dk_44 (dk_at dksX0_freeByCuts_0 0 rfl rfl)
theorem dX0_freeByCuts_1 : decode cX0_freeByCuts 1 = .ok (.iconst 0, 1) := dk_3 (dk_at dksX0_freeByCuts_0 1 rfl rfl)
theorem dX0_freeByCuts_2 : decode cX0_freeByCuts 2 = .ok (.aload_n 0, 1) := dk_42 (dk_at dksX0_freeByCuts_0 2 rfl rfl)
theorem dX0_freeByCuts_3 : decode cX0_freeByCuts 3 = .ok (.iload_n 1, 1) := dk_27 (dk_at dksX0_freeByCuts_0 3 rfl rfl)
theorem dX0_freeByCuts_4 : decode cX0_freeByCuts 4 = .ok (.invokevirtual 95, 3) := dk_182 0 95 (dk_at dksX0_freeByCuts_0 4 rfl rfl)
theorem dX0_freeByCuts_7 : decode cX0_freeByCuts 7 = .ok (.i2l, 1) := dk_133 (dk_at dksX0_freeByCuts_0 7 rfl rfl)
theorem dX0_freeByCuts_8 : decode cX0_freeByCuts 8 = .ok (.lastore, 1) := dk_80 (dk_at dksX0_freeByCuts_0 8 rfl rfl)
theorem dX0_freeByCuts_9 : decode cX0_freeByCuts 9 = .ok (.goto 6, 3) := dk_167 0 6 (dk_at dksX0_freeByCuts_0 9 rfl rfl)
theorem dX0_freeByCuts_12 : decode cX0_freeByCuts 12 = .ok (.astore_n 3, 1) := dk_78 (dk_at dksX0_freeByCuts_0 12 rfl rfl)
theorem dX0_freeByCuts_13 : decode cX0_freeByCuts 13 = .ok (.iconst 1, 1) := dk_4 (dk_at dksX0_freeByCuts_0 13 rfl rfl)
theorem dX0_freeByCuts_14 : decode cX0_freeByCuts 14 = .ok (.ireturn, 1) := dk_172 (dk_at dksX0_freeByCuts_0 14 rfl rfl)
theorem dX0_freeByCuts_15 : decode cX0_freeByCuts 15 = .ok (.iconst 0, 1) := dk_3 (dk_at dksX0_freeByCuts_0 15 rfl rfl)
theorem dX0_freeByCuts_16 : decode cX0_freeByCuts 16 = .ok (.ireturn, 1) := dk_172 (dk_at dksX0_freeByCuts_0 16 rfl rfl)
abbrev cX0_setPrice : ByteArray := method_25_code
def yX0_setPrice : MethodName := ⟨RX0, "setPrice", "(LLendlathe;II[J)I"⟩
def dkwX0_setPrice_0 : List UInt8 := [45, 3, 42, 27, 28, 182, 0, 98, 133, 80, 167, 0, 7, 58, 4, 4, 172, 3, 172]
abbrev dktX0_setPrice_0 : List UInt8 := dkwX0_setPrice_0 ++ []
theorem dksX0_setPrice_0 : cX0_setPrice.data.toList.drop 0 = dktX0_setPrice_0 := by decide +kernel
theorem dX0_setPrice_0 : decode cX0_setPrice 0 = .ok (.aload_n 3, 1) := dk_45 (dk_at dksX0_setPrice_0 0 rfl rfl)
theorem dX0_setPrice_1 : decode cX0_setPrice 1 = .ok (.iconst 0, 1) := dk_3 (dk_at dksX0_setPrice_0 1 rfl rfl)
theorem dX0_setPrice_2 : decode cX0_setPrice 2 = .ok (.aload_n 0, 1) := dk_42 (dk_at dksX0_setPrice_0 2 rfl rfl)
theorem dX0_setPrice_3 : decode cX0_setPrice 3 = .ok (.iload_n 1, 1) := dk_27 (dk_at dksX0_setPrice_0 3 rfl rfl)
theorem dX0_setPrice_4 : decode cX0_setPrice 4 = .ok (.iload_n 2, 1) := dk_28 (dk_at dksX0_setPrice_0 4 rfl rfl)
theorem dX0_setPrice_5 : decode cX0_setPrice 5 = .ok (.invokevirtual 98, 3) := dk_182 0 98 (dk_at dksX0_setPrice_0 5 rfl rfl)
theorem dX0_setPrice_8 : decode cX0_setPrice 8 = .ok (.i2l, 1) := dk_133 (dk_at dksX0_setPrice_0 8 rfl rfl)
theorem dX0_setPrice_9 : decode cX0_setPrice 9 = .ok (.lastore, 1) := dk_80 (dk_at dksX0_setPrice_0 9 rfl rfl)
theorem dX0_setPrice_10 : decode cX0_setPrice 10 = .ok (.goto 7, 3) := dk_167 0 7 (dk_at dksX0_setPrice_0 10 rfl rfl)
theorem dX0_setPrice_13 : decode cX0_setPrice 13 = .ok (.astore 4, 2) := dk_58 4 (dk_at dksX0_setPrice_0 13 rfl rfl)
theorem dX0_setPrice_15 : decode cX0_setPrice 15 = .ok (.iconst 1, 1) := dk_4 (dk_at dksX0_setPrice_0 15 rfl rfl)
theorem dX0_setPrice_16 : decode cX0_setPrice 16 = .ok (.ireturn, 1) := dk_172 (dk_at dksX0_setPrice_0 16 rfl rfl)
theorem dX0_setPrice_17 : decode cX0_setPrice 17 = .ok (.iconst 0, 1) := dk_3 (dk_at dksX0_setPrice_0 17 rfl rfl)
theorem dX0_setPrice_18 : decode cX0_setPrice 18 = .ok (.ireturn, 1) := dk_172 (dk_at dksX0_setPrice_0 18 rfl rfl)
abbrev cX0_setRate : ByteArray := method_26_code
def yX0_setRate : MethodName := ⟨RX0, "setRate", "(LLendlathe;II[J)I"⟩
def dkwX0_setRate_0 : List UInt8 := [45, 3, 42, 27, 28, 182, 0, 101, 133, 80, 167, 0, 7, 58, 4, 4, 172, 3, 172]
abbrev dktX0_setRate_0 : List UInt8 := dkwX0_setRate_0 ++ []
theorem dksX0_setRate_0 : cX0_setRate.data.toList.drop 0 = dktX0_setRate_0 := by decide +kernel
theorem dX0_setRate_0 : decode cX0_setRate 0 = .ok (.aload_n 3, 1) := dk_45 (dk_at dksX0_setRate_0 0 rfl rfl)
theorem dX0_setRate_1 : decode cX0_setRate 1 = .ok (.iconst 0, 1) := dk_3 (dk_at dksX0_setRate_0 1 rfl rfl)
theorem dX0_setRate_2 : decode cX0_setRate 2 = .ok (.aload_n 0, 1) := dk_42 (dk_at dksX0_setRate_0 2 rfl rfl)
theorem dX0_setRate_3 : decode cX0_setRate 3 = .ok (.iload_n 1, 1) := dk_27 (dk_at dksX0_setRate_0 3 rfl rfl)
theorem dX0_setRate_4 : decode cX0_setRate 4 = .ok (.iload_n 2, 1) := dk_28 (dk_at dksX0_setRate_0 4 rfl rfl)
theorem dX0_setRate_5 : decode cX0_setRate 5 = .ok (.invokevirtual 101, 3) := dk_182 0 101 (dk_at dksX0_setRate_0 5 rfl rfl)
theorem dX0_setRate_8 : decode cX0_setRate 8 = .ok (.i2l, 1) := dk_133 (dk_at dksX0_setRate_0 8 rfl rfl)
theorem dX0_setRate_9 : decode cX0_setRate 9 = .ok (.lastore, 1) := dk_80 (dk_at dksX0_setRate_0 9 rfl rfl)
theorem dX0_setRate_10 : decode cX0_setRate 10 = .ok (.goto 7, 3) := dk_167 0 7 (dk_at dksX0_setRate_0 10 rfl rfl)
theorem dX0_setRate_13 : decode cX0_setRate 13 = .ok (.astore 4, 2) := dk_58 4 (dk_at dksX0_setRate_0 13 rfl rfl)
theorem dX0_setRate_15 : decode cX0_setRate 15 = .ok (.iconst 1, 1) := dk_4 (dk_at dksX0_setRate_0 15 rfl rfl)
theorem dX0_setRate_16 : decode cX0_setRate 16 = .ok (.ireturn, 1) := dk_172 (dk_at dksX0_setRate_0 16 rfl rfl)
theorem dX0_setRate_17 : decode cX0_setRate 17 = .ok (.iconst 0, 1) := dk_3 (dk_at dksX0_setRate_0 17 rfl rfl)
theorem dX0_setRate_18 : decode cX0_setRate 18 = .ok (.ireturn, 1) := dk_172 (dk_at dksX0_setRate_0 18 rfl rfl)
abbrev cX0_addFee : ByteArray := method_27_code
def yX0_addFee : MethodName := ⟨RX0, "addFee", "(LLendlathe;II[J)I"⟩
def dkwX0_addFee_0 : List UInt8 := [45, 3, 42, 27, 28, 182, 0, 104, 133, 80, 167, 0, 11, 58, 4, 4, 172, 58, 4, 5, 172, 3, 172]
abbrev dktX0_addFee_0 : List UInt8 := dkwX0_addFee_0 ++ []
theorem dksX0_addFee_0 : cX0_addFee.data.toList.drop 0 = dktX0_addFee_0 := by decide +kernel
theorem dX0_addFee_0 : decode cX0_addFee 0 = .ok (.aload_n 3, 1) := dk_45 (dk_at dksX0_addFee_0 0 rfl rfl)
theorem dX0_addFee_1 : decode cX0_addFee 1 = .ok (.iconst 0, 1) := dk_3 (dk_at dksX0_addFee_0 1 rfl rfl)
theorem dX0_addFee_2 : decode cX0_addFee 2 = .ok (.aload_n 0, 1) := dk_42 (dk_at dksX0_addFee_0 2 rfl rfl)
theorem dX0_addFee_3 : decode cX0_addFee 3 = .ok (.iload_n 1, 1) := dk_27 (dk_at dksX0_addFee_0 3 rfl rfl)
theorem dX0_addFee_4 : decode cX0_addFee 4 = .ok (.iload_n 2, 1) := dk_28 (dk_at dksX0_addFee_0 4 rfl rfl)
theorem dX0_addFee_5 : decode cX0_addFee 5 = .ok (.invokevirtual 104, 3) := dk_182 0 104 (dk_at dksX0_addFee_0 5 rfl rfl)
theorem dX0_addFee_8 : decode cX0_addFee 8 = .ok (.i2l, 1) := dk_133 (dk_at dksX0_addFee_0 8 rfl rfl)
theorem dX0_addFee_9 : decode cX0_addFee 9 = .ok (.lastore, 1) := dk_80 (dk_at dksX0_addFee_0 9 rfl rfl)
theorem dX0_addFee_10 : decode cX0_addFee 10 = .ok (.goto 11, 3) := dk_167 0 11 (dk_at dksX0_addFee_0 10 rfl rfl)
theorem dX0_addFee_13 : decode cX0_addFee 13 = .ok (.astore 4, 2) := dk_58 4 (dk_at dksX0_addFee_0 13 rfl rfl)
theorem dX0_addFee_15 : decode cX0_addFee 15 = .ok (.iconst 1, 1) := dk_4 (dk_at dksX0_addFee_0 15 rfl rfl)
theorem dX0_addFee_16 : decode cX0_addFee 16 = .ok (.ireturn, 1) := dk_172 (dk_at dksX0_addFee_0 16 rfl rfl)
theorem dX0_addFee_17 : decode cX0_addFee 17 = .ok (.astore 4, 2) := dk_58 4 (dk_at dksX0_addFee_0 17 rfl rfl)
theorem dX0_addFee_19 : decode cX0_addFee 19 = .ok (.iconst 2, 1) := dk_5 (dk_at dksX0_addFee_0 19 rfl rfl)
theorem dX0_addFee_20 : decode cX0_addFee 20 = .ok (.ireturn, 1) := dk_172 (dk_at dksX0_addFee_0 20 rfl rfl)
theorem dX0_addFee_21 : decode cX0_addFee 21 = .ok (.iconst 0, 1) := dk_3 (dk_at dksX0_addFee_0 21 rfl rfl)
theorem dX0_addFee_22 : decode cX0_addFee 22 = .ok (.ireturn, 1) := dk_172 (dk_at dksX0_addFee_0 22 rfl rfl)
abbrev cX0_addCap : ByteArray := method_28_code
def yX0_addCap : MethodName := ⟨RX0, "addCap", "(LLendlathe;II[J)I"⟩
def dkwX0_addCap_0 : List UInt8 := [45, 3, 42, 27, 28, 182, 0, 107, 133, 80, 167, 0, 11, 58, 4, 4, 172, 58, 4, 5, 172, 3, 172]
abbrev dktX0_addCap_0 : List UInt8 := dkwX0_addCap_0 ++ []
theorem dksX0_addCap_0 : cX0_addCap.data.toList.drop 0 = dktX0_addCap_0 := by decide +kernel
theorem dX0_addCap_0 : decode cX0_addCap 0 = .ok (.aload_n 3, 1) := dk_45 (dk_at dksX0_addCap_0 0 rfl rfl)
theorem dX0_addCap_1 : decode cX0_addCap 1 = .ok (.iconst 0, 1) := dk_3 (dk_at dksX0_addCap_0 1 rfl rfl)
theorem dX0_addCap_2 : decode cX0_addCap 2 = .ok (.aload_n 0, 1) := dk_42 (dk_at dksX0_addCap_0 2 rfl rfl)
theorem dX0_addCap_3 : decode cX0_addCap 3 = .ok (.iload_n 1, 1) := dk_27 (dk_at dksX0_addCap_0 3 rfl rfl)
theorem dX0_addCap_4 : decode cX0_addCap 4 = .ok (.iload_n 2, 1) := dk_28 (dk_at dksX0_addCap_0 4 rfl rfl)
theorem dX0_addCap_5 : decode cX0_addCap 5 = .ok (.invokevirtual 107, 3) := dk_182 0 107 (dk_at dksX0_addCap_0 5 rfl rfl)
theorem dX0_addCap_8 : decode cX0_addCap 8 = .ok (.i2l, 1) := dk_133 (dk_at dksX0_addCap_0 8 rfl rfl)
theorem dX0_addCap_9 : decode cX0_addCap 9 = .ok (.lastore, 1) := dk_80 (dk_at dksX0_addCap_0 9 rfl rfl)
theorem dX0_addCap_10 : decode cX0_addCap 10 = .ok (.goto 11, 3) := dk_167 0 11 (dk_at dksX0_addCap_0 10 rfl rfl)
theorem dX0_addCap_13 : decode cX0_addCap 13 = .ok (.astore 4, 2) := dk_58 4 (dk_at dksX0_addCap_0 13 rfl rfl)
theorem dX0_addCap_15 : decode cX0_addCap 15 = .ok (.iconst 1, 1) := dk_4 (dk_at dksX0_addCap_0 15 rfl rfl)
theorem dX0_addCap_16 : decode cX0_addCap 16 = .ok (.ireturn, 1) := dk_172 (dk_at dksX0_addCap_0 16 rfl rfl)
theorem dX0_addCap_17 : decode cX0_addCap 17 = .ok (.astore 4, 2) := dk_58 4 (dk_at dksX0_addCap_0 17 rfl rfl)
theorem dX0_addCap_19 : decode cX0_addCap 19 = .ok (.iconst 2, 1) := dk_5 (dk_at dksX0_addCap_0 19 rfl rfl)
theorem dX0_addCap_20 : decode cX0_addCap 20 = .ok (.ireturn, 1) := dk_172 (dk_at dksX0_addCap_0 20 rfl rfl)
theorem dX0_addCap_21 : decode cX0_addCap 21 = .ok (.iconst 0, 1) := dk_3 (dk_at dksX0_addCap_0 21 rfl rfl)
theorem dX0_addCap_22 : decode cX0_addCap 22 = .ok (.ireturn, 1) := dk_172 (dk_at dksX0_addCap_0 22 rfl rfl)
abbrev cX0_addDouble : ByteArray := method_29_code
def yX0_addDouble : MethodName := ⟨RX0, "addDouble", "(LLendlathe;II[J)I"⟩
def dkwX0_addDouble_0 : List UInt8 := [45, 3, 42, 27, 28, 182, 0, 110, 133, 80, 167, 0, 11, 58, 4, 4, 172, 58, 4, 5, 172, 3, 172]
abbrev dktX0_addDouble_0 : List UInt8 := dkwX0_addDouble_0 ++ []
theorem dksX0_addDouble_0 : cX0_addDouble.data.toList.drop 0 = dktX0_addDouble_0 := by decide +kernel
theorem dX0_addDouble_0 : decode cX0_addDouble 0 = .ok (.aload_n 3, 1) := dk_45 (dk_at dksX0_addDouble_0 0 rfl rfl)
theorem dX0_addDouble_1 : decode cX0_addDouble 1 = .ok (.iconst 0, 1) := dk_3 (dk_at dksX0_addDouble_0 1 rfl rfl)
theorem dX0_addDouble_2 : decode cX0_addDouble 2 = .ok (.aload_n 0, 1) := dk_42 (dk_at dksX0_addDouble_0 2 rfl rfl)
theorem dX0_addDouble_3 : decode cX0_addDouble 3 = .ok (.iload_n 1, 1) := dk_27 (dk_at dksX0_addDouble_0 3 rfl rfl)
theorem dX0_addDouble_4 : decode cX0_addDouble 4 = .ok (.iload_n 2, 1) := dk_28 (dk_at dksX0_addDouble_0 4 rfl rfl)
theorem dX0_addDouble_5 : decode cX0_addDouble 5 = .ok (.invokevirtual 110, 3) := dk_182 0 110 (dk_at dksX0_addDouble_0 5 rfl rfl)
theorem dX0_addDouble_8 : decode cX0_addDouble 8 = .ok (.i2l, 1) := dk_133 (dk_at dksX0_addDouble_0 8 rfl rfl)
theorem dX0_addDouble_9 : decode cX0_addDouble 9 = .ok (.lastore, 1) := dk_80 (dk_at dksX0_addDouble_0 9 rfl rfl)
theorem dX0_addDouble_10 : decode cX0_addDouble 10 = .ok (.goto 11, 3) := dk_167 0 11 (dk_at dksX0_addDouble_0 10 rfl rfl)
theorem dX0_addDouble_13 : decode cX0_addDouble 13 = .ok (.astore 4, 2) := dk_58 4 (dk_at dksX0_addDouble_0 13 rfl rfl)
theorem dX0_addDouble_15 : decode cX0_addDouble 15 = .ok (.iconst 1, 1) := dk_4 (dk_at dksX0_addDouble_0 15 rfl rfl)
theorem dX0_addDouble_16 : decode cX0_addDouble 16 = .ok (.ireturn, 1) := dk_172 (dk_at dksX0_addDouble_0 16 rfl rfl)
theorem dX0_addDouble_17 : decode cX0_addDouble 17 = .ok (.astore 4, 2) := dk_58 4 (dk_at dksX0_addDouble_0 17 rfl rfl)
theorem dX0_addDouble_19 : decode cX0_addDouble 19 = .ok (.iconst 2, 1) := dk_5 (dk_at dksX0_addDouble_0 19 rfl rfl)
theorem dX0_addDouble_20 : decode cX0_addDouble 20 = .ok (.ireturn, 1) := dk_172 (dk_at dksX0_addDouble_0 20 rfl rfl)
theorem dX0_addDouble_21 : decode cX0_addDouble 21 = .ok (.iconst 0, 1) := dk_3 (dk_at dksX0_addDouble_0 21 rfl rfl)
theorem dX0_addDouble_22 : decode cX0_addDouble 22 = .ok (.ireturn, 1) := dk_172 (dk_at dksX0_addDouble_0 22 rfl rfl)
abbrev cX0_addDiscount : ByteArray := method_30_code
def yX0_addDiscount : MethodName := ⟨RX0, "addDiscount", "(LLendlathe;II[J)I"⟩
def dkwX0_addDiscount_0 : List UInt8 := [45, 3, 42, 27, 28, 182, 0, 113, 133, 80, 167, 0, 11, 58, 4, 4, 172, 58, 4, 5, 172, 3, 172]
abbrev dktX0_addDiscount_0 : List UInt8 := dkwX0_addDiscount_0 ++ []
theorem dksX0_addDiscount_0 : cX0_addDiscount.data.toList.drop 0 = dktX0_addDiscount_0 := by decide +kernel
theorem dX0_addDiscount_0 : decode cX0_addDiscount 0 = .ok (.aload_n 3, 1) := dk_45 (dk_at dksX0_addDiscount_0 0 rfl rfl)
theorem dX0_addDiscount_1 : decode cX0_addDiscount 1 = .ok (.iconst 0, 1) := dk_3 (dk_at dksX0_addDiscount_0 1 rfl rfl)
theorem dX0_addDiscount_2 : decode cX0_addDiscount 2 = .ok (.aload_n 0, 1) := dk_42 (dk_at dksX0_addDiscount_0 2 rfl rfl)
theorem dX0_addDiscount_3 : decode cX0_addDiscount 3 = .ok (.iload_n 1, 1) := dk_27 (dk_at dksX0_addDiscount_0 3 rfl rfl)
theorem dX0_addDiscount_4 : decode cX0_addDiscount 4 = .ok (.iload_n 2, 1) := dk_28 (dk_at dksX0_addDiscount_0 4 rfl rfl)
theorem dX0_addDiscount_5 : decode cX0_addDiscount 5 = .ok (.invokevirtual 113, 3) := dk_182 0 113 (dk_at dksX0_addDiscount_0 5 rfl rfl)
theorem dX0_addDiscount_8 : decode cX0_addDiscount 8 = .ok (.i2l, 1) := dk_133 (dk_at dksX0_addDiscount_0 8 rfl rfl)
theorem dX0_addDiscount_9 : decode cX0_addDiscount 9 = .ok (.lastore, 1) := dk_80 (dk_at dksX0_addDiscount_0 9 rfl rfl)
theorem dX0_addDiscount_10 : decode cX0_addDiscount 10 = .ok (.goto 11, 3) := dk_167 0 11 (dk_at dksX0_addDiscount_0 10 rfl rfl)
theorem dX0_addDiscount_13 : decode cX0_addDiscount 13 = .ok (.astore 4, 2) := dk_58 4 (dk_at dksX0_addDiscount_0 13 rfl rfl)
theorem dX0_addDiscount_15 : decode cX0_addDiscount 15 = .ok (.iconst 1, 1) := dk_4 (dk_at dksX0_addDiscount_0 15 rfl rfl)
theorem dX0_addDiscount_16 : decode cX0_addDiscount 16 = .ok (.ireturn, 1) := dk_172 (dk_at dksX0_addDiscount_0 16 rfl rfl)
theorem dX0_addDiscount_17 : decode cX0_addDiscount 17 = .ok (.astore 4, 2) := dk_58 4 (dk_at dksX0_addDiscount_0 17 rfl rfl)
theorem dX0_addDiscount_19 : decode cX0_addDiscount 19 = .ok (.iconst 2, 1) := dk_5 (dk_at dksX0_addDiscount_0 19 rfl rfl)
theorem dX0_addDiscount_20 : decode cX0_addDiscount 20 = .ok (.ireturn, 1) := dk_172 (dk_at dksX0_addDiscount_0 20 rfl rfl)
theorem dX0_addDiscount_21 : decode cX0_addDiscount 21 = .ok (.iconst 0, 1) := dk_3 (dk_at dksX0_addDiscount_0 21 rfl rfl)
theorem dX0_addDiscount_22 : decode cX0_addDiscount 22 = .ok (.ireturn, 1) := dk_172 (dk_at dksX0_addDiscount_0 22 rfl rfl)
abbrev cX0_costOf : ByteArray := method_31_code
def yX0_costOf : MethodName := ⟨RX0, "costOf", "(LLendlathe;II[J)I"⟩
def dkwX0_costOf_0 : List UInt8 := [45, 3, 42, 27, 28, 182, 0, 116, 133, 80, 167, 0, 7, 58, 4, 4, 172, 3, 172]
abbrev dktX0_costOf_0 : List UInt8 := dkwX0_costOf_0 ++ []
theorem dksX0_costOf_0 : cX0_costOf.data.toList.drop 0 = dktX0_costOf_0 := by decide +kernel
theorem dX0_costOf_0 : decode cX0_costOf 0 = .ok (.aload_n 3, 1) := dk_45 (dk_at dksX0_costOf_0 0 rfl rfl)
theorem dX0_costOf_1 : decode cX0_costOf 1 = .ok (.iconst 0, 1) := dk_3 (dk_at dksX0_costOf_0 1 rfl rfl)
theorem dX0_costOf_2 : decode cX0_costOf 2 = .ok (.aload_n 0, 1) := dk_42 (dk_at dksX0_costOf_0 2 rfl rfl)
theorem dX0_costOf_3 : decode cX0_costOf 3 = .ok (.iload_n 1, 1) := dk_27 (dk_at dksX0_costOf_0 3 rfl rfl)
theorem dX0_costOf_4 : decode cX0_costOf 4 = .ok (.iload_n 2, 1) := dk_28 (dk_at dksX0_costOf_0 4 rfl rfl)
theorem dX0_costOf_5 : decode cX0_costOf 5 = .ok (.invokevirtual 116, 3) := dk_182 0 116 (dk_at dksX0_costOf_0 5 rfl rfl)
theorem dX0_costOf_8 : decode cX0_costOf 8 = .ok (.i2l, 1) := dk_133 (dk_at dksX0_costOf_0 8 rfl rfl)
theorem dX0_costOf_9 : decode cX0_costOf 9 = .ok (.lastore, 1) := dk_80 (dk_at dksX0_costOf_0 9 rfl rfl)
theorem dX0_costOf_10 : decode cX0_costOf 10 = .ok (.goto 7, 3) := dk_167 0 7 (dk_at dksX0_costOf_0 10 rfl rfl)
theorem dX0_costOf_13 : decode cX0_costOf 13 = .ok (.astore 4, 2) := dk_58 4 (dk_at dksX0_costOf_0 13 rfl rfl)
theorem dX0_costOf_15 : decode cX0_costOf 15 = .ok (.iconst 1, 1) := dk_4 (dk_at dksX0_costOf_0 15 rfl rfl)
theorem dX0_costOf_16 : decode cX0_costOf 16 = .ok (.ireturn, 1) := dk_172 (dk_at dksX0_costOf_0 16 rfl rfl)
theorem dX0_costOf_17 : decode cX0_costOf 17 = .ok (.iconst 0, 1) := dk_3 (dk_at dksX0_costOf_0 17 rfl rfl)
theorem dX0_costOf_18 : decode cX0_costOf 18 = .ok (.ireturn, 1) := dk_172 (dk_at dksX0_costOf_0 18 rfl rfl)
abbrev cX0_breakDown : ByteArray := method_32_code
def yX0_breakDown : MethodName := ⟨RX0, "breakDown", "(LLendlathe;II[J)I"⟩
def dkwX0_breakDown_1 : List UInt8 := [172, 3, 172]
abbrev dktX0_breakDown_1 : List UInt8 := dkwX0_breakDown_1 ++ []
def dkwX0_breakDown_0 : List UInt8 := [45, 3, 42, 27, 28, 182, 0, 119, 133, 80, 167, 0, 15, 58, 4, 4, 172, 58, 4, 5, 172, 58, 4, 6]
abbrev dktX0_breakDown_0 : List UInt8 := dkwX0_breakDown_0 ++ dktX0_breakDown_1
theorem dksX0_breakDown_0 : cX0_breakDown.data.toList.drop 0 = dktX0_breakDown_0 := by decide +kernel
theorem dksX0_breakDown_1 : cX0_breakDown.data.toList.drop 24 = dktX0_breakDown_1 := dk_seg dksX0_breakDown_0 24 rfl rfl
theorem dX0_breakDown_0 : decode cX0_breakDown 0 = .ok (.aload_n 3, 1) := dk_45 (dk_at dksX0_breakDown_0 0 rfl rfl)
theorem dX0_breakDown_1 : decode cX0_breakDown 1 = .ok (.iconst 0, 1) := dk_3 (dk_at dksX0_breakDown_0 1 rfl rfl)
theorem dX0_breakDown_2 : decode cX0_breakDown 2 = .ok (.aload_n 0, 1) := dk_42 (dk_at dksX0_breakDown_0 2 rfl rfl)
theorem dX0_breakDown_3 : decode cX0_breakDown 3 = .ok (.iload_n 1, 1) := dk_27 (dk_at dksX0_breakDown_0 3 rfl rfl)
theorem dX0_breakDown_4 : decode cX0_breakDown 4 = .ok (.iload_n 2, 1) := dk_28 (dk_at dksX0_breakDown_0 4 rfl rfl)
theorem dX0_breakDown_5 : decode cX0_breakDown 5 = .ok (.invokevirtual 119, 3) := dk_182 0 119 (dk_at dksX0_breakDown_0 5 rfl rfl)
theorem dX0_breakDown_8 : decode cX0_breakDown 8 = .ok (.i2l, 1) := dk_133 (dk_at dksX0_breakDown_0 8 rfl rfl)
theorem dX0_breakDown_9 : decode cX0_breakDown 9 = .ok (.lastore, 1) := dk_80 (dk_at dksX0_breakDown_0 9 rfl rfl)
theorem dX0_breakDown_10 : decode cX0_breakDown 10 = .ok (.goto 15, 3) := dk_167 0 15 (dk_at dksX0_breakDown_0 10 rfl rfl)
theorem dX0_breakDown_13 : decode cX0_breakDown 13 = .ok (.astore 4, 2) := dk_58 4 (dk_at dksX0_breakDown_0 13 rfl rfl)
theorem dX0_breakDown_15 : decode cX0_breakDown 15 = .ok (.iconst 1, 1) := dk_4 (dk_at dksX0_breakDown_0 15 rfl rfl)
theorem dX0_breakDown_16 : decode cX0_breakDown 16 = .ok (.ireturn, 1) := dk_172 (dk_at dksX0_breakDown_0 16 rfl rfl)
theorem dX0_breakDown_17 : decode cX0_breakDown 17 = .ok (.astore 4, 2) := dk_58 4 (dk_at dksX0_breakDown_0 17 rfl rfl)
theorem dX0_breakDown_19 : decode cX0_breakDown 19 = .ok (.iconst 2, 1) := dk_5 (dk_at dksX0_breakDown_0 19 rfl rfl)
theorem dX0_breakDown_20 : decode cX0_breakDown 20 = .ok (.ireturn, 1) := dk_172 (dk_at dksX0_breakDown_0 20 rfl rfl)
theorem dX0_breakDown_21 : decode cX0_breakDown 21 = .ok (.astore 4, 2) := dk_58 4 (dk_at dksX0_breakDown_0 21 rfl rfl)
theorem dX0_breakDown_23 : decode cX0_breakDown 23 = .ok (.iconst 3, 1) := dk_6 (dk_at dksX0_breakDown_0 23 rfl rfl)
theorem dX0_breakDown_24 : decode cX0_breakDown 24 = .ok (.ireturn, 1) := dk_172 (dk_at dksX0_breakDown_1 0 rfl rfl)
theorem dX0_breakDown_25 : decode cX0_breakDown 25 = .ok (.iconst 0, 1) := dk_3 (dk_at dksX0_breakDown_1 1 rfl rfl)
theorem dX0_breakDown_26 : decode cX0_breakDown 26 = .ok (.ireturn, 1) := dk_172 (dk_at dksX0_breakDown_1 2 rfl rfl)
abbrev cX0_shareOf : ByteArray := method_33_code
def yX0_shareOf : MethodName := ⟨RX0, "shareOf", "(LLendlathe;II[J)I"⟩
def dkwX0_shareOf_0 : List UInt8 := [45, 3, 42, 27, 28, 182, 0, 122, 133, 80, 167, 0, 11, 58, 4, 4, 172, 58, 4, 5, 172, 3, 172]
abbrev dktX0_shareOf_0 : List UInt8 := dkwX0_shareOf_0 ++ []
theorem dksX0_shareOf_0 : cX0_shareOf.data.toList.drop 0 = dktX0_shareOf_0 := by decide +kernel
theorem dX0_shareOf_0 : decode cX0_shareOf 0 = .ok (.aload_n 3, 1) := dk_45 (dk_at dksX0_shareOf_0 0 rfl rfl)
theorem dX0_shareOf_1 : decode cX0_shareOf 1 = .ok (.iconst 0, 1) := dk_3 (dk_at dksX0_shareOf_0 1 rfl rfl)
theorem dX0_shareOf_2 : decode cX0_shareOf 2 = .ok (.aload_n 0, 1) := dk_42 (dk_at dksX0_shareOf_0 2 rfl rfl)
theorem dX0_shareOf_3 : decode cX0_shareOf 3 = .ok (.iload_n 1, 1) := dk_27 (dk_at dksX0_shareOf_0 3 rfl rfl)
theorem dX0_shareOf_4 : decode cX0_shareOf 4 = .ok (.iload_n 2, 1) := dk_28 (dk_at dksX0_shareOf_0 4 rfl rfl)
theorem dX0_shareOf_5 : decode cX0_shareOf 5 = .ok (.invokevirtual 122, 3) := dk_182 0 122 (dk_at dksX0_shareOf_0 5 rfl rfl)
theorem dX0_shareOf_8 : decode cX0_shareOf 8 = .ok (.i2l, 1) := dk_133 (dk_at dksX0_shareOf_0 8 rfl rfl)
theorem dX0_shareOf_9 : decode cX0_shareOf 9 = .ok (.lastore, 1) := dk_80 (dk_at dksX0_shareOf_0 9 rfl rfl)
theorem dX0_shareOf_10 : decode cX0_shareOf 10 = .ok (.goto 11, 3) := dk_167 0 11 (dk_at dksX0_shareOf_0 10 rfl rfl)
theorem dX0_shareOf_13 : decode cX0_shareOf 13 = .ok (.astore 4, 2) := dk_58 4 (dk_at dksX0_shareOf_0 13 rfl rfl)
theorem dX0_shareOf_15 : decode cX0_shareOf 15 = .ok (.iconst 1, 1) := dk_4 (dk_at dksX0_shareOf_0 15 rfl rfl)
theorem dX0_shareOf_16 : decode cX0_shareOf 16 = .ok (.ireturn, 1) := dk_172 (dk_at dksX0_shareOf_0 16 rfl rfl)
theorem dX0_shareOf_17 : decode cX0_shareOf 17 = .ok (.astore 4, 2) := dk_58 4 (dk_at dksX0_shareOf_0 17 rfl rfl)
theorem dX0_shareOf_19 : decode cX0_shareOf 19 = .ok (.iconst 2, 1) := dk_5 (dk_at dksX0_shareOf_0 19 rfl rfl)
theorem dX0_shareOf_20 : decode cX0_shareOf 20 = .ok (.ireturn, 1) := dk_172 (dk_at dksX0_shareOf_0 20 rfl rfl)
theorem dX0_shareOf_21 : decode cX0_shareOf 21 = .ok (.iconst 0, 1) := dk_3 (dk_at dksX0_shareOf_0 21 rfl rfl)
theorem dX0_shareOf_22 : decode cX0_shareOf 22 = .ok (.ireturn, 1) := dk_172 (dk_at dksX0_shareOf_0 22 rfl rfl)
abbrev cX0_pay : ByteArray := method_34_code
def yX0_pay : MethodName := ⟨RX0, "pay", "(LLendlathe;II[J)I"⟩
def dkwX0_pay_1 : List UInt8 := [172, 3, 172]
abbrev dktX0_pay_1 : List UInt8 := dkwX0_pay_1 ++ []
def dkwX0_pay_0 : List UInt8 := [45, 3, 42, 27, 28, 182, 0, 125, 133, 80, 167, 0, 15, 58, 4, 4, 172, 58, 4, 5, 172, 58, 4, 6]
abbrev dktX0_pay_0 : List UInt8 := dkwX0_pay_0 ++ dktX0_pay_1
theorem dksX0_pay_0 : cX0_pay.data.toList.drop 0 = dktX0_pay_0 := by decide +kernel
theorem dksX0_pay_1 : cX0_pay.data.toList.drop 24 = dktX0_pay_1 := dk_seg dksX0_pay_0 24 rfl rfl
theorem dX0_pay_0 : decode cX0_pay 0 = .ok (.aload_n 3, 1) := dk_45 (dk_at dksX0_pay_0 0 rfl rfl)
theorem dX0_pay_1 : decode cX0_pay 1 = .ok (.iconst 0, 1) := dk_3 (dk_at dksX0_pay_0 1 rfl rfl)
theorem dX0_pay_2 : decode cX0_pay 2 = .ok (.aload_n 0, 1) := dk_42 (dk_at dksX0_pay_0 2 rfl rfl)
theorem dX0_pay_3 : decode cX0_pay 3 = .ok (.iload_n 1, 1) := dk_27 (dk_at dksX0_pay_0 3 rfl rfl)
theorem dX0_pay_4 : decode cX0_pay 4 = .ok (.iload_n 2, 1) := dk_28 (dk_at dksX0_pay_0 4 rfl rfl)
theorem dX0_pay_5 : decode cX0_pay 5 = .ok (.invokevirtual 125, 3) := dk_182 0 125 (dk_at dksX0_pay_0 5 rfl rfl)
theorem dX0_pay_8 : decode cX0_pay 8 = .ok (.i2l, 1) := dk_133 (dk_at dksX0_pay_0 8 rfl rfl)
theorem dX0_pay_9 : decode cX0_pay 9 = .ok (.lastore, 1) := dk_80 (dk_at dksX0_pay_0 9 rfl rfl)
theorem dX0_pay_10 : decode cX0_pay 10 = .ok (.goto 15, 3) := dk_167 0 15 (dk_at dksX0_pay_0 10 rfl rfl)
theorem dX0_pay_13 : decode cX0_pay 13 = .ok (.astore 4, 2) := dk_58 4 (dk_at dksX0_pay_0 13 rfl rfl)
theorem dX0_pay_15 : decode cX0_pay 15 = .ok (.iconst 1, 1) := dk_4 (dk_at dksX0_pay_0 15 rfl rfl)
theorem dX0_pay_16 : decode cX0_pay 16 = .ok (.ireturn, 1) := dk_172 (dk_at dksX0_pay_0 16 rfl rfl)
theorem dX0_pay_17 : decode cX0_pay 17 = .ok (.astore 4, 2) := dk_58 4 (dk_at dksX0_pay_0 17 rfl rfl)
theorem dX0_pay_19 : decode cX0_pay 19 = .ok (.iconst 2, 1) := dk_5 (dk_at dksX0_pay_0 19 rfl rfl)
theorem dX0_pay_20 : decode cX0_pay 20 = .ok (.ireturn, 1) := dk_172 (dk_at dksX0_pay_0 20 rfl rfl)
theorem dX0_pay_21 : decode cX0_pay 21 = .ok (.astore 4, 2) := dk_58 4 (dk_at dksX0_pay_0 21 rfl rfl)
theorem dX0_pay_23 : decode cX0_pay 23 = .ok (.iconst 3, 1) := dk_6 (dk_at dksX0_pay_0 23 rfl rfl)
theorem dX0_pay_24 : decode cX0_pay 24 = .ok (.ireturn, 1) := dk_172 (dk_at dksX0_pay_1 0 rfl rfl)
theorem dX0_pay_25 : decode cX0_pay 25 = .ok (.iconst 0, 1) := dk_3 (dk_at dksX0_pay_1 1 rfl rfl)
theorem dX0_pay_26 : decode cX0_pay 26 = .ok (.ireturn, 1) := dk_172 (dk_at dksX0_pay_1 2 rfl rfl)
abbrev cX0_owes : ByteArray := method_35_code
def yX0_owes : MethodName := ⟨RX0, "owes", "(LLendlathe;I[J)I"⟩
def dkwX0_owes_0 : List UInt8 := [44, 3, 42, 27, 182, 0, 128, 133, 80, 167, 0, 6, 78, 4, 172, 3, 172]
abbrev dktX0_owes_0 : List UInt8 := dkwX0_owes_0 ++ []
theorem dksX0_owes_0 : cX0_owes.data.toList.drop 0 = dktX0_owes_0 := by decide +kernel
theorem dX0_owes_0 : decode cX0_owes 0 = .ok (.aload_n 2, 1) := dk_44 (dk_at dksX0_owes_0 0 rfl rfl)
theorem dX0_owes_1 : decode cX0_owes 1 = .ok (.iconst 0, 1) := dk_3 (dk_at dksX0_owes_0 1 rfl rfl)
theorem dX0_owes_2 : decode cX0_owes 2 = .ok (.aload_n 0, 1) := dk_42 (dk_at dksX0_owes_0 2 rfl rfl)
theorem dX0_owes_3 : decode cX0_owes 3 = .ok (.iload_n 1, 1) := dk_27 (dk_at dksX0_owes_0 3 rfl rfl)
theorem dX0_owes_4 : decode cX0_owes 4 = .ok (.invokevirtual 128, 3) := dk_182 0 128 (dk_at dksX0_owes_0 4 rfl rfl)
theorem dX0_owes_7 : decode cX0_owes 7 = .ok (.i2l, 1) := dk_133 (dk_at dksX0_owes_0 7 rfl rfl)
theorem dX0_owes_8 : decode cX0_owes 8 = .ok (.lastore, 1) := dk_80 (dk_at dksX0_owes_0 8 rfl rfl)
theorem dX0_owes_9 : decode cX0_owes 9 = .ok (.goto 6, 3) := dk_167 0 6 (dk_at dksX0_owes_0 9 rfl rfl)
theorem dX0_owes_12 : decode cX0_owes 12 = .ok (.astore_n 3, 1) := dk_78 (dk_at dksX0_owes_0 12 rfl rfl)
theorem dX0_owes_13 : decode cX0_owes 13 = .ok (.iconst 1, 1) := dk_4 (dk_at dksX0_owes_0 13 rfl rfl)
theorem dX0_owes_14 : decode cX0_owes 14 = .ok (.ireturn, 1) := dk_172 (dk_at dksX0_owes_0 14 rfl rfl)
theorem dX0_owes_15 : decode cX0_owes 15 = .ok (.iconst 0, 1) := dk_3 (dk_at dksX0_owes_0 15 rfl rfl)
theorem dX0_owes_16 : decode cX0_owes 16 = .ok (.ireturn, 1) := dk_172 (dk_at dksX0_owes_0 16 rfl rfl)
abbrev cX0_owesByEntries : ByteArray := method_36_code
def yX0_owesByEntries : MethodName := ⟨RX0, "owesByEntries", "(LLendlathe;I[J)I"⟩
def dkwX0_owesByEntries_0 : List UInt8 := [44, 3, 42, 27, 182, 0, 131, 133, 80, 167, 0, 6, 78, 4, 172, 3, 172]
abbrev dktX0_owesByEntries_0 : List UInt8 := dkwX0_owesByEntries_0 ++ []
theorem dksX0_owesByEntries_0 : cX0_owesByEntries.data.toList.drop 0 = dktX0_owesByEntries_0 := by decide +kernel
theorem dX0_owesByEntries_0 : decode cX0_owesByEntries 0 = .ok (.aload_n 2, 1) := dk_44 (dk_at dksX0_owesByEntries_0 0 rfl rfl)
theorem dX0_owesByEntries_1 : decode cX0_owesByEntries 1 = .ok (.iconst 0, 1) := dk_3 (dk_at dksX0_owesByEntries_0 1 rfl rfl)
theorem dX0_owesByEntries_2 : decode cX0_owesByEntries 2 = .ok (.aload_n 0, 1) := dk_42 (dk_at dksX0_owesByEntries_0 2 rfl rfl)
theorem dX0_owesByEntries_3 : decode cX0_owesByEntries 3 = .ok (.iload_n 1, 1) := dk_27 (dk_at dksX0_owesByEntries_0 3 rfl rfl)
theorem dX0_owesByEntries_4 : decode cX0_owesByEntries 4 = .ok (.invokevirtual 131, 3) := dk_182 0 131 (dk_at dksX0_owesByEntries_0 4 rfl rfl)
theorem dX0_owesByEntries_7 : decode cX0_owesByEntries 7 = .ok (.i2l, 1) := dk_133 (dk_at dksX0_owesByEntries_0 7 rfl rfl)
theorem dX0_owesByEntries_8 : decode cX0_owesByEntries 8 = .ok (.lastore, 1) := dk_80 (dk_at dksX0_owesByEntries_0 8 rfl rfl)
theorem dX0_owesByEntries_9 : decode cX0_owesByEntries 9 = .ok (.goto 6, 3) := dk_167 0 6 (dk_at dksX0_owesByEntries_0 9 rfl rfl)
theorem dX0_owesByEntries_12 : decode cX0_owesByEntries 12 = .ok (.astore_n 3, 1) := dk_78 (dk_at dksX0_owesByEntries_0 12 rfl rfl)
theorem dX0_owesByEntries_13 : decode cX0_owesByEntries 13 = .ok (.iconst 1, 1) := dk_4 (dk_at dksX0_owesByEntries_0 13 rfl rfl)
theorem dX0_owesByEntries_14 : decode cX0_owesByEntries 14 = .ok (.ireturn, 1) := dk_172 (dk_at dksX0_owesByEntries_0 14 rfl rfl)
theorem dX0_owesByEntries_15 : decode cX0_owesByEntries 15 = .ok (.iconst 0, 1) := dk_3 (dk_at dksX0_owesByEntries_0 15 rfl rfl)
theorem dX0_owesByEntries_16 : decode cX0_owesByEntries 16 = .ok (.ireturn, 1) := dk_172 (dk_at dksX0_owesByEntries_0 16 rfl rfl)
abbrev cX0_dueOf : ByteArray := method_37_code
def yX0_dueOf : MethodName := ⟨RX0, "dueOf", "(LLendlathe;I[J)I"⟩
def dkwX0_dueOf_0 : List UInt8 := [44, 3, 42, 27, 182, 0, 134, 133, 80, 167, 0, 6, 78, 4, 172, 3, 172]
abbrev dktX0_dueOf_0 : List UInt8 := dkwX0_dueOf_0 ++ []
theorem dksX0_dueOf_0 : cX0_dueOf.data.toList.drop 0 = dktX0_dueOf_0 := by decide +kernel
theorem dX0_dueOf_0 : decode cX0_dueOf 0 = .ok (.aload_n 2, 1) := dk_44 (dk_at dksX0_dueOf_0 0 rfl rfl)
theorem dX0_dueOf_1 : decode cX0_dueOf 1 = .ok (.iconst 0, 1) := dk_3 (dk_at dksX0_dueOf_0 1 rfl rfl)
theorem dX0_dueOf_2 : decode cX0_dueOf 2 = .ok (.aload_n 0, 1) := dk_42 (dk_at dksX0_dueOf_0 2 rfl rfl)
theorem dX0_dueOf_3 : decode cX0_dueOf 3 = .ok (.iload_n 1, 1) := dk_27 (dk_at dksX0_dueOf_0 3 rfl rfl)
theorem dX0_dueOf_4 : decode cX0_dueOf 4 = .ok (.invokevirtual 134, 3) := dk_182 0 134 (dk_at dksX0_dueOf_0 4 rfl rfl)
theorem dX0_dueOf_7 : decode cX0_dueOf 7 = .ok (.i2l, 1) := dk_133 (dk_at dksX0_dueOf_0 7 rfl rfl)
theorem dX0_dueOf_8 : decode cX0_dueOf 8 = .ok (.lastore, 1) := dk_80 (dk_at dksX0_dueOf_0 8 rfl rfl)
theorem dX0_dueOf_9 : decode cX0_dueOf 9 = .ok (.goto 6, 3) := dk_167 0 6 (dk_at dksX0_dueOf_0 9 rfl rfl)
theorem dX0_dueOf_12 : decode cX0_dueOf 12 = .ok (.astore_n 3, 1) := dk_78 (dk_at dksX0_dueOf_0 12 rfl rfl)
theorem dX0_dueOf_13 : decode cX0_dueOf 13 = .ok (.iconst 1, 1) := dk_4 (dk_at dksX0_dueOf_0 13 rfl rfl)
theorem dX0_dueOf_14 : decode cX0_dueOf 14 = .ok (.ireturn, 1) := dk_172 (dk_at dksX0_dueOf_0 14 rfl rfl)
theorem dX0_dueOf_15 : decode cX0_dueOf 15 = .ok (.iconst 0, 1) := dk_3 (dk_at dksX0_dueOf_0 15 rfl rfl)
theorem dX0_dueOf_16 : decode cX0_dueOf 16 = .ok (.ireturn, 1) := dk_172 (dk_at dksX0_dueOf_0 16 rfl rfl)
abbrev cX0_use : ByteArray := method_38_code
def yX0_use : MethodName := ⟨RX0, "use", "(LLendlathe;II[D)I"⟩
def dkwX0_use_0 : List UInt8 := [45, 3, 42, 27, 28, 182, 0, 137, 141, 82, 167, 0, 11, 58, 4, 4, 172, 58, 4, 5, 172, 3, 172]
abbrev dktX0_use_0 : List UInt8 := dkwX0_use_0 ++ []
theorem dksX0_use_0 : cX0_use.data.toList.drop 0 = dktX0_use_0 := by decide +kernel
theorem dX0_use_0 : decode cX0_use 0 = .ok (.aload_n 3, 1) := dk_45 (dk_at dksX0_use_0 0 rfl rfl)
theorem dX0_use_1 : decode cX0_use 1 = .ok (.iconst 0, 1) := dk_3 (dk_at dksX0_use_0 1 rfl rfl)
theorem dX0_use_2 : decode cX0_use 2 = .ok (.aload_n 0, 1) := dk_42 (dk_at dksX0_use_0 2 rfl rfl)
theorem dX0_use_3 : decode cX0_use 3 = .ok (.iload_n 1, 1) := dk_27 (dk_at dksX0_use_0 3 rfl rfl)
theorem dX0_use_4 : decode cX0_use 4 = .ok (.iload_n 2, 1) := dk_28 (dk_at dksX0_use_0 4 rfl rfl)
theorem dX0_use_5 : decode cX0_use 5 = .ok (.invokevirtual 137, 3) := dk_182 0 137 (dk_at dksX0_use_0 5 rfl rfl)
theorem dX0_use_8 : decode cX0_use 8 = .ok (.f2d, 1) := dk_141 (dk_at dksX0_use_0 8 rfl rfl)
theorem dX0_use_9 : decode cX0_use 9 = .ok (.dastore, 1) := dk_82 (dk_at dksX0_use_0 9 rfl rfl)
theorem dX0_use_10 : decode cX0_use 10 = .ok (.goto 11, 3) := dk_167 0 11 (dk_at dksX0_use_0 10 rfl rfl)
theorem dX0_use_13 : decode cX0_use 13 = .ok (.astore 4, 2) := dk_58 4 (dk_at dksX0_use_0 13 rfl rfl)
theorem dX0_use_15 : decode cX0_use 15 = .ok (.iconst 1, 1) := dk_4 (dk_at dksX0_use_0 15 rfl rfl)
theorem dX0_use_16 : decode cX0_use 16 = .ok (.ireturn, 1) := dk_172 (dk_at dksX0_use_0 16 rfl rfl)
theorem dX0_use_17 : decode cX0_use 17 = .ok (.astore 4, 2) := dk_58 4 (dk_at dksX0_use_0 17 rfl rfl)
theorem dX0_use_19 : decode cX0_use 19 = .ok (.iconst 2, 1) := dk_5 (dk_at dksX0_use_0 19 rfl rfl)
theorem dX0_use_20 : decode cX0_use 20 = .ok (.ireturn, 1) := dk_172 (dk_at dksX0_use_0 20 rfl rfl)
theorem dX0_use_21 : decode cX0_use 21 = .ok (.iconst 0, 1) := dk_3 (dk_at dksX0_use_0 21 rfl rfl)
theorem dX0_use_22 : decode cX0_use 22 = .ok (.ireturn, 1) := dk_172 (dk_at dksX0_use_0 22 rfl rfl)
abbrev cX0_meanMinutes : ByteArray := method_39_code
def yX0_meanMinutes : MethodName := ⟨RX0, "meanMinutes", "(LLendlathe;[D)I"⟩
def dkwX0_meanMinutes_0 : List UInt8 := [43, 3, 42, 182, 0, 141, 82, 167, 0, 6, 77, 4, 172, 3, 172]
abbrev dktX0_meanMinutes_0 : List UInt8 := dkwX0_meanMinutes_0 ++ []
theorem dksX0_meanMinutes_0 : cX0_meanMinutes.data.toList.drop 0 = dktX0_meanMinutes_0 := by decide +kernel
theorem dX0_meanMinutes_0 : decode cX0_meanMinutes 0 = .ok (.aload_n 1, 1) := dk_43 (dk_at dksX0_meanMinutes_0 0 rfl rfl)
theorem dX0_meanMinutes_1 : decode cX0_meanMinutes 1 = .ok (.iconst 0, 1) := dk_3 (dk_at dksX0_meanMinutes_0 1 rfl rfl)
theorem dX0_meanMinutes_2 : decode cX0_meanMinutes 2 = .ok (.aload_n 0, 1) := dk_42 (dk_at dksX0_meanMinutes_0 2 rfl rfl)
theorem dX0_meanMinutes_3 : decode cX0_meanMinutes 3 = .ok (.invokevirtual 141, 3) := dk_182 0 141 (dk_at dksX0_meanMinutes_0 3 rfl rfl)
theorem dX0_meanMinutes_6 : decode cX0_meanMinutes 6 = .ok (.dastore, 1) := dk_82 (dk_at dksX0_meanMinutes_0 6 rfl rfl)
theorem dX0_meanMinutes_7 : decode cX0_meanMinutes 7 = .ok (.goto 6, 3) := dk_167 0 6 (dk_at dksX0_meanMinutes_0 7 rfl rfl)
theorem dX0_meanMinutes_10 : decode cX0_meanMinutes 10 = .ok (.astore_n 2, 1) := dk_77 (dk_at dksX0_meanMinutes_0 10 rfl rfl)
theorem dX0_meanMinutes_11 : decode cX0_meanMinutes 11 = .ok (.iconst 1, 1) := dk_4 (dk_at dksX0_meanMinutes_0 11 rfl rfl)
theorem dX0_meanMinutes_12 : decode cX0_meanMinutes 12 = .ok (.ireturn, 1) := dk_172 (dk_at dksX0_meanMinutes_0 12 rfl rfl)
theorem dX0_meanMinutes_13 : decode cX0_meanMinutes 13 = .ok (.iconst 0, 1) := dk_3 (dk_at dksX0_meanMinutes_0 13 rfl rfl)
theorem dX0_meanMinutes_14 : decode cX0_meanMinutes 14 = .ok (.ireturn, 1) := dk_172 (dk_at dksX0_meanMinutes_0 14 rfl rfl)
theorem q55 : (Jvm.Cond.initialized "LendlatheLaw") ∈ lw_all := lw_g (lw_at lw_m1 0 rfl) rfl
theorem q92 : (Jvm.Cond.classLink "LendlatheLaw" (8 : Nat) "Lendlathe") ∈ lw_all := lw_g (lw_at lw_m1 37 rfl) rfl
theorem q94 : (Jvm.Cond.methodLink "LendlatheLaw" (145 : Nat) ({ cls := "Lendlathe", name := "<init>", desc := "()V" } : Jvm.MethodName)) ∈ lw_all := lw_g (lw_at lw_m1 39 rfl) rfl
theorem q654 : (Jvm.Cond.methodLink "LendlatheLaw" (162 : Nat) ({ cls := "Lendlathe", name := "day", desc := "()I" } : Jvm.MethodName)) ∈ lw_all := lw_g (lw_at lw_m3 119 rfl) rfl
theorem q658 : (Jvm.Cond.methodLink "LendlatheLaw" (193 : Nat) ({ cls := "Lendlathe", name := "entries", desc := "()I" } : Jvm.MethodName)) ∈ lw_all := lw_g (lw_at lw_m3 123 rfl) rfl
theorem q662 : (Jvm.Cond.methodLink "LendlatheLaw" (273 : Nat) ({ cls := "Lendlathe", name := "takings", desc := "()J" } : Jvm.MethodName)) ∈ lw_all := lw_g (lw_at lw_m3 127 rfl) rfl
theorem q666 : (Jvm.Cond.methodLink "LendlatheLaw" (286 : Nat) ({ cls := "Lendlathe", name := "isSound", desc := "()Z" } : Jvm.MethodName)) ∈ lw_all := lw_g (lw_at lw_m3 131 rfl) rfl
theorem q746 : (Jvm.Cond.methodLink "LendlatheLaw" (149 : Nat) ({ cls := "LendlatheLaw", name := "addMachine", desc := "(LLendlathe;II[J)I" } : Jvm.MethodName)) ∈ lw_all := lw_g (lw_at lw_m3 211 rfl) rfl
theorem q747 : (Jvm.Cond.static ({ cls := "LendlatheLaw", name := "addMachine", desc := "(LLendlathe;II[J)I" } : Jvm.MethodName)) ∈ lw_all := lw_g (lw_at lw_m3 212 rfl) rfl
theorem q748 : (Jvm.Cond.codeWith ({ cls := "LendlatheLaw", name := "addMachine", desc := "(LLendlathe;II[J)I" } : Jvm.MethodName) method_3_code (5 : Nat) (Option.some Jvm.ClassFile.FieldType.int) [((0 : Nat), (10 : Nat), (13 : Nat), (13 : Nat)), ((0 : Nat), (10 : Nat), (17 : Nat), (15 : Nat))]) ∈ lw_all := lw_g (lw_at lw_m3 213 rfl) rfl
theorem q749 : (Jvm.Cond.classLink "LendlatheLaw" (13 : Nat) "java/lang/IllegalArgumentException") ∈ lw_all := lw_g (lw_at lw_m3 214 rfl) rfl
theorem q750 : (Jvm.Cond.classLink "LendlatheLaw" (15 : Nat) "java/lang/IllegalStateException") ∈ lw_all := lw_g (lw_at lw_m3 215 rfl) rfl
theorem q751 : (Jvm.Cond.methodLink "LendlatheLaw" (7 : Nat) ({ cls := "Lendlathe", name := "addMachine", desc := "(II)I" } : Jvm.MethodName)) ∈ lw_all := lw_g (lw_at lw_m3 216 rfl) rfl
theorem q853 : (Jvm.Cond.methodLink "LendlatheLaw" (158 : Nat) ({ cls := "LendlatheLaw", name := "addMember", desc := "(LLendlathe;[J)I" } : Jvm.MethodName)) ∈ lw_all := lw_g (lw_at lw_m4 78 rfl) rfl
theorem q854 : (Jvm.Cond.static ({ cls := "LendlatheLaw", name := "addMember", desc := "(LLendlathe;[J)I" } : Jvm.MethodName)) ∈ lw_all := lw_g (lw_at lw_m4 79 rfl) rfl
theorem q855 : (Jvm.Cond.codeWith ({ cls := "LendlatheLaw", name := "addMember", desc := "(LLendlathe;[J)I" } : Jvm.MethodName) method_4_code (3 : Nat) (Option.some Jvm.ClassFile.FieldType.int) [((0 : Nat), (8 : Nat), (11 : Nat), (15 : Nat))]) ∈ lw_all := lw_g (lw_at lw_m4 80 rfl) rfl
theorem q856 : (Jvm.Cond.methodLink "LendlatheLaw" (17 : Nat) ({ cls := "Lendlathe", name := "addMember", desc := "()I" } : Jvm.MethodName)) ∈ lw_all := lw_g (lw_at lw_m4 81 rfl) rfl
theorem q882 : (Jvm.Cond.methodLink "LendlatheLaw" (166 : Nat) ({ cls := "LendlatheLaw", name := "addNeed", desc := "(LLendlathe;II[J)I" } : Jvm.MethodName)) ∈ lw_all := lw_g (lw_at lw_m4 107 rfl) rfl
theorem q883 : (Jvm.Cond.static ({ cls := "LendlatheLaw", name := "addNeed", desc := "(LLendlathe;II[J)I" } : Jvm.MethodName)) ∈ lw_all := lw_g (lw_at lw_m4 108 rfl) rfl
theorem q884 : (Jvm.Cond.codeWith ({ cls := "LendlatheLaw", name := "addNeed", desc := "(LLendlathe;II[J)I" } : Jvm.MethodName) method_5_code (5 : Nat) (Option.some Jvm.ClassFile.FieldType.int) [((0 : Nat), (17 : Nat), (20 : Nat), (13 : Nat)), ((0 : Nat), (17 : Nat), (24 : Nat), (15 : Nat))]) ∈ lw_all := lw_g (lw_at lw_m4 109 rfl) rfl
theorem q885 : (Jvm.Cond.methodLink "LendlatheLaw" (21 : Nat) ({ cls := "Lendlathe", name := "addNeed", desc := "(II)Z" } : Jvm.MethodName)) ∈ lw_all := lw_g (lw_at lw_m4 110 rfl) rfl
theorem q906 : (Jvm.Cond.methodLink "LendlatheLaw" (169 : Nat) ({ cls := "LendlatheLaw", name := "induct", desc := "(LLendlathe;II[J)I" } : Jvm.MethodName)) ∈ lw_all := lw_g (lw_at lw_m4 131 rfl) rfl
theorem q907 : (Jvm.Cond.static ({ cls := "LendlatheLaw", name := "induct", desc := "(LLendlathe;II[J)I" } : Jvm.MethodName)) ∈ lw_all := lw_g (lw_at lw_m4 132 rfl) rfl
theorem q908 : (Jvm.Cond.codeWith ({ cls := "LendlatheLaw", name := "induct", desc := "(LLendlathe;II[J)I" } : Jvm.MethodName) method_6_code (5 : Nat) (Option.some Jvm.ClassFile.FieldType.int) [((0 : Nat), (10 : Nat), (13 : Nat), (28 : Nat)), ((0 : Nat), (10 : Nat), (17 : Nat), (13 : Nat)), ((0 : Nat), (10 : Nat), (21 : Nat), (30 : Nat))]) ∈ lw_all := lw_g (lw_at lw_m4 133 rfl) rfl
theorem q909 : (Jvm.Cond.classLink "LendlatheLaw" (28 : Nat) "java/lang/IndexOutOfBoundsException") ∈ lw_all := lw_g (lw_at lw_m4 134 rfl) rfl
theorem q928 : (Jvm.Cond.classLink "LendlatheLaw" (30 : Nat) "java/lang/UnsupportedOperationException") ∈ lw_all := lw_g (lw_at lw_m4 153 rfl) rfl
theorem q929 : (Jvm.Cond.methodLink "LendlatheLaw" (25 : Nat) ({ cls := "Lendlathe", name := "induct", desc := "(II)I" } : Jvm.MethodName)) ∈ lw_all := lw_g (lw_at lw_m4 154 rfl) rfl
theorem q970 : (Jvm.Cond.methodLink "LendlatheLaw" (172 : Nat) ({ cls := "LendlatheLaw", name := "isLive", desc := "(LLendlathe;III[J)I" } : Jvm.MethodName)) ∈ lw_all := lw_g (lw_at lw_m4 195 rfl) rfl
theorem q971 : (Jvm.Cond.static ({ cls := "LendlatheLaw", name := "isLive", desc := "(LLendlathe;III[J)I" } : Jvm.MethodName)) ∈ lw_all := lw_g (lw_at lw_m4 196 rfl) rfl
theorem q972 : (Jvm.Cond.codeWith ({ cls := "LendlatheLaw", name := "isLive", desc := "(LLendlathe;III[J)I" } : Jvm.MethodName) method_7_code (6 : Nat) (Option.some Jvm.ClassFile.FieldType.int) [((0 : Nat), (19 : Nat), (22 : Nat), (28 : Nat)), ((0 : Nat), (19 : Nat), (26 : Nat), (13 : Nat))]) ∈ lw_all := lw_g (lw_at lw_m4 197 rfl) rfl
theorem q973 : (Jvm.Cond.methodLink "LendlatheLaw" (32 : Nat) ({ cls := "Lendlathe", name := "isLive", desc := "(III)Z" } : Jvm.MethodName)) ∈ lw_all := lw_g (lw_at lw_m4 198 rfl) rfl
theorem q977 : (Jvm.Cond.methodLink "LendlatheLaw" (176 : Nat) ({ cls := "LendlatheLaw", name := "book", desc := "(LLendlathe;IIIIIC[J)I" } : Jvm.MethodName)) ∈ lw_all := lw_g (lw_at lw_m4 202 rfl) rfl
theorem q978 : (Jvm.Cond.static ({ cls := "LendlatheLaw", name := "book", desc := "(LLendlathe;IIIIIC[J)I" } : Jvm.MethodName)) ∈ lw_all := lw_g (lw_at lw_m4 203 rfl) rfl
theorem q979 : (Jvm.Cond.codeWith ({ cls := "LendlatheLaw", name := "book", desc := "(LLendlathe;IIIIIC[J)I" } : Jvm.MethodName) method_8_code (9 : Nat) (Option.some Jvm.ClassFile.FieldType.int) [((0 : Nat), (18 : Nat), (21 : Nat), (28 : Nat)), ((0 : Nat), (18 : Nat), (25 : Nat), (13 : Nat)), ((0 : Nat), (18 : Nat), (29 : Nat), (30 : Nat)), ((0 : Nat), (18 : Nat), (33 : Nat), (40 : Nat)), ((0 : Nat), (18 : Nat), (37 : Nat), (42 : Nat)), ((0 : Nat), (18 : Nat), (41 : Nat), (15 : Nat))]) ∈ lw_all := lw_g (lw_at lw_m4 204 rfl) rfl
theorem q980 : (Jvm.Cond.classLink "LendlatheLaw" (40 : Nat) "java/lang/ArithmeticException") ∈ lw_all := lw_g (lw_at lw_m4 205 rfl) rfl
theorem q994 : (Jvm.Cond.classLink "LendlatheLaw" (42 : Nat) "java/util/NoSuchElementException") ∈ lw_all := lw_g (lw_at lw_m4 219 rfl) rfl
theorem q995 : (Jvm.Cond.methodLink "LendlatheLaw" (36 : Nat) ({ cls := "Lendlathe", name := "book", desc := "(IIIIIC)I" } : Jvm.MethodName)) ∈ lw_all := lw_g (lw_at lw_m4 220 rfl) rfl
theorem q1100 : (Jvm.Cond.methodLink "LendlatheLaw" (180 : Nat) ({ cls := "LendlatheLaw", name := "await", desc := "(LLendlathe;IIIIIC[J)I" } : Jvm.MethodName)) ∈ lw_all := lw_g (lw_at lw_m5 85 rfl) rfl
theorem q1101 : (Jvm.Cond.static ({ cls := "LendlatheLaw", name := "await", desc := "(LLendlathe;IIIIIC[J)I" } : Jvm.MethodName)) ∈ lw_all := lw_g (lw_at lw_m5 86 rfl) rfl
theorem q1102 : (Jvm.Cond.codeWith ({ cls := "LendlatheLaw", name := "await", desc := "(LLendlathe;IIIIIC[J)I" } : Jvm.MethodName) method_9_code (9 : Nat) (Option.some Jvm.ClassFile.FieldType.int) [((0 : Nat), (18 : Nat), (21 : Nat), (28 : Nat)), ((0 : Nat), (18 : Nat), (25 : Nat), (13 : Nat)), ((0 : Nat), (18 : Nat), (29 : Nat), (30 : Nat)), ((0 : Nat), (18 : Nat), (33 : Nat), (15 : Nat))]) ∈ lw_all := lw_g (lw_at lw_m5 87 rfl) rfl
theorem q1103 : (Jvm.Cond.methodLink "LendlatheLaw" (44 : Nat) ({ cls := "Lendlathe", name := "await", desc := "(IIIIIC)I" } : Jvm.MethodName)) ∈ lw_all := lw_g (lw_at lw_m5 88 rfl) rfl
theorem q1107 : (Jvm.Cond.methodLink "LendlatheLaw" (183 : Nat) ({ cls := "LendlatheLaw", name := "check", desc := "(LLendlathe;IIIIIC[J)I" } : Jvm.MethodName)) ∈ lw_all := lw_g (lw_at lw_m5 92 rfl) rfl
theorem q1108 : (Jvm.Cond.static ({ cls := "LendlatheLaw", name := "check", desc := "(LLendlathe;IIIIIC[J)I" } : Jvm.MethodName)) ∈ lw_all := lw_g (lw_at lw_m5 93 rfl) rfl
theorem q1109 : (Jvm.Cond.codeWith ({ cls := "LendlatheLaw", name := "check", desc := "(LLendlathe;IIIIIC[J)I" } : Jvm.MethodName) method_10_code (9 : Nat) (Option.some Jvm.ClassFile.FieldType.int) [((0 : Nat), (18 : Nat), (21 : Nat), (28 : Nat)), ((0 : Nat), (18 : Nat), (25 : Nat), (13 : Nat))]) ∈ lw_all := lw_g (lw_at lw_m5 94 rfl) rfl
theorem q1110 : (Jvm.Cond.methodLink "LendlatheLaw" (47 : Nat) ({ cls := "Lendlathe", name := "check", desc := "(IIIIIC)C" } : Jvm.MethodName)) ∈ lw_all := lw_g (lw_at lw_m5 95 rfl) rfl
theorem q1114 : (Jvm.Cond.methodLink "LendlatheLaw" (186 : Nat) ({ cls := "LendlatheLaw", name := "cancel", desc := "(LLendlathe;I[J)I" } : Jvm.MethodName)) ∈ lw_all := lw_g (lw_at lw_m5 99 rfl) rfl
theorem q1115 : (Jvm.Cond.static ({ cls := "LendlatheLaw", name := "cancel", desc := "(LLendlathe;I[J)I" } : Jvm.MethodName)) ∈ lw_all := lw_g (lw_at lw_m5 100 rfl) rfl
theorem q1116 : (Jvm.Cond.codeWith ({ cls := "LendlatheLaw", name := "cancel", desc := "(LLendlathe;I[J)I" } : Jvm.MethodName) method_11_code (4 : Nat) (Option.some Jvm.ClassFile.FieldType.int) [((0 : Nat), (9 : Nat), (12 : Nat), (42 : Nat)), ((0 : Nat), (9 : Nat), (15 : Nat), (15 : Nat))]) ∈ lw_all := lw_g (lw_at lw_m5 101 rfl) rfl
theorem q1117 : (Jvm.Cond.methodLink "LendlatheLaw" (51 : Nat) ({ cls := "Lendlathe", name := "cancel", desc := "(I)C" } : Jvm.MethodName)) ∈ lw_all := lw_g (lw_at lw_m5 102 rfl) rfl
theorem q1146 : (Jvm.Cond.methodLink "LendlatheLaw" (190 : Nat) ({ cls := "LendlatheLaw", name := "stateOf", desc := "(LLendlathe;I[J)I" } : Jvm.MethodName)) ∈ lw_all := lw_g (lw_at lw_m5 131 rfl) rfl
theorem q1147 : (Jvm.Cond.static ({ cls := "LendlatheLaw", name := "stateOf", desc := "(LLendlathe;I[J)I" } : Jvm.MethodName)) ∈ lw_all := lw_g (lw_at lw_m5 132 rfl) rfl
theorem q1148 : (Jvm.Cond.codeWith ({ cls := "LendlatheLaw", name := "stateOf", desc := "(LLendlathe;I[J)I" } : Jvm.MethodName) method_12_code (4 : Nat) (Option.some Jvm.ClassFile.FieldType.int) [((0 : Nat), (9 : Nat), (12 : Nat), (42 : Nat))]) ∈ lw_all := lw_g (lw_at lw_m5 133 rfl) rfl
theorem q1149 : (Jvm.Cond.methodLink "LendlatheLaw" (55 : Nat) ({ cls := "Lendlathe", name := "stateOf", desc := "(I)C" } : Jvm.MethodName)) ∈ lw_all := lw_g (lw_at lw_m5 134 rfl) rfl
theorem q1153 : (Jvm.Cond.methodLink "LendlatheLaw" (197 : Nat) ({ cls := "LendlatheLaw", name := "endDay", desc := "(LLendlathe;[J)I" } : Jvm.MethodName)) ∈ lw_all := lw_g (lw_at lw_m5 138 rfl) rfl
theorem q1154 : (Jvm.Cond.static ({ cls := "LendlatheLaw", name := "endDay", desc := "(LLendlathe;[J)I" } : Jvm.MethodName)) ∈ lw_all := lw_g (lw_at lw_m5 139 rfl) rfl
theorem q1155 : (Jvm.Cond.codeWith ({ cls := "LendlatheLaw", name := "endDay", desc := "(LLendlathe;[J)I" } : Jvm.MethodName) method_13_code (3 : Nat) (Option.some Jvm.ClassFile.FieldType.int) [((0 : Nat), (8 : Nat), (11 : Nat), (15 : Nat))]) ∈ lw_all := lw_g (lw_at lw_m5 140 rfl) rfl
theorem q1156 : (Jvm.Cond.methodLink "LendlatheLaw" (58 : Nat) ({ cls := "Lendlathe", name := "endDay", desc := "()I" } : Jvm.MethodName)) ∈ lw_all := lw_g (lw_at lw_m5 141 rfl) rfl
theorem q1168 : (Jvm.Cond.methodLink "LendlatheLaw" (200 : Nat) ({ cls := "LendlatheLaw", name := "minuteAt", desc := "(LLendlathe;III[J)I" } : Jvm.MethodName)) ∈ lw_all := lw_g (lw_at lw_m5 153 rfl) rfl
theorem q1169 : (Jvm.Cond.static ({ cls := "LendlatheLaw", name := "minuteAt", desc := "(LLendlathe;III[J)I" } : Jvm.MethodName)) ∈ lw_all := lw_g (lw_at lw_m5 154 rfl) rfl
theorem q1170 : (Jvm.Cond.codeWith ({ cls := "LendlatheLaw", name := "minuteAt", desc := "(LLendlathe;III[J)I" } : Jvm.MethodName) method_14_code (6 : Nat) (Option.some Jvm.ClassFile.FieldType.int) [((0 : Nat), (12 : Nat), (15 : Nat), (28 : Nat)), ((0 : Nat), (12 : Nat), (19 : Nat), (13 : Nat))]) ∈ lw_all := lw_g (lw_at lw_m5 155 rfl) rfl
theorem q1171 : (Jvm.Cond.methodLink "LendlatheLaw" (61 : Nat) ({ cls := "Lendlathe", name := "minuteAt", desc := "(III)C" } : Jvm.MethodName)) ∈ lw_all := lw_g (lw_at lw_m5 156 rfl) rfl
theorem q1179 : (Jvm.Cond.methodLink "LendlatheLaw" (203 : Nat) ({ cls := "LendlatheLaw", name := "usedMinutes", desc := "(LLendlathe;II[J)I" } : Jvm.MethodName)) ∈ lw_all := lw_g (lw_at lw_m5 164 rfl) rfl
theorem q1180 : (Jvm.Cond.static ({ cls := "LendlatheLaw", name := "usedMinutes", desc := "(LLendlathe;II[J)I" } : Jvm.MethodName)) ∈ lw_all := lw_g (lw_at lw_m5 165 rfl) rfl
theorem q1181 : (Jvm.Cond.codeWith ({ cls := "LendlatheLaw", name := "usedMinutes", desc := "(LLendlathe;II[J)I" } : Jvm.MethodName) method_15_code (5 : Nat) (Option.some Jvm.ClassFile.FieldType.int) [((0 : Nat), (10 : Nat), (13 : Nat), (28 : Nat)), ((0 : Nat), (10 : Nat), (17 : Nat), (13 : Nat))]) ∈ lw_all := lw_g (lw_at lw_m5 166 rfl) rfl
theorem q1182 : (Jvm.Cond.methodLink "LendlatheLaw" (65 : Nat) ({ cls := "Lendlathe", name := "usedMinutes", desc := "(II)I" } : Jvm.MethodName)) ∈ lw_all := lw_g (lw_at lw_m5 167 rfl) rfl
theorem q1186 : (Jvm.Cond.methodLink "LendlatheLaw" (206 : Nat) ({ cls := "LendlatheLaw", name := "usedByMinutes", desc := "(LLendlathe;II[J)I" } : Jvm.MethodName)) ∈ lw_all := lw_g (lw_at lw_m5 171 rfl) rfl
theorem q1187 : (Jvm.Cond.static ({ cls := "LendlatheLaw", name := "usedByMinutes", desc := "(LLendlathe;II[J)I" } : Jvm.MethodName)) ∈ lw_all := lw_g (lw_at lw_m5 172 rfl) rfl
theorem q1188 : (Jvm.Cond.codeWith ({ cls := "LendlatheLaw", name := "usedByMinutes", desc := "(LLendlathe;II[J)I" } : Jvm.MethodName) method_16_code (5 : Nat) (Option.some Jvm.ClassFile.FieldType.int) [((0 : Nat), (10 : Nat), (13 : Nat), (28 : Nat)), ((0 : Nat), (10 : Nat), (17 : Nat), (13 : Nat))]) ∈ lw_all := lw_g (lw_at lw_m5 173 rfl) rfl
theorem q1189 : (Jvm.Cond.methodLink "LendlatheLaw" (68 : Nat) ({ cls := "Lendlathe", name := "usedByMinutes", desc := "(II)I" } : Jvm.MethodName)) ∈ lw_all := lw_g (lw_at lw_m5 174 rfl) rfl
theorem q1193 : (Jvm.Cond.methodLink "LendlatheLaw" (209 : Nat) ({ cls := "LendlatheLaw", name := "setupMinutes", desc := "(LLendlathe;II[J)I" } : Jvm.MethodName)) ∈ lw_all := lw_g (lw_at lw_m5 178 rfl) rfl
theorem q1194 : (Jvm.Cond.static ({ cls := "LendlatheLaw", name := "setupMinutes", desc := "(LLendlathe;II[J)I" } : Jvm.MethodName)) ∈ lw_all := lw_g (lw_at lw_m5 179 rfl) rfl
theorem q1195 : (Jvm.Cond.codeWith ({ cls := "LendlatheLaw", name := "setupMinutes", desc := "(LLendlathe;II[J)I" } : Jvm.MethodName) method_17_code (5 : Nat) (Option.some Jvm.ClassFile.FieldType.int) [((0 : Nat), (10 : Nat), (13 : Nat), (28 : Nat)), ((0 : Nat), (10 : Nat), (17 : Nat), (13 : Nat))]) ∈ lw_all := lw_g (lw_at lw_m5 180 rfl) rfl
theorem q1196 : (Jvm.Cond.methodLink "LendlatheLaw" (71 : Nat) ({ cls := "Lendlathe", name := "setupMinutes", desc := "(II)I" } : Jvm.MethodName)) ∈ lw_all := lw_g (lw_at lw_m5 181 rfl) rfl
theorem q1200 : (Jvm.Cond.methodLink "LendlatheLaw" (212 : Nat) ({ cls := "LendlatheLaw", name := "firstStart", desc := "(LLendlathe;IIIC[J)I" } : Jvm.MethodName)) ∈ lw_all := lw_g (lw_at lw_m5 185 rfl) rfl
theorem q1201 : (Jvm.Cond.static ({ cls := "LendlatheLaw", name := "firstStart", desc := "(LLendlathe;IIIC[J)I" } : Jvm.MethodName)) ∈ lw_all := lw_g (lw_at lw_m5 186 rfl) rfl
theorem q1202 : (Jvm.Cond.codeWith ({ cls := "LendlatheLaw", name := "firstStart", desc := "(LLendlathe;IIIC[J)I" } : Jvm.MethodName) method_18_code (7 : Nat) (Option.some Jvm.ClassFile.FieldType.int) [((0 : Nat), (14 : Nat), (17 : Nat), (28 : Nat)), ((0 : Nat), (14 : Nat), (21 : Nat), (13 : Nat)), ((0 : Nat), (14 : Nat), (25 : Nat), (42 : Nat))]) ∈ lw_all := lw_g (lw_at lw_m5 187 rfl) rfl
theorem q1203 : (Jvm.Cond.methodLink "LendlatheLaw" (74 : Nat) ({ cls := "Lendlathe", name := "firstStart", desc := "(IIIC)I" } : Jvm.MethodName)) ∈ lw_all := lw_g (lw_at lw_m5 188 rfl) rfl
theorem q1211 : (Jvm.Cond.methodLink "LendlatheLaw" (216 : Nat) ({ cls := "LendlatheLaw", name := "firstByMinutes", desc := "(LLendlathe;IIIC[J)I" } : Jvm.MethodName)) ∈ lw_all := lw_g (lw_at lw_m5 196 rfl) rfl
theorem q1212 : (Jvm.Cond.static ({ cls := "LendlatheLaw", name := "firstByMinutes", desc := "(LLendlathe;IIIC[J)I" } : Jvm.MethodName)) ∈ lw_all := lw_g (lw_at lw_m5 197 rfl) rfl
theorem q1213 : (Jvm.Cond.codeWith ({ cls := "LendlatheLaw", name := "firstByMinutes", desc := "(LLendlathe;IIIC[J)I" } : Jvm.MethodName) method_19_code (7 : Nat) (Option.some Jvm.ClassFile.FieldType.int) [((0 : Nat), (14 : Nat), (17 : Nat), (28 : Nat)), ((0 : Nat), (14 : Nat), (21 : Nat), (13 : Nat)), ((0 : Nat), (14 : Nat), (25 : Nat), (42 : Nat))]) ∈ lw_all := lw_g (lw_at lw_m5 198 rfl) rfl
theorem q1214 : (Jvm.Cond.methodLink "LendlatheLaw" (78 : Nat) ({ cls := "Lendlathe", name := "firstByMinutes", desc := "(IIIC)I" } : Jvm.MethodName)) ∈ lw_all := lw_g (lw_at lw_m5 199 rfl) rfl
theorem q1219 : (Jvm.Cond.methodLink "LendlatheLaw" (219 : Nat) ({ cls := "LendlatheLaw", name := "waiting", desc := "(LLendlathe;II[J)I" } : Jvm.MethodName)) ∈ lw_all := lw_g (lw_at lw_m5 204 rfl) rfl
theorem q1220 : (Jvm.Cond.static ({ cls := "LendlatheLaw", name := "waiting", desc := "(LLendlathe;II[J)I" } : Jvm.MethodName)) ∈ lw_all := lw_g (lw_at lw_m5 205 rfl) rfl
theorem q1221 : (Jvm.Cond.codeWith ({ cls := "LendlatheLaw", name := "waiting", desc := "(LLendlathe;II[J)I" } : Jvm.MethodName) method_20_code (5 : Nat) (Option.some Jvm.ClassFile.FieldType.int) [((0 : Nat), (10 : Nat), (13 : Nat), (28 : Nat)), ((0 : Nat), (10 : Nat), (17 : Nat), (13 : Nat))]) ∈ lw_all := lw_g (lw_at lw_m5 206 rfl) rfl
theorem q1222 : (Jvm.Cond.methodLink "LendlatheLaw" (81 : Nat) ({ cls := "Lendlathe", name := "waiting", desc := "(II)I" } : Jvm.MethodName)) ∈ lw_all := lw_g (lw_at lw_m5 207 rfl) rfl
theorem q1226 : (Jvm.Cond.methodLink "LendlatheLaw" (222 : Nat) ({ cls := "LendlatheLaw", name := "deliver", desc := "(LLendlathe;II[J)I" } : Jvm.MethodName)) ∈ lw_all := lw_g (lw_at lw_m5 211 rfl) rfl
theorem q1227 : (Jvm.Cond.static ({ cls := "LendlatheLaw", name := "deliver", desc := "(LLendlathe;II[J)I" } : Jvm.MethodName)) ∈ lw_all := lw_g (lw_at lw_m5 212 rfl) rfl
theorem q1228 : (Jvm.Cond.codeWith ({ cls := "LendlatheLaw", name := "deliver", desc := "(LLendlathe;II[J)I" } : Jvm.MethodName) method_21_code (5 : Nat) (Option.some Jvm.ClassFile.FieldType.int) [((0 : Nat), (10 : Nat), (13 : Nat), (13 : Nat)), ((0 : Nat), (10 : Nat), (17 : Nat), (15 : Nat))]) ∈ lw_all := lw_g (lw_at lw_m5 213 rfl) rfl
theorem q1229 : (Jvm.Cond.methodLink "LendlatheLaw" (84 : Nat) ({ cls := "Lendlathe", name := "deliver", desc := "(II)I" } : Jvm.MethodName)) ∈ lw_all := lw_g (lw_at lw_m5 214 rfl) rfl
theorem q1256 : (Jvm.Cond.methodLink "LendlatheLaw" (225 : Nat) ({ cls := "LendlatheLaw", name := "cut", desc := "(LLendlathe;III[J)I" } : Jvm.MethodName)) ∈ lw_all := lw_g (lw_at lw_m6 1 rfl) rfl
theorem q1257 : (Jvm.Cond.static ({ cls := "LendlatheLaw", name := "cut", desc := "(LLendlathe;III[J)I" } : Jvm.MethodName)) ∈ lw_all := lw_g (lw_at lw_m6 2 rfl) rfl
theorem q1258 : (Jvm.Cond.codeWith ({ cls := "LendlatheLaw", name := "cut", desc := "(LLendlathe;III[J)I" } : Jvm.MethodName) method_22_code (6 : Nat) (Option.some Jvm.ClassFile.FieldType.int) [((0 : Nat), (12 : Nat), (15 : Nat), (42 : Nat)), ((0 : Nat), (12 : Nat), (19 : Nat), (13 : Nat)), ((0 : Nat), (12 : Nat), (23 : Nat), (15 : Nat)), ((0 : Nat), (12 : Nat), (27 : Nat), (30 : Nat))]) ∈ lw_all := lw_g (lw_at lw_m6 3 rfl) rfl
theorem q1259 : (Jvm.Cond.methodLink "LendlatheLaw" (87 : Nat) ({ cls := "Lendlathe", name := "cut", desc := "(III)I" } : Jvm.MethodName)) ∈ lw_all := lw_g (lw_at lw_m6 4 rfl) rfl
theorem q1263 : (Jvm.Cond.methodLink "LendlatheLaw" (228 : Nat) ({ cls := "LendlatheLaw", name := "freeOf", desc := "(LLendlathe;I[J)I" } : Jvm.MethodName)) ∈ lw_all := lw_g (lw_at lw_m6 8 rfl) rfl
theorem q1264 : (Jvm.Cond.static ({ cls := "LendlatheLaw", name := "freeOf", desc := "(LLendlathe;I[J)I" } : Jvm.MethodName)) ∈ lw_all := lw_g (lw_at lw_m6 9 rfl) rfl
theorem q1265 : (Jvm.Cond.codeWith ({ cls := "LendlatheLaw", name := "freeOf", desc := "(LLendlathe;I[J)I" } : Jvm.MethodName) method_23_code (4 : Nat) (Option.some Jvm.ClassFile.FieldType.int) [((0 : Nat), (9 : Nat), (12 : Nat), (42 : Nat))]) ∈ lw_all := lw_g (lw_at lw_m6 10 rfl) rfl
theorem q1266 : (Jvm.Cond.methodLink "LendlatheLaw" (91 : Nat) ({ cls := "Lendlathe", name := "freeOf", desc := "(I)I" } : Jvm.MethodName)) ∈ lw_all := lw_g (lw_at lw_m6 11 rfl) rfl
theorem q1270 : (Jvm.Cond.methodLink "LendlatheLaw" (231 : Nat) ({ cls := "LendlatheLaw", name := "freeByCuts", desc := "(LLendlathe;I[J)I" } : Jvm.MethodName)) ∈ lw_all := lw_g (lw_at lw_m6 15 rfl) rfl
theorem q1271 : (Jvm.Cond.static ({ cls := "LendlatheLaw", name := "freeByCuts", desc := "(LLendlathe;I[J)I" } : Jvm.MethodName)) ∈ lw_all := lw_g (lw_at lw_m6 16 rfl) rfl
theorem q1272 : (Jvm.Cond.codeWith ({ cls := "LendlatheLaw", name := "freeByCuts", desc := "(LLendlathe;I[J)I" } : Jvm.MethodName) method_24_code (4 : Nat) (Option.some Jvm.ClassFile.FieldType.int) [((0 : Nat), (9 : Nat), (12 : Nat), (42 : Nat))]) ∈ lw_all := lw_g (lw_at lw_m6 17 rfl) rfl
theorem q1273 : (Jvm.Cond.methodLink "LendlatheLaw" (95 : Nat) ({ cls := "Lendlathe", name := "freeByCuts", desc := "(I)I" } : Jvm.MethodName)) ∈ lw_all := lw_g (lw_at lw_m6 18 rfl) rfl
theorem q1277 : (Jvm.Cond.methodLink "LendlatheLaw" (234 : Nat) ({ cls := "LendlatheLaw", name := "setPrice", desc := "(LLendlathe;II[J)I" } : Jvm.MethodName)) ∈ lw_all := lw_g (lw_at lw_m6 22 rfl) rfl
theorem q1278 : (Jvm.Cond.static ({ cls := "LendlatheLaw", name := "setPrice", desc := "(LLendlathe;II[J)I" } : Jvm.MethodName)) ∈ lw_all := lw_g (lw_at lw_m6 23 rfl) rfl
theorem q1279 : (Jvm.Cond.codeWith ({ cls := "LendlatheLaw", name := "setPrice", desc := "(LLendlathe;II[J)I" } : Jvm.MethodName) method_25_code (5 : Nat) (Option.some Jvm.ClassFile.FieldType.int) [((0 : Nat), (10 : Nat), (13 : Nat), (13 : Nat))]) ∈ lw_all := lw_g (lw_at lw_m6 24 rfl) rfl
theorem q1280 : (Jvm.Cond.methodLink "LendlatheLaw" (98 : Nat) ({ cls := "Lendlathe", name := "setPrice", desc := "(II)I" } : Jvm.MethodName)) ∈ lw_all := lw_g (lw_at lw_m6 25 rfl) rfl
theorem q1284 : (Jvm.Cond.methodLink "LendlatheLaw" (237 : Nat) ({ cls := "LendlatheLaw", name := "setRate", desc := "(LLendlathe;II[J)I" } : Jvm.MethodName)) ∈ lw_all := lw_g (lw_at lw_m6 29 rfl) rfl
theorem q1285 : (Jvm.Cond.static ({ cls := "LendlatheLaw", name := "setRate", desc := "(LLendlathe;II[J)I" } : Jvm.MethodName)) ∈ lw_all := lw_g (lw_at lw_m6 30 rfl) rfl
theorem q1286 : (Jvm.Cond.codeWith ({ cls := "LendlatheLaw", name := "setRate", desc := "(LLendlathe;II[J)I" } : Jvm.MethodName) method_26_code (5 : Nat) (Option.some Jvm.ClassFile.FieldType.int) [((0 : Nat), (10 : Nat), (13 : Nat), (13 : Nat))]) ∈ lw_all := lw_g (lw_at lw_m6 31 rfl) rfl
theorem q1287 : (Jvm.Cond.methodLink "LendlatheLaw" (101 : Nat) ({ cls := "Lendlathe", name := "setRate", desc := "(II)I" } : Jvm.MethodName)) ∈ lw_all := lw_g (lw_at lw_m6 32 rfl) rfl
theorem q1293 : (Jvm.Cond.methodLink "LendlatheLaw" (240 : Nat) ({ cls := "LendlatheLaw", name := "addFee", desc := "(LLendlathe;II[J)I" } : Jvm.MethodName)) ∈ lw_all := lw_g (lw_at lw_m6 38 rfl) rfl
theorem q1294 : (Jvm.Cond.static ({ cls := "LendlatheLaw", name := "addFee", desc := "(LLendlathe;II[J)I" } : Jvm.MethodName)) ∈ lw_all := lw_g (lw_at lw_m6 39 rfl) rfl
theorem q1295 : (Jvm.Cond.codeWith ({ cls := "LendlatheLaw", name := "addFee", desc := "(LLendlathe;II[J)I" } : Jvm.MethodName) method_27_code (5 : Nat) (Option.some Jvm.ClassFile.FieldType.int) [((0 : Nat), (10 : Nat), (13 : Nat), (13 : Nat)), ((0 : Nat), (10 : Nat), (17 : Nat), (15 : Nat))]) ∈ lw_all := lw_g (lw_at lw_m6 40 rfl) rfl
theorem q1296 : (Jvm.Cond.methodLink "LendlatheLaw" (104 : Nat) ({ cls := "Lendlathe", name := "addFee", desc := "(II)I" } : Jvm.MethodName)) ∈ lw_all := lw_g (lw_at lw_m6 41 rfl) rfl
theorem q1312 : (Jvm.Cond.methodLink "LendlatheLaw" (243 : Nat) ({ cls := "LendlatheLaw", name := "addCap", desc := "(LLendlathe;II[J)I" } : Jvm.MethodName)) ∈ lw_all := lw_g (lw_at lw_m6 57 rfl) rfl
theorem q1313 : (Jvm.Cond.static ({ cls := "LendlatheLaw", name := "addCap", desc := "(LLendlathe;II[J)I" } : Jvm.MethodName)) ∈ lw_all := lw_g (lw_at lw_m6 58 rfl) rfl
theorem q1314 : (Jvm.Cond.codeWith ({ cls := "LendlatheLaw", name := "addCap", desc := "(LLendlathe;II[J)I" } : Jvm.MethodName) method_28_code (5 : Nat) (Option.some Jvm.ClassFile.FieldType.int) [((0 : Nat), (10 : Nat), (13 : Nat), (13 : Nat)), ((0 : Nat), (10 : Nat), (17 : Nat), (15 : Nat))]) ∈ lw_all := lw_g (lw_at lw_m6 59 rfl) rfl
theorem q1315 : (Jvm.Cond.methodLink "LendlatheLaw" (107 : Nat) ({ cls := "Lendlathe", name := "addCap", desc := "(II)I" } : Jvm.MethodName)) ∈ lw_all := lw_g (lw_at lw_m6 60 rfl) rfl
theorem q1322 : (Jvm.Cond.methodLink "LendlatheLaw" (246 : Nat) ({ cls := "LendlatheLaw", name := "addDouble", desc := "(LLendlathe;II[J)I" } : Jvm.MethodName)) ∈ lw_all := lw_g (lw_at lw_m6 67 rfl) rfl
theorem q1323 : (Jvm.Cond.static ({ cls := "LendlatheLaw", name := "addDouble", desc := "(LLendlathe;II[J)I" } : Jvm.MethodName)) ∈ lw_all := lw_g (lw_at lw_m6 68 rfl) rfl
theorem q1324 : (Jvm.Cond.codeWith ({ cls := "LendlatheLaw", name := "addDouble", desc := "(LLendlathe;II[J)I" } : Jvm.MethodName) method_29_code (5 : Nat) (Option.some Jvm.ClassFile.FieldType.int) [((0 : Nat), (10 : Nat), (13 : Nat), (13 : Nat)), ((0 : Nat), (10 : Nat), (17 : Nat), (15 : Nat))]) ∈ lw_all := lw_g (lw_at lw_m6 69 rfl) rfl
theorem q1325 : (Jvm.Cond.methodLink "LendlatheLaw" (110 : Nat) ({ cls := "Lendlathe", name := "addDouble", desc := "(II)I" } : Jvm.MethodName)) ∈ lw_all := lw_g (lw_at lw_m6 70 rfl) rfl
theorem q1332 : (Jvm.Cond.methodLink "LendlatheLaw" (249 : Nat) ({ cls := "LendlatheLaw", name := "addDiscount", desc := "(LLendlathe;II[J)I" } : Jvm.MethodName)) ∈ lw_all := lw_g (lw_at lw_m6 77 rfl) rfl
theorem q1333 : (Jvm.Cond.static ({ cls := "LendlatheLaw", name := "addDiscount", desc := "(LLendlathe;II[J)I" } : Jvm.MethodName)) ∈ lw_all := lw_g (lw_at lw_m6 78 rfl) rfl
theorem q1334 : (Jvm.Cond.codeWith ({ cls := "LendlatheLaw", name := "addDiscount", desc := "(LLendlathe;II[J)I" } : Jvm.MethodName) method_30_code (5 : Nat) (Option.some Jvm.ClassFile.FieldType.int) [((0 : Nat), (10 : Nat), (13 : Nat), (13 : Nat)), ((0 : Nat), (10 : Nat), (17 : Nat), (15 : Nat))]) ∈ lw_all := lw_g (lw_at lw_m6 79 rfl) rfl
theorem q1335 : (Jvm.Cond.methodLink "LendlatheLaw" (113 : Nat) ({ cls := "Lendlathe", name := "addDiscount", desc := "(II)I" } : Jvm.MethodName)) ∈ lw_all := lw_g (lw_at lw_m6 80 rfl) rfl
theorem q1341 : (Jvm.Cond.methodLink "LendlatheLaw" (252 : Nat) ({ cls := "LendlatheLaw", name := "costOf", desc := "(LLendlathe;II[J)I" } : Jvm.MethodName)) ∈ lw_all := lw_g (lw_at lw_m6 86 rfl) rfl
theorem q1342 : (Jvm.Cond.static ({ cls := "LendlatheLaw", name := "costOf", desc := "(LLendlathe;II[J)I" } : Jvm.MethodName)) ∈ lw_all := lw_g (lw_at lw_m6 87 rfl) rfl
theorem q1343 : (Jvm.Cond.codeWith ({ cls := "LendlatheLaw", name := "costOf", desc := "(LLendlathe;II[J)I" } : Jvm.MethodName) method_31_code (5 : Nat) (Option.some Jvm.ClassFile.FieldType.int) [((0 : Nat), (10 : Nat), (13 : Nat), (13 : Nat))]) ∈ lw_all := lw_g (lw_at lw_m6 88 rfl) rfl
theorem q1344 : (Jvm.Cond.methodLink "LendlatheLaw" (116 : Nat) ({ cls := "Lendlathe", name := "costOf", desc := "(II)I" } : Jvm.MethodName)) ∈ lw_all := lw_g (lw_at lw_m6 89 rfl) rfl
theorem q1348 : (Jvm.Cond.methodLink "LendlatheLaw" (255 : Nat) ({ cls := "LendlatheLaw", name := "breakDown", desc := "(LLendlathe;II[J)I" } : Jvm.MethodName)) ∈ lw_all := lw_g (lw_at lw_m6 93 rfl) rfl
theorem q1349 : (Jvm.Cond.static ({ cls := "LendlatheLaw", name := "breakDown", desc := "(LLendlathe;II[J)I" } : Jvm.MethodName)) ∈ lw_all := lw_g (lw_at lw_m6 94 rfl) rfl
theorem q1350 : (Jvm.Cond.codeWith ({ cls := "LendlatheLaw", name := "breakDown", desc := "(LLendlathe;II[J)I" } : Jvm.MethodName) method_32_code (5 : Nat) (Option.some Jvm.ClassFile.FieldType.int) [((0 : Nat), (10 : Nat), (13 : Nat), (28 : Nat)), ((0 : Nat), (10 : Nat), (17 : Nat), (13 : Nat)), ((0 : Nat), (10 : Nat), (21 : Nat), (15 : Nat))]) ∈ lw_all := lw_g (lw_at lw_m6 95 rfl) rfl
theorem q1351 : (Jvm.Cond.methodLink "LendlatheLaw" (119 : Nat) ({ cls := "Lendlathe", name := "breakDown", desc := "(II)I" } : Jvm.MethodName)) ∈ lw_all := lw_g (lw_at lw_m6 96 rfl) rfl
theorem q1392 : (Jvm.Cond.methodLink "LendlatheLaw" (258 : Nat) ({ cls := "LendlatheLaw", name := "shareOf", desc := "(LLendlathe;II[J)I" } : Jvm.MethodName)) ∈ lw_all := lw_g (lw_at lw_m6 137 rfl) rfl
theorem q1393 : (Jvm.Cond.static ({ cls := "LendlatheLaw", name := "shareOf", desc := "(LLendlathe;II[J)I" } : Jvm.MethodName)) ∈ lw_all := lw_g (lw_at lw_m6 138 rfl) rfl
theorem q1394 : (Jvm.Cond.codeWith ({ cls := "LendlatheLaw", name := "shareOf", desc := "(LLendlathe;II[J)I" } : Jvm.MethodName) method_33_code (5 : Nat) (Option.some Jvm.ClassFile.FieldType.int) [((0 : Nat), (10 : Nat), (13 : Nat), (42 : Nat)), ((0 : Nat), (10 : Nat), (17 : Nat), (28 : Nat))]) ∈ lw_all := lw_g (lw_at lw_m6 139 rfl) rfl
theorem q1395 : (Jvm.Cond.methodLink "LendlatheLaw" (122 : Nat) ({ cls := "Lendlathe", name := "shareOf", desc := "(II)I" } : Jvm.MethodName)) ∈ lw_all := lw_g (lw_at lw_m6 140 rfl) rfl
theorem q1399 : (Jvm.Cond.methodLink "LendlatheLaw" (261 : Nat) ({ cls := "LendlatheLaw", name := "pay", desc := "(LLendlathe;II[J)I" } : Jvm.MethodName)) ∈ lw_all := lw_g (lw_at lw_m6 144 rfl) rfl
theorem q1400 : (Jvm.Cond.static ({ cls := "LendlatheLaw", name := "pay", desc := "(LLendlathe;II[J)I" } : Jvm.MethodName)) ∈ lw_all := lw_g (lw_at lw_m6 145 rfl) rfl
theorem q1401 : (Jvm.Cond.codeWith ({ cls := "LendlatheLaw", name := "pay", desc := "(LLendlathe;II[J)I" } : Jvm.MethodName) method_34_code (5 : Nat) (Option.some Jvm.ClassFile.FieldType.int) [((0 : Nat), (10 : Nat), (13 : Nat), (28 : Nat)), ((0 : Nat), (10 : Nat), (17 : Nat), (13 : Nat)), ((0 : Nat), (10 : Nat), (21 : Nat), (15 : Nat))]) ∈ lw_all := lw_g (lw_at lw_m6 146 rfl) rfl
theorem q1402 : (Jvm.Cond.methodLink "LendlatheLaw" (125 : Nat) ({ cls := "Lendlathe", name := "pay", desc := "(II)I" } : Jvm.MethodName)) ∈ lw_all := lw_g (lw_at lw_m6 147 rfl) rfl
theorem q1408 : (Jvm.Cond.methodLink "LendlatheLaw" (264 : Nat) ({ cls := "LendlatheLaw", name := "owes", desc := "(LLendlathe;I[J)I" } : Jvm.MethodName)) ∈ lw_all := lw_g (lw_at lw_m6 153 rfl) rfl
theorem q1409 : (Jvm.Cond.static ({ cls := "LendlatheLaw", name := "owes", desc := "(LLendlathe;I[J)I" } : Jvm.MethodName)) ∈ lw_all := lw_g (lw_at lw_m6 154 rfl) rfl
theorem q1410 : (Jvm.Cond.codeWith ({ cls := "LendlatheLaw", name := "owes", desc := "(LLendlathe;I[J)I" } : Jvm.MethodName) method_35_code (4 : Nat) (Option.some Jvm.ClassFile.FieldType.int) [((0 : Nat), (9 : Nat), (12 : Nat), (28 : Nat))]) ∈ lw_all := lw_g (lw_at lw_m6 155 rfl) rfl
theorem q1411 : (Jvm.Cond.methodLink "LendlatheLaw" (128 : Nat) ({ cls := "Lendlathe", name := "owes", desc := "(I)I" } : Jvm.MethodName)) ∈ lw_all := lw_g (lw_at lw_m6 156 rfl) rfl
theorem q1415 : (Jvm.Cond.methodLink "LendlatheLaw" (267 : Nat) ({ cls := "LendlatheLaw", name := "owesByEntries", desc := "(LLendlathe;I[J)I" } : Jvm.MethodName)) ∈ lw_all := lw_g (lw_at lw_m6 160 rfl) rfl
theorem q1416 : (Jvm.Cond.static ({ cls := "LendlatheLaw", name := "owesByEntries", desc := "(LLendlathe;I[J)I" } : Jvm.MethodName)) ∈ lw_all := lw_g (lw_at lw_m6 161 rfl) rfl
theorem q1417 : (Jvm.Cond.codeWith ({ cls := "LendlatheLaw", name := "owesByEntries", desc := "(LLendlathe;I[J)I" } : Jvm.MethodName) method_36_code (4 : Nat) (Option.some Jvm.ClassFile.FieldType.int) [((0 : Nat), (9 : Nat), (12 : Nat), (28 : Nat))]) ∈ lw_all := lw_g (lw_at lw_m6 162 rfl) rfl
theorem q1418 : (Jvm.Cond.methodLink "LendlatheLaw" (131 : Nat) ({ cls := "Lendlathe", name := "owesByEntries", desc := "(I)I" } : Jvm.MethodName)) ∈ lw_all := lw_g (lw_at lw_m6 163 rfl) rfl
theorem q1422 : (Jvm.Cond.methodLink "LendlatheLaw" (270 : Nat) ({ cls := "LendlatheLaw", name := "dueOf", desc := "(LLendlathe;I[J)I" } : Jvm.MethodName)) ∈ lw_all := lw_g (lw_at lw_m6 167 rfl) rfl
theorem q1423 : (Jvm.Cond.static ({ cls := "LendlatheLaw", name := "dueOf", desc := "(LLendlathe;I[J)I" } : Jvm.MethodName)) ∈ lw_all := lw_g (lw_at lw_m6 168 rfl) rfl
theorem q1424 : (Jvm.Cond.codeWith ({ cls := "LendlatheLaw", name := "dueOf", desc := "(LLendlathe;I[J)I" } : Jvm.MethodName) method_37_code (4 : Nat) (Option.some Jvm.ClassFile.FieldType.int) [((0 : Nat), (9 : Nat), (12 : Nat), (42 : Nat))]) ∈ lw_all := lw_g (lw_at lw_m6 169 rfl) rfl
theorem q1425 : (Jvm.Cond.methodLink "LendlatheLaw" (134 : Nat) ({ cls := "Lendlathe", name := "dueOf", desc := "(I)I" } : Jvm.MethodName)) ∈ lw_all := lw_g (lw_at lw_m6 170 rfl) rfl
theorem q1429 : (Jvm.Cond.methodLink "LendlatheLaw" (278 : Nat) ({ cls := "LendlatheLaw", name := "use", desc := "(LLendlathe;II[D)I" } : Jvm.MethodName)) ∈ lw_all := lw_g (lw_at lw_m6 174 rfl) rfl
theorem q1430 : (Jvm.Cond.static ({ cls := "LendlatheLaw", name := "use", desc := "(LLendlathe;II[D)I" } : Jvm.MethodName)) ∈ lw_all := lw_g (lw_at lw_m6 175 rfl) rfl
theorem q1431 : (Jvm.Cond.codeWith ({ cls := "LendlatheLaw", name := "use", desc := "(LLendlathe;II[D)I" } : Jvm.MethodName) method_38_code (5 : Nat) (Option.some Jvm.ClassFile.FieldType.int) [((0 : Nat), (10 : Nat), (13 : Nat), (28 : Nat)), ((0 : Nat), (10 : Nat), (17 : Nat), (13 : Nat))]) ∈ lw_all := lw_g (lw_at lw_m6 176 rfl) rfl
theorem q1432 : (Jvm.Cond.methodLink "LendlatheLaw" (137 : Nat) ({ cls := "Lendlathe", name := "use", desc := "(II)F" } : Jvm.MethodName)) ∈ lw_all := lw_g (lw_at lw_m6 177 rfl) rfl
theorem q1437 : (Jvm.Cond.methodLink "LendlatheLaw" (282 : Nat) ({ cls := "LendlatheLaw", name := "meanMinutes", desc := "(LLendlathe;[D)I" } : Jvm.MethodName)) ∈ lw_all := lw_g (lw_at lw_m6 182 rfl) rfl
theorem q1438 : (Jvm.Cond.static ({ cls := "LendlatheLaw", name := "meanMinutes", desc := "(LLendlathe;[D)I" } : Jvm.MethodName)) ∈ lw_all := lw_g (lw_at lw_m6 183 rfl) rfl
theorem q1439 : (Jvm.Cond.codeWith ({ cls := "LendlatheLaw", name := "meanMinutes", desc := "(LLendlathe;[D)I" } : Jvm.MethodName) method_39_code (3 : Nat) (Option.some Jvm.ClassFile.FieldType.int) [((0 : Nat), (7 : Nat), (10 : Nat), (40 : Nat))]) ∈ lw_all := lw_g (lw_at lw_m6 184 rfl) rfl
theorem q1440 : (Jvm.Cond.methodLink "LendlatheLaw" (141 : Nat) ({ cls := "Lendlathe", name := "meanMinutes", desc := "()D" } : Jvm.MethodName)) ∈ lw_all := lw_g (lw_at lw_m6 185 rfl) rfl
theorem q1444 : (Jvm.Cond.classLink "LendlatheLaw" (146 : Nat) "LendlatheModel") ∈ lw_all := lw_g (lw_at lw_m6 189 rfl) rfl
theorem q1446 : (Jvm.Cond.methodLink "LendlatheLaw" (148 : Nat) ({ cls := "LendlatheModel", name := "<init>", desc := "()V" } : Jvm.MethodName)) ∈ lw_all := lw_g (lw_at lw_m6 191 rfl) rfl
theorem q1547 : (Jvm.Cond.methodLink "LendlatheLaw" (155 : Nat) ({ cls := "LendlatheModel", name := "thrown", desc := "()I" } : Jvm.MethodName)) ∈ lw_all := lw_g (lw_at lw_m7 52 rfl) rfl
theorem q1551 : (Jvm.Cond.methodLink "LendlatheLaw" (154 : Nat) ({ cls := "LendlatheModel", name := "addMachine", desc := "(II)I" } : Jvm.MethodName)) ∈ lw_all := lw_g (lw_at lw_m7 56 rfl) rfl
theorem q1561 : (Jvm.Cond.methodLink "LendlatheLaw" (161 : Nat) ({ cls := "LendlatheModel", name := "addMember", desc := "()I" } : Jvm.MethodName)) ∈ lw_all := lw_g (lw_at lw_m7 66 rfl) rfl
theorem q1569 : (Jvm.Cond.methodLink "LendlatheLaw" (165 : Nat) ({ cls := "LendlatheModel", name := "day", desc := "()I" } : Jvm.MethodName)) ∈ lw_all := lw_g (lw_at lw_m7 74 rfl) rfl
theorem q1573 : (Jvm.Cond.methodLink "LendlatheLaw" (168 : Nat) ({ cls := "LendlatheModel", name := "addNeed", desc := "(II)Z" } : Jvm.MethodName)) ∈ lw_all := lw_g (lw_at lw_m7 78 rfl) rfl
theorem q1617 : (Jvm.Cond.methodLink "LendlatheLaw" (171 : Nat) ({ cls := "LendlatheModel", name := "induct", desc := "(II)I" } : Jvm.MethodName)) ∈ lw_all := lw_g (lw_at lw_m7 122 rfl) rfl
theorem q1625 : (Jvm.Cond.methodLink "LendlatheLaw" (175 : Nat) ({ cls := "LendlatheModel", name := "isLive", desc := "(III)Z" } : Jvm.MethodName)) ∈ lw_all := lw_g (lw_at lw_m7 130 rfl) rfl
theorem q1629 : (Jvm.Cond.methodLink "LendlatheLaw" (179 : Nat) ({ cls := "LendlatheModel", name := "book", desc := "(IIIIIC)I" } : Jvm.MethodName)) ∈ lw_all := lw_g (lw_at lw_m7 134 rfl) rfl
theorem q1648 : (Jvm.Cond.methodLink "LendlatheLaw" (182 : Nat) ({ cls := "LendlatheModel", name := "await", desc := "(IIIIIC)I" } : Jvm.MethodName)) ∈ lw_all := lw_g (lw_at lw_m7 153 rfl) rfl
theorem q1652 : (Jvm.Cond.methodLink "LendlatheLaw" (185 : Nat) ({ cls := "LendlatheModel", name := "check", desc := "(IIIIIC)C" } : Jvm.MethodName)) ∈ lw_all := lw_g (lw_at lw_m7 157 rfl) rfl
theorem q1656 : (Jvm.Cond.methodLink "LendlatheLaw" (189 : Nat) ({ cls := "LendlatheModel", name := "cancel", desc := "(I)C" } : Jvm.MethodName)) ∈ lw_all := lw_g (lw_at lw_m7 161 rfl) rfl
theorem q1670 : (Jvm.Cond.methodLink "LendlatheLaw" (192 : Nat) ({ cls := "LendlatheModel", name := "stateOf", desc := "(I)C" } : Jvm.MethodName)) ∈ lw_all := lw_g (lw_at lw_m7 175 rfl) rfl
theorem q1674 : (Jvm.Cond.methodLink "LendlatheLaw" (196 : Nat) ({ cls := "LendlatheModel", name := "entries", desc := "()I" } : Jvm.MethodName)) ∈ lw_all := lw_g (lw_at lw_m7 179 rfl) rfl
theorem q1678 : (Jvm.Cond.methodLink "LendlatheLaw" (199 : Nat) ({ cls := "LendlatheModel", name := "endDay", desc := "()I" } : Jvm.MethodName)) ∈ lw_all := lw_g (lw_at lw_m7 183 rfl) rfl
theorem q1682 : (Jvm.Cond.methodLink "LendlatheLaw" (202 : Nat) ({ cls := "LendlatheModel", name := "minuteAt", desc := "(III)C" } : Jvm.MethodName)) ∈ lw_all := lw_g (lw_at lw_m7 187 rfl) rfl
theorem q1698 : (Jvm.Cond.methodLink "LendlatheLaw" (205 : Nat) ({ cls := "LendlatheModel", name := "usedMinutes", desc := "(II)I" } : Jvm.MethodName)) ∈ lw_all := lw_g (lw_at lw_m7 203 rfl) rfl
theorem q1706 : (Jvm.Cond.methodLink "LendlatheLaw" (208 : Nat) ({ cls := "LendlatheModel", name := "usedByMinutes", desc := "(II)I" } : Jvm.MethodName)) ∈ lw_all := lw_g (lw_at lw_m7 211 rfl) rfl
theorem q1711 : (Jvm.Cond.methodLink "LendlatheLaw" (211 : Nat) ({ cls := "LendlatheModel", name := "setupMinutes", desc := "(II)I" } : Jvm.MethodName)) ∈ lw_all := lw_g (lw_at lw_m7 216 rfl) rfl
theorem q1719 : (Jvm.Cond.methodLink "LendlatheLaw" (215 : Nat) ({ cls := "LendlatheModel", name := "firstStart", desc := "(IIIC)I" } : Jvm.MethodName)) ∈ lw_all := lw_g (lw_at lw_m7 224 rfl) rfl
theorem q1723 : (Jvm.Cond.methodLink "LendlatheLaw" (218 : Nat) ({ cls := "LendlatheModel", name := "firstByMinutes", desc := "(IIIC)I" } : Jvm.MethodName)) ∈ lw_all := lw_g (lw_at lw_m7 228 rfl) rfl
theorem q1728 : (Jvm.Cond.methodLink "LendlatheLaw" (221 : Nat) ({ cls := "LendlatheModel", name := "waiting", desc := "(II)I" } : Jvm.MethodName)) ∈ lw_all := lw_g (lw_at lw_m7 233 rfl) rfl
theorem q1732 : (Jvm.Cond.methodLink "LendlatheLaw" (224 : Nat) ({ cls := "LendlatheModel", name := "deliver", desc := "(II)I" } : Jvm.MethodName)) ∈ lw_all := lw_g (lw_at lw_m7 237 rfl) rfl
theorem q1736 : (Jvm.Cond.methodLink "LendlatheLaw" (227 : Nat) ({ cls := "LendlatheModel", name := "cut", desc := "(III)I" } : Jvm.MethodName)) ∈ lw_all := lw_g (lw_at lw_m8 1 rfl) rfl
theorem q1744 : (Jvm.Cond.methodLink "LendlatheLaw" (230 : Nat) ({ cls := "LendlatheModel", name := "freeOf", desc := "(I)I" } : Jvm.MethodName)) ∈ lw_all := lw_g (lw_at lw_m8 9 rfl) rfl
theorem q1748 : (Jvm.Cond.methodLink "LendlatheLaw" (233 : Nat) ({ cls := "LendlatheModel", name := "freeByCuts", desc := "(I)I" } : Jvm.MethodName)) ∈ lw_all := lw_g (lw_at lw_m8 13 rfl) rfl
theorem q1753 : (Jvm.Cond.methodLink "LendlatheLaw" (236 : Nat) ({ cls := "LendlatheModel", name := "setPrice", desc := "(II)I" } : Jvm.MethodName)) ∈ lw_all := lw_g (lw_at lw_m8 18 rfl) rfl
theorem q1757 : (Jvm.Cond.methodLink "LendlatheLaw" (239 : Nat) ({ cls := "LendlatheModel", name := "setRate", desc := "(II)I" } : Jvm.MethodName)) ∈ lw_all := lw_g (lw_at lw_m8 22 rfl) rfl
theorem q1761 : (Jvm.Cond.methodLink "LendlatheLaw" (242 : Nat) ({ cls := "LendlatheModel", name := "addFee", desc := "(II)I" } : Jvm.MethodName)) ∈ lw_all := lw_g (lw_at lw_m8 26 rfl) rfl
theorem q1769 : (Jvm.Cond.methodLink "LendlatheLaw" (245 : Nat) ({ cls := "LendlatheModel", name := "addCap", desc := "(II)I" } : Jvm.MethodName)) ∈ lw_all := lw_g (lw_at lw_m8 34 rfl) rfl
theorem q1773 : (Jvm.Cond.methodLink "LendlatheLaw" (248 : Nat) ({ cls := "LendlatheModel", name := "addDouble", desc := "(II)I" } : Jvm.MethodName)) ∈ lw_all := lw_g (lw_at lw_m8 38 rfl) rfl
theorem q1777 : (Jvm.Cond.methodLink "LendlatheLaw" (251 : Nat) ({ cls := "LendlatheModel", name := "addDiscount", desc := "(II)I" } : Jvm.MethodName)) ∈ lw_all := lw_g (lw_at lw_m8 42 rfl) rfl
theorem q1781 : (Jvm.Cond.methodLink "LendlatheLaw" (254 : Nat) ({ cls := "LendlatheModel", name := "costOf", desc := "(II)I" } : Jvm.MethodName)) ∈ lw_all := lw_g (lw_at lw_m8 46 rfl) rfl
theorem q1785 : (Jvm.Cond.methodLink "LendlatheLaw" (257 : Nat) ({ cls := "LendlatheModel", name := "breakDown", desc := "(II)I" } : Jvm.MethodName)) ∈ lw_all := lw_g (lw_at lw_m8 50 rfl) rfl
theorem q1791 : (Jvm.Cond.methodLink "LendlatheLaw" (260 : Nat) ({ cls := "LendlatheModel", name := "shareOf", desc := "(II)I" } : Jvm.MethodName)) ∈ lw_all := lw_g (lw_at lw_m8 56 rfl) rfl
theorem q1795 : (Jvm.Cond.methodLink "LendlatheLaw" (263 : Nat) ({ cls := "LendlatheModel", name := "pay", desc := "(II)I" } : Jvm.MethodName)) ∈ lw_all := lw_g (lw_at lw_m8 60 rfl) rfl
theorem q1805 : (Jvm.Cond.methodLink "LendlatheLaw" (266 : Nat) ({ cls := "LendlatheModel", name := "owes", desc := "(I)I" } : Jvm.MethodName)) ∈ lw_all := lw_g (lw_at lw_m8 70 rfl) rfl
theorem q1809 : (Jvm.Cond.methodLink "LendlatheLaw" (269 : Nat) ({ cls := "LendlatheModel", name := "owesByEntries", desc := "(I)I" } : Jvm.MethodName)) ∈ lw_all := lw_g (lw_at lw_m8 74 rfl) rfl
theorem q1814 : (Jvm.Cond.methodLink "LendlatheLaw" (272 : Nat) ({ cls := "LendlatheModel", name := "dueOf", desc := "(I)I" } : Jvm.MethodName)) ∈ lw_all := lw_g (lw_at lw_m8 79 rfl) rfl
theorem q1818 : (Jvm.Cond.methodLink "LendlatheLaw" (277 : Nat) ({ cls := "LendlatheModel", name := "takings", desc := "()J" } : Jvm.MethodName)) ∈ lw_all := lw_g (lw_at lw_m8 83 rfl) rfl
theorem q1822 : (Jvm.Cond.methodLink "LendlatheLaw" (281 : Nat) ({ cls := "LendlatheModel", name := "use", desc := "(II)F" } : Jvm.MethodName)) ∈ lw_all := lw_g (lw_at lw_m8 87 rfl) rfl
theorem q1827 : (Jvm.Cond.methodLink "LendlatheLaw" (285 : Nat) ({ cls := "LendlatheModel", name := "meanMinutes", desc := "()D" } : Jvm.MethodName)) ∈ lw_all := lw_g (lw_at lw_m8 92 rfl) rfl
theorem q1831 : (Jvm.Cond.methodLink "LendlatheLaw" (290 : Nat) ({ cls := "LendlatheModel", name := "isSound", desc := "()Z" } : Jvm.MethodName)) ∈ lw_all := lw_g (lw_at lw_m8 96 rfl) rfl

/-! Lendlathe$1 -/
set_option maxRecDepth 100000
def RX2 : String := "Lendlathe$1"
def TX2 : u_T := fun k => match k with
  | _ => ("Lendlathe$1", "this$0", "LLendlathe;", true)
def tyX2 : Nat → FieldType := fun k => match k with
  | _ => .object "Lendlathe"
abbrev wsX20 : List Cond := u_ws RX2 TX2 1
theorem nmX2 : ∀ a, a < 1 → ∀ b, b < 1 → a ≠ b → (TX2 a).2.1 ≠ (TX2 b).2.1 := by decide +kernel
theorem tyX2_ok : ∀ k, k < 1 → parseFieldDescriptor (TX2 k).2.2.1 = some (tyX2 k) := by decide +kernel
abbrev cX2_init : ByteArray := prog_2_method_1_code
def yX2_init : MethodName := ⟨RX2, "<init>", "(LLendlathe;)V"⟩
def dkwX2_init_0 : List UInt8 := [42, 43, 181, 0, 1, 42, 183, 0, 7, 177]
abbrev dktX2_init_0 : List UInt8 := dkwX2_init_0 ++ []
theorem dksX2_init_0 : cX2_init.data.toList.drop 0 = dktX2_init_0 := by decide +kernel
theorem dX2_init_0 : decode cX2_init 0 = .ok (.aload_n 0, 1) := dk_42 (dk_at dksX2_init_0 0 rfl rfl)
theorem dX2_init_1 : decode cX2_init 1 = .ok (.aload_n 1, 1) := dk_43 (dk_at dksX2_init_0 1 rfl rfl)
theorem dX2_init_2 : decode cX2_init 2 = .ok (.putfield 1, 3) := dk_181 0 1 (dk_at dksX2_init_0 2 rfl rfl)
theorem dX2_init_5 : decode cX2_init 5 = .ok (.aload_n 0, 1) := dk_42 (dk_at dksX2_init_0 5 rfl rfl)
theorem dX2_init_6 : decode cX2_init 6 = .ok (.invokespecial 7, 3) := dk_183 0 7 (dk_at dksX2_init_0 6 rfl rfl)
theorem dX2_init_9 : decode cX2_init 9 = .ok (.return_, 1) := dk_177 (dk_at dksX2_init_0 9 rfl rfl)
abbrev cX2_of : ByteArray := prog_2_method_2_code
def yX2_of : MethodName := ⟨RX2, "of", "(I)I"⟩
theorem dX2_of_0 : decode cX2_of 0 = .ok (.iconst 0, 1) := by decide +kernel
theorem dX2_of_1 : decode cX2_of 1 = .ok (.ireturn, 1) := by decide +kernel
theorem q57 : (Jvm.Cond.initialized "Lendlathe$1") ∈ lw_all := lw_g (lw_at lw_m1 2 rfl) rfl
theorem q103 : (Jvm.Cond.instantiable "Lendlathe$1" (1 : Nat)) ∈ lw_all := lw_g (lw_at lw_m1 48 rfl) rfl
theorem q105 : (Jvm.Cond.instanceMethod ({ cls := "Lendlathe$1", name := "<init>", desc := "(LLendlathe;)V" } : Jvm.MethodName)) ∈ lw_all := lw_g (lw_at lw_m1 50 rfl) rfl
theorem q106 : (Jvm.Cond.code ({ cls := "Lendlathe$1", name := "<init>", desc := "(LLendlathe;)V" } : Jvm.MethodName) prog_2_method_1_code (2 : Nat) (Option.none : Option Jvm.ClassFile.FieldType)) ∈ lw_all := lw_g (lw_at lw_m1 51 rfl) rfl
theorem q107 : (Jvm.Cond.methodLink "Lendlathe$1" (7 : Nat) ({ cls := "java/lang/Object", name := "<init>", desc := "()V" } : Jvm.MethodName)) ∈ lw_all := lw_g (lw_at lw_m1 52 rfl) rfl
theorem q108 : (Jvm.Cond.fieldLink "Lendlathe$1" (1 : Nat) "Lendlathe$1" "this$0" "LLendlathe;") ∈ lw_all := lw_g (lw_at lw_m1 53 rfl) rfl
theorem q109 : (Jvm.Cond.laysFinal "Lendlathe$1" "Lendlathe$1" "this$0" "LLendlathe;") ∈ lw_all := lw_g (lw_at lw_m1 54 rfl) rfl
theorem q110 : (Jvm.Cond.soleField "Lendlathe$1" "this$0") ∈ lw_all := lw_g (lw_at lw_m1 55 rfl) rfl
theorem q111 : (Jvm.Cond.superclass "Lendlathe$1" "java/lang/Object") ∈ lw_all := lw_g (lw_at lw_m1 56 rfl) rfl
theorem q828 : (Jvm.Cond.selects "Lendlathe$1" ({ cls := "java/lang/Object", name := "getClass", desc := "()Ljava/lang/Class;" } : Jvm.MethodName) ({ cls := "java/lang/Object", name := "getClass", desc := "()Ljava/lang/Class;" } : Jvm.MethodName)) ∈ lw_all := lw_g (lw_at lw_m4 53 rfl) rfl
theorem q1136 : (Jvm.Cond.castable "Lendlathe$1" "Lendlathe$Tariff") ∈ lw_tbl := lw_at lw_m5 121 rfl
theorem q1137 : (Jvm.Cond.selects "Lendlathe$1" ({ cls := "Lendlathe$Tariff", name := "of", desc := "(I)I" } : Jvm.MethodName) ({ cls := "Lendlathe$1", name := "of", desc := "(I)I" } : Jvm.MethodName)) ∈ lw_all := lw_g (lw_at lw_m5 122 rfl) rfl
theorem q1138 : (Jvm.Cond.unhidden "Lendlathe$1" "of" "(I)I") ∈ lw_tbl := lw_at lw_m5 123 rfl
theorem q1139 : (Jvm.Cond.instanceMethod ({ cls := "Lendlathe$1", name := "of", desc := "(I)I" } : Jvm.MethodName)) ∈ lw_all := lw_g (lw_at lw_m5 124 rfl) rfl
theorem q1140 : (Jvm.Cond.publicMethod ({ cls := "Lendlathe$1", name := "of", desc := "(I)I" } : Jvm.MethodName)) ∈ lw_tbl := lw_at lw_m5 125 rfl
theorem q1141 : (Jvm.Cond.code ({ cls := "Lendlathe$1", name := "of", desc := "(I)I" } : Jvm.MethodName) prog_2_method_2_code (2 : Nat) (Option.some Jvm.ClassFile.FieldType.int)) ∈ lw_all := lw_g (lw_at lw_m5 126 rfl) rfl
theorem q1853 : (Jvm.Cond.castable "Lendlathe$1" "java/lang/Object") ∈ lw_tbl := lw_at lw_m8 118 rfl
theorem in_X2 : ∀ w ∈ wsX20, w ∈ lw_all := lw_in wsX20 [109] (by decide +kernel) (by decide +kernel)

/-! Lendlathe$Walk -/
set_option maxRecDepth 100000
def RX3 : String := "Lendlathe$Walk"
def TX3 : u_T := fun k => match k with
  | 0 => ("Lendlathe$Walk", "row", "[LLendlathe$Entry;", true)
  | 1 => ("Lendlathe$Walk", "many", "I", false)
  | 2 => ("Lendlathe$Walk", "at", "I", false)
  | _ => ("Lendlathe$Walk", "this$0", "LLendlathe;", true)
def tyX3 : Nat → FieldType := fun k => match k with
  | 0 => .array (.object "Lendlathe$Entry")
  | 1 => .int
  | 2 => .int
  | _ => .object "Lendlathe"
abbrev wsX30 : List Cond := u_ws RX3 TX3 4
theorem nmX3 : ∀ a, a < 4 → ∀ b, b < 4 → a ≠ b → (TX3 a).2.1 ≠ (TX3 b).2.1 := by decide +kernel
theorem tyX3_ok : ∀ k, k < 4 → parseFieldDescriptor (TX3 k).2.2.1 = some (tyX3 k) := by decide +kernel
abbrev cX3_init : ByteArray := prog_12_method_1_code
def yX3_init : MethodName := ⟨RX3, "<init>", "(LLendlathe;)V"⟩
def dkwX3_init_0 : List UInt8 := [42, 43, 181, 0, 3, 42, 183, 0, 9, 42, 17, 0, 150, 189, 0, 15, 181, 0, 17, 177]
abbrev dktX3_init_0 : List UInt8 := dkwX3_init_0 ++ []
theorem dksX3_init_0 : cX3_init.data.toList.drop 0 = dktX3_init_0 := by decide +kernel
theorem dX3_init_0 : decode cX3_init 0 = .ok (.aload_n 0, 1) := dk_42 (dk_at dksX3_init_0 0 rfl rfl)
theorem dX3_init_1 : decode cX3_init 1 = .ok (.aload_n 1, 1) := dk_43 (dk_at dksX3_init_0 1 rfl rfl)
theorem dX3_init_2 : decode cX3_init 2 = .ok (.putfield 3, 3) := dk_181 0 3 (dk_at dksX3_init_0 2 rfl rfl)
theorem dX3_init_5 : decode cX3_init 5 = .ok (.aload_n 0, 1) := dk_42 (dk_at dksX3_init_0 5 rfl rfl)
theorem dX3_init_6 : decode cX3_init 6 = .ok (.invokespecial 9, 3) := dk_183 0 9 (dk_at dksX3_init_0 6 rfl rfl)
theorem dX3_init_9 : decode cX3_init 9 = .ok (.aload_n 0, 1) := dk_42 (dk_at dksX3_init_0 9 rfl rfl)
theorem dX3_init_10 : decode cX3_init 10 = .ok (.sipush 150, 3) := dk_17 0 150 (dk_at dksX3_init_0 10 rfl rfl)
theorem dX3_init_13 : decode cX3_init 13 = .ok (.anewarray 15, 3) := dk_189 0 15 (dk_at dksX3_init_0 13 rfl rfl)
theorem dX3_init_16 : decode cX3_init 16 = .ok (.putfield 17, 3) := dk_181 0 17 (dk_at dksX3_init_0 16 rfl rfl)
theorem dX3_init_19 : decode cX3_init 19 = .ok (.return_, 1) := dk_177 (dk_at dksX3_init_0 19 rfl rfl)
abbrev cX3_over : ByteArray := prog_12_method_2_code
def yX3_over : MethodName := ⟨RX3, "over", "(II)LLendlathe$Walk;"⟩
def dkwX3_over_3 : List UInt8 := [132, 3, 1, 167, 255, 191, 42, 176]
abbrev dktX3_over_3 : List UInt8 := dkwX3_over_3 ++ []
def dkwX3_over_2 : List UInt8 := [25, 4, 180, 0, 42, 28, 160, 0, 17, 25, 4, 182, 0, 45, 153, 0, 9, 42, 25, 4, 182, 0, 49]
abbrev dktX3_over_2 : List UInt8 := dkwX3_over_2 ++ dktX3_over_3
def dkwX3_over_1 : List UInt8 := [180, 0, 3, 180, 0, 25, 29, 182, 0, 35, 192, 0, 15, 58, 4, 25, 4, 180, 0, 39, 27, 160, 0, 26]
abbrev dktX3_over_1 : List UInt8 := dkwX3_over_1 ++ dktX3_over_2
def dkwX3_over_0 : List UInt8 := [42, 3, 181, 0, 21, 3, 62, 29, 42, 180, 0, 3, 180, 0, 25, 182, 0, 29, 162, 0, 57, 42]
abbrev dktX3_over_0 : List UInt8 := dkwX3_over_0 ++ dktX3_over_1
theorem dksX3_over_0 : cX3_over.data.toList.drop 0 = dktX3_over_0 := by decide +kernel
theorem dksX3_over_1 : cX3_over.data.toList.drop 22 = dktX3_over_1 := dk_seg dksX3_over_0 22 rfl rfl
theorem dksX3_over_2 : cX3_over.data.toList.drop 46 = dktX3_over_2 := dk_seg dksX3_over_1 24 rfl rfl
theorem dksX3_over_3 : cX3_over.data.toList.drop 69 = dktX3_over_3 := dk_seg dksX3_over_2 23 rfl rfl
theorem dX3_over_0 : decode cX3_over 0 = .ok (.aload_n 0, 1) := dk_42 (dk_at dksX3_over_0 0 rfl rfl)
theorem dX3_over_1 : decode cX3_over 1 = .ok (.iconst 0, 1) := dk_3 (dk_at dksX3_over_0 1 rfl rfl)
theorem dX3_over_2 : decode cX3_over 2 = .ok (.putfield 21, 3) := dk_181 0 21 (dk_at dksX3_over_0 2 rfl rfl)
theorem dX3_over_5 : decode cX3_over 5 = .ok (.iconst 0, 1) := dk_3 (dk_at dksX3_over_0 5 rfl rfl)
theorem dX3_over_6 : decode cX3_over 6 = .ok (.istore_n 3, 1) := dk_62 (dk_at dksX3_over_0 6 rfl rfl)
theorem dX3_over_7 : decode cX3_over 7 = .ok (.iload_n 3, 1) := dk_29 (dk_at dksX3_over_0 7 rfl rfl)
theorem dX3_over_8 : decode cX3_over 8 = .ok (.aload_n 0, 1) := dk_42 (dk_at dksX3_over_0 8 rfl rfl)
theorem dX3_over_9 : decode cX3_over 9 = .ok (.getfield 3, 3) := dk_180 0 3 (dk_at dksX3_over_0 9 rfl rfl)
theorem dX3_over_12 : decode cX3_over 12 = .ok (.getfield 25, 3) := dk_180 0 25 (dk_at dksX3_over_0 12 rfl rfl)
theorem dX3_over_15 : decode cX3_over 15 = .ok (.invokevirtual 29, 3) := dk_182 0 29 (dk_at dksX3_over_0 15 rfl rfl)
theorem dX3_over_18 : decode cX3_over 18 = .ok (.if_icmp .ge 57, 3) := dk_162 0 57 (dk_at dksX3_over_0 18 rfl rfl)
theorem dX3_over_21 : decode cX3_over 21 = .ok (.aload_n 0, 1) := dk_42 (dk_at dksX3_over_0 21 rfl rfl)
theorem dX3_over_22 : decode cX3_over 22 = .ok (.getfield 3, 3) := dk_180 0 3 (dk_at dksX3_over_1 0 rfl rfl)
theorem dX3_over_25 : decode cX3_over 25 = .ok (.getfield 25, 3) := dk_180 0 25 (dk_at dksX3_over_1 3 rfl rfl)
theorem dX3_over_28 : decode cX3_over 28 = .ok (.iload_n 3, 1) := dk_29 (dk_at dksX3_over_1 6 rfl rfl)
theorem dX3_over_29 : decode cX3_over 29 = .ok (.invokevirtual 35, 3) := dk_182 0 35 (dk_at dksX3_over_1 7 rfl rfl)
theorem dX3_over_32 : decode cX3_over 32 = .ok (.checkcast 15, 3) := dk_192 0 15 (dk_at dksX3_over_1 10 rfl rfl)
theorem dX3_over_35 : decode cX3_over 35 = .ok (.astore 4, 2) := dk_58 4 (dk_at dksX3_over_1 13 rfl rfl)
theorem dX3_over_37 : decode cX3_over 37 = .ok (.aload 4, 2) := dk_25 4 (dk_at dksX3_over_1 15 rfl rfl)
theorem dX3_over_39 : decode cX3_over 39 = .ok (.getfield 39, 3) := dk_180 0 39 (dk_at dksX3_over_1 17 rfl rfl)
theorem dX3_over_42 : decode cX3_over 42 = .ok (.iload_n 1, 1) := dk_27 (dk_at dksX3_over_1 20 rfl rfl)
theorem dX3_over_43 : decode cX3_over 43 = .ok (.if_icmp .ne 26, 3) := dk_160 0 26 (dk_at dksX3_over_1 21 rfl rfl)
theorem dX3_over_46 : decode cX3_over 46 = .ok (.aload 4, 2) := dk_25 4 (dk_at dksX3_over_2 0 rfl rfl)
theorem dX3_over_48 : decode cX3_over 48 = .ok (.getfield 42, 3) := dk_180 0 42 (dk_at dksX3_over_2 2 rfl rfl)
theorem dX3_over_51 : decode cX3_over 51 = .ok (.iload_n 2, 1) := dk_28 (dk_at dksX3_over_2 5 rfl rfl)
theorem dX3_over_52 : decode cX3_over 52 = .ok (.if_icmp .ne 17, 3) := dk_160 0 17 (dk_at dksX3_over_2 6 rfl rfl)
theorem dX3_over_55 : decode cX3_over 55 = .ok (.aload 4, 2) := dk_25 4 (dk_at dksX3_over_2 9 rfl rfl)
theorem dX3_over_57 : decode cX3_over 57 = .ok (.invokevirtual 45, 3) := dk_182 0 45 (dk_at dksX3_over_2 11 rfl rfl)
theorem dX3_over_60 : decode cX3_over 60 = .ok (.ifCond .eq 9, 3) := dk_153 0 9 (dk_at dksX3_over_2 14 rfl rfl)
theorem dX3_over_63 : decode cX3_over 63 = .ok (.aload_n 0, 1) := dk_42 (dk_at dksX3_over_2 17 rfl rfl)
theorem dX3_over_64 : decode cX3_over 64 = .ok (.aload 4, 2) := dk_25 4 (dk_at dksX3_over_2 18 rfl rfl)
theorem dX3_over_66 : decode cX3_over 66 = .ok (.invokevirtual 49, 3) := dk_182 0 49 (dk_at dksX3_over_2 20 rfl rfl)
theorem dX3_over_69 : decode cX3_over 69 = .ok (.iinc 3 1, 3) := dk_132 3 1 (dk_at dksX3_over_3 0 rfl rfl)
theorem dX3_over_72 : decode cX3_over 72 = .ok (.goto (-65), 3) := dk_167 255 191 (dk_at dksX3_over_3 3 rfl rfl)
theorem dX3_over_75 : decode cX3_over 75 = .ok (.aload_n 0, 1) := dk_42 (dk_at dksX3_over_3 6 rfl rfl)
theorem dX3_over_76 : decode cX3_over 76 = .ok (.areturn, 1) := dk_176 (dk_at dksX3_over_3 7 rfl rfl)
abbrev cX3_sorts : ByteArray := prog_12_method_3_code
def yX3_sorts : MethodName := ⟨RX3, "sorts", "(LLendlathe$Entry;)V"⟩
def dkwX3_sorts_2 : List UInt8 := [180, 0, 17, 28, 43, 83, 42, 89, 180, 0, 21, 4, 96, 181, 0, 21, 177]
abbrev dktX3_sorts_2 : List UInt8 := dkwX3_sorts_2 ++ []
def dkwX3_sorts_1 : List UInt8 := [164, 0, 23, 42, 180, 0, 17, 28, 42, 180, 0, 17, 28, 4, 100, 50, 83, 132, 2, 255, 167, 255, 217, 42]
abbrev dktX3_sorts_1 : List UInt8 := dkwX3_sorts_1 ++ dktX3_sorts_2
def dkwX3_sorts_0 : List UInt8 := [42, 180, 0, 21, 61, 28, 158, 0, 41, 42, 180, 0, 17, 28, 4, 100, 50, 180, 0, 53, 43, 180, 0, 53]
abbrev dktX3_sorts_0 : List UInt8 := dkwX3_sorts_0 ++ dktX3_sorts_1
theorem dksX3_sorts_0 : cX3_sorts.data.toList.drop 0 = dktX3_sorts_0 := by decide +kernel
theorem dksX3_sorts_1 : cX3_sorts.data.toList.drop 24 = dktX3_sorts_1 := dk_seg dksX3_sorts_0 24 rfl rfl
theorem dksX3_sorts_2 : cX3_sorts.data.toList.drop 48 = dktX3_sorts_2 := dk_seg dksX3_sorts_1 24 rfl rfl
theorem dX3_sorts_0 : decode cX3_sorts 0 = .ok (.aload_n 0, 1) := dk_42 (dk_at dksX3_sorts_0 0 rfl rfl)
theorem dX3_sorts_1 : decode cX3_sorts 1 = .ok (.getfield 21, 3) := dk_180 0 21 (dk_at dksX3_sorts_0 1 rfl rfl)
theorem dX3_sorts_4 : decode cX3_sorts 4 = .ok (.istore_n 2, 1) := dk_61 (dk_at dksX3_sorts_0 4 rfl rfl)
theorem dX3_sorts_5 : decode cX3_sorts 5 = .ok (.iload_n 2, 1) := dk_28 (dk_at dksX3_sorts_0 5 rfl rfl)
theorem dX3_sorts_6 : decode cX3_sorts 6 = .ok (.ifCond .le 41, 3) := dk_158 0 41 (dk_at dksX3_sorts_0 6 rfl rfl)
theorem dX3_sorts_9 : decode cX3_sorts 9 = .ok (.aload_n 0, 1) := dk_42 (dk_at dksX3_sorts_0 9 rfl rfl)
theorem dX3_sorts_10 : decode cX3_sorts 10 = .ok (.getfield 17, 3) := dk_180 0 17 (dk_at dksX3_sorts_0 10 rfl rfl)
theorem dX3_sorts_13 : decode cX3_sorts 13 = .ok (.iload_n 2, 1) := dk_28 (dk_at dksX3_sorts_0 13 rfl rfl)
theorem dX3_sorts_14 : decode cX3_sorts 14 = .ok (.iconst 1, 1) := dk_4 (dk_at dksX3_sorts_0 14 rfl rfl)
theorem dX3_sorts_15 : decode cX3_sorts 15 = .ok (.isub, 1) := dk_100 (dk_at dksX3_sorts_0 15 rfl rfl)
theorem dX3_sorts_16 : decode cX3_sorts 16 = .ok (.aaload, 1) := dk_50 (dk_at dksX3_sorts_0 16 rfl rfl)
theorem dX3_sorts_17 : decode cX3_sorts 17 = .ok (.getfield 53, 3) := dk_180 0 53 (dk_at dksX3_sorts_0 17 rfl rfl)
theorem dX3_sorts_20 : decode cX3_sorts 20 = .ok (.aload_n 1, 1) := dk_43 (dk_at dksX3_sorts_0 20 rfl rfl)
theorem dX3_sorts_21 : decode cX3_sorts 21 = .ok (.getfield 53, 3) := dk_180 0 53 (dk_at dksX3_sorts_0 21 rfl rfl)
theorem dX3_sorts_24 : decode cX3_sorts 24 = .ok (.if_icmp .le 23, 3) := dk_164 0 23 (dk_at dksX3_sorts_1 0 rfl rfl)
theorem dX3_sorts_27 : decode cX3_sorts 27 = .ok (.aload_n 0, 1) := dk_42 (dk_at dksX3_sorts_1 3 rfl rfl)
theorem dX3_sorts_28 : decode cX3_sorts 28 = .ok (.getfield 17, 3) := dk_180 0 17 (dk_at dksX3_sorts_1 4 rfl rfl)
theorem dX3_sorts_31 : decode cX3_sorts 31 = .ok (.iload_n 2, 1) := dk_28 (dk_at dksX3_sorts_1 7 rfl rfl)
theorem dX3_sorts_32 : decode cX3_sorts 32 = .ok (.aload_n 0, 1) := dk_42 (dk_at dksX3_sorts_1 8 rfl rfl)
theorem dX3_sorts_33 : decode cX3_sorts 33 = .ok (.getfield 17, 3) := dk_180 0 17 (dk_at dksX3_sorts_1 9 rfl rfl)
theorem dX3_sorts_36 : decode cX3_sorts 36 = .ok (.iload_n 2, 1) := dk_28 (dk_at dksX3_sorts_1 12 rfl rfl)
theorem dX3_sorts_37 : decode cX3_sorts 37 = .ok (.iconst 1, 1) := dk_4 (dk_at dksX3_sorts_1 13 rfl rfl)
theorem dX3_sorts_38 : decode cX3_sorts 38 = .ok (.isub, 1) := dk_100 (dk_at dksX3_sorts_1 14 rfl rfl)
theorem dX3_sorts_39 : decode cX3_sorts 39 = .ok (.aaload, 1) := dk_50 (dk_at dksX3_sorts_1 15 rfl rfl)
theorem dX3_sorts_40 : decode cX3_sorts 40 = .ok (.aastore, 1) := dk_83 (dk_at dksX3_sorts_1 16 rfl rfl)
theorem dX3_sorts_41 : decode cX3_sorts 41 = .ok (.iinc 2 (-1), 3) := dk_132 2 255 (dk_at dksX3_sorts_1 17 rfl rfl)
theorem dX3_sorts_44 : decode cX3_sorts 44 = .ok (.goto (-39), 3) := dk_167 255 217 (dk_at dksX3_sorts_1 20 rfl rfl)
theorem dX3_sorts_47 : decode cX3_sorts 47 = .ok (.aload_n 0, 1) := dk_42 (dk_at dksX3_sorts_1 23 rfl rfl)
theorem dX3_sorts_48 : decode cX3_sorts 48 = .ok (.getfield 17, 3) := dk_180 0 17 (dk_at dksX3_sorts_2 0 rfl rfl)
theorem dX3_sorts_51 : decode cX3_sorts 51 = .ok (.iload_n 2, 1) := dk_28 (dk_at dksX3_sorts_2 3 rfl rfl)
theorem dX3_sorts_52 : decode cX3_sorts 52 = .ok (.aload_n 1, 1) := dk_43 (dk_at dksX3_sorts_2 4 rfl rfl)
theorem dX3_sorts_53 : decode cX3_sorts 53 = .ok (.aastore, 1) := dk_83 (dk_at dksX3_sorts_2 5 rfl rfl)
theorem dX3_sorts_54 : decode cX3_sorts 54 = .ok (.aload_n 0, 1) := dk_42 (dk_at dksX3_sorts_2 6 rfl rfl)
theorem dX3_sorts_55 : decode cX3_sorts 55 = .ok (.dup, 1) := dk_89 (dk_at dksX3_sorts_2 7 rfl rfl)
theorem dX3_sorts_56 : decode cX3_sorts 56 = .ok (.getfield 21, 3) := dk_180 0 21 (dk_at dksX3_sorts_2 8 rfl rfl)
theorem dX3_sorts_59 : decode cX3_sorts 59 = .ok (.iconst 1, 1) := dk_4 (dk_at dksX3_sorts_2 11 rfl rfl)
theorem dX3_sorts_60 : decode cX3_sorts 60 = .ok (.iadd, 1) := dk_96 (dk_at dksX3_sorts_2 12 rfl rfl)
theorem dX3_sorts_61 : decode cX3_sorts 61 = .ok (.putfield 21, 3) := dk_181 0 21 (dk_at dksX3_sorts_2 13 rfl rfl)
theorem dX3_sorts_64 : decode cX3_sorts 64 = .ok (.return_, 1) := dk_177 (dk_at dksX3_sorts_2 16 rfl rfl)
abbrev cX3_iterator : ByteArray := prog_12_method_4_code
def yX3_iterator : MethodName := ⟨RX3, "iterator", "()Ljava/util/Iterator;"⟩
def dkwX3_iterator_0 : List UInt8 := [42, 3, 181, 0, 56, 42, 176]
abbrev dktX3_iterator_0 : List UInt8 := dkwX3_iterator_0 ++ []
theorem dksX3_iterator_0 : cX3_iterator.data.toList.drop 0 = dktX3_iterator_0 := by decide +kernel
theorem dX3_iterator_0 : decode cX3_iterator 0 = .ok (.aload_n 0, 1) := dk_42 (dk_at dksX3_iterator_0 0 rfl rfl)
theorem dX3_iterator_1 : decode cX3_iterator 1 = .ok (.iconst 0, 1) := dk_3 (dk_at dksX3_iterator_0 1 rfl rfl)
theorem dX3_iterator_2 : decode cX3_iterator 2 = .ok (.putfield 56, 3) := dk_181 0 56 (dk_at dksX3_iterator_0 2 rfl rfl)
theorem dX3_iterator_5 : decode cX3_iterator 5 = .ok (.aload_n 0, 1) := dk_42 (dk_at dksX3_iterator_0 5 rfl rfl)
theorem dX3_iterator_6 : decode cX3_iterator 6 = .ok (.areturn, 1) := dk_176 (dk_at dksX3_iterator_0 6 rfl rfl)
abbrev cX3_hasNext : ByteArray := prog_12_method_5_code
def yX3_hasNext : MethodName := ⟨RX3, "hasNext", "()Z"⟩
def dkwX3_hasNext_0 : List UInt8 := [42, 180, 0, 56, 42, 180, 0, 21, 162, 0, 7, 4, 167, 0, 4, 3, 172]
abbrev dktX3_hasNext_0 : List UInt8 := dkwX3_hasNext_0 ++ []
theorem dksX3_hasNext_0 : cX3_hasNext.data.toList.drop 0 = dktX3_hasNext_0 := by decide +kernel
theorem dX3_hasNext_0 : decode cX3_hasNext 0 = .ok (.aload_n 0, 1) := dk_42 (dk_at dksX3_hasNext_0 0 rfl rfl)
theorem dX3_hasNext_1 : decode cX3_hasNext 1 = .ok (.getfield 56, 3) := dk_180 0 56 (dk_at dksX3_hasNext_0 1 rfl rfl)
theorem dX3_hasNext_4 : decode cX3_hasNext 4 = .ok (.aload_n 0, 1) := dk_42 (dk_at dksX3_hasNext_0 4 rfl rfl)
theorem dX3_hasNext_5 : decode cX3_hasNext 5 = .ok (.getfield 21, 3) := dk_180 0 21 (dk_at dksX3_hasNext_0 5 rfl rfl)
theorem dX3_hasNext_8 : decode cX3_hasNext 8 = .ok (.if_icmp .ge 7, 3) := dk_162 0 7 (dk_at dksX3_hasNext_0 8 rfl rfl)
theorem dX3_hasNext_11 : decode cX3_hasNext 11 = .ok (.iconst 1, 1) := dk_4 (dk_at dksX3_hasNext_0 11 rfl rfl)
theorem dX3_hasNext_12 : decode cX3_hasNext 12 = .ok (.goto 4, 3) := dk_167 0 4 (dk_at dksX3_hasNext_0 12 rfl rfl)
theorem dX3_hasNext_15 : decode cX3_hasNext 15 = .ok (.iconst 0, 1) := dk_3 (dk_at dksX3_hasNext_0 15 rfl rfl)
theorem dX3_hasNext_16 : decode cX3_hasNext 16 = .ok (.ireturn, 1) := dk_172 (dk_at dksX3_hasNext_0 16 rfl rfl)
abbrev cX3_next : ByteArray := prog_12_method_7_code
def yX3_next : MethodName := ⟨RX3, "next", "()Ljava/lang/Object;"⟩
theorem dX3_next_0 : decode cX3_next 0 = .ok (.aload_n 0, 1) := by decide +kernel
theorem dX3_next_1 : decode cX3_next 1 = .ok (.invokevirtual 62, 3) := by decide +kernel
theorem dX3_next_4 : decode cX3_next 4 = .ok (.areturn, 1) := by decide +kernel
abbrev cX3_next_2 : ByteArray := prog_12_method_6_code
def yX3_next_2 : MethodName := ⟨RX3, "next", "()LLendlathe$Entry;"⟩
def dkwX3_next_2_1 : List UInt8 := [180, 0, 56, 50, 76, 42, 89, 180, 0, 56, 4, 96, 181, 0, 56, 43, 176]
abbrev dktX3_next_2_1 : List UInt8 := dkwX3_next_2_1 ++ []
def dkwX3_next_2_0 : List UInt8 := [42, 180, 0, 56, 42, 180, 0, 21, 161, 0, 11, 187, 0, 59, 89, 183, 0, 61, 191, 42, 180, 0, 17, 42]
abbrev dktX3_next_2_0 : List UInt8 := dkwX3_next_2_0 ++ dktX3_next_2_1
theorem dksX3_next_2_0 : cX3_next_2.data.toList.drop 0 = dktX3_next_2_0 := by decide +kernel
theorem dksX3_next_2_1 : cX3_next_2.data.toList.drop 24 = dktX3_next_2_1 := dk_seg dksX3_next_2_0 24 rfl rfl
theorem dX3_next_2_0 : decode cX3_next_2 0 = .ok (.aload_n 0, 1) := dk_42 (dk_at dksX3_next_2_0 0 rfl rfl)
theorem dX3_next_2_1 : decode cX3_next_2 1 = .ok (.getfield 56, 3) := dk_180 0 56 (dk_at dksX3_next_2_0 1 rfl rfl)
theorem dX3_next_2_4 : decode cX3_next_2 4 = .ok (.aload_n 0, 1) := dk_42 (dk_at dksX3_next_2_0 4 rfl rfl)
theorem dX3_next_2_5 : decode cX3_next_2 5 = .ok (.getfield 21, 3) := dk_180 0 21 (dk_at dksX3_next_2_0 5 rfl rfl)
theorem dX3_next_2_8 : decode cX3_next_2 8 = .ok (.if_icmp .lt 11, 3) := dk_161 0 11 (dk_at dksX3_next_2_0 8 rfl rfl)
theorem dX3_next_2_11 : decode cX3_next_2 11 = .ok (.new 59, 3) := dk_187 0 59 (dk_at dksX3_next_2_0 11 rfl rfl)
theorem dX3_next_2_14 : decode cX3_next_2 14 = .ok (.dup, 1) := dk_89 (dk_at dksX3_next_2_0 14 rfl rfl)
theorem dX3_next_2_15 : decode cX3_next_2 15 = .ok (.invokespecial 61, 3) := dk_183 0 61 (dk_at dksX3_next_2_0 15 rfl rfl)
theorem dX3_next_2_18 : decode cX3_next_2 18 = .ok (.athrow, 1) := dk_191 (dk_at dksX3_next_2_0 18 rfl rfl)
theorem dX3_next_2_19 : decode cX3_next_2 19 = .ok (.aload_n 0, 1) := dk_42 (dk_at dksX3_next_2_0 19 rfl rfl)
theorem dX3_next_2_20 : decode cX3_next_2 20 = .ok (.getfield 17, 3) := dk_180 0 17 (dk_at dksX3_next_2_0 20 rfl rfl)
theorem dX3_next_2_23 : decode cX3_next_2 23 = .ok (.aload_n 0, 1) := dk_42 (dk_at dksX3_next_2_0 23 rfl rfl)
theorem dX3_next_2_24 : decode cX3_next_2 24 = .ok (.getfield 56, 3) := dk_180 0 56 (dk_at dksX3_next_2_1 0 rfl rfl)
theorem dX3_next_2_27 : decode cX3_next_2 27 = .ok (.aaload, 1) := dk_50 (dk_at dksX3_next_2_1 3 rfl rfl)
theorem dX3_next_2_28 : decode cX3_next_2 28 = .ok (.astore_n 1, 1) := dk_76 (dk_at dksX3_next_2_1 4 rfl rfl)
theorem dX3_next_2_29 : decode cX3_next_2 29 = .ok (.aload_n 0, 1) := dk_42 (dk_at dksX3_next_2_1 5 rfl rfl)
theorem dX3_next_2_30 : decode cX3_next_2 30 = .ok (.dup, 1) := dk_89 (dk_at dksX3_next_2_1 6 rfl rfl)
theorem dX3_next_2_31 : decode cX3_next_2 31 = .ok (.getfield 56, 3) := dk_180 0 56 (dk_at dksX3_next_2_1 7 rfl rfl)
theorem dX3_next_2_34 : decode cX3_next_2 34 = .ok (.iconst 1, 1) := dk_4 (dk_at dksX3_next_2_1 10 rfl rfl)
theorem dX3_next_2_35 : decode cX3_next_2 35 = .ok (.iadd, 1) := dk_96 (dk_at dksX3_next_2_1 11 rfl rfl)
theorem dX3_next_2_36 : decode cX3_next_2 36 = .ok (.putfield 56, 3) := dk_181 0 56 (dk_at dksX3_next_2_1 12 rfl rfl)
theorem dX3_next_2_39 : decode cX3_next_2 39 = .ok (.aload_n 1, 1) := dk_43 (dk_at dksX3_next_2_1 15 rfl rfl)
theorem dX3_next_2_40 : decode cX3_next_2 40 = .ok (.areturn, 1) := dk_176 (dk_at dksX3_next_2_1 16 rfl rfl)
theorem q77 : (Jvm.Cond.initialized "Lendlathe$Walk") ∈ lw_all := lw_g (lw_at lw_m1 22 rfl) rfl
theorem q460 : (Jvm.Cond.instantiable "Lendlathe$Walk" (4 : Nat)) ∈ lw_all := lw_g (lw_at lw_m2 165 rfl) rfl
theorem q462 : (Jvm.Cond.instanceMethod ({ cls := "Lendlathe$Walk", name := "<init>", desc := "(LLendlathe;)V" } : Jvm.MethodName)) ∈ lw_all := lw_g (lw_at lw_m2 167 rfl) rfl
theorem q463 : (Jvm.Cond.code ({ cls := "Lendlathe$Walk", name := "<init>", desc := "(LLendlathe;)V" } : Jvm.MethodName) prog_12_method_1_code (2 : Nat) (Option.none : Option Jvm.ClassFile.FieldType)) ∈ lw_all := lw_g (lw_at lw_m2 168 rfl) rfl
theorem q464 : (Jvm.Cond.methodLink "Lendlathe$Walk" (9 : Nat) ({ cls := "java/lang/Object", name := "<init>", desc := "()V" } : Jvm.MethodName)) ∈ lw_all := lw_g (lw_at lw_m2 169 rfl) rfl
theorem q465 : (Jvm.Cond.classLink "Lendlathe$Walk" (15 : Nat) "Lendlathe$Entry") ∈ lw_all := lw_g (lw_at lw_m2 170 rfl) rfl
theorem q467 : (Jvm.Cond.fieldLink "Lendlathe$Walk" (17 : Nat) "Lendlathe$Walk" "row" "[LLendlathe$Entry;") ∈ lw_all := lw_g (lw_at lw_m2 172 rfl) rfl
theorem q468 : (Jvm.Cond.fieldLink "Lendlathe$Walk" (21 : Nat) "Lendlathe$Walk" "many" "I") ∈ lw_all := lw_g (lw_at lw_m2 173 rfl) rfl
theorem q469 : (Jvm.Cond.fieldLink "Lendlathe$Walk" (56 : Nat) "Lendlathe$Walk" "at" "I") ∈ lw_all := lw_g (lw_at lw_m2 174 rfl) rfl
theorem q470 : (Jvm.Cond.fieldLink "Lendlathe$Walk" (3 : Nat) "Lendlathe$Walk" "this$0" "LLendlathe;") ∈ lw_all := lw_g (lw_at lw_m2 175 rfl) rfl
theorem q471 : (Jvm.Cond.laysFinal "Lendlathe$Walk" "Lendlathe$Walk" "row" "[LLendlathe$Entry;") ∈ lw_all := lw_g (lw_at lw_m2 176 rfl) rfl
theorem q472 : (Jvm.Cond.soleField "Lendlathe$Walk" "row") ∈ lw_all := lw_g (lw_at lw_m2 177 rfl) rfl
theorem q473 : (Jvm.Cond.lays "Lendlathe$Walk" "Lendlathe$Walk" "many" "I") ∈ lw_all := lw_g (lw_at lw_m2 178 rfl) rfl
theorem q474 : (Jvm.Cond.soleField "Lendlathe$Walk" "many") ∈ lw_all := lw_g (lw_at lw_m2 179 rfl) rfl
theorem q475 : (Jvm.Cond.lays "Lendlathe$Walk" "Lendlathe$Walk" "at" "I") ∈ lw_all := lw_g (lw_at lw_m2 180 rfl) rfl
theorem q476 : (Jvm.Cond.soleField "Lendlathe$Walk" "at") ∈ lw_all := lw_g (lw_at lw_m2 181 rfl) rfl
theorem q477 : (Jvm.Cond.laysFinal "Lendlathe$Walk" "Lendlathe$Walk" "this$0" "LLendlathe;") ∈ lw_all := lw_g (lw_at lw_m2 182 rfl) rfl
theorem q478 : (Jvm.Cond.soleField "Lendlathe$Walk" "this$0") ∈ lw_all := lw_g (lw_at lw_m2 183 rfl) rfl
theorem q479 : (Jvm.Cond.superclass "Lendlathe$Walk" "java/lang/Object") ∈ lw_all := lw_g (lw_at lw_m2 184 rfl) rfl
theorem q530 : (Jvm.Cond.instanceMethod ({ cls := "Lendlathe$Walk", name := "over", desc := "(II)LLendlathe$Walk;" } : Jvm.MethodName)) ∈ lw_all := lw_g (lw_at lw_m2 235 rfl) rfl
theorem q531 : (Jvm.Cond.selects "Lendlathe$Walk" ({ cls := "Lendlathe$Walk", name := "over", desc := "(II)LLendlathe$Walk;" } : Jvm.MethodName) ({ cls := "Lendlathe$Walk", name := "over", desc := "(II)LLendlathe$Walk;" } : Jvm.MethodName)) ∈ lw_all := lw_g (lw_at lw_m2 236 rfl) rfl
theorem q532 : (Jvm.Cond.code ({ cls := "Lendlathe$Walk", name := "over", desc := "(II)LLendlathe$Walk;" } : Jvm.MethodName) prog_12_method_2_code (5 : Nat) (Option.some (Jvm.ClassFile.FieldType.object "Lendlathe$Walk"))) ∈ lw_all := lw_g (lw_at lw_m2 237 rfl) rfl
theorem q533 : (Jvm.Cond.methodLink "Lendlathe$Walk" (29 : Nat) ({ cls := "java/util/ArrayList", name := "size", desc := "()I" } : Jvm.MethodName)) ∈ lw_all := lw_g (lw_at lw_m2 238 rfl) rfl
theorem q534 : (Jvm.Cond.methodLink "Lendlathe$Walk" (35 : Nat) ({ cls := "java/util/ArrayList", name := "get", desc := "(I)Ljava/lang/Object;" } : Jvm.MethodName)) ∈ lw_all := lw_g (lw_at lw_m2 239 rfl) rfl
theorem q535 : (Jvm.Cond.methodLink "Lendlathe$Walk" (45 : Nat) ({ cls := "Lendlathe$Entry", name := "isTaken", desc := "()Z" } : Jvm.MethodName)) ∈ lw_all := lw_g (lw_at lw_m3 0 rfl) rfl
theorem q539 : (Jvm.Cond.methodLink "Lendlathe$Walk" (49 : Nat) ({ cls := "Lendlathe$Walk", name := "sorts", desc := "(LLendlathe$Entry;)V" } : Jvm.MethodName)) ∈ lw_all := lw_g (lw_at lw_m3 4 rfl) rfl
theorem q540 : (Jvm.Cond.privateMethod ({ cls := "Lendlathe$Walk", name := "sorts", desc := "(LLendlathe$Entry;)V" } : Jvm.MethodName)) ∈ lw_tbl := lw_at lw_m3 5 rfl
theorem q541 : (Jvm.Cond.instanceMethod ({ cls := "Lendlathe$Walk", name := "sorts", desc := "(LLendlathe$Entry;)V" } : Jvm.MethodName)) ∈ lw_all := lw_g (lw_at lw_m3 6 rfl) rfl
theorem q542 : (Jvm.Cond.code ({ cls := "Lendlathe$Walk", name := "sorts", desc := "(LLendlathe$Entry;)V" } : Jvm.MethodName) prog_12_method_3_code (3 : Nat) (Option.none : Option Jvm.ClassFile.FieldType)) ∈ lw_all := lw_g (lw_at lw_m3 7 rfl) rfl
theorem q544 : (Jvm.Cond.instanceMethod ({ cls := "Lendlathe$Walk", name := "iterator", desc := "()Ljava/util/Iterator;" } : Jvm.MethodName)) ∈ lw_all := lw_g (lw_at lw_m3 9 rfl) rfl
theorem q545 : (Jvm.Cond.selects "Lendlathe$Walk" ({ cls := "Lendlathe$Walk", name := "iterator", desc := "()Ljava/util/Iterator;" } : Jvm.MethodName) ({ cls := "Lendlathe$Walk", name := "iterator", desc := "()Ljava/util/Iterator;" } : Jvm.MethodName)) ∈ lw_all := lw_g (lw_at lw_m3 10 rfl) rfl
theorem q546 : (Jvm.Cond.code ({ cls := "Lendlathe$Walk", name := "iterator", desc := "()Ljava/util/Iterator;" } : Jvm.MethodName) prog_12_method_4_code (1 : Nat) (Option.some (Jvm.ClassFile.FieldType.object "java/util/Iterator"))) ∈ lw_all := lw_g (lw_at lw_m3 11 rfl) rfl
theorem q551 : (Jvm.Cond.castable "Lendlathe$Walk" "java/util/Iterator") ∈ lw_tbl := lw_at lw_m3 16 rfl
theorem q552 : (Jvm.Cond.selects "Lendlathe$Walk" ({ cls := "java/util/Iterator", name := "hasNext", desc := "()Z" } : Jvm.MethodName) ({ cls := "Lendlathe$Walk", name := "hasNext", desc := "()Z" } : Jvm.MethodName)) ∈ lw_all := lw_g (lw_at lw_m3 17 rfl) rfl
theorem q553 : (Jvm.Cond.unhidden "Lendlathe$Walk" "hasNext" "()Z") ∈ lw_tbl := lw_at lw_m3 18 rfl
theorem q554 : (Jvm.Cond.instanceMethod ({ cls := "Lendlathe$Walk", name := "hasNext", desc := "()Z" } : Jvm.MethodName)) ∈ lw_all := lw_g (lw_at lw_m3 19 rfl) rfl
theorem q555 : (Jvm.Cond.publicMethod ({ cls := "Lendlathe$Walk", name := "hasNext", desc := "()Z" } : Jvm.MethodName)) ∈ lw_tbl := lw_at lw_m3 20 rfl
theorem q556 : (Jvm.Cond.code ({ cls := "Lendlathe$Walk", name := "hasNext", desc := "()Z" } : Jvm.MethodName) prog_12_method_5_code (1 : Nat) (Option.some Jvm.ClassFile.FieldType.boolean)) ∈ lw_all := lw_g (lw_at lw_m3 21 rfl) rfl
theorem q561 : (Jvm.Cond.selects "Lendlathe$Walk" ({ cls := "java/util/Iterator", name := "next", desc := "()Ljava/lang/Object;" } : Jvm.MethodName) ({ cls := "Lendlathe$Walk", name := "next", desc := "()Ljava/lang/Object;" } : Jvm.MethodName)) ∈ lw_all := lw_g (lw_at lw_m3 26 rfl) rfl
theorem q562 : (Jvm.Cond.unhidden "Lendlathe$Walk" "next" "()Ljava/lang/Object;") ∈ lw_tbl := lw_at lw_m3 27 rfl
theorem q563 : (Jvm.Cond.instanceMethod ({ cls := "Lendlathe$Walk", name := "next", desc := "()Ljava/lang/Object;" } : Jvm.MethodName)) ∈ lw_all := lw_g (lw_at lw_m3 28 rfl) rfl
theorem q564 : (Jvm.Cond.publicMethod ({ cls := "Lendlathe$Walk", name := "next", desc := "()Ljava/lang/Object;" } : Jvm.MethodName)) ∈ lw_tbl := lw_at lw_m3 29 rfl
theorem q565 : (Jvm.Cond.code ({ cls := "Lendlathe$Walk", name := "next", desc := "()Ljava/lang/Object;" } : Jvm.MethodName) prog_12_method_7_code (1 : Nat) (Option.some (Jvm.ClassFile.FieldType.object "java/lang/Object"))) ∈ lw_all := lw_g (lw_at lw_m3 30 rfl) rfl
theorem q566 : (Jvm.Cond.methodLink "Lendlathe$Walk" (62 : Nat) ({ cls := "Lendlathe$Walk", name := "next", desc := "()LLendlathe$Entry;" } : Jvm.MethodName)) ∈ lw_all := lw_g (lw_at lw_m3 31 rfl) rfl
theorem q567 : (Jvm.Cond.instanceMethod ({ cls := "Lendlathe$Walk", name := "next", desc := "()LLendlathe$Entry;" } : Jvm.MethodName)) ∈ lw_all := lw_g (lw_at lw_m3 32 rfl) rfl
theorem q568 : (Jvm.Cond.selects "Lendlathe$Walk" ({ cls := "Lendlathe$Walk", name := "next", desc := "()LLendlathe$Entry;" } : Jvm.MethodName) ({ cls := "Lendlathe$Walk", name := "next", desc := "()LLendlathe$Entry;" } : Jvm.MethodName)) ∈ lw_all := lw_g (lw_at lw_m3 33 rfl) rfl
theorem q569 : (Jvm.Cond.code ({ cls := "Lendlathe$Walk", name := "next", desc := "()LLendlathe$Entry;" } : Jvm.MethodName) prog_12_method_6_code (2 : Nat) (Option.some (Jvm.ClassFile.FieldType.object "Lendlathe$Entry"))) ∈ lw_all := lw_g (lw_at lw_m3 34 rfl) rfl
theorem q570 : (Jvm.Cond.classLink "Lendlathe$Walk" (59 : Nat) "java/util/NoSuchElementException") ∈ lw_all := lw_g (lw_at lw_m3 35 rfl) rfl
theorem q579 : (Jvm.Cond.methodLink "Lendlathe$Walk" (61 : Nat) ({ cls := "java/util/NoSuchElementException", name := "<init>", desc := "()V" } : Jvm.MethodName)) ∈ lw_all := lw_g (lw_at lw_m3 44 rfl) rfl
theorem q614 : (Jvm.Cond.fieldLinkNest "Lendlathe$Walk" (25 : Nat) "Lendlathe" "entries" "Ljava/util/ArrayList;" "Lendlathe") ∈ lw_tbl := lw_at lw_m3 79 rfl
theorem q834 : (Jvm.Cond.selects "Lendlathe$Walk" ({ cls := "java/lang/Object", name := "getClass", desc := "()Ljava/lang/Class;" } : Jvm.MethodName) ({ cls := "java/lang/Object", name := "getClass", desc := "()Ljava/lang/Class;" } : Jvm.MethodName)) ∈ lw_all := lw_g (lw_at lw_m4 59 rfl) rfl
theorem q1056 : (Jvm.Cond.fieldLink "Lendlathe$Walk" (39 : Nat) "Lendlathe$Entry" "machine" "I") ∈ lw_all := lw_g (lw_at lw_m5 41 rfl) rfl
theorem q1062 : (Jvm.Cond.fieldLink "Lendlathe$Walk" (42 : Nat) "Lendlathe$Entry" "day" "I") ∈ lw_all := lw_g (lw_at lw_m5 47 rfl) rfl
theorem q1066 : (Jvm.Cond.fieldLink "Lendlathe$Walk" (53 : Nat) "Lendlathe$Entry" "start" "I") ∈ lw_all := lw_g (lw_at lw_m5 51 rfl) rfl
theorem q1858 : (Jvm.Cond.castable "Lendlathe$Walk" "java/lang/Object") ∈ lw_tbl := lw_at lw_m8 123 rfl
theorem in_X3 : ∀ w ∈ wsX30, w ∈ lw_all := lw_in wsX30 [471, 473, 475, 477] (by decide +kernel) (by decide +kernel)

/-! Lendlathe$Machine -/
set_option maxRecDepth 100000
def RX5 : String := "Lendlathe$Machine"
def TX5 : u_T := fun k => match k with
  | 0 => ("Lendlathe$Machine", "kind", "I", true)
  | _ => ("Lendlathe$Machine", "setup", "I", true)
def tyX5 : Nat → FieldType := fun k => match k with
  | 0 => .int
  | _ => .int
abbrev wsX50 : List Cond := u_ws RX5 TX5 2
theorem nmX5 : ∀ a, a < 2 → ∀ b, b < 2 → a ≠ b → (TX5 a).2.1 ≠ (TX5 b).2.1 := by decide +kernel
theorem tyX5_ok : ∀ k, k < 2 → parseFieldDescriptor (TX5 k).2.2.1 = some (tyX5 k) := by decide +kernel
abbrev cX5_init : ByteArray := prog_8_method_1_code
def yX5_init : MethodName := ⟨RX5, "<init>", "(II)V"⟩
def dkwX5_init_0 : List UInt8 := [42, 183, 0, 1, 42, 27, 181, 0, 7, 42, 28, 181, 0, 13, 177]
abbrev dktX5_init_0 : List UInt8 := dkwX5_init_0 ++ []
theorem dksX5_init_0 : cX5_init.data.toList.drop 0 = dktX5_init_0 := by decide +kernel
theorem dX5_init_0 : decode cX5_init 0 = .ok (.aload_n 0, 1) := dk_42 (dk_at dksX5_init_0 0 rfl rfl)
theorem dX5_init_1 : decode cX5_init 1 = .ok (.invokespecial 1, 3) := dk_183 0 1 (dk_at dksX5_init_0 1 rfl rfl)
theorem dX5_init_4 : decode cX5_init 4 = .ok (.aload_n 0, 1) := dk_42 (dk_at dksX5_init_0 4 rfl rfl)
theorem dX5_init_5 : decode cX5_init 5 = .ok (.iload_n 1, 1) := dk_27 (dk_at dksX5_init_0 5 rfl rfl)
theorem dX5_init_6 : decode cX5_init 6 = .ok (.putfield 7, 3) := dk_181 0 7 (dk_at dksX5_init_0 6 rfl rfl)
theorem dX5_init_9 : decode cX5_init 9 = .ok (.aload_n 0, 1) := dk_42 (dk_at dksX5_init_0 9 rfl rfl)
theorem dX5_init_10 : decode cX5_init 10 = .ok (.iload_n 2, 1) := dk_28 (dk_at dksX5_init_0 10 rfl rfl)
theorem dX5_init_11 : decode cX5_init 11 = .ok (.putfield 13, 3) := dk_181 0 13 (dk_at dksX5_init_0 11 rfl rfl)
theorem dX5_init_14 : decode cX5_init 14 = .ok (.return_, 1) := dk_177 (dk_at dksX5_init_0 14 rfl rfl)
theorem q82 : (Jvm.Cond.initialized "Lendlathe$Machine") ∈ lw_all := lw_g (lw_at lw_m1 27 rfl) rfl
theorem q787 : (Jvm.Cond.instantiable "Lendlathe$Machine" (2 : Nat)) ∈ lw_all := lw_g (lw_at lw_m4 12 rfl) rfl
theorem q789 : (Jvm.Cond.instanceMethod ({ cls := "Lendlathe$Machine", name := "<init>", desc := "(II)V" } : Jvm.MethodName)) ∈ lw_all := lw_g (lw_at lw_m4 14 rfl) rfl
theorem q790 : (Jvm.Cond.code ({ cls := "Lendlathe$Machine", name := "<init>", desc := "(II)V" } : Jvm.MethodName) prog_8_method_1_code (3 : Nat) (Option.none : Option Jvm.ClassFile.FieldType)) ∈ lw_all := lw_g (lw_at lw_m4 15 rfl) rfl
theorem q791 : (Jvm.Cond.methodLink "Lendlathe$Machine" (1 : Nat) ({ cls := "java/lang/Object", name := "<init>", desc := "()V" } : Jvm.MethodName)) ∈ lw_all := lw_g (lw_at lw_m4 16 rfl) rfl
theorem q792 : (Jvm.Cond.fieldLink "Lendlathe$Machine" (7 : Nat) "Lendlathe$Machine" "kind" "I") ∈ lw_all := lw_g (lw_at lw_m4 17 rfl) rfl
theorem q795 : (Jvm.Cond.fieldLink "Lendlathe$Machine" (13 : Nat) "Lendlathe$Machine" "setup" "I") ∈ lw_all := lw_g (lw_at lw_m4 20 rfl) rfl
theorem q797 : (Jvm.Cond.laysFinal "Lendlathe$Machine" "Lendlathe$Machine" "kind" "I") ∈ lw_all := lw_g (lw_at lw_m4 22 rfl) rfl
theorem q798 : (Jvm.Cond.soleField "Lendlathe$Machine" "kind") ∈ lw_all := lw_g (lw_at lw_m4 23 rfl) rfl
theorem q799 : (Jvm.Cond.laysFinal "Lendlathe$Machine" "Lendlathe$Machine" "setup" "I") ∈ lw_all := lw_g (lw_at lw_m4 24 rfl) rfl
theorem q800 : (Jvm.Cond.soleField "Lendlathe$Machine" "setup") ∈ lw_all := lw_g (lw_at lw_m4 25 rfl) rfl
theorem q801 : (Jvm.Cond.superclass "Lendlathe$Machine" "java/lang/Object") ∈ lw_all := lw_g (lw_at lw_m4 26 rfl) rfl
theorem q832 : (Jvm.Cond.selects "Lendlathe$Machine" ({ cls := "java/lang/Object", name := "getClass", desc := "()Ljava/lang/Class;" } : Jvm.MethodName) ({ cls := "java/lang/Object", name := "getClass", desc := "()Ljava/lang/Class;" } : Jvm.MethodName)) ∈ lw_all := lw_g (lw_at lw_m4 57 rfl) rfl
theorem q1862 : (Jvm.Cond.castable "Lendlathe$Machine" "java/lang/Object") ∈ lw_tbl := lw_at lw_m8 127 rfl
theorem in_X5 : ∀ w ∈ wsX50, w ∈ lw_all := lw_in wsX50 [797, 799] (by decide +kernel) (by decide +kernel)

/-! Lendlathe$Member -/
set_option maxRecDepth 100000
def RX6 : String := "Lendlathe$Member"
def TX6 : u_T := fun k => match k with
  | 0 => ("Lendlathe$Member", "taken", "[I", true)
  | 1 => ("Lendlathe$Member", "dues", "I", false)
  | 2 => ("Lendlathe$Member", "paid", "I", false)
  | _ => ("Lendlathe$Member", "this$0", "LLendlathe;", true)
def tyX6 : Nat → FieldType := fun k => match k with
  | 0 => .array .int
  | 1 => .int
  | 2 => .int
  | _ => .object "Lendlathe"
abbrev wsX60 : List Cond := u_ws RX6 TX6 4
theorem nmX6 : ∀ a, a < 4 → ∀ b, b < 4 → a ≠ b → (TX6 a).2.1 ≠ (TX6 b).2.1 := by decide +kernel
theorem tyX6_ok : ∀ k, k < 4 → parseFieldDescriptor (TX6 k).2.2.1 = some (tyX6 k) := by decide +kernel
abbrev cX6_isLive : ByteArray := prog_9_method_2_code
def yX6_isLive : MethodName := ⟨RX6, "isLive", "(II)Z"⟩
def dkwX6_isLive_3 : List UInt8 := [167, 0, 4, 3, 62, 132, 4, 1, 167, 255, 212, 29, 172]
abbrev dktX6_isLive_3 : List UInt8 := dkwX6_isLive_3 ++ []
def dkwX6_isLive_2 : List UInt8 := [180, 0, 19, 27, 50, 21, 4, 51, 153, 0, 13, 42, 21, 4, 28, 182, 0, 23, 153, 0, 7, 4]
abbrev dktX6_isLive_2 : List UInt8 := dkwX6_isLive_2 ++ dktX6_isLive_3
def dkwX6_isLive_1 : List UInt8 := [167, 0, 4, 3, 62, 3, 54, 4, 21, 4, 7, 162, 0, 44, 29, 153, 0, 40, 42, 180, 0, 3]
abbrev dktX6_isLive_1 : List UInt8 := dkwX6_isLive_1 ++ dktX6_isLive_2
def dkwX6_isLive_0 : List UInt8 := [42, 180, 0, 15, 27, 46, 2, 159, 0, 20, 28, 42, 180, 0, 15, 27, 46, 16, 30, 96, 162, 0, 7, 4]
abbrev dktX6_isLive_0 : List UInt8 := dkwX6_isLive_0 ++ dktX6_isLive_1
theorem dksX6_isLive_0 : cX6_isLive.data.toList.drop 0 = dktX6_isLive_0 := by decide +kernel
theorem dksX6_isLive_1 : cX6_isLive.data.toList.drop 24 = dktX6_isLive_1 := dk_seg dksX6_isLive_0 24 rfl rfl
theorem dksX6_isLive_2 : cX6_isLive.data.toList.drop 46 = dktX6_isLive_2 := dk_seg dksX6_isLive_1 22 rfl rfl
theorem dksX6_isLive_3 : cX6_isLive.data.toList.drop 68 = dktX6_isLive_3 := dk_seg dksX6_isLive_2 22 rfl rfl
theorem dX6_isLive_0 : decode cX6_isLive 0 = .ok (.aload_n 0, 1) := dk_42 (dk_at dksX6_isLive_0 0 rfl rfl)
theorem dX6_isLive_1 : decode cX6_isLive 1 = .ok (.getfield 15, 3) := dk_180 0 15 (dk_at dksX6_isLive_0 1 rfl rfl)
theorem dX6_isLive_4 : decode cX6_isLive 4 = .ok (.iload_n 1, 1) := dk_27 (dk_at dksX6_isLive_0 4 rfl rfl)
theorem dX6_isLive_5 : decode cX6_isLive 5 = .ok (.iaload, 1) := dk_46 (dk_at dksX6_isLive_0 5 rfl rfl)
theorem dX6_isLive_6 : decode cX6_isLive 6 = .ok (.iconst (-1), 1) := dk_2 (dk_at dksX6_isLive_0 6 rfl rfl)
theorem dX6_isLive_7 : decode cX6_isLive 7 = .ok (.if_icmp .eq 20, 3) := dk_159 0 20 (dk_at dksX6_isLive_0 7 rfl rfl)
theorem dX6_isLive_10 : decode cX6_isLive 10 = .ok (.iload_n 2, 1) := dk_28 (dk_at dksX6_isLive_0 10 rfl rfl)
theorem dX6_isLive_11 : decode cX6_isLive 11 = .ok (.aload_n 0, 1) := dk_42 (dk_at dksX6_isLive_0 11 rfl rfl)
theorem dX6_isLive_12 : decode cX6_isLive 12 = .ok (.getfield 15, 3) := dk_180 0 15 (dk_at dksX6_isLive_0 12 rfl rfl)
theorem dX6_isLive_15 : decode cX6_isLive 15 = .ok (.iload_n 1, 1) := dk_27 (dk_at dksX6_isLive_0 15 rfl rfl)
theorem dX6_isLive_16 : decode cX6_isLive 16 = .ok (.iaload, 1) := dk_46 (dk_at dksX6_isLive_0 16 rfl rfl)
theorem dX6_isLive_17 : decode cX6_isLive 17 = .ok (.bipush 30, 2) := dk_16 30 (dk_at dksX6_isLive_0 17 rfl rfl)
theorem dX6_isLive_19 : decode cX6_isLive 19 = .ok (.iadd, 1) := dk_96 (dk_at dksX6_isLive_0 19 rfl rfl)
theorem dX6_isLive_20 : decode cX6_isLive 20 = .ok (.if_icmp .ge 7, 3) := dk_162 0 7 (dk_at dksX6_isLive_0 20 rfl rfl)
theorem dX6_isLive_23 : decode cX6_isLive 23 = .ok (.iconst 1, 1) := dk_4 (dk_at dksX6_isLive_0 23 rfl rfl)
theorem dX6_isLive_24 : decode cX6_isLive 24 = .ok (.goto 4, 3) := dk_167 0 4 (dk_at dksX6_isLive_1 0 rfl rfl)
theorem dX6_isLive_27 : decode cX6_isLive 27 = .ok (.iconst 0, 1) := dk_3 (dk_at dksX6_isLive_1 3 rfl rfl)
theorem dX6_isLive_28 : decode cX6_isLive 28 = .ok (.istore_n 3, 1) := dk_62 (dk_at dksX6_isLive_1 4 rfl rfl)
theorem dX6_isLive_29 : decode cX6_isLive 29 = .ok (.iconst 0, 1) := dk_3 (dk_at dksX6_isLive_1 5 rfl rfl)
theorem dX6_isLive_30 : decode cX6_isLive 30 = .ok (.istore 4, 2) := dk_54 4 (dk_at dksX6_isLive_1 6 rfl rfl)
theorem dX6_isLive_32 : decode cX6_isLive 32 = .ok (.iload 4, 2) := dk_21 4 (dk_at dksX6_isLive_1 8 rfl rfl)
theorem dX6_isLive_34 : decode cX6_isLive 34 = .ok (.iconst 4, 1) := dk_7 (dk_at dksX6_isLive_1 10 rfl rfl)
theorem dX6_isLive_35 : decode cX6_isLive 35 = .ok (.if_icmp .ge 44, 3) := dk_162 0 44 (dk_at dksX6_isLive_1 11 rfl rfl)
theorem dX6_isLive_38 : decode cX6_isLive 38 = .ok (.iload_n 3, 1) := dk_29 (dk_at dksX6_isLive_1 14 rfl rfl)
theorem dX6_isLive_39 : decode cX6_isLive 39 = .ok (.ifCond .eq 40, 3) := dk_153 0 40 (dk_at dksX6_isLive_1 15 rfl rfl)
theorem dX6_isLive_42 : decode cX6_isLive 42 = .ok (.aload_n 0, 1) := dk_42 (dk_at dksX6_isLive_1 18 rfl rfl)
theorem dX6_isLive_43 : decode cX6_isLive 43 = .ok (.getfield 3, 3) := dk_180 0 3 (dk_at dksX6_isLive_1 19 rfl rfl)
theorem dX6_isLive_46 : decode cX6_isLive 46 = .ok (.getfield 19, 3) := dk_180 0 19 (dk_at dksX6_isLive_2 0 rfl rfl)
theorem dX6_isLive_49 : decode cX6_isLive 49 = .ok (.iload_n 1, 1) := dk_27 (dk_at dksX6_isLive_2 3 rfl rfl)
theorem dX6_isLive_50 : decode cX6_isLive 50 = .ok (.aaload, 1) := dk_50 (dk_at dksX6_isLive_2 4 rfl rfl)
theorem dX6_isLive_51 : decode cX6_isLive 51 = .ok (.iload 4, 2) := dk_21 4 (dk_at dksX6_isLive_2 5 rfl rfl)
theorem dX6_isLive_53 : decode cX6_isLive 53 = .ok (.baload, 1) := dk_51 (dk_at dksX6_isLive_2 7 rfl rfl)
theorem dX6_isLive_54 : decode cX6_isLive 54 = .ok (.ifCond .eq 13, 3) := dk_153 0 13 (dk_at dksX6_isLive_2 8 rfl rfl)
theorem dX6_isLive_57 : decode cX6_isLive 57 = .ok (.aload_n 0, 1) := dk_42 (dk_at dksX6_isLive_2 11 rfl rfl)
theorem dX6_isLive_58 : decode cX6_isLive 58 = .ok (.iload 4, 2) := dk_21 4 (dk_at dksX6_isLive_2 12 rfl rfl)
theorem dX6_isLive_60 : decode cX6_isLive 60 = .ok (.iload_n 2, 1) := dk_28 (dk_at dksX6_isLive_2 14 rfl rfl)
theorem dX6_isLive_61 : decode cX6_isLive 61 = .ok (.invokevirtual 23, 3) := dk_182 0 23 (dk_at dksX6_isLive_2 15 rfl rfl)
theorem dX6_isLive_64 : decode cX6_isLive 64 = .ok (.ifCond .eq 7, 3) := dk_153 0 7 (dk_at dksX6_isLive_2 18 rfl rfl)
theorem dX6_isLive_67 : decode cX6_isLive 67 = .ok (.iconst 1, 1) := dk_4 (dk_at dksX6_isLive_2 21 rfl rfl)
theorem dX6_isLive_68 : decode cX6_isLive 68 = .ok (.goto 4, 3) := dk_167 0 4 (dk_at dksX6_isLive_3 0 rfl rfl)
theorem dX6_isLive_71 : decode cX6_isLive 71 = .ok (.iconst 0, 1) := dk_3 (dk_at dksX6_isLive_3 3 rfl rfl)
theorem dX6_isLive_72 : decode cX6_isLive 72 = .ok (.istore_n 3, 1) := dk_62 (dk_at dksX6_isLive_3 4 rfl rfl)
theorem dX6_isLive_73 : decode cX6_isLive 73 = .ok (.iinc 4 1, 3) := dk_132 4 1 (dk_at dksX6_isLive_3 5 rfl rfl)
theorem dX6_isLive_76 : decode cX6_isLive 76 = .ok (.goto (-44), 3) := dk_167 255 212 (dk_at dksX6_isLive_3 8 rfl rfl)
theorem dX6_isLive_79 : decode cX6_isLive 79 = .ok (.iload_n 3, 1) := dk_29 (dk_at dksX6_isLive_3 11 rfl rfl)
theorem dX6_isLive_80 : decode cX6_isLive 80 = .ok (.ireturn, 1) := dk_172 (dk_at dksX6_isLive_3 12 rfl rfl)
abbrev cX6_owes : ByteArray := prog_9_method_3_code
def yX6_owes : MethodName := ⟨RX6, "owes", "()I"⟩
def dkwX6_owes_0 : List UInt8 := [42, 180, 0, 27, 42, 180, 0, 31, 100, 172]
abbrev dktX6_owes_0 : List UInt8 := dkwX6_owes_0 ++ []
theorem dksX6_owes_0 : cX6_owes.data.toList.drop 0 = dktX6_owes_0 := by decide +kernel
theorem dX6_owes_0 : decode cX6_owes 0 = .ok (.aload_n 0, 1) := dk_42 (dk_at dksX6_owes_0 0 rfl rfl)
theorem dX6_owes_1 : decode cX6_owes 1 = .ok (.getfield 27, 3) := dk_180 0 27 (dk_at dksX6_owes_0 1 rfl rfl)
theorem dX6_owes_4 : decode cX6_owes 4 = .ok (.aload_n 0, 1) := dk_42 (dk_at dksX6_owes_0 4 rfl rfl)
theorem dX6_owes_5 : decode cX6_owes 5 = .ok (.getfield 31, 3) := dk_180 0 31 (dk_at dksX6_owes_0 5 rfl rfl)
theorem dX6_owes_8 : decode cX6_owes 8 = .ok (.isub, 1) := dk_100 (dk_at dksX6_owes_0 8 rfl rfl)
theorem dX6_owes_9 : decode cX6_owes 9 = .ok (.ireturn, 1) := dk_172 (dk_at dksX6_owes_0 9 rfl rfl)
abbrev cX6_init : ByteArray := prog_9_method_1_code
def yX6_init : MethodName := ⟨RX6, "<init>", "(LLendlathe;)V"⟩
def dkwX6_init_1 : List UInt8 := [180, 0, 15, 28, 2, 79, 132, 2, 1, 167, 255, 241, 177]
abbrev dktX6_init_1 : List UInt8 := dkwX6_init_1 ++ []
def dkwX6_init_0 : List UInt8 := [42, 43, 181, 0, 3, 42, 183, 0, 9, 42, 7, 188, 10, 181, 0, 15, 3, 61, 28, 7, 162, 0, 16, 42]
abbrev dktX6_init_0 : List UInt8 := dkwX6_init_0 ++ dktX6_init_1
theorem dksX6_init_0 : cX6_init.data.toList.drop 0 = dktX6_init_0 := by decide +kernel
theorem dksX6_init_1 : cX6_init.data.toList.drop 24 = dktX6_init_1 := dk_seg dksX6_init_0 24 rfl rfl
theorem dX6_init_0 : decode cX6_init 0 = .ok (.aload_n 0, 1) := dk_42 (dk_at dksX6_init_0 0 rfl rfl)
theorem dX6_init_1 : decode cX6_init 1 = .ok (.aload_n 1, 1) := dk_43 (dk_at dksX6_init_0 1 rfl rfl)
theorem dX6_init_2 : decode cX6_init 2 = .ok (.putfield 3, 3) := dk_181 0 3 (dk_at dksX6_init_0 2 rfl rfl)
theorem dX6_init_5 : decode cX6_init 5 = .ok (.aload_n 0, 1) := dk_42 (dk_at dksX6_init_0 5 rfl rfl)
theorem dX6_init_6 : decode cX6_init 6 = .ok (.invokespecial 9, 3) := dk_183 0 9 (dk_at dksX6_init_0 6 rfl rfl)
theorem dX6_init_9 : decode cX6_init 9 = .ok (.aload_n 0, 1) := dk_42 (dk_at dksX6_init_0 9 rfl rfl)
theorem dX6_init_10 : decode cX6_init 10 = .ok (.iconst 4, 1) := dk_7 (dk_at dksX6_init_0 10 rfl rfl)
theorem dX6_init_11 : decode cX6_init 11 = .ok (.newarray .int, 2) := dk_188_10 (dk_at dksX6_init_0 11 rfl rfl)
theorem dX6_init_13 : decode cX6_init 13 = .ok (.putfield 15, 3) := dk_181 0 15 (dk_at dksX6_init_0 13 rfl rfl)
theorem dX6_init_16 : decode cX6_init 16 = .ok (.iconst 0, 1) := dk_3 (dk_at dksX6_init_0 16 rfl rfl)
theorem dX6_init_17 : decode cX6_init 17 = .ok (.istore_n 2, 1) := dk_61 (dk_at dksX6_init_0 17 rfl rfl)
theorem dX6_init_18 : decode cX6_init 18 = .ok (.iload_n 2, 1) := dk_28 (dk_at dksX6_init_0 18 rfl rfl)
theorem dX6_init_19 : decode cX6_init 19 = .ok (.iconst 4, 1) := dk_7 (dk_at dksX6_init_0 19 rfl rfl)
theorem dX6_init_20 : decode cX6_init 20 = .ok (.if_icmp .ge 16, 3) := dk_162 0 16 (dk_at dksX6_init_0 20 rfl rfl)
theorem dX6_init_23 : decode cX6_init 23 = .ok (.aload_n 0, 1) := dk_42 (dk_at dksX6_init_0 23 rfl rfl)
theorem dX6_init_24 : decode cX6_init 24 = .ok (.getfield 15, 3) := dk_180 0 15 (dk_at dksX6_init_1 0 rfl rfl)
theorem dX6_init_27 : decode cX6_init 27 = .ok (.iload_n 2, 1) := dk_28 (dk_at dksX6_init_1 3 rfl rfl)
theorem dX6_init_28 : decode cX6_init 28 = .ok (.iconst (-1), 1) := dk_2 (dk_at dksX6_init_1 4 rfl rfl)
theorem dX6_init_29 : decode cX6_init 29 = .ok (.iastore, 1) := dk_79 (dk_at dksX6_init_1 5 rfl rfl)
theorem dX6_init_30 : decode cX6_init 30 = .ok (.iinc 2 1, 3) := dk_132 2 1 (dk_at dksX6_init_1 6 rfl rfl)
theorem dX6_init_33 : decode cX6_init 33 = .ok (.goto (-15), 3) := dk_167 255 241 (dk_at dksX6_init_1 9 rfl rfl)
theorem dX6_init_36 : decode cX6_init 36 = .ok (.return_, 1) := dk_177 (dk_at dksX6_init_1 12 rfl rfl)
theorem q83 : (Jvm.Cond.initialized "Lendlathe$Member") ∈ lw_all := lw_g (lw_at lw_m1 28 rfl) rfl
theorem q503 : (Jvm.Cond.instanceMethod ({ cls := "Lendlathe$Member", name := "isLive", desc := "(II)Z" } : Jvm.MethodName)) ∈ lw_all := lw_g (lw_at lw_m2 208 rfl) rfl
theorem q504 : (Jvm.Cond.selects "Lendlathe$Member" ({ cls := "Lendlathe$Member", name := "isLive", desc := "(II)Z" } : Jvm.MethodName) ({ cls := "Lendlathe$Member", name := "isLive", desc := "(II)Z" } : Jvm.MethodName)) ∈ lw_all := lw_g (lw_at lw_m2 209 rfl) rfl
theorem q505 : (Jvm.Cond.code ({ cls := "Lendlathe$Member", name := "isLive", desc := "(II)Z" } : Jvm.MethodName) prog_9_method_2_code (5 : Nat) (Option.some Jvm.ClassFile.FieldType.boolean)) ∈ lw_all := lw_g (lw_at lw_m2 210 rfl) rfl
theorem q506 : (Jvm.Cond.methodLink "Lendlathe$Member" (23 : Nat) ({ cls := "Lendlathe$Member", name := "isLive", desc := "(II)Z" } : Jvm.MethodName)) ∈ lw_all := lw_g (lw_at lw_m2 211 rfl) rfl
theorem q618 : (Jvm.Cond.fieldLinkNest "Lendlathe$Member" (19 : Nat) "Lendlathe" "needs" "[[Z" "Lendlathe") ∈ lw_tbl := lw_at lw_m3 83 rfl
theorem q731 : (Jvm.Cond.instanceMethod ({ cls := "Lendlathe$Member", name := "owes", desc := "()I" } : Jvm.MethodName)) ∈ lw_all := lw_g (lw_at lw_m3 196 rfl) rfl
theorem q732 : (Jvm.Cond.selects "Lendlathe$Member" ({ cls := "Lendlathe$Member", name := "owes", desc := "()I" } : Jvm.MethodName) ({ cls := "Lendlathe$Member", name := "owes", desc := "()I" } : Jvm.MethodName)) ∈ lw_all := lw_g (lw_at lw_m3 197 rfl) rfl
theorem q733 : (Jvm.Cond.code ({ cls := "Lendlathe$Member", name := "owes", desc := "()I" } : Jvm.MethodName) prog_9_method_3_code (1 : Nat) (Option.some Jvm.ClassFile.FieldType.int)) ∈ lw_all := lw_g (lw_at lw_m3 198 rfl) rfl
theorem q833 : (Jvm.Cond.selects "Lendlathe$Member" ({ cls := "java/lang/Object", name := "getClass", desc := "()Ljava/lang/Class;" } : Jvm.MethodName) ({ cls := "java/lang/Object", name := "getClass", desc := "()Ljava/lang/Class;" } : Jvm.MethodName)) ∈ lw_all := lw_g (lw_at lw_m4 58 rfl) rfl
theorem q860 : (Jvm.Cond.instantiable "Lendlathe$Member" (4 : Nat)) ∈ lw_all := lw_g (lw_at lw_m4 85 rfl) rfl
theorem q862 : (Jvm.Cond.instanceMethod ({ cls := "Lendlathe$Member", name := "<init>", desc := "(LLendlathe;)V" } : Jvm.MethodName)) ∈ lw_all := lw_g (lw_at lw_m4 87 rfl) rfl
theorem q863 : (Jvm.Cond.code ({ cls := "Lendlathe$Member", name := "<init>", desc := "(LLendlathe;)V" } : Jvm.MethodName) prog_9_method_1_code (3 : Nat) (Option.none : Option Jvm.ClassFile.FieldType)) ∈ lw_all := lw_g (lw_at lw_m4 88 rfl) rfl
theorem q864 : (Jvm.Cond.methodLink "Lendlathe$Member" (9 : Nat) ({ cls := "java/lang/Object", name := "<init>", desc := "()V" } : Jvm.MethodName)) ∈ lw_all := lw_g (lw_at lw_m4 89 rfl) rfl
theorem q865 : (Jvm.Cond.fieldLink "Lendlathe$Member" (15 : Nat) "Lendlathe$Member" "taken" "[I") ∈ lw_all := lw_g (lw_at lw_m4 90 rfl) rfl
theorem q867 : (Jvm.Cond.fieldLink "Lendlathe$Member" (27 : Nat) "Lendlathe$Member" "dues" "I") ∈ lw_all := lw_g (lw_at lw_m4 92 rfl) rfl
theorem q870 : (Jvm.Cond.fieldLink "Lendlathe$Member" (31 : Nat) "Lendlathe$Member" "paid" "I") ∈ lw_all := lw_g (lw_at lw_m4 95 rfl) rfl
theorem q872 : (Jvm.Cond.fieldLink "Lendlathe$Member" (3 : Nat) "Lendlathe$Member" "this$0" "LLendlathe;") ∈ lw_all := lw_g (lw_at lw_m4 97 rfl) rfl
theorem q873 : (Jvm.Cond.laysFinal "Lendlathe$Member" "Lendlathe$Member" "taken" "[I") ∈ lw_all := lw_g (lw_at lw_m4 98 rfl) rfl
theorem q874 : (Jvm.Cond.soleField "Lendlathe$Member" "taken") ∈ lw_all := lw_g (lw_at lw_m4 99 rfl) rfl
theorem q875 : (Jvm.Cond.lays "Lendlathe$Member" "Lendlathe$Member" "dues" "I") ∈ lw_all := lw_g (lw_at lw_m4 100 rfl) rfl
theorem q876 : (Jvm.Cond.soleField "Lendlathe$Member" "dues") ∈ lw_all := lw_g (lw_at lw_m4 101 rfl) rfl
theorem q877 : (Jvm.Cond.lays "Lendlathe$Member" "Lendlathe$Member" "paid" "I") ∈ lw_all := lw_g (lw_at lw_m4 102 rfl) rfl
theorem q878 : (Jvm.Cond.soleField "Lendlathe$Member" "paid") ∈ lw_all := lw_g (lw_at lw_m4 103 rfl) rfl
theorem q879 : (Jvm.Cond.laysFinal "Lendlathe$Member" "Lendlathe$Member" "this$0" "LLendlathe;") ∈ lw_all := lw_g (lw_at lw_m4 104 rfl) rfl
theorem q880 : (Jvm.Cond.soleField "Lendlathe$Member" "this$0") ∈ lw_all := lw_g (lw_at lw_m4 105 rfl) rfl
theorem q881 : (Jvm.Cond.superclass "Lendlathe$Member" "java/lang/Object") ∈ lw_all := lw_g (lw_at lw_m4 106 rfl) rfl
theorem q1863 : (Jvm.Cond.castable "Lendlathe$Member" "java/lang/Object") ∈ lw_tbl := lw_at lw_m8 128 rfl
theorem in_X6 : ∀ w ∈ wsX60, w ∈ lw_all := lw_in wsX60 [873, 875, 877, 879] (by decide +kernel) (by decide +kernel)

/-! Lendlathe$Stay -/
set_option maxRecDepth 100000
def RX7 : String := "Lendlathe$Stay"
abbrev cX7_overlaps : ByteArray := prog_10_method_3_code
def yX7_overlaps : MethodName := ⟨RX7, "overlaps", "(II)Z"⟩
def dkwX7_overlaps_0 : List UInt8 := [42, 180, 0, 19, 28, 162, 0, 15, 27, 42, 182, 0, 25, 162, 0, 7, 4, 167, 0, 4, 3, 172]
abbrev dktX7_overlaps_0 : List UInt8 := dkwX7_overlaps_0 ++ []
theorem dksX7_overlaps_0 : cX7_overlaps.data.toList.drop 0 = dktX7_overlaps_0 := by decide +kernel
theorem dX7_overlaps_0 : decode cX7_overlaps 0 = .ok (.aload_n 0, 1) := dk_42 (dk_at dksX7_overlaps_0 0 rfl rfl)
theorem dX7_overlaps_1 : decode cX7_overlaps 1 = .ok (.getfield 19, 3) := dk_180 0 19 (dk_at dksX7_overlaps_0 1 rfl rfl)
theorem dX7_overlaps_4 : decode cX7_overlaps 4 = .ok (.iload_n 2, 1) := dk_28 (dk_at dksX7_overlaps_0 4 rfl rfl)
theorem dX7_overlaps_5 : decode cX7_overlaps 5 = .ok (.if_icmp .ge 15, 3) := dk_162 0 15 (dk_at dksX7_overlaps_0 5 rfl rfl)
theorem dX7_overlaps_8 : decode cX7_overlaps 8 = .ok (.iload_n 1, 1) := dk_27 (dk_at dksX7_overlaps_0 8 rfl rfl)
theorem dX7_overlaps_9 : decode cX7_overlaps 9 = .ok (.aload_n 0, 1) := dk_42 (dk_at dksX7_overlaps_0 9 rfl rfl)
theorem dX7_overlaps_10 : decode cX7_overlaps 10 = .ok (.invokevirtual 25, 3) := dk_182 0 25 (dk_at dksX7_overlaps_0 10 rfl rfl)
theorem dX7_overlaps_13 : decode cX7_overlaps 13 = .ok (.if_icmp .ge 7, 3) := dk_162 0 7 (dk_at dksX7_overlaps_0 13 rfl rfl)
theorem dX7_overlaps_16 : decode cX7_overlaps 16 = .ok (.iconst 1, 1) := dk_4 (dk_at dksX7_overlaps_0 16 rfl rfl)
theorem dX7_overlaps_17 : decode cX7_overlaps 17 = .ok (.goto 4, 3) := dk_167 0 4 (dk_at dksX7_overlaps_0 17 rfl rfl)
theorem dX7_overlaps_20 : decode cX7_overlaps 20 = .ok (.iconst 0, 1) := dk_3 (dk_at dksX7_overlaps_0 20 rfl rfl)
theorem dX7_overlaps_21 : decode cX7_overlaps 21 = .ok (.ireturn, 1) := dk_172 (dk_at dksX7_overlaps_0 21 rfl rfl)
abbrev cX7_end : ByteArray := prog_10_method_2_code
def yX7_end : MethodName := ⟨RX7, "end", "()I"⟩
def dkwX7_end_0 : List UInt8 := [42, 180, 0, 19, 42, 180, 0, 22, 96, 172]
abbrev dktX7_end_0 : List UInt8 := dkwX7_end_0 ++ []
theorem dksX7_end_0 : cX7_end.data.toList.drop 0 = dktX7_end_0 := by decide +kernel
theorem dX7_end_0 : decode cX7_end 0 = .ok (.aload_n 0, 1) := dk_42 (dk_at dksX7_end_0 0 rfl rfl)
theorem dX7_end_1 : decode cX7_end 1 = .ok (.getfield 19, 3) := dk_180 0 19 (dk_at dksX7_end_0 1 rfl rfl)
theorem dX7_end_4 : decode cX7_end 4 = .ok (.aload_n 0, 1) := dk_42 (dk_at dksX7_end_0 4 rfl rfl)
theorem dX7_end_5 : decode cX7_end 5 = .ok (.getfield 22, 3) := dk_180 0 22 (dk_at dksX7_end_0 5 rfl rfl)
theorem dX7_end_8 : decode cX7_end 8 = .ok (.iadd, 1) := dk_96 (dk_at dksX7_end_0 8 rfl rfl)
theorem dX7_end_9 : decode cX7_end 9 = .ok (.ireturn, 1) := dk_172 (dk_at dksX7_end_0 9 rfl rfl)
abbrev cX7_init : ByteArray := prog_10_method_1_code
def yX7_init : MethodName := ⟨RX7, "<init>", "(IIIII)V"⟩
def dkwX7_init_1 : List UInt8 := [181, 0, 19, 42, 21, 5, 181, 0, 22, 177]
abbrev dktX7_init_1 : List UInt8 := dkwX7_init_1 ++ []
def dkwX7_init_0 : List UInt8 := [42, 183, 0, 1, 42, 27, 181, 0, 7, 42, 28, 181, 0, 13, 42, 29, 181, 0, 16, 42, 21, 4]
abbrev dktX7_init_0 : List UInt8 := dkwX7_init_0 ++ dktX7_init_1
theorem dksX7_init_0 : cX7_init.data.toList.drop 0 = dktX7_init_0 := by decide +kernel
theorem dksX7_init_1 : cX7_init.data.toList.drop 22 = dktX7_init_1 := dk_seg dksX7_init_0 22 rfl rfl
theorem dX7_init_0 : decode cX7_init 0 = .ok (.aload_n 0, 1) := dk_42 (dk_at dksX7_init_0 0 rfl rfl)
theorem dX7_init_1 : decode cX7_init 1 = .ok (.invokespecial 1, 3) := dk_183 0 1 (dk_at dksX7_init_0 1 rfl rfl)
theorem dX7_init_4 : decode cX7_init 4 = .ok (.aload_n 0, 1) := dk_42 (dk_at dksX7_init_0 4 rfl rfl)
theorem dX7_init_5 : decode cX7_init 5 = .ok (.iload_n 1, 1) := dk_27 (dk_at dksX7_init_0 5 rfl rfl)
theorem dX7_init_6 : decode cX7_init 6 = .ok (.putfield 7, 3) := dk_181 0 7 (dk_at dksX7_init_0 6 rfl rfl)
theorem dX7_init_9 : decode cX7_init 9 = .ok (.aload_n 0, 1) := dk_42 (dk_at dksX7_init_0 9 rfl rfl)
theorem dX7_init_10 : decode cX7_init 10 = .ok (.iload_n 2, 1) := dk_28 (dk_at dksX7_init_0 10 rfl rfl)
theorem dX7_init_11 : decode cX7_init 11 = .ok (.putfield 13, 3) := dk_181 0 13 (dk_at dksX7_init_0 11 rfl rfl)
theorem dX7_init_14 : decode cX7_init 14 = .ok (.aload_n 0, 1) := dk_42 (dk_at dksX7_init_0 14 rfl rfl)
theorem dX7_init_15 : decode cX7_init 15 = .ok (.iload_n 3, 1) := dk_29 (dk_at dksX7_init_0 15 rfl rfl)
theorem dX7_init_16 : decode cX7_init 16 = .ok (.putfield 16, 3) := dk_181 0 16 (dk_at dksX7_init_0 16 rfl rfl)
theorem dX7_init_19 : decode cX7_init 19 = .ok (.aload_n 0, 1) := dk_42 (dk_at dksX7_init_0 19 rfl rfl)
theorem dX7_init_20 : decode cX7_init 20 = .ok (.iload 4, 2) := dk_21 4 (dk_at dksX7_init_0 20 rfl rfl)
theorem dX7_init_22 : decode cX7_init 22 = .ok (.putfield 19, 3) := dk_181 0 19 (dk_at dksX7_init_1 0 rfl rfl)
theorem dX7_init_25 : decode cX7_init 25 = .ok (.aload_n 0, 1) := dk_42 (dk_at dksX7_init_1 3 rfl rfl)
theorem dX7_init_26 : decode cX7_init 26 = .ok (.iload 5, 2) := dk_21 5 (dk_at dksX7_init_1 4 rfl rfl)
theorem dX7_init_28 : decode cX7_init 28 = .ok (.putfield 22, 3) := dk_181 0 22 (dk_at dksX7_init_1 6 rfl rfl)
theorem dX7_init_31 : decode cX7_init 31 = .ok (.return_, 1) := dk_177 (dk_at dksX7_init_1 9 rfl rfl)
theorem q88 : (Jvm.Cond.initialized "Lendlathe$Stay") ∈ lw_all := lw_g (lw_at lw_m1 33 rfl) rfl
theorem q517 : (Jvm.Cond.declares ({ cls := "Lendlathe$Stay", name := "overlaps", desc := "(II)Z" } : Jvm.MethodName)) ∈ lw_tbl := lw_at lw_m2 222 rfl
theorem q519 : (Jvm.Cond.instanceMethod ({ cls := "Lendlathe$Stay", name := "overlaps", desc := "(II)Z" } : Jvm.MethodName)) ∈ lw_all := lw_g (lw_at lw_m2 224 rfl) rfl
theorem q520 : (Jvm.Cond.code ({ cls := "Lendlathe$Stay", name := "overlaps", desc := "(II)Z" } : Jvm.MethodName) prog_10_method_3_code (3 : Nat) (Option.some Jvm.ClassFile.FieldType.boolean)) ∈ lw_all := lw_g (lw_at lw_m2 225 rfl) rfl
theorem q521 : (Jvm.Cond.methodLink "Lendlathe$Stay" (25 : Nat) ({ cls := "Lendlathe$Stay", name := "end", desc := "()I" } : Jvm.MethodName)) ∈ lw_all := lw_g (lw_at lw_m2 226 rfl) rfl
theorem q522 : (Jvm.Cond.instanceMethod ({ cls := "Lendlathe$Stay", name := "end", desc := "()I" } : Jvm.MethodName)) ∈ lw_all := lw_g (lw_at lw_m2 227 rfl) rfl
theorem q523 : (Jvm.Cond.sameMethod "Lendlathe$Stay" "Lendlathe$Stay" "end" "()I") ∈ lw_all := lw_g (lw_at lw_m2 228 rfl) rfl
theorem q525 : (Jvm.Cond.code ({ cls := "Lendlathe$Stay", name := "end", desc := "()I" } : Jvm.MethodName) prog_10_method_2_code (1 : Nat) (Option.some Jvm.ClassFile.FieldType.int)) ∈ lw_all := lw_g (lw_at lw_m2 230 rfl) rfl
theorem q601 : (Jvm.Cond.declares ({ cls := "Lendlathe$Stay", name := "end", desc := "()I" } : Jvm.MethodName)) ∈ lw_tbl := lw_at lw_m3 66 rfl
theorem q1031 : (Jvm.Cond.instanceMethod ({ cls := "Lendlathe$Stay", name := "<init>", desc := "(IIIII)V" } : Jvm.MethodName)) ∈ lw_all := lw_g (lw_at lw_m5 16 rfl) rfl
theorem q1032 : (Jvm.Cond.code ({ cls := "Lendlathe$Stay", name := "<init>", desc := "(IIIII)V" } : Jvm.MethodName) prog_10_method_1_code (6 : Nat) (Option.none : Option Jvm.ClassFile.FieldType)) ∈ lw_all := lw_g (lw_at lw_m5 17 rfl) rfl
theorem q1033 : (Jvm.Cond.methodLink "Lendlathe$Stay" (1 : Nat) ({ cls := "java/lang/Object", name := "<init>", desc := "()V" } : Jvm.MethodName)) ∈ lw_all := lw_g (lw_at lw_m5 18 rfl) rfl
theorem q1048 : (Jvm.Cond.fieldLink "Lendlathe$Stay" (7 : Nat) "Lendlathe$Stay" "member" "I") ∈ lw_all := lw_g (lw_at lw_m5 33 rfl) rfl
theorem q1053 : (Jvm.Cond.fieldLink "Lendlathe$Stay" (13 : Nat) "Lendlathe$Stay" "machine" "I") ∈ lw_all := lw_g (lw_at lw_m5 38 rfl) rfl
theorem q1059 : (Jvm.Cond.fieldLink "Lendlathe$Stay" (16 : Nat) "Lendlathe$Stay" "day" "I") ∈ lw_all := lw_g (lw_at lw_m5 44 rfl) rfl
theorem q1065 : (Jvm.Cond.fieldLink "Lendlathe$Stay" (19 : Nat) "Lendlathe$Stay" "start" "I") ∈ lw_all := lw_g (lw_at lw_m5 50 rfl) rfl
theorem q1070 : (Jvm.Cond.fieldLink "Lendlathe$Stay" (22 : Nat) "Lendlathe$Stay" "minutes" "I") ∈ lw_all := lw_g (lw_at lw_m5 55 rfl) rfl
theorem q1090 : (Jvm.Cond.soleField "Lendlathe$Stay" "member") ∈ lw_all := lw_g (lw_at lw_m5 75 rfl) rfl
theorem q1092 : (Jvm.Cond.soleField "Lendlathe$Stay" "machine") ∈ lw_all := lw_g (lw_at lw_m5 77 rfl) rfl
theorem q1094 : (Jvm.Cond.soleField "Lendlathe$Stay" "day") ∈ lw_all := lw_g (lw_at lw_m5 79 rfl) rfl
theorem q1096 : (Jvm.Cond.soleField "Lendlathe$Stay" "start") ∈ lw_all := lw_g (lw_at lw_m5 81 rfl) rfl
theorem q1098 : (Jvm.Cond.soleField "Lendlathe$Stay" "minutes") ∈ lw_all := lw_g (lw_at lw_m5 83 rfl) rfl
theorem q1164 : (Jvm.Cond.superclass "Lendlathe$Stay" "java/lang/Object") ∈ lw_all := lw_g (lw_at lw_m5 149 rfl) rfl

/-! Lendlathe$Entry -/
set_option maxRecDepth 100000
def RX8 : String := "Lendlathe$Entry"
def TX8 : u_T := fun k => match k with
  | 0 => ("Lendlathe$Stay", "member", "I", true)
  | 1 => ("Lendlathe$Stay", "machine", "I", true)
  | 2 => ("Lendlathe$Stay", "day", "I", true)
  | 3 => ("Lendlathe$Stay", "start", "I", true)
  | 4 => ("Lendlathe$Stay", "minutes", "I", true)
  | 5 => ("Lendlathe$Entry", "work", "C", true)
  | 6 => ("Lendlathe$Entry", "state", "C", false)
  | 7 => ("Lendlathe$Entry", "due", "I", false)
  | 8 => ("Lendlathe$Entry", "cuts", "I", false)
  | 9 => ("Lendlathe$Entry", "bar", "[I", true)
  | 10 => ("Lendlathe$Entry", "length", "[I", true)
  | _ => ("Lendlathe$Entry", "this$0", "LLendlathe;", true)
def tyX8 : Nat → FieldType := fun k => match k with
  | 0 => .int
  | 1 => .int
  | 2 => .int
  | 3 => .int
  | 4 => .int
  | 5 => .char
  | 6 => .char
  | 7 => .int
  | 8 => .int
  | 9 => .array .int
  | 10 => .array .int
  | _ => .object "Lendlathe"
abbrev wsX80 : List Cond := u_ws RX8 TX8 12
theorem nmX8 : ∀ a, a < 12 → ∀ b, b < 12 → a ≠ b → (TX8 a).2.1 ≠ (TX8 b).2.1 := by decide +kernel
theorem tyX8_ok : ∀ k, k < 12 → parseFieldDescriptor (TX8 k).2.2.1 = some (tyX8 k) := by decide +kernel
abbrev cX8_isTaken : ByteArray := prog_7_method_2_code
def yX8_isTaken : MethodName := ⟨RX8, "isTaken", "()Z"⟩
def dkwX8_isTaken_0 : List UInt8 := [42, 180, 0, 26, 16, 98, 159, 0, 12, 42, 180, 0, 26, 16, 100, 160, 0, 7, 4, 167, 0, 4, 3, 172]
abbrev dktX8_isTaken_0 : List UInt8 := dkwX8_isTaken_0 ++ []
theorem dksX8_isTaken_0 : cX8_isTaken.data.toList.drop 0 = dktX8_isTaken_0 := by decide +kernel
theorem dX8_isTaken_0 : decode cX8_isTaken 0 = .ok (.aload_n 0, 1) := dk_42 (dk_at dksX8_isTaken_0 0 rfl rfl)
theorem dX8_isTaken_1 : decode cX8_isTaken 1 = .ok (.getfield 26, 3) := dk_180 0 26 (dk_at dksX8_isTaken_0 1 rfl rfl)
theorem dX8_isTaken_4 : decode cX8_isTaken 4 = .ok (.bipush 98, 2) := dk_16 98 (dk_at dksX8_isTaken_0 4 rfl rfl)
theorem dX8_isTaken_6 : decode cX8_isTaken 6 = .ok (.if_icmp .eq 12, 3) := dk_159 0 12 (dk_at dksX8_isTaken_0 6 rfl rfl)
theorem dX8_isTaken_9 : decode cX8_isTaken 9 = .ok (.aload_n 0, 1) := dk_42 (dk_at dksX8_isTaken_0 9 rfl rfl)
theorem dX8_isTaken_10 : decode cX8_isTaken 10 = .ok (.getfield 26, 3) := dk_180 0 26 (dk_at dksX8_isTaken_0 10 rfl rfl)
theorem dX8_isTaken_13 : decode cX8_isTaken 13 = .ok (.bipush 100, 2) := dk_16 100 (dk_at dksX8_isTaken_0 13 rfl rfl)
theorem dX8_isTaken_15 : decode cX8_isTaken 15 = .ok (.if_icmp .ne 7, 3) := dk_160 0 7 (dk_at dksX8_isTaken_0 15 rfl rfl)
theorem dX8_isTaken_18 : decode cX8_isTaken 18 = .ok (.iconst 1, 1) := dk_4 (dk_at dksX8_isTaken_0 18 rfl rfl)
theorem dX8_isTaken_19 : decode cX8_isTaken 19 = .ok (.goto 4, 3) := dk_167 0 4 (dk_at dksX8_isTaken_0 19 rfl rfl)
theorem dX8_isTaken_22 : decode cX8_isTaken 22 = .ok (.iconst 0, 1) := dk_3 (dk_at dksX8_isTaken_0 22 rfl rfl)
theorem dX8_isTaken_23 : decode cX8_isTaken 23 = .ok (.ireturn, 1) := dk_172 (dk_at dksX8_isTaken_0 23 rfl rfl)
abbrev cX8_check : ByteArray := prog_7_method_9_code
def yX8_check : MethodName := ⟨RX8, "check", "()C"⟩
def dkwX8_check_1 : List UInt8 := [42, 180, 0, 22, 182, 0, 106, 172]
abbrev dktX8_check_1 : List UInt8 := dkwX8_check_1 ++ []
def dkwX8_check_0 : List UInt8 := [42, 180, 0, 3, 42, 180, 0, 85, 42, 180, 0, 62, 42, 180, 0, 96, 42, 180, 0, 103, 42, 180, 0, 70]
abbrev dktX8_check_0 : List UInt8 := dkwX8_check_0 ++ dktX8_check_1
theorem dksX8_check_0 : cX8_check.data.toList.drop 0 = dktX8_check_0 := by decide +kernel
theorem dksX8_check_1 : cX8_check.data.toList.drop 24 = dktX8_check_1 := dk_seg dksX8_check_0 24 rfl rfl
theorem dX8_check_0 : decode cX8_check 0 = .ok (.aload_n 0, 1) := dk_42 (dk_at dksX8_check_0 0 rfl rfl)
theorem dX8_check_1 : decode cX8_check 1 = .ok (.getfield 3, 3) := dk_180 0 3 (dk_at dksX8_check_0 1 rfl rfl)
theorem dX8_check_4 : decode cX8_check 4 = .ok (.aload_n 0, 1) := dk_42 (dk_at dksX8_check_0 4 rfl rfl)
theorem dX8_check_5 : decode cX8_check 5 = .ok (.getfield 85, 3) := dk_180 0 85 (dk_at dksX8_check_0 5 rfl rfl)
theorem dX8_check_8 : decode cX8_check 8 = .ok (.aload_n 0, 1) := dk_42 (dk_at dksX8_check_0 8 rfl rfl)
theorem dX8_check_9 : decode cX8_check 9 = .ok (.getfield 62, 3) := dk_180 0 62 (dk_at dksX8_check_0 9 rfl rfl)
theorem dX8_check_12 : decode cX8_check 12 = .ok (.aload_n 0, 1) := dk_42 (dk_at dksX8_check_0 12 rfl rfl)
theorem dX8_check_13 : decode cX8_check 13 = .ok (.getfield 96, 3) := dk_180 0 96 (dk_at dksX8_check_0 13 rfl rfl)
theorem dX8_check_16 : decode cX8_check 16 = .ok (.aload_n 0, 1) := dk_42 (dk_at dksX8_check_0 16 rfl rfl)
theorem dX8_check_17 : decode cX8_check 17 = .ok (.getfield 103, 3) := dk_180 0 103 (dk_at dksX8_check_0 17 rfl rfl)
theorem dX8_check_20 : decode cX8_check 20 = .ok (.aload_n 0, 1) := dk_42 (dk_at dksX8_check_0 20 rfl rfl)
theorem dX8_check_21 : decode cX8_check 21 = .ok (.getfield 70, 3) := dk_180 0 70 (dk_at dksX8_check_0 21 rfl rfl)
theorem dX8_check_24 : decode cX8_check 24 = .ok (.aload_n 0, 1) := dk_42 (dk_at dksX8_check_1 0 rfl rfl)
theorem dX8_check_25 : decode cX8_check 25 = .ok (.getfield 22, 3) := dk_180 0 22 (dk_at dksX8_check_1 1 rfl rfl)
theorem dX8_check_28 : decode cX8_check 28 = .ok (.invokevirtual 106, 3) := dk_182 0 106 (dk_at dksX8_check_1 4 rfl rfl)
theorem dX8_check_31 : decode cX8_check 31 = .ok (.ireturn, 1) := dk_172 (dk_at dksX8_check_1 7 rfl rfl)
abbrev cX8_isLive : ByteArray := prog_7_method_8_code
def yX8_isLive : MethodName := ⟨RX8, "isLive", "()Z"⟩
def dkwX8_isLive_1 : List UInt8 := [42, 180, 0, 62, 182, 0, 44, 192, 0, 65, 180, 0, 67, 42, 180, 0, 96, 182, 0, 99, 172]
abbrev dktX8_isLive_1 : List UInt8 := dkwX8_isLive_1 ++ []
def dkwX8_isLive_0 : List UInt8 := [42, 180, 0, 3, 180, 0, 82, 42, 180, 0, 85, 182, 0, 44, 192, 0, 88, 42, 180, 0, 3, 180, 0, 59]
abbrev dktX8_isLive_0 : List UInt8 := dkwX8_isLive_0 ++ dktX8_isLive_1
theorem dksX8_isLive_0 : cX8_isLive.data.toList.drop 0 = dktX8_isLive_0 := by decide +kernel
theorem dksX8_isLive_1 : cX8_isLive.data.toList.drop 24 = dktX8_isLive_1 := dk_seg dksX8_isLive_0 24 rfl rfl
theorem dX8_isLive_0 : decode cX8_isLive 0 = .ok (.aload_n 0, 1) := dk_42 (dk_at dksX8_isLive_0 0 rfl rfl)
theorem dX8_isLive_1 : decode cX8_isLive 1 = .ok (.getfield 3, 3) := dk_180 0 3 (dk_at dksX8_isLive_0 1 rfl rfl)
theorem dX8_isLive_4 : decode cX8_isLive 4 = .ok (.getfield 82, 3) := dk_180 0 82 (dk_at dksX8_isLive_0 4 rfl rfl)
theorem dX8_isLive_7 : decode cX8_isLive 7 = .ok (.aload_n 0, 1) := dk_42 (dk_at dksX8_isLive_0 7 rfl rfl)
theorem dX8_isLive_8 : decode cX8_isLive 8 = .ok (.getfield 85, 3) := dk_180 0 85 (dk_at dksX8_isLive_0 8 rfl rfl)
theorem dX8_isLive_11 : decode cX8_isLive 11 = .ok (.invokevirtual 44, 3) := dk_182 0 44 (dk_at dksX8_isLive_0 11 rfl rfl)
theorem dX8_isLive_14 : decode cX8_isLive 14 = .ok (.checkcast 88, 3) := dk_192 0 88 (dk_at dksX8_isLive_0 14 rfl rfl)
theorem dX8_isLive_17 : decode cX8_isLive 17 = .ok (.aload_n 0, 1) := dk_42 (dk_at dksX8_isLive_0 17 rfl rfl)
theorem dX8_isLive_18 : decode cX8_isLive 18 = .ok (.getfield 3, 3) := dk_180 0 3 (dk_at dksX8_isLive_0 18 rfl rfl)
theorem dX8_isLive_21 : decode cX8_isLive 21 = .ok (.getfield 59, 3) := dk_180 0 59 (dk_at dksX8_isLive_0 21 rfl rfl)
theorem dX8_isLive_24 : decode cX8_isLive 24 = .ok (.aload_n 0, 1) := dk_42 (dk_at dksX8_isLive_1 0 rfl rfl)
theorem dX8_isLive_25 : decode cX8_isLive 25 = .ok (.getfield 62, 3) := dk_180 0 62 (dk_at dksX8_isLive_1 1 rfl rfl)
theorem dX8_isLive_28 : decode cX8_isLive 28 = .ok (.invokevirtual 44, 3) := dk_182 0 44 (dk_at dksX8_isLive_1 4 rfl rfl)
theorem dX8_isLive_31 : decode cX8_isLive 31 = .ok (.checkcast 65, 3) := dk_192 0 65 (dk_at dksX8_isLive_1 7 rfl rfl)
theorem dX8_isLive_34 : decode cX8_isLive 34 = .ok (.getfield 67, 3) := dk_180 0 67 (dk_at dksX8_isLive_1 10 rfl rfl)
theorem dX8_isLive_37 : decode cX8_isLive 37 = .ok (.aload_n 0, 1) := dk_42 (dk_at dksX8_isLive_1 13 rfl rfl)
theorem dX8_isLive_38 : decode cX8_isLive 38 = .ok (.getfield 96, 3) := dk_180 0 96 (dk_at dksX8_isLive_1 14 rfl rfl)
theorem dX8_isLive_41 : decode cX8_isLive 41 = .ok (.invokevirtual 99, 3) := dk_182 0 99 (dk_at dksX8_isLive_1 17 rfl rfl)
theorem dX8_isLive_44 : decode cX8_isLive 44 = .ok (.ireturn, 1) := dk_172 (dk_at dksX8_isLive_1 20 rfl rfl)
abbrev cX8_takes : ByteArray := prog_7_method_7_code
def yX8_takes : MethodName := ⟨RX8, "takes", "(I)I"⟩
def dkwX8_takes_1 : List UInt8 := [180, 0, 19, 29, 46, 6, 96, 167, 0, 4, 3, 96, 61, 132, 3, 1, 167, 255, 220, 28, 172]
abbrev dktX8_takes_1 : List UInt8 := dkwX8_takes_1 ++ []
def dkwX8_takes_0 : List UInt8 := [3, 61, 3, 62, 29, 42, 180, 0, 33, 162, 0, 34, 28, 42, 180, 0, 15, 29, 46, 27, 160, 0, 14, 42]
abbrev dktX8_takes_0 : List UInt8 := dkwX8_takes_0 ++ dktX8_takes_1
theorem dksX8_takes_0 : cX8_takes.data.toList.drop 0 = dktX8_takes_0 := by decide +kernel
theorem dksX8_takes_1 : cX8_takes.data.toList.drop 24 = dktX8_takes_1 := dk_seg dksX8_takes_0 24 rfl rfl
theorem dX8_takes_0 : decode cX8_takes 0 = .ok (.iconst 0, 1) := dk_3 (dk_at dksX8_takes_0 0 rfl rfl)
theorem dX8_takes_1 : decode cX8_takes 1 = .ok (.istore_n 2, 1) := dk_61 (dk_at dksX8_takes_0 1 rfl rfl)
theorem dX8_takes_2 : decode cX8_takes 2 = .ok (.iconst 0, 1) := dk_3 (dk_at dksX8_takes_0 2 rfl rfl)
theorem dX8_takes_3 : decode cX8_takes 3 = .ok (.istore_n 3, 1) := dk_62 (dk_at dksX8_takes_0 3 rfl rfl)
theorem dX8_takes_4 : decode cX8_takes 4 = .ok (.iload_n 3, 1) := dk_29 (dk_at dksX8_takes_0 4 rfl rfl)
theorem dX8_takes_5 : decode cX8_takes 5 = .ok (.aload_n 0, 1) := dk_42 (dk_at dksX8_takes_0 5 rfl rfl)
theorem dX8_takes_6 : decode cX8_takes 6 = .ok (.getfield 33, 3) := dk_180 0 33 (dk_at dksX8_takes_0 6 rfl rfl)
theorem dX8_takes_9 : decode cX8_takes 9 = .ok (.if_icmp .ge 34, 3) := dk_162 0 34 (dk_at dksX8_takes_0 9 rfl rfl)
theorem dX8_takes_12 : decode cX8_takes 12 = .ok (.iload_n 2, 1) := dk_28 (dk_at dksX8_takes_0 12 rfl rfl)
theorem dX8_takes_13 : decode cX8_takes 13 = .ok (.aload_n 0, 1) := dk_42 (dk_at dksX8_takes_0 13 rfl rfl)
theorem dX8_takes_14 : decode cX8_takes 14 = .ok (.getfield 15, 3) := dk_180 0 15 (dk_at dksX8_takes_0 14 rfl rfl)
theorem dX8_takes_17 : decode cX8_takes 17 = .ok (.iload_n 3, 1) := dk_29 (dk_at dksX8_takes_0 17 rfl rfl)
theorem dX8_takes_18 : decode cX8_takes 18 = .ok (.iaload, 1) := dk_46 (dk_at dksX8_takes_0 18 rfl rfl)
theorem dX8_takes_19 : decode cX8_takes 19 = .ok (.iload_n 1, 1) := dk_27 (dk_at dksX8_takes_0 19 rfl rfl)
theorem dX8_takes_20 : decode cX8_takes 20 = .ok (.if_icmp .ne 14, 3) := dk_160 0 14 (dk_at dksX8_takes_0 20 rfl rfl)
theorem dX8_takes_23 : decode cX8_takes 23 = .ok (.aload_n 0, 1) := dk_42 (dk_at dksX8_takes_0 23 rfl rfl)
theorem dX8_takes_24 : decode cX8_takes 24 = .ok (.getfield 19, 3) := dk_180 0 19 (dk_at dksX8_takes_1 0 rfl rfl)
theorem dX8_takes_27 : decode cX8_takes 27 = .ok (.iload_n 3, 1) := dk_29 (dk_at dksX8_takes_1 3 rfl rfl)
theorem dX8_takes_28 : decode cX8_takes 28 = .ok (.iaload, 1) := dk_46 (dk_at dksX8_takes_1 4 rfl rfl)
theorem dX8_takes_29 : decode cX8_takes 29 = .ok (.iconst 3, 1) := dk_6 (dk_at dksX8_takes_1 5 rfl rfl)
theorem dX8_takes_30 : decode cX8_takes 30 = .ok (.iadd, 1) := dk_96 (dk_at dksX8_takes_1 6 rfl rfl)
theorem dX8_takes_31 : decode cX8_takes 31 = .ok (.goto 4, 3) := dk_167 0 4 (dk_at dksX8_takes_1 7 rfl rfl)
theorem dX8_takes_34 : decode cX8_takes 34 = .ok (.iconst 0, 1) := dk_3 (dk_at dksX8_takes_1 10 rfl rfl)
theorem dX8_takes_35 : decode cX8_takes 35 = .ok (.iadd, 1) := dk_96 (dk_at dksX8_takes_1 11 rfl rfl)
theorem dX8_takes_36 : decode cX8_takes 36 = .ok (.istore_n 2, 1) := dk_61 (dk_at dksX8_takes_1 12 rfl rfl)
theorem dX8_takes_37 : decode cX8_takes 37 = .ok (.iinc 3 1, 3) := dk_132 3 1 (dk_at dksX8_takes_1 13 rfl rfl)
theorem dX8_takes_40 : decode cX8_takes 40 = .ok (.goto (-36), 3) := dk_167 255 220 (dk_at dksX8_takes_1 16 rfl rfl)
theorem dX8_takes_43 : decode cX8_takes 43 = .ok (.iload_n 2, 1) := dk_28 (dk_at dksX8_takes_1 19 rfl rfl)
theorem dX8_takes_44 : decode cX8_takes 44 = .ok (.ireturn, 1) := dk_172 (dk_at dksX8_takes_1 20 rfl rfl)
abbrev cX8_ends : ByteArray := prog_7_method_6_code
def yX8_ends : MethodName := ⟨RX8, "ends", "()V"⟩
def dkwX8_ends_2 : List UInt8 := [181, 0, 93, 132, 1, 1, 167, 255, 210, 42, 3, 181, 0, 33, 177]
abbrev dktX8_ends_2 : List UInt8 := dkwX8_ends_2 ++ []
def dkwX8_ends_1 : List UInt8 := [180, 0, 15, 27, 46, 182, 0, 44, 192, 0, 50, 89, 180, 0, 93, 42, 180, 0, 19, 27, 46, 6, 96, 96]
abbrev dktX8_ends_1 : List UInt8 := dkwX8_ends_1 ++ dktX8_ends_2
def dkwX8_ends_0 : List UInt8 := [42, 16, 99, 181, 0, 26, 3, 60, 27, 42, 180, 0, 33, 162, 0, 44, 42, 180, 0, 3, 180, 0, 40, 42]
abbrev dktX8_ends_0 : List UInt8 := dkwX8_ends_0 ++ dktX8_ends_1
theorem dksX8_ends_0 : cX8_ends.data.toList.drop 0 = dktX8_ends_0 := by decide +kernel
theorem dksX8_ends_1 : cX8_ends.data.toList.drop 24 = dktX8_ends_1 := dk_seg dksX8_ends_0 24 rfl rfl
theorem dksX8_ends_2 : cX8_ends.data.toList.drop 48 = dktX8_ends_2 := dk_seg dksX8_ends_1 24 rfl rfl
theorem dX8_ends_0 : decode cX8_ends 0 = .ok (.aload_n 0, 1) := dk_42 (dk_at dksX8_ends_0 0 rfl rfl)
theorem dX8_ends_1 : decode cX8_ends 1 = .ok (.bipush 99, 2) := dk_16 99 (dk_at dksX8_ends_0 1 rfl rfl)
theorem dX8_ends_3 : decode cX8_ends 3 = .ok (.putfield 26, 3) := dk_181 0 26 (dk_at dksX8_ends_0 3 rfl rfl)
theorem dX8_ends_6 : decode cX8_ends 6 = .ok (.iconst 0, 1) := dk_3 (dk_at dksX8_ends_0 6 rfl rfl)
theorem dX8_ends_7 : decode cX8_ends 7 = .ok (.istore_n 1, 1) := dk_60 (dk_at dksX8_ends_0 7 rfl rfl)
theorem dX8_ends_8 : decode cX8_ends 8 = .ok (.iload_n 1, 1) := dk_27 (dk_at dksX8_ends_0 8 rfl rfl)
theorem dX8_ends_9 : decode cX8_ends 9 = .ok (.aload_n 0, 1) := dk_42 (dk_at dksX8_ends_0 9 rfl rfl)
theorem dX8_ends_10 : decode cX8_ends 10 = .ok (.getfield 33, 3) := dk_180 0 33 (dk_at dksX8_ends_0 10 rfl rfl)
theorem dX8_ends_13 : decode cX8_ends 13 = .ok (.if_icmp .ge 44, 3) := dk_162 0 44 (dk_at dksX8_ends_0 13 rfl rfl)
theorem dX8_ends_16 : decode cX8_ends 16 = .ok (.aload_n 0, 1) := dk_42 (dk_at dksX8_ends_0 16 rfl rfl)
theorem dX8_ends_17 : decode cX8_ends 17 = .ok (.getfield 3, 3) := dk_180 0 3 (dk_at dksX8_ends_0 17 rfl rfl)
theorem dX8_ends_20 : decode cX8_ends 20 = .ok (.getfield 40, 3) := dk_180 0 40 (dk_at dksX8_ends_0 20 rfl rfl)
theorem dX8_ends_23 : decode cX8_ends 23 = .ok (.aload_n 0, 1) := dk_42 (dk_at dksX8_ends_0 23 rfl rfl)
theorem dX8_ends_24 : decode cX8_ends 24 = .ok (.getfield 15, 3) := dk_180 0 15 (dk_at dksX8_ends_1 0 rfl rfl)
theorem dX8_ends_27 : decode cX8_ends 27 = .ok (.iload_n 1, 1) := dk_27 (dk_at dksX8_ends_1 3 rfl rfl)
theorem dX8_ends_28 : decode cX8_ends 28 = .ok (.iaload, 1) := dk_46 (dk_at dksX8_ends_1 4 rfl rfl)
theorem dX8_ends_29 : decode cX8_ends 29 = .ok (.invokevirtual 44, 3) := dk_182 0 44 (dk_at dksX8_ends_1 5 rfl rfl)
theorem dX8_ends_32 : decode cX8_ends 32 = .ok (.checkcast 50, 3) := dk_192 0 50 (dk_at dksX8_ends_1 8 rfl rfl)
theorem dX8_ends_35 : decode cX8_ends 35 = .ok (.dup, 1) := dk_89 (dk_at dksX8_ends_1 11 rfl rfl)
theorem dX8_ends_36 : decode cX8_ends 36 = .ok (.getfield 93, 3) := dk_180 0 93 (dk_at dksX8_ends_1 12 rfl rfl)
theorem dX8_ends_39 : decode cX8_ends 39 = .ok (.aload_n 0, 1) := dk_42 (dk_at dksX8_ends_1 15 rfl rfl)
theorem dX8_ends_40 : decode cX8_ends 40 = .ok (.getfield 19, 3) := dk_180 0 19 (dk_at dksX8_ends_1 16 rfl rfl)
theorem dX8_ends_43 : decode cX8_ends 43 = .ok (.iload_n 1, 1) := dk_27 (dk_at dksX8_ends_1 19 rfl rfl)
theorem dX8_ends_44 : decode cX8_ends 44 = .ok (.iaload, 1) := dk_46 (dk_at dksX8_ends_1 20 rfl rfl)
theorem dX8_ends_45 : decode cX8_ends 45 = .ok (.iconst 3, 1) := dk_6 (dk_at dksX8_ends_1 21 rfl rfl)
theorem dX8_ends_46 : decode cX8_ends 46 = .ok (.iadd, 1) := dk_96 (dk_at dksX8_ends_1 22 rfl rfl)
theorem dX8_ends_47 : decode cX8_ends 47 = .ok (.iadd, 1) := dk_96 (dk_at dksX8_ends_1 23 rfl rfl)
theorem dX8_ends_48 : decode cX8_ends 48 = .ok (.putfield 93, 3) := dk_181 0 93 (dk_at dksX8_ends_2 0 rfl rfl)
theorem dX8_ends_51 : decode cX8_ends 51 = .ok (.iinc 1 1, 3) := dk_132 1 1 (dk_at dksX8_ends_2 3 rfl rfl)
theorem dX8_ends_54 : decode cX8_ends 54 = .ok (.goto (-46), 3) := dk_167 255 210 (dk_at dksX8_ends_2 6 rfl rfl)
theorem dX8_ends_57 : decode cX8_ends 57 = .ok (.aload_n 0, 1) := dk_42 (dk_at dksX8_ends_2 9 rfl rfl)
theorem dX8_ends_58 : decode cX8_ends 58 = .ok (.iconst 0, 1) := dk_3 (dk_at dksX8_ends_2 10 rfl rfl)
theorem dX8_ends_59 : decode cX8_ends 59 = .ok (.putfield 33, 3) := dk_181 0 33 (dk_at dksX8_ends_2 11 rfl rfl)
theorem dX8_ends_62 : decode cX8_ends 62 = .ok (.return_, 1) := dk_177 (dk_at dksX8_ends_2 14 rfl rfl)
abbrev cX8_init : ByteArray := prog_7_method_1_code
def yX8_init : MethodName := ⟨RX8, "<init>", "(LLendlathe;IIIIICC)V"⟩
def dkwX8_init_1 : List UInt8 := [42, 8, 188, 10, 181, 0, 19, 42, 21, 7, 181, 0, 22, 42, 21, 8, 181, 0, 26, 177]
abbrev dktX8_init_1 : List UInt8 := dkwX8_init_1 ++ []
def dkwX8_init_0 : List UInt8 := [42, 43, 181, 0, 3, 42, 28, 29, 21, 4, 21, 5, 21, 6, 183, 0, 9, 42, 8, 188, 10, 181, 0, 15]
abbrev dktX8_init_0 : List UInt8 := dkwX8_init_0 ++ dktX8_init_1
theorem dksX8_init_0 : cX8_init.data.toList.drop 0 = dktX8_init_0 := by decide +kernel
theorem dksX8_init_1 : cX8_init.data.toList.drop 24 = dktX8_init_1 := dk_seg dksX8_init_0 24 rfl rfl
theorem dX8_init_0 : decode cX8_init 0 = .ok (.aload_n 0, 1) := dk_42 (dk_at dksX8_init_0 0 rfl rfl)
theorem dX8_init_1 : decode cX8_init 1 = .ok (.aload_n 1, 1) := dk_43 (dk_at dksX8_init_0 1 rfl rfl)
theorem dX8_init_2 : decode cX8_init 2 = .ok (.putfield 3, 3) := dk_181 0 3 (dk_at dksX8_init_0 2 rfl rfl)
theorem dX8_init_5 : decode cX8_init 5 = .ok (.aload_n 0, 1) := dk_42 (dk_at dksX8_init_0 5 rfl rfl)
theorem dX8_init_6 : decode cX8_init 6 = .ok (.iload_n 2, 1) := dk_28 (dk_at dksX8_init_0 6 rfl rfl)
theorem dX8_init_7 : decode cX8_init 7 = .ok (.iload_n 3, 1) := dk_29 (dk_at dksX8_init_0 7 rfl rfl)
theorem dX8_init_8 : decode cX8_init 8 = .ok (.iload 4, 2) := dk_21 4 (dk_at dksX8_init_0 8 rfl rfl)
theorem dX8_init_10 : decode cX8_init 10 = .ok (.iload 5, 2) := dk_21 5 (dk_at dksX8_init_0 10 rfl rfl)
theorem dX8_init_12 : decode cX8_init 12 = .ok (.iload 6, 2) := dk_21 6 (dk_at dksX8_init_0 12 rfl rfl)
theorem dX8_init_14 : decode cX8_init 14 = .ok (.invokespecial 9, 3) := dk_183 0 9 (dk_at dksX8_init_0 14 rfl rfl)
theorem dX8_init_17 : decode cX8_init 17 = .ok (.aload_n 0, 1) := dk_42 (dk_at dksX8_init_0 17 rfl rfl)
theorem dX8_init_18 : decode cX8_init 18 = .ok (.iconst 5, 1) := dk_8 (dk_at dksX8_init_0 18 rfl rfl)
theorem dX8_init_19 : decode cX8_init 19 = .ok (.newarray .int, 2) := dk_188_10 (dk_at dksX8_init_0 19 rfl rfl)
theorem dX8_init_21 : decode cX8_init 21 = .ok (.putfield 15, 3) := dk_181 0 15 (dk_at dksX8_init_0 21 rfl rfl)
theorem dX8_init_24 : decode cX8_init 24 = .ok (.aload_n 0, 1) := dk_42 (dk_at dksX8_init_1 0 rfl rfl)
theorem dX8_init_25 : decode cX8_init 25 = .ok (.iconst 5, 1) := dk_8 (dk_at dksX8_init_1 1 rfl rfl)
theorem dX8_init_26 : decode cX8_init 26 = .ok (.newarray .int, 2) := dk_188_10 (dk_at dksX8_init_1 2 rfl rfl)
theorem dX8_init_28 : decode cX8_init 28 = .ok (.putfield 19, 3) := dk_181 0 19 (dk_at dksX8_init_1 4 rfl rfl)
theorem dX8_init_31 : decode cX8_init 31 = .ok (.aload_n 0, 1) := dk_42 (dk_at dksX8_init_1 7 rfl rfl)
theorem dX8_init_32 : decode cX8_init 32 = .ok (.iload 7, 2) := dk_21 7 (dk_at dksX8_init_1 8 rfl rfl)
theorem dX8_init_34 : decode cX8_init 34 = .ok (.putfield 22, 3) := dk_181 0 22 (dk_at dksX8_init_1 10 rfl rfl)
theorem dX8_init_37 : decode cX8_init 37 = .ok (.aload_n 0, 1) := dk_42 (dk_at dksX8_init_1 13 rfl rfl)
theorem dX8_init_38 : decode cX8_init 38 = .ok (.iload 8, 2) := dk_21 8 (dk_at dksX8_init_1 14 rfl rfl)
theorem dX8_init_40 : decode cX8_init 40 = .ok (.putfield 26, 3) := dk_181 0 26 (dk_at dksX8_init_1 16 rfl rfl)
theorem dX8_init_43 : decode cX8_init 43 = .ok (.return_, 1) := dk_177 (dk_at dksX8_init_1 19 rfl rfl)
abbrev cX8_forMinutes : ByteArray := prog_7_method_4_code
def yX8_forMinutes : MethodName := ⟨RX8, "forMinutes", "()I"⟩
def dkwX8_forMinutes_1 : List UInt8 := [180, 0, 67, 50, 42, 180, 0, 70, 185, 0, 73, 2, 0, 172]
abbrev dktX8_forMinutes_1 : List UInt8 := dkwX8_forMinutes_1 ++ []
def dkwX8_forMinutes_0 : List UInt8 := [42, 180, 0, 3, 180, 0, 55, 42, 180, 0, 3, 180, 0, 59, 42, 180, 0, 62, 182, 0, 44, 192, 0, 65]
abbrev dktX8_forMinutes_0 : List UInt8 := dkwX8_forMinutes_0 ++ dktX8_forMinutes_1
theorem dksX8_forMinutes_0 : cX8_forMinutes.data.toList.drop 0 = dktX8_forMinutes_0 := by decide +kernel
theorem dksX8_forMinutes_1 : cX8_forMinutes.data.toList.drop 24 = dktX8_forMinutes_1 := dk_seg dksX8_forMinutes_0 24 rfl rfl
theorem dX8_forMinutes_0 : decode cX8_forMinutes 0 = .ok (.aload_n 0, 1) := dk_42 (dk_at dksX8_forMinutes_0 0 rfl rfl)
theorem dX8_forMinutes_1 : decode cX8_forMinutes 1 = .ok (.getfield 3, 3) := dk_180 0 3 (dk_at dksX8_forMinutes_0 1 rfl rfl)
theorem dX8_forMinutes_4 : decode cX8_forMinutes 4 = .ok (.getfield 55, 3) := dk_180 0 55 (dk_at dksX8_forMinutes_0 4 rfl rfl)
theorem dX8_forMinutes_7 : decode cX8_forMinutes 7 = .ok (.aload_n 0, 1) := dk_42 (dk_at dksX8_forMinutes_0 7 rfl rfl)
theorem dX8_forMinutes_8 : decode cX8_forMinutes 8 = .ok (.getfield 3, 3) := dk_180 0 3 (dk_at dksX8_forMinutes_0 8 rfl rfl)
theorem dX8_forMinutes_11 : decode cX8_forMinutes 11 = .ok (.getfield 59, 3) := dk_180 0 59 (dk_at dksX8_forMinutes_0 11 rfl rfl)
theorem dX8_forMinutes_14 : decode cX8_forMinutes 14 = .ok (.aload_n 0, 1) := dk_42 (dk_at dksX8_forMinutes_0 14 rfl rfl)
theorem dX8_forMinutes_15 : decode cX8_forMinutes 15 = .ok (.getfield 62, 3) := dk_180 0 62 (dk_at dksX8_forMinutes_0 15 rfl rfl)
theorem dX8_forMinutes_18 : decode cX8_forMinutes 18 = .ok (.invokevirtual 44, 3) := dk_182 0 44 (dk_at dksX8_forMinutes_0 18 rfl rfl)
theorem dX8_forMinutes_21 : decode cX8_forMinutes 21 = .ok (.checkcast 65, 3) := dk_192 0 65 (dk_at dksX8_forMinutes_0 21 rfl rfl)
theorem dX8_forMinutes_24 : decode cX8_forMinutes 24 = .ok (.getfield 67, 3) := dk_180 0 67 (dk_at dksX8_forMinutes_1 0 rfl rfl)
theorem dX8_forMinutes_27 : decode cX8_forMinutes 27 = .ok (.aaload, 1) := dk_50 (dk_at dksX8_forMinutes_1 3 rfl rfl)
theorem dX8_forMinutes_28 : decode cX8_forMinutes 28 = .ok (.aload_n 0, 1) := dk_42 (dk_at dksX8_forMinutes_1 4 rfl rfl)
theorem dX8_forMinutes_29 : decode cX8_forMinutes 29 = .ok (.getfield 70, 3) := dk_180 0 70 (dk_at dksX8_forMinutes_1 5 rfl rfl)
theorem dX8_forMinutes_32 : decode cX8_forMinutes 32 = .ok (.invokeinterface 73 2, 5) := by decide +kernel
theorem dX8_forMinutes_37 : decode cX8_forMinutes 37 = .ok (.ireturn, 1) := dk_172 (dk_at dksX8_forMinutes_1 13 rfl rfl)
abbrev cX8_owes : ByteArray := prog_7_method_5_code
def yX8_owes : MethodName := ⟨RX8, "owes", "(I)V"⟩
def dkwX8_owes_1 : List UInt8 := [180, 0, 90, 27, 96, 181, 0, 90, 177]
abbrev dktX8_owes_1 : List UInt8 := dkwX8_owes_1 ++ []
def dkwX8_owes_0 : List UInt8 := [42, 27, 181, 0, 79, 42, 180, 0, 3, 180, 0, 82, 42, 180, 0, 85, 182, 0, 44, 192, 0, 88, 89]
abbrev dktX8_owes_0 : List UInt8 := dkwX8_owes_0 ++ dktX8_owes_1
theorem dksX8_owes_0 : cX8_owes.data.toList.drop 0 = dktX8_owes_0 := by decide +kernel
theorem dksX8_owes_1 : cX8_owes.data.toList.drop 23 = dktX8_owes_1 := dk_seg dksX8_owes_0 23 rfl rfl
theorem dX8_owes_0 : decode cX8_owes 0 = .ok (.aload_n 0, 1) := dk_42 (dk_at dksX8_owes_0 0 rfl rfl)
theorem dX8_owes_1 : decode cX8_owes 1 = .ok (.iload_n 1, 1) := dk_27 (dk_at dksX8_owes_0 1 rfl rfl)
theorem dX8_owes_2 : decode cX8_owes 2 = .ok (.putfield 79, 3) := dk_181 0 79 (dk_at dksX8_owes_0 2 rfl rfl)
theorem dX8_owes_5 : decode cX8_owes 5 = .ok (.aload_n 0, 1) := dk_42 (dk_at dksX8_owes_0 5 rfl rfl)
theorem dX8_owes_6 : decode cX8_owes 6 = .ok (.getfield 3, 3) := dk_180 0 3 (dk_at dksX8_owes_0 6 rfl rfl)
theorem dX8_owes_9 : decode cX8_owes 9 = .ok (.getfield 82, 3) := dk_180 0 82 (dk_at dksX8_owes_0 9 rfl rfl)
theorem dX8_owes_12 : decode cX8_owes 12 = .ok (.aload_n 0, 1) := dk_42 (dk_at dksX8_owes_0 12 rfl rfl)
theorem dX8_owes_13 : decode cX8_owes 13 = .ok (.getfield 85, 3) := dk_180 0 85 (dk_at dksX8_owes_0 13 rfl rfl)
theorem dX8_owes_16 : decode cX8_owes 16 = .ok (.invokevirtual 44, 3) := dk_182 0 44 (dk_at dksX8_owes_0 16 rfl rfl)
theorem dX8_owes_19 : decode cX8_owes 19 = .ok (.checkcast 88, 3) := dk_192 0 88 (dk_at dksX8_owes_0 19 rfl rfl)
theorem dX8_owes_22 : decode cX8_owes 22 = .ok (.dup, 1) := dk_89 (dk_at dksX8_owes_0 22 rfl rfl)
theorem dX8_owes_23 : decode cX8_owes 23 = .ok (.getfield 90, 3) := dk_180 0 90 (dk_at dksX8_owes_1 0 rfl rfl)
theorem dX8_owes_26 : decode cX8_owes 26 = .ok (.iload_n 1, 1) := dk_27 (dk_at dksX8_owes_1 3 rfl rfl)
theorem dX8_owes_27 : decode cX8_owes 27 = .ok (.iadd, 1) := dk_96 (dk_at dksX8_owes_1 4 rfl rfl)
theorem dX8_owes_28 : decode cX8_owes 28 = .ok (.putfield 90, 3) := dk_181 0 90 (dk_at dksX8_owes_1 5 rfl rfl)
theorem dX8_owes_31 : decode cX8_owes 31 = .ok (.return_, 1) := dk_177 (dk_at dksX8_owes_1 8 rfl rfl)
abbrev cX8_extra : ByteArray := prog_7_method_3_code
def yX8_extra : MethodName := ⟨RX8, "extra", "()I"⟩
def dkwX8_extra_2 : List UInt8 := [192, 0, 50, 180, 0, 52, 46, 104, 16, 99, 96, 16, 100, 108, 96, 60, 132, 2, 1, 167, 255, 199, 27, 172]
abbrev dktX8_extra_2 : List UInt8 := dkwX8_extra_2 ++ []
def dkwX8_extra_1 : List UInt8 := [180, 0, 3, 180, 0, 37, 42, 180, 0, 3, 180, 0, 40, 42, 180, 0, 15, 28, 46, 182, 0, 44]
abbrev dktX8_extra_1 : List UInt8 := dkwX8_extra_1 ++ dktX8_extra_2
def dkwX8_extra_0 : List UInt8 := [42, 183, 0, 29, 60, 3, 61, 28, 42, 180, 0, 33, 162, 0, 55, 27, 42, 180, 0, 19, 28, 46, 42]
abbrev dktX8_extra_0 : List UInt8 := dkwX8_extra_0 ++ dktX8_extra_1
theorem dksX8_extra_0 : cX8_extra.data.toList.drop 0 = dktX8_extra_0 := by decide +kernel
theorem dksX8_extra_1 : cX8_extra.data.toList.drop 23 = dktX8_extra_1 := dk_seg dksX8_extra_0 23 rfl rfl
theorem dksX8_extra_2 : cX8_extra.data.toList.drop 45 = dktX8_extra_2 := dk_seg dksX8_extra_1 22 rfl rfl
theorem dX8_extra_0 : decode cX8_extra 0 = .ok (.aload_n 0, 1) := dk_42 (dk_at dksX8_extra_0 0 rfl rfl)
theorem dX8_extra_1 : decode cX8_extra 1 = .ok (.invokespecial 29, 3) := dk_183 0 29 (dk_at dksX8_extra_0 1 rfl rfl)
theorem dX8_extra_4 : decode cX8_extra 4 = .ok (.istore_n 1, 1) := dk_60 (dk_at dksX8_extra_0 4 rfl rfl)
theorem dX8_extra_5 : decode cX8_extra 5 = .ok (.iconst 0, 1) := dk_3 (dk_at dksX8_extra_0 5 rfl rfl)
theorem dX8_extra_6 : decode cX8_extra 6 = .ok (.istore_n 2, 1) := dk_61 (dk_at dksX8_extra_0 6 rfl rfl)
theorem dX8_extra_7 : decode cX8_extra 7 = .ok (.iload_n 2, 1) := dk_28 (dk_at dksX8_extra_0 7 rfl rfl)
theorem dX8_extra_8 : decode cX8_extra 8 = .ok (.aload_n 0, 1) := dk_42 (dk_at dksX8_extra_0 8 rfl rfl)
theorem dX8_extra_9 : decode cX8_extra 9 = .ok (.getfield 33, 3) := dk_180 0 33 (dk_at dksX8_extra_0 9 rfl rfl)
theorem dX8_extra_12 : decode cX8_extra 12 = .ok (.if_icmp .ge 55, 3) := dk_162 0 55 (dk_at dksX8_extra_0 12 rfl rfl)
theorem dX8_extra_15 : decode cX8_extra 15 = .ok (.iload_n 1, 1) := dk_27 (dk_at dksX8_extra_0 15 rfl rfl)
theorem dX8_extra_16 : decode cX8_extra 16 = .ok (.aload_n 0, 1) := dk_42 (dk_at dksX8_extra_0 16 rfl rfl)
theorem dX8_extra_17 : decode cX8_extra 17 = .ok (.getfield 19, 3) := dk_180 0 19 (dk_at dksX8_extra_0 17 rfl rfl)
theorem dX8_extra_20 : decode cX8_extra 20 = .ok (.iload_n 2, 1) := dk_28 (dk_at dksX8_extra_0 20 rfl rfl)
theorem dX8_extra_21 : decode cX8_extra 21 = .ok (.iaload, 1) := dk_46 (dk_at dksX8_extra_0 21 rfl rfl)
theorem dX8_extra_22 : decode cX8_extra 22 = .ok (.aload_n 0, 1) := dk_42 (dk_at dksX8_extra_0 22 rfl rfl)
theorem dX8_extra_23 : decode cX8_extra 23 = .ok (.getfield 3, 3) := dk_180 0 3 (dk_at dksX8_extra_1 0 rfl rfl)
theorem dX8_extra_26 : decode cX8_extra 26 = .ok (.getfield 37, 3) := dk_180 0 37 (dk_at dksX8_extra_1 3 rfl rfl)
theorem dX8_extra_29 : decode cX8_extra 29 = .ok (.aload_n 0, 1) := dk_42 (dk_at dksX8_extra_1 6 rfl rfl)
theorem dX8_extra_30 : decode cX8_extra 30 = .ok (.getfield 3, 3) := dk_180 0 3 (dk_at dksX8_extra_1 7 rfl rfl)
theorem dX8_extra_33 : decode cX8_extra 33 = .ok (.getfield 40, 3) := dk_180 0 40 (dk_at dksX8_extra_1 10 rfl rfl)
theorem dX8_extra_36 : decode cX8_extra 36 = .ok (.aload_n 0, 1) := dk_42 (dk_at dksX8_extra_1 13 rfl rfl)
theorem dX8_extra_37 : decode cX8_extra 37 = .ok (.getfield 15, 3) := dk_180 0 15 (dk_at dksX8_extra_1 14 rfl rfl)
theorem dX8_extra_40 : decode cX8_extra 40 = .ok (.iload_n 2, 1) := dk_28 (dk_at dksX8_extra_1 17 rfl rfl)
theorem dX8_extra_41 : decode cX8_extra 41 = .ok (.iaload, 1) := dk_46 (dk_at dksX8_extra_1 18 rfl rfl)
theorem dX8_extra_42 : decode cX8_extra 42 = .ok (.invokevirtual 44, 3) := dk_182 0 44 (dk_at dksX8_extra_1 19 rfl rfl)
theorem dX8_extra_45 : decode cX8_extra 45 = .ok (.checkcast 50, 3) := dk_192 0 50 (dk_at dksX8_extra_2 0 rfl rfl)
theorem dX8_extra_48 : decode cX8_extra 48 = .ok (.getfield 52, 3) := dk_180 0 52 (dk_at dksX8_extra_2 3 rfl rfl)
theorem dX8_extra_51 : decode cX8_extra 51 = .ok (.iaload, 1) := dk_46 (dk_at dksX8_extra_2 6 rfl rfl)
theorem dX8_extra_52 : decode cX8_extra 52 = .ok (.imul, 1) := dk_104 (dk_at dksX8_extra_2 7 rfl rfl)
theorem dX8_extra_53 : decode cX8_extra 53 = .ok (.bipush 99, 2) := dk_16 99 (dk_at dksX8_extra_2 8 rfl rfl)
theorem dX8_extra_55 : decode cX8_extra 55 = .ok (.iadd, 1) := dk_96 (dk_at dksX8_extra_2 10 rfl rfl)
theorem dX8_extra_56 : decode cX8_extra 56 = .ok (.bipush 100, 2) := dk_16 100 (dk_at dksX8_extra_2 11 rfl rfl)
theorem dX8_extra_58 : decode cX8_extra 58 = .ok (.idiv, 1) := dk_108 (dk_at dksX8_extra_2 13 rfl rfl)
theorem dX8_extra_59 : decode cX8_extra 59 = .ok (.iadd, 1) := dk_96 (dk_at dksX8_extra_2 14 rfl rfl)
theorem dX8_extra_60 : decode cX8_extra 60 = .ok (.istore_n 1, 1) := dk_60 (dk_at dksX8_extra_2 15 rfl rfl)
theorem dX8_extra_61 : decode cX8_extra 61 = .ok (.iinc 2 1, 3) := dk_132 2 1 (dk_at dksX8_extra_2 16 rfl rfl)
theorem dX8_extra_64 : decode cX8_extra 64 = .ok (.goto (-57), 3) := dk_167 255 199 (dk_at dksX8_extra_2 19 rfl rfl)
theorem dX8_extra_67 : decode cX8_extra 67 = .ok (.iload_n 1, 1) := dk_27 (dk_at dksX8_extra_2 22 rfl rfl)
theorem dX8_extra_68 : decode cX8_extra 68 = .ok (.ireturn, 1) := dk_172 (dk_at dksX8_extra_2 23 rfl rfl)
theorem q89 : (Jvm.Cond.initialized "Lendlathe$Entry") ∈ lw_all := lw_g (lw_at lw_m1 34 rfl) rfl
theorem q516 : (Jvm.Cond.sameMethod "Lendlathe$Entry" "Lendlathe$Stay" "overlaps" "(II)Z") ∈ lw_all := lw_g (lw_at lw_m2 221 rfl) rfl
theorem q518 : (Jvm.Cond.selects "Lendlathe$Entry" ({ cls := "Lendlathe$Entry", name := "overlaps", desc := "(II)Z" } : Jvm.MethodName) ({ cls := "Lendlathe$Stay", name := "overlaps", desc := "(II)Z" } : Jvm.MethodName)) ∈ lw_all := lw_g (lw_at lw_m2 223 rfl) rfl
theorem q524 : (Jvm.Cond.selects "Lendlathe$Entry" ({ cls := "Lendlathe$Stay", name := "end", desc := "()I" } : Jvm.MethodName) ({ cls := "Lendlathe$Stay", name := "end", desc := "()I" } : Jvm.MethodName)) ∈ lw_all := lw_g (lw_at lw_m2 229 rfl) rfl
theorem q536 : (Jvm.Cond.instanceMethod ({ cls := "Lendlathe$Entry", name := "isTaken", desc := "()Z" } : Jvm.MethodName)) ∈ lw_all := lw_g (lw_at lw_m3 1 rfl) rfl
theorem q537 : (Jvm.Cond.selects "Lendlathe$Entry" ({ cls := "Lendlathe$Entry", name := "isTaken", desc := "()Z" } : Jvm.MethodName) ({ cls := "Lendlathe$Entry", name := "isTaken", desc := "()Z" } : Jvm.MethodName)) ∈ lw_all := lw_g (lw_at lw_m3 2 rfl) rfl
theorem q538 : (Jvm.Cond.code ({ cls := "Lendlathe$Entry", name := "isTaken", desc := "()Z" } : Jvm.MethodName) prog_7_method_2_code (1 : Nat) (Option.some Jvm.ClassFile.FieldType.boolean)) ∈ lw_all := lw_g (lw_at lw_m3 3 rfl) rfl
theorem q600 : (Jvm.Cond.sameMethod "Lendlathe$Entry" "Lendlathe$Stay" "end" "()I") ∈ lw_all := lw_g (lw_at lw_m3 65 rfl) rfl
theorem q602 : (Jvm.Cond.selects "Lendlathe$Entry" ({ cls := "Lendlathe$Entry", name := "end", desc := "()I" } : Jvm.MethodName) ({ cls := "Lendlathe$Stay", name := "end", desc := "()I" } : Jvm.MethodName)) ∈ lw_all := lw_g (lw_at lw_m3 67 rfl) rfl
theorem q606 : (Jvm.Cond.fieldLinkNest "Lendlathe$Entry" (55 : Nat) "Lendlathe" "tariffs" "[LLendlathe$Tariff;" "Lendlathe") ∈ lw_tbl := lw_at lw_m3 71 rfl
theorem q609 : (Jvm.Cond.fieldLinkNest "Lendlathe$Entry" (59 : Nat) "Lendlathe" "machines" "Ljava/util/ArrayList;" "Lendlathe") ∈ lw_tbl := lw_at lw_m3 74 rfl
theorem q611 : (Jvm.Cond.fieldLinkNest "Lendlathe$Entry" (82 : Nat) "Lendlathe" "members" "Ljava/util/ArrayList;" "Lendlathe") ∈ lw_tbl := lw_at lw_m3 76 rfl
theorem q616 : (Jvm.Cond.fieldLinkNest "Lendlathe$Entry" (40 : Nat) "Lendlathe" "bars" "Ljava/util/ArrayList;" "Lendlathe") ∈ lw_tbl := lw_at lw_m3 81 rfl
theorem q620 : (Jvm.Cond.fieldLinkNest "Lendlathe$Entry" (37 : Nat) "Lendlathe" "prices" "[I" "Lendlathe") ∈ lw_tbl := lw_at lw_m3 85 rfl
theorem q675 : (Jvm.Cond.instanceMethod ({ cls := "Lendlathe$Entry", name := "check", desc := "()C" } : Jvm.MethodName)) ∈ lw_all := lw_g (lw_at lw_m3 140 rfl) rfl
theorem q676 : (Jvm.Cond.selects "Lendlathe$Entry" ({ cls := "Lendlathe$Entry", name := "check", desc := "()C" } : Jvm.MethodName) ({ cls := "Lendlathe$Entry", name := "check", desc := "()C" } : Jvm.MethodName)) ∈ lw_all := lw_g (lw_at lw_m3 141 rfl) rfl
theorem q677 : (Jvm.Cond.code ({ cls := "Lendlathe$Entry", name := "check", desc := "()C" } : Jvm.MethodName) prog_7_method_9_code (1 : Nat) (Option.some Jvm.ClassFile.FieldType.char)) ∈ lw_all := lw_g (lw_at lw_m3 142 rfl) rfl
theorem q678 : (Jvm.Cond.methodLinkNest "Lendlathe$Entry" (106 : Nat) ({ cls := "Lendlathe", name := "checks", desc := "(IIIIIC)C" } : Jvm.MethodName) "Lendlathe") ∈ lw_tbl := lw_at lw_m3 143 rfl
theorem q710 : (Jvm.Cond.instanceMethod ({ cls := "Lendlathe$Entry", name := "isLive", desc := "()Z" } : Jvm.MethodName)) ∈ lw_all := lw_g (lw_at lw_m3 175 rfl) rfl
theorem q711 : (Jvm.Cond.selects "Lendlathe$Entry" ({ cls := "Lendlathe$Entry", name := "isLive", desc := "()Z" } : Jvm.MethodName) ({ cls := "Lendlathe$Entry", name := "isLive", desc := "()Z" } : Jvm.MethodName)) ∈ lw_all := lw_g (lw_at lw_m3 176 rfl) rfl
theorem q712 : (Jvm.Cond.code ({ cls := "Lendlathe$Entry", name := "isLive", desc := "()Z" } : Jvm.MethodName) prog_7_method_8_code (1 : Nat) (Option.some Jvm.ClassFile.FieldType.boolean)) ∈ lw_all := lw_g (lw_at lw_m3 177 rfl) rfl
theorem q713 : (Jvm.Cond.methodLink "Lendlathe$Entry" (44 : Nat) ({ cls := "java/util/ArrayList", name := "get", desc := "(I)Ljava/lang/Object;" } : Jvm.MethodName)) ∈ lw_all := lw_g (lw_at lw_m3 178 rfl) rfl
theorem q714 : (Jvm.Cond.classLink "Lendlathe$Entry" (88 : Nat) "Lendlathe$Member") ∈ lw_all := lw_g (lw_at lw_m3 179 rfl) rfl
theorem q715 : (Jvm.Cond.classLink "Lendlathe$Entry" (65 : Nat) "Lendlathe$Machine") ∈ lw_all := lw_g (lw_at lw_m3 180 rfl) rfl
theorem q716 : (Jvm.Cond.methodLink "Lendlathe$Entry" (99 : Nat) ({ cls := "Lendlathe$Member", name := "isLive", desc := "(II)Z" } : Jvm.MethodName)) ∈ lw_all := lw_g (lw_at lw_m3 181 rfl) rfl
theorem q723 : (Jvm.Cond.instanceMethod ({ cls := "Lendlathe$Entry", name := "takes", desc := "(I)I" } : Jvm.MethodName)) ∈ lw_all := lw_g (lw_at lw_m3 188 rfl) rfl
theorem q724 : (Jvm.Cond.selects "Lendlathe$Entry" ({ cls := "Lendlathe$Entry", name := "takes", desc := "(I)I" } : Jvm.MethodName) ({ cls := "Lendlathe$Entry", name := "takes", desc := "(I)I" } : Jvm.MethodName)) ∈ lw_all := lw_g (lw_at lw_m3 189 rfl) rfl
theorem q725 : (Jvm.Cond.code ({ cls := "Lendlathe$Entry", name := "takes", desc := "(I)I" } : Jvm.MethodName) prog_7_method_7_code (4 : Nat) (Option.some Jvm.ClassFile.FieldType.int)) ∈ lw_all := lw_g (lw_at lw_m3 190 rfl) rfl
theorem q793 : (Jvm.Cond.fieldLinkNest "Lendlathe$Entry" (67 : Nat) "Lendlathe$Machine" "kind" "I" "Lendlathe") ∈ lw_tbl := lw_at lw_m4 18 rfl
theorem q831 : (Jvm.Cond.selects "Lendlathe$Entry" ({ cls := "java/lang/Object", name := "getClass", desc := "()Ljava/lang/Class;" } : Jvm.MethodName) ({ cls := "java/lang/Object", name := "getClass", desc := "()Ljava/lang/Class;" } : Jvm.MethodName)) ∈ lw_all := lw_g (lw_at lw_m4 56 rfl) rfl
theorem q868 : (Jvm.Cond.fieldLinkNest "Lendlathe$Entry" (90 : Nat) "Lendlathe$Member" "dues" "I" "Lendlathe") ∈ lw_tbl := lw_at lw_m4 93 rfl
theorem q894 : (Jvm.Cond.instanceMethod ({ cls := "Lendlathe$Entry", name := "ends", desc := "()V" } : Jvm.MethodName)) ∈ lw_all := lw_g (lw_at lw_m4 119 rfl) rfl
theorem q895 : (Jvm.Cond.selects "Lendlathe$Entry" ({ cls := "Lendlathe$Entry", name := "ends", desc := "()V" } : Jvm.MethodName) ({ cls := "Lendlathe$Entry", name := "ends", desc := "()V" } : Jvm.MethodName)) ∈ lw_all := lw_g (lw_at lw_m4 120 rfl) rfl
theorem q896 : (Jvm.Cond.code ({ cls := "Lendlathe$Entry", name := "ends", desc := "()V" } : Jvm.MethodName) prog_7_method_6_code (2 : Nat) (Option.none : Option Jvm.ClassFile.FieldType)) ∈ lw_all := lw_g (lw_at lw_m4 121 rfl) rfl
theorem q897 : (Jvm.Cond.classLink "Lendlathe$Entry" (50 : Nat) "Lendlathe$Bar") ∈ lw_all := lw_g (lw_at lw_m4 122 rfl) rfl
theorem q1026 : (Jvm.Cond.instantiable "Lendlathe$Entry" (12 : Nat)) ∈ lw_all := lw_g (lw_at lw_m5 11 rfl) rfl
theorem q1028 : (Jvm.Cond.instanceMethod ({ cls := "Lendlathe$Entry", name := "<init>", desc := "(LLendlathe;IIIIICC)V" } : Jvm.MethodName)) ∈ lw_all := lw_g (lw_at lw_m5 13 rfl) rfl
theorem q1029 : (Jvm.Cond.code ({ cls := "Lendlathe$Entry", name := "<init>", desc := "(LLendlathe;IIIIICC)V" } : Jvm.MethodName) prog_7_method_1_code (9 : Nat) (Option.none : Option Jvm.ClassFile.FieldType)) ∈ lw_all := lw_g (lw_at lw_m5 14 rfl) rfl
theorem q1030 : (Jvm.Cond.methodLink "Lendlathe$Entry" (9 : Nat) ({ cls := "Lendlathe$Stay", name := "<init>", desc := "(IIIII)V" } : Jvm.MethodName)) ∈ lw_all := lw_g (lw_at lw_m5 15 rfl) rfl
theorem q1034 : (Jvm.Cond.fieldLink "Lendlathe$Entry" (22 : Nat) "Lendlathe$Entry" "work" "C") ∈ lw_all := lw_g (lw_at lw_m5 19 rfl) rfl
theorem q1036 : (Jvm.Cond.fieldLink "Lendlathe$Entry" (26 : Nat) "Lendlathe$Entry" "state" "C") ∈ lw_all := lw_g (lw_at lw_m5 21 rfl) rfl
theorem q1039 : (Jvm.Cond.fieldLink "Lendlathe$Entry" (79 : Nat) "Lendlathe$Entry" "due" "I") ∈ lw_all := lw_g (lw_at lw_m5 24 rfl) rfl
theorem q1041 : (Jvm.Cond.fieldLink "Lendlathe$Entry" (33 : Nat) "Lendlathe$Entry" "cuts" "I") ∈ lw_all := lw_g (lw_at lw_m5 26 rfl) rfl
theorem q1043 : (Jvm.Cond.fieldLink "Lendlathe$Entry" (15 : Nat) "Lendlathe$Entry" "bar" "[I") ∈ lw_all := lw_g (lw_at lw_m5 28 rfl) rfl
theorem q1045 : (Jvm.Cond.fieldLink "Lendlathe$Entry" (19 : Nat) "Lendlathe$Entry" "length" "[I") ∈ lw_all := lw_g (lw_at lw_m5 30 rfl) rfl
theorem q1047 : (Jvm.Cond.fieldLink "Lendlathe$Entry" (3 : Nat) "Lendlathe$Entry" "this$0" "LLendlathe;") ∈ lw_all := lw_g (lw_at lw_m5 32 rfl) rfl
theorem q1050 : (Jvm.Cond.sameField "Lendlathe$Entry" "Lendlathe$Stay" "member" "I") ∈ lw_all := lw_g (lw_at lw_m5 35 rfl) rfl
theorem q1051 : (Jvm.Cond.fieldLink "Lendlathe$Entry" (85 : Nat) "Lendlathe$Entry" "member" "I") ∈ lw_all := lw_g (lw_at lw_m5 36 rfl) rfl
theorem q1055 : (Jvm.Cond.sameField "Lendlathe$Entry" "Lendlathe$Stay" "machine" "I") ∈ lw_all := lw_g (lw_at lw_m5 40 rfl) rfl
theorem q1057 : (Jvm.Cond.fieldLink "Lendlathe$Entry" (62 : Nat) "Lendlathe$Entry" "machine" "I") ∈ lw_all := lw_g (lw_at lw_m5 42 rfl) rfl
theorem q1061 : (Jvm.Cond.sameField "Lendlathe$Entry" "Lendlathe$Stay" "day" "I") ∈ lw_all := lw_g (lw_at lw_m5 46 rfl) rfl
theorem q1063 : (Jvm.Cond.fieldLink "Lendlathe$Entry" (96 : Nat) "Lendlathe$Entry" "day" "I") ∈ lw_all := lw_g (lw_at lw_m5 48 rfl) rfl
theorem q1067 : (Jvm.Cond.sameField "Lendlathe$Entry" "Lendlathe$Stay" "start" "I") ∈ lw_all := lw_g (lw_at lw_m5 52 rfl) rfl
theorem q1068 : (Jvm.Cond.fieldLink "Lendlathe$Entry" (103 : Nat) "Lendlathe$Entry" "start" "I") ∈ lw_all := lw_g (lw_at lw_m5 53 rfl) rfl
theorem q1072 : (Jvm.Cond.sameField "Lendlathe$Entry" "Lendlathe$Stay" "minutes" "I") ∈ lw_all := lw_g (lw_at lw_m5 57 rfl) rfl
theorem q1073 : (Jvm.Cond.fieldLink "Lendlathe$Entry" (70 : Nat) "Lendlathe$Entry" "minutes" "I") ∈ lw_all := lw_g (lw_at lw_m5 58 rfl) rfl
theorem q1075 : (Jvm.Cond.laysFinal "Lendlathe$Entry" "Lendlathe$Entry" "work" "C") ∈ lw_all := lw_g (lw_at lw_m5 60 rfl) rfl
theorem q1076 : (Jvm.Cond.soleField "Lendlathe$Entry" "work") ∈ lw_all := lw_g (lw_at lw_m5 61 rfl) rfl
theorem q1077 : (Jvm.Cond.lays "Lendlathe$Entry" "Lendlathe$Entry" "state" "C") ∈ lw_all := lw_g (lw_at lw_m5 62 rfl) rfl
theorem q1078 : (Jvm.Cond.soleField "Lendlathe$Entry" "state") ∈ lw_all := lw_g (lw_at lw_m5 63 rfl) rfl
theorem q1079 : (Jvm.Cond.lays "Lendlathe$Entry" "Lendlathe$Entry" "due" "I") ∈ lw_all := lw_g (lw_at lw_m5 64 rfl) rfl
theorem q1080 : (Jvm.Cond.soleField "Lendlathe$Entry" "due") ∈ lw_all := lw_g (lw_at lw_m5 65 rfl) rfl
theorem q1081 : (Jvm.Cond.lays "Lendlathe$Entry" "Lendlathe$Entry" "cuts" "I") ∈ lw_all := lw_g (lw_at lw_m5 66 rfl) rfl
theorem q1082 : (Jvm.Cond.soleField "Lendlathe$Entry" "cuts") ∈ lw_all := lw_g (lw_at lw_m5 67 rfl) rfl
theorem q1083 : (Jvm.Cond.laysFinal "Lendlathe$Entry" "Lendlathe$Entry" "bar" "[I") ∈ lw_all := lw_g (lw_at lw_m5 68 rfl) rfl
theorem q1084 : (Jvm.Cond.soleField "Lendlathe$Entry" "bar") ∈ lw_all := lw_g (lw_at lw_m5 69 rfl) rfl
theorem q1085 : (Jvm.Cond.laysFinal "Lendlathe$Entry" "Lendlathe$Entry" "length" "[I") ∈ lw_all := lw_g (lw_at lw_m5 70 rfl) rfl
theorem q1086 : (Jvm.Cond.soleField "Lendlathe$Entry" "length") ∈ lw_all := lw_g (lw_at lw_m5 71 rfl) rfl
theorem q1087 : (Jvm.Cond.laysFinal "Lendlathe$Entry" "Lendlathe$Entry" "this$0" "LLendlathe;") ∈ lw_all := lw_g (lw_at lw_m5 72 rfl) rfl
theorem q1088 : (Jvm.Cond.soleField "Lendlathe$Entry" "this$0") ∈ lw_all := lw_g (lw_at lw_m5 73 rfl) rfl
theorem q1089 : (Jvm.Cond.laysFinal "Lendlathe$Entry" "Lendlathe$Stay" "member" "I") ∈ lw_all := lw_g (lw_at lw_m5 74 rfl) rfl
theorem q1091 : (Jvm.Cond.laysFinal "Lendlathe$Entry" "Lendlathe$Stay" "machine" "I") ∈ lw_all := lw_g (lw_at lw_m5 76 rfl) rfl
theorem q1093 : (Jvm.Cond.laysFinal "Lendlathe$Entry" "Lendlathe$Stay" "day" "I") ∈ lw_all := lw_g (lw_at lw_m5 78 rfl) rfl
theorem q1095 : (Jvm.Cond.laysFinal "Lendlathe$Entry" "Lendlathe$Stay" "start" "I") ∈ lw_all := lw_g (lw_at lw_m5 80 rfl) rfl
theorem q1097 : (Jvm.Cond.laysFinal "Lendlathe$Entry" "Lendlathe$Stay" "minutes" "I") ∈ lw_all := lw_g (lw_at lw_m5 82 rfl) rfl
theorem q1099 : (Jvm.Cond.superclass "Lendlathe$Entry" "Lendlathe$Stay") ∈ lw_all := lw_g (lw_at lw_m5 84 rfl) rfl
theorem q1129 : (Jvm.Cond.instanceMethod ({ cls := "Lendlathe$Entry", name := "forMinutes", desc := "()I" } : Jvm.MethodName)) ∈ lw_all := lw_g (lw_at lw_m5 114 rfl) rfl
theorem q1130 : (Jvm.Cond.selects "Lendlathe$Entry" ({ cls := "Lendlathe$Entry", name := "forMinutes", desc := "()I" } : Jvm.MethodName) ({ cls := "Lendlathe$Entry", name := "forMinutes", desc := "()I" } : Jvm.MethodName)) ∈ lw_all := lw_g (lw_at lw_m5 115 rfl) rfl
theorem q1131 : (Jvm.Cond.code ({ cls := "Lendlathe$Entry", name := "forMinutes", desc := "()I" } : Jvm.MethodName) prog_7_method_4_code (1 : Nat) (Option.some Jvm.ClassFile.FieldType.int)) ∈ lw_all := lw_g (lw_at lw_m5 116 rfl) rfl
theorem q1132 : (Jvm.Cond.interfaceEntry "Lendlathe$Entry" (73 : Nat)) ∈ lw_tbl := lw_at lw_m5 117 rfl
theorem q1133 : (Jvm.Cond.methodLink "Lendlathe$Entry" (73 : Nat) ({ cls := "Lendlathe$Tariff", name := "of", desc := "(I)I" } : Jvm.MethodName)) ∈ lw_all := lw_g (lw_at lw_m5 118 rfl) rfl
theorem q1143 : (Jvm.Cond.instanceMethod ({ cls := "Lendlathe$Entry", name := "owes", desc := "(I)V" } : Jvm.MethodName)) ∈ lw_all := lw_g (lw_at lw_m5 128 rfl) rfl
theorem q1144 : (Jvm.Cond.selects "Lendlathe$Entry" ({ cls := "Lendlathe$Entry", name := "owes", desc := "(I)V" } : Jvm.MethodName) ({ cls := "Lendlathe$Entry", name := "owes", desc := "(I)V" } : Jvm.MethodName)) ∈ lw_all := lw_g (lw_at lw_m5 129 rfl) rfl
theorem q1145 : (Jvm.Cond.code ({ cls := "Lendlathe$Entry", name := "owes", desc := "(I)V" } : Jvm.MethodName) prog_7_method_5_code (2 : Nat) (Option.none : Option Jvm.ClassFile.FieldType)) ∈ lw_all := lw_g (lw_at lw_m5 130 rfl) rfl
theorem q1161 : (Jvm.Cond.instanceMethod ({ cls := "Lendlathe$Entry", name := "extra", desc := "()I" } : Jvm.MethodName)) ∈ lw_all := lw_g (lw_at lw_m5 146 rfl) rfl
theorem q1162 : (Jvm.Cond.selects "Lendlathe$Entry" ({ cls := "Lendlathe$Entry", name := "extra", desc := "()I" } : Jvm.MethodName) ({ cls := "Lendlathe$Entry", name := "extra", desc := "()I" } : Jvm.MethodName)) ∈ lw_all := lw_g (lw_at lw_m5 147 rfl) rfl
theorem q1163 : (Jvm.Cond.code ({ cls := "Lendlathe$Entry", name := "extra", desc := "()I" } : Jvm.MethodName) prog_7_method_3_code (3 : Nat) (Option.some Jvm.ClassFile.FieldType.int)) ∈ lw_all := lw_g (lw_at lw_m5 148 rfl) rfl
theorem q1242 : (Jvm.Cond.fieldLinkNest "Lendlathe$Entry" (52 : Nat) "Lendlathe$Bar" "material" "I" "Lendlathe") ∈ lw_tbl := lw_at lw_m5 227 rfl
theorem q1247 : (Jvm.Cond.fieldLinkNest "Lendlathe$Entry" (93 : Nat) "Lendlathe$Bar" "free" "I" "Lendlathe") ∈ lw_tbl := lw_at lw_m5 232 rfl
theorem q1849 : (Jvm.Cond.castable "Lendlathe$Entry" "java/lang/Object") ∈ lw_tbl := lw_at lw_m8 114 rfl
theorem in_X8 : ∀ w ∈ wsX80, w ∈ lw_all := lw_in wsX80 [1089, 1091, 1093, 1095, 1097, 1075, 1077, 1079, 1081, 1083, 1085, 1087] (by decide +kernel) (by decide +kernel)

/-! Lendlathe$Bar -/
set_option maxRecDepth 100000
def RX9 : String := "Lendlathe$Bar"
def TX9 : u_T := fun k => match k with
  | 0 => ("Lendlathe$Bar", "material", "I", true)
  | 1 => ("Lendlathe$Bar", "length", "I", true)
  | _ => ("Lendlathe$Bar", "free", "I", false)
def tyX9 : Nat → FieldType := fun k => match k with
  | 0 => .int
  | 1 => .int
  | _ => .int
abbrev wsX90 : List Cond := u_ws RX9 TX9 3
theorem nmX9 : ∀ a, a < 3 → ∀ b, b < 3 → a ≠ b → (TX9 a).2.1 ≠ (TX9 b).2.1 := by decide +kernel
theorem tyX9_ok : ∀ k, k < 3 → parseFieldDescriptor (TX9 k).2.2.1 = some (tyX9 k) := by decide +kernel
abbrev cX9_init : ByteArray := prog_4_method_1_code
def yX9_init : MethodName := ⟨RX9, "<init>", "(II)V"⟩
def dkwX9_init_0 : List UInt8 := [42, 183, 0, 1, 42, 27, 181, 0, 7, 42, 28, 181, 0, 13, 42, 28, 181, 0, 16, 177]
abbrev dktX9_init_0 : List UInt8 := dkwX9_init_0 ++ []
theorem dksX9_init_0 : cX9_init.data.toList.drop 0 = dktX9_init_0 := by decide +kernel
theorem dX9_init_0 : decode cX9_init 0 = .ok (.aload_n 0, 1) := dk_42 (dk_at dksX9_init_0 0 rfl rfl)
theorem dX9_init_1 : decode cX9_init 1 = .ok (.invokespecial 1, 3) := dk_183 0 1 (dk_at dksX9_init_0 1 rfl rfl)
theorem dX9_init_4 : decode cX9_init 4 = .ok (.aload_n 0, 1) := dk_42 (dk_at dksX9_init_0 4 rfl rfl)
theorem dX9_init_5 : decode cX9_init 5 = .ok (.iload_n 1, 1) := dk_27 (dk_at dksX9_init_0 5 rfl rfl)
theorem dX9_init_6 : decode cX9_init 6 = .ok (.putfield 7, 3) := dk_181 0 7 (dk_at dksX9_init_0 6 rfl rfl)
theorem dX9_init_9 : decode cX9_init 9 = .ok (.aload_n 0, 1) := dk_42 (dk_at dksX9_init_0 9 rfl rfl)
theorem dX9_init_10 : decode cX9_init 10 = .ok (.iload_n 2, 1) := dk_28 (dk_at dksX9_init_0 10 rfl rfl)
theorem dX9_init_11 : decode cX9_init 11 = .ok (.putfield 13, 3) := dk_181 0 13 (dk_at dksX9_init_0 11 rfl rfl)
theorem dX9_init_14 : decode cX9_init 14 = .ok (.aload_n 0, 1) := dk_42 (dk_at dksX9_init_0 14 rfl rfl)
theorem dX9_init_15 : decode cX9_init 15 = .ok (.iload_n 2, 1) := dk_28 (dk_at dksX9_init_0 15 rfl rfl)
theorem dX9_init_16 : decode cX9_init 16 = .ok (.putfield 16, 3) := dk_181 0 16 (dk_at dksX9_init_0 16 rfl rfl)
theorem dX9_init_19 : decode cX9_init 19 = .ok (.return_, 1) := dk_177 (dk_at dksX9_init_0 19 rfl rfl)
theorem q90 : (Jvm.Cond.initialized "Lendlathe$Bar") ∈ lw_all := lw_g (lw_at lw_m1 35 rfl) rfl
theorem q830 : (Jvm.Cond.selects "Lendlathe$Bar" ({ cls := "java/lang/Object", name := "getClass", desc := "()Ljava/lang/Class;" } : Jvm.MethodName) ({ cls := "java/lang/Object", name := "getClass", desc := "()Ljava/lang/Class;" } : Jvm.MethodName)) ∈ lw_all := lw_g (lw_at lw_m4 55 rfl) rfl
theorem q1236 : (Jvm.Cond.instantiable "Lendlathe$Bar" (3 : Nat)) ∈ lw_all := lw_g (lw_at lw_m5 221 rfl) rfl
theorem q1238 : (Jvm.Cond.instanceMethod ({ cls := "Lendlathe$Bar", name := "<init>", desc := "(II)V" } : Jvm.MethodName)) ∈ lw_all := lw_g (lw_at lw_m5 223 rfl) rfl
theorem q1239 : (Jvm.Cond.code ({ cls := "Lendlathe$Bar", name := "<init>", desc := "(II)V" } : Jvm.MethodName) prog_4_method_1_code (3 : Nat) (Option.none : Option Jvm.ClassFile.FieldType)) ∈ lw_all := lw_g (lw_at lw_m5 224 rfl) rfl
theorem q1240 : (Jvm.Cond.methodLink "Lendlathe$Bar" (1 : Nat) ({ cls := "java/lang/Object", name := "<init>", desc := "()V" } : Jvm.MethodName)) ∈ lw_all := lw_g (lw_at lw_m5 225 rfl) rfl
theorem q1241 : (Jvm.Cond.fieldLink "Lendlathe$Bar" (7 : Nat) "Lendlathe$Bar" "material" "I") ∈ lw_all := lw_g (lw_at lw_m5 226 rfl) rfl
theorem q1244 : (Jvm.Cond.fieldLink "Lendlathe$Bar" (13 : Nat) "Lendlathe$Bar" "length" "I") ∈ lw_all := lw_g (lw_at lw_m5 229 rfl) rfl
theorem q1246 : (Jvm.Cond.fieldLink "Lendlathe$Bar" (16 : Nat) "Lendlathe$Bar" "free" "I") ∈ lw_all := lw_g (lw_at lw_m5 231 rfl) rfl
theorem q1249 : (Jvm.Cond.laysFinal "Lendlathe$Bar" "Lendlathe$Bar" "material" "I") ∈ lw_all := lw_g (lw_at lw_m5 234 rfl) rfl
theorem q1250 : (Jvm.Cond.soleField "Lendlathe$Bar" "material") ∈ lw_all := lw_g (lw_at lw_m5 235 rfl) rfl
theorem q1251 : (Jvm.Cond.laysFinal "Lendlathe$Bar" "Lendlathe$Bar" "length" "I") ∈ lw_all := lw_g (lw_at lw_m5 236 rfl) rfl
theorem q1252 : (Jvm.Cond.soleField "Lendlathe$Bar" "length") ∈ lw_all := lw_g (lw_at lw_m5 237 rfl) rfl
theorem q1253 : (Jvm.Cond.lays "Lendlathe$Bar" "Lendlathe$Bar" "free" "I") ∈ lw_all := lw_g (lw_at lw_m5 238 rfl) rfl
theorem q1254 : (Jvm.Cond.soleField "Lendlathe$Bar" "free") ∈ lw_all := lw_g (lw_at lw_m5 239 rfl) rfl
theorem q1255 : (Jvm.Cond.superclass "Lendlathe$Bar" "java/lang/Object") ∈ lw_all := lw_g (lw_at lw_m6 0 rfl) rfl
theorem q1868 : (Jvm.Cond.castable "Lendlathe$Bar" "java/lang/Object") ∈ lw_tbl := lw_at lw_m8 133 rfl
theorem in_X9 : ∀ w ∈ wsX90, w ∈ lw_all := lw_in wsX90 [1249, 1251, 1253] (by decide +kernel) (by decide +kernel)

/-! Lendlathe$1Part -/
set_option maxRecDepth 100000
def RX10 : String := "Lendlathe$1Part"
def TX10 : u_T := fun k => match k with
  | 0 => ("Lendlathe$1Part", "minutes", "I", true)
  | 1 => ("Lendlathe$1Part", "share", "I", false)
  | 2 => ("Lendlathe$1Part", "rest", "I", false)
  | 3 => ("Lendlathe$1Part", "val$machine", "I", true)
  | 4 => ("Lendlathe$1Part", "val$cost", "I", true)
  | _ => ("Lendlathe$1Part", "this$0", "LLendlathe;", true)
def tyX10 : Nat → FieldType := fun k => match k with
  | 0 => .int
  | 1 => .int
  | 2 => .int
  | 3 => .int
  | 4 => .int
  | _ => .object "Lendlathe"
abbrev wsX100 : List Cond := u_ws RX10 TX10 6
theorem nmX10 : ∀ a, a < 6 → ∀ b, b < 6 → a ≠ b → (TX10 a).2.1 ≠ (TX10 b).2.1 := by decide +kernel
theorem tyX10_ok : ∀ k, k < 6 → parseFieldDescriptor (TX10 k).2.2.1 = some (tyX10 k) := by decide +kernel
abbrev cX10_init : ByteArray := prog_3_method_1_code
def yX10_init : MethodName := ⟨RX10, "<init>", "(LLendlathe;III)V"⟩
def dkwX10_init_5 : List UInt8 := [181, 0, 55, 177]
abbrev dktX10_init_5 : List UInt8 := dkwX10_init_5 ++ []
def dkwX10_init_4 : List UInt8 := [100, 161, 0, 13, 21, 5, 25, 7, 180, 0, 52, 96, 54, 5, 132, 6, 1, 167, 255, 171, 42, 21, 5]
abbrev dktX10_init_4 : List UInt8 := dkwX10_init_4 ++ dktX10_init_5
def dkwX10_init_3 : List UInt8 := [160, 0, 38, 25, 7, 180, 0, 44, 16, 100, 160, 0, 28, 25, 7, 180, 0, 48, 43, 180, 0, 51, 16, 7]
abbrev dktX10_init_3 : List UInt8 := dkwX10_init_3 ++ dktX10_init_4
def dkwX10_init_2 : List UInt8 := [192, 0, 36, 58, 7, 25, 7, 180, 0, 38, 42, 180, 0, 9, 160, 0, 47, 25, 7, 180, 0, 41, 28]
abbrev dktX10_init_2 : List UInt8 := dkwX10_init_2 ++ dktX10_init_3
def dkwX10_init_1 : List UInt8 := [54, 6, 21, 6, 43, 180, 0, 22, 182, 0, 26, 162, 0, 79, 43, 180, 0, 22, 21, 6, 182, 0, 32]
abbrev dktX10_init_1 : List UInt8 := dkwX10_init_1 ++ dktX10_init_2
def dkwX10_init_0 : List UInt8 := [42, 43, 181, 0, 3, 42, 29, 181, 0, 9, 42, 21, 4, 181, 0, 13, 42, 183, 0, 16, 3, 54, 5, 3]
abbrev dktX10_init_0 : List UInt8 := dkwX10_init_0 ++ dktX10_init_1
theorem dksX10_init_0 : cX10_init.data.toList.drop 0 = dktX10_init_0 := by decide +kernel
theorem dksX10_init_1 : cX10_init.data.toList.drop 24 = dktX10_init_1 := dk_seg dksX10_init_0 24 rfl rfl
theorem dksX10_init_2 : cX10_init.data.toList.drop 47 = dktX10_init_2 := dk_seg dksX10_init_1 23 rfl rfl
theorem dksX10_init_3 : cX10_init.data.toList.drop 70 = dktX10_init_3 := dk_seg dksX10_init_2 23 rfl rfl
theorem dksX10_init_4 : cX10_init.data.toList.drop 94 = dktX10_init_4 := dk_seg dksX10_init_3 24 rfl rfl
theorem dksX10_init_5 : cX10_init.data.toList.drop 117 = dktX10_init_5 := dk_seg dksX10_init_4 23 rfl rfl
theorem dX10_init_0 : decode cX10_init 0 = .ok (.aload_n 0, 1) := dk_42 (dk_at dksX10_init_0 0 rfl rfl)
theorem dX10_init_1 : decode cX10_init 1 = .ok (.aload_n 1, 1) := dk_43 (dk_at dksX10_init_0 1 rfl rfl)
theorem dX10_init_2 : decode cX10_init 2 = .ok (.putfield 3, 3) := dk_181 0 3 (dk_at dksX10_init_0 2 rfl rfl)
theorem dX10_init_5 : decode cX10_init 5 = .ok (.aload_n 0, 1) := dk_42 (dk_at dksX10_init_0 5 rfl rfl)
theorem dX10_init_6 : decode cX10_init 6 = .ok (.iload_n 3, 1) := dk_29 (dk_at dksX10_init_0 6 rfl rfl)
theorem dX10_init_7 : decode cX10_init 7 = .ok (.putfield 9, 3) := dk_181 0 9 (dk_at dksX10_init_0 7 rfl rfl)
theorem dX10_init_10 : decode cX10_init 10 = .ok (.aload_n 0, 1) := dk_42 (dk_at dksX10_init_0 10 rfl rfl)
theorem dX10_init_11 : decode cX10_init 11 = .ok (.iload 4, 2) := dk_21 4 (dk_at dksX10_init_0 11 rfl rfl)
theorem dX10_init_13 : decode cX10_init 13 = .ok (.putfield 13, 3) := dk_181 0 13 (dk_at dksX10_init_0 13 rfl rfl)
theorem dX10_init_16 : decode cX10_init 16 = .ok (.aload_n 0, 1) := dk_42 (dk_at dksX10_init_0 16 rfl rfl)
theorem dX10_init_17 : decode cX10_init 17 = .ok (.invokespecial 16, 3) := dk_183 0 16 (dk_at dksX10_init_0 17 rfl rfl)
theorem dX10_init_20 : decode cX10_init 20 = .ok (.iconst 0, 1) := dk_3 (dk_at dksX10_init_0 20 rfl rfl)
theorem dX10_init_21 : decode cX10_init 21 = .ok (.istore 5, 2) := dk_54 5 (dk_at dksX10_init_0 21 rfl rfl)
theorem dX10_init_23 : decode cX10_init 23 = .ok (.iconst 0, 1) := dk_3 (dk_at dksX10_init_0 23 rfl rfl)
theorem dX10_init_24 : decode cX10_init 24 = .ok (.istore 6, 2) := dk_54 6 (dk_at dksX10_init_1 0 rfl rfl)
theorem dX10_init_26 : decode cX10_init 26 = .ok (.iload 6, 2) := dk_21 6 (dk_at dksX10_init_1 2 rfl rfl)
theorem dX10_init_28 : decode cX10_init 28 = .ok (.aload_n 1, 1) := dk_43 (dk_at dksX10_init_1 4 rfl rfl)
theorem dX10_init_29 : decode cX10_init 29 = .ok (.getfield 22, 3) := dk_180 0 22 (dk_at dksX10_init_1 5 rfl rfl)
theorem dX10_init_32 : decode cX10_init 32 = .ok (.invokevirtual 26, 3) := dk_182 0 26 (dk_at dksX10_init_1 8 rfl rfl)
theorem dX10_init_35 : decode cX10_init 35 = .ok (.if_icmp .ge 79, 3) := dk_162 0 79 (dk_at dksX10_init_1 11 rfl rfl)
theorem dX10_init_38 : decode cX10_init 38 = .ok (.aload_n 1, 1) := dk_43 (dk_at dksX10_init_1 14 rfl rfl)
theorem dX10_init_39 : decode cX10_init 39 = .ok (.getfield 22, 3) := dk_180 0 22 (dk_at dksX10_init_1 15 rfl rfl)
theorem dX10_init_42 : decode cX10_init 42 = .ok (.iload 6, 2) := dk_21 6 (dk_at dksX10_init_1 18 rfl rfl)
theorem dX10_init_44 : decode cX10_init 44 = .ok (.invokevirtual 32, 3) := dk_182 0 32 (dk_at dksX10_init_1 20 rfl rfl)
theorem dX10_init_47 : decode cX10_init 47 = .ok (.checkcast 36, 3) := dk_192 0 36 (dk_at dksX10_init_2 0 rfl rfl)
theorem dX10_init_50 : decode cX10_init 50 = .ok (.astore 7, 2) := dk_58 7 (dk_at dksX10_init_2 3 rfl rfl)
theorem dX10_init_52 : decode cX10_init 52 = .ok (.aload 7, 2) := dk_25 7 (dk_at dksX10_init_2 5 rfl rfl)
theorem dX10_init_54 : decode cX10_init 54 = .ok (.getfield 38, 3) := dk_180 0 38 (dk_at dksX10_init_2 7 rfl rfl)
theorem dX10_init_57 : decode cX10_init 57 = .ok (.aload_n 0, 1) := dk_42 (dk_at dksX10_init_2 10 rfl rfl)
theorem dX10_init_58 : decode cX10_init 58 = .ok (.getfield 9, 3) := dk_180 0 9 (dk_at dksX10_init_2 11 rfl rfl)
theorem dX10_init_61 : decode cX10_init 61 = .ok (.if_icmp .ne 47, 3) := dk_160 0 47 (dk_at dksX10_init_2 14 rfl rfl)
theorem dX10_init_64 : decode cX10_init 64 = .ok (.aload 7, 2) := dk_25 7 (dk_at dksX10_init_2 17 rfl rfl)
theorem dX10_init_66 : decode cX10_init 66 = .ok (.getfield 41, 3) := dk_180 0 41 (dk_at dksX10_init_2 19 rfl rfl)
theorem dX10_init_69 : decode cX10_init 69 = .ok (.iload_n 2, 1) := dk_28 (dk_at dksX10_init_2 22 rfl rfl)
theorem dX10_init_70 : decode cX10_init 70 = .ok (.if_icmp .ne 38, 3) := dk_160 0 38 (dk_at dksX10_init_3 0 rfl rfl)
theorem dX10_init_73 : decode cX10_init 73 = .ok (.aload 7, 2) := dk_25 7 (dk_at dksX10_init_3 3 rfl rfl)
theorem dX10_init_75 : decode cX10_init 75 = .ok (.getfield 44, 3) := dk_180 0 44 (dk_at dksX10_init_3 5 rfl rfl)
theorem dX10_init_78 : decode cX10_init 78 = .ok (.bipush 100, 2) := dk_16 100 (dk_at dksX10_init_3 8 rfl rfl)
theorem dX10_init_80 : decode cX10_init 80 = .ok (.if_icmp .ne 28, 3) := dk_160 0 28 (dk_at dksX10_init_3 10 rfl rfl)
theorem dX10_init_83 : decode cX10_init 83 = .ok (.aload 7, 2) := dk_25 7 (dk_at dksX10_init_3 13 rfl rfl)
theorem dX10_init_85 : decode cX10_init 85 = .ok (.getfield 48, 3) := dk_180 0 48 (dk_at dksX10_init_3 15 rfl rfl)
theorem dX10_init_88 : decode cX10_init 88 = .ok (.aload_n 1, 1) := dk_43 (dk_at dksX10_init_3 18 rfl rfl)
theorem dX10_init_89 : decode cX10_init 89 = .ok (.getfield 51, 3) := dk_180 0 51 (dk_at dksX10_init_3 19 rfl rfl)
theorem dX10_init_92 : decode cX10_init 92 = .ok (.bipush 7, 2) := dk_16 7 (dk_at dksX10_init_3 22 rfl rfl)
theorem dX10_init_94 : decode cX10_init 94 = .ok (.isub, 1) := dk_100 (dk_at dksX10_init_4 0 rfl rfl)
theorem dX10_init_95 : decode cX10_init 95 = .ok (.if_icmp .lt 13, 3) := dk_161 0 13 (dk_at dksX10_init_4 1 rfl rfl)
theorem dX10_init_98 : decode cX10_init 98 = .ok (.iload 5, 2) := dk_21 5 (dk_at dksX10_init_4 4 rfl rfl)
theorem dX10_init_100 : decode cX10_init 100 = .ok (.aload 7, 2) := dk_25 7 (dk_at dksX10_init_4 6 rfl rfl)
theorem dX10_init_102 : decode cX10_init 102 = .ok (.getfield 52, 3) := dk_180 0 52 (dk_at dksX10_init_4 8 rfl rfl)
theorem dX10_init_105 : decode cX10_init 105 = .ok (.iadd, 1) := dk_96 (dk_at dksX10_init_4 11 rfl rfl)
theorem dX10_init_106 : decode cX10_init 106 = .ok (.istore 5, 2) := dk_54 5 (dk_at dksX10_init_4 12 rfl rfl)
theorem dX10_init_108 : decode cX10_init 108 = .ok (.iinc 6 1, 3) := dk_132 6 1 (dk_at dksX10_init_4 14 rfl rfl)
theorem dX10_init_111 : decode cX10_init 111 = .ok (.goto (-85), 3) := dk_167 255 171 (dk_at dksX10_init_4 17 rfl rfl)
theorem dX10_init_114 : decode cX10_init 114 = .ok (.aload_n 0, 1) := dk_42 (dk_at dksX10_init_4 20 rfl rfl)
theorem dX10_init_115 : decode cX10_init 115 = .ok (.iload 5, 2) := dk_21 5 (dk_at dksX10_init_4 21 rfl rfl)
theorem dX10_init_117 : decode cX10_init 117 = .ok (.putfield 55, 3) := dk_181 0 55 (dk_at dksX10_init_5 0 rfl rfl)
theorem dX10_init_120 : decode cX10_init 120 = .ok (.return_, 1) := dk_177 (dk_at dksX10_init_5 3 rfl rfl)
abbrev cX10_bears : ByteArray := prog_3_method_2_code
def yX10_bears : MethodName := ⟨RX10, "bears", "(I)I"⟩
def dkwX10_bears_1 : List UInt8 := [104, 27, 112, 181, 0, 59, 42, 180, 0, 56, 172]
abbrev dktX10_bears_1 : List UInt8 := dkwX10_bears_1 ++ []
def dkwX10_bears_0 : List UInt8 := [42, 42, 180, 0, 13, 42, 180, 0, 55, 104, 27, 108, 181, 0, 56, 42, 42, 180, 0, 13, 42, 180, 0, 55]
abbrev dktX10_bears_0 : List UInt8 := dkwX10_bears_0 ++ dktX10_bears_1
theorem dksX10_bears_0 : cX10_bears.data.toList.drop 0 = dktX10_bears_0 := by decide +kernel
theorem dksX10_bears_1 : cX10_bears.data.toList.drop 24 = dktX10_bears_1 := dk_seg dksX10_bears_0 24 rfl rfl
theorem dX10_bears_0 : decode cX10_bears 0 = .ok (.aload_n 0, 1) := dk_42 (dk_at dksX10_bears_0 0 rfl rfl)
theorem dX10_bears_1 : decode cX10_bears 1 = .ok (.aload_n 0, 1) := dk_42 (dk_at dksX10_bears_0 1 rfl rfl)
theorem dX10_bears_2 : decode cX10_bears 2 = .ok (.getfield 13, 3) := dk_180 0 13 (dk_at dksX10_bears_0 2 rfl rfl)
theorem dX10_bears_5 : decode cX10_bears 5 = .ok (.aload_n 0, 1) := dk_42 (dk_at dksX10_bears_0 5 rfl rfl)
theorem dX10_bears_6 : decode cX10_bears 6 = .ok (.getfield 55, 3) := dk_180 0 55 (dk_at dksX10_bears_0 6 rfl rfl)
theorem dX10_bears_9 : decode cX10_bears 9 = .ok (.imul, 1) := dk_104 (dk_at dksX10_bears_0 9 rfl rfl)
theorem dX10_bears_10 : decode cX10_bears 10 = .ok (.iload_n 1, 1) := dk_27 (dk_at dksX10_bears_0 10 rfl rfl)
theorem dX10_bears_11 : decode cX10_bears 11 = .ok (.idiv, 1) := dk_108 (dk_at dksX10_bears_0 11 rfl rfl)
theorem dX10_bears_12 : decode cX10_bears 12 = .ok (.putfield 56, 3) := dk_181 0 56 (dk_at dksX10_bears_0 12 rfl rfl)
theorem dX10_bears_15 : decode cX10_bears 15 = .ok (.aload_n 0, 1) := dk_42 (dk_at dksX10_bears_0 15 rfl rfl)
theorem dX10_bears_16 : decode cX10_bears 16 = .ok (.aload_n 0, 1) := dk_42 (dk_at dksX10_bears_0 16 rfl rfl)
theorem dX10_bears_17 : decode cX10_bears 17 = .ok (.getfield 13, 3) := dk_180 0 13 (dk_at dksX10_bears_0 17 rfl rfl)
theorem dX10_bears_20 : decode cX10_bears 20 = .ok (.aload_n 0, 1) := dk_42 (dk_at dksX10_bears_0 20 rfl rfl)
theorem dX10_bears_21 : decode cX10_bears 21 = .ok (.getfield 55, 3) := dk_180 0 55 (dk_at dksX10_bears_0 21 rfl rfl)
theorem dX10_bears_24 : decode cX10_bears 24 = .ok (.imul, 1) := dk_104 (dk_at dksX10_bears_1 0 rfl rfl)
theorem dX10_bears_25 : decode cX10_bears 25 = .ok (.iload_n 1, 1) := dk_27 (dk_at dksX10_bears_1 1 rfl rfl)
theorem dX10_bears_26 : decode cX10_bears 26 = .ok (.irem, 1) := dk_112 (dk_at dksX10_bears_1 2 rfl rfl)
theorem dX10_bears_27 : decode cX10_bears 27 = .ok (.putfield 59, 3) := dk_181 0 59 (dk_at dksX10_bears_1 3 rfl rfl)
theorem dX10_bears_30 : decode cX10_bears 30 = .ok (.aload_n 0, 1) := dk_42 (dk_at dksX10_bears_1 6 rfl rfl)
theorem dX10_bears_31 : decode cX10_bears 31 = .ok (.getfield 56, 3) := dk_180 0 56 (dk_at dksX10_bears_1 7 rfl rfl)
theorem dX10_bears_34 : decode cX10_bears 34 = .ok (.ireturn, 1) := dk_172 (dk_at dksX10_bears_1 10 rfl rfl)
theorem q91 : (Jvm.Cond.initialized "Lendlathe$1Part") ∈ lw_all := lw_g (lw_at lw_m1 36 rfl) rfl
theorem q612 : (Jvm.Cond.fieldLinkNest "Lendlathe$1Part" (22 : Nat) "Lendlathe" "entries" "Ljava/util/ArrayList;" "Lendlathe") ∈ lw_tbl := lw_at lw_m3 77 rfl
theorem q621 : (Jvm.Cond.fieldLinkNest "Lendlathe$1Part" (51 : Nat) "Lendlathe" "day" "I" "Lendlathe") ∈ lw_tbl := lw_at lw_m3 86 rfl
theorem q829 : (Jvm.Cond.selects "Lendlathe$1Part" ({ cls := "java/lang/Object", name := "getClass", desc := "()Ljava/lang/Class;" } : Jvm.MethodName) ({ cls := "java/lang/Object", name := "getClass", desc := "()Ljava/lang/Class;" } : Jvm.MethodName)) ∈ lw_all := lw_g (lw_at lw_m4 54 rfl) rfl
theorem q1037 : (Jvm.Cond.fieldLinkNest "Lendlathe$1Part" (44 : Nat) "Lendlathe$Entry" "state" "C" "Lendlathe") ∈ lw_tbl := lw_at lw_m5 22 rfl
theorem q1049 : (Jvm.Cond.fieldLink "Lendlathe$1Part" (41 : Nat) "Lendlathe$Entry" "member" "I") ∈ lw_all := lw_g (lw_at lw_m5 34 rfl) rfl
theorem q1054 : (Jvm.Cond.fieldLink "Lendlathe$1Part" (38 : Nat) "Lendlathe$Entry" "machine" "I") ∈ lw_all := lw_g (lw_at lw_m5 39 rfl) rfl
theorem q1060 : (Jvm.Cond.fieldLink "Lendlathe$1Part" (48 : Nat) "Lendlathe$Entry" "day" "I") ∈ lw_all := lw_g (lw_at lw_m5 45 rfl) rfl
theorem q1071 : (Jvm.Cond.fieldLink "Lendlathe$1Part" (52 : Nat) "Lendlathe$Entry" "minutes" "I") ∈ lw_all := lw_g (lw_at lw_m5 56 rfl) rfl
theorem q1358 : (Jvm.Cond.instantiable "Lendlathe$1Part" (6 : Nat)) ∈ lw_all := lw_g (lw_at lw_m6 103 rfl) rfl
theorem q1360 : (Jvm.Cond.instanceMethod ({ cls := "Lendlathe$1Part", name := "<init>", desc := "(LLendlathe;III)V" } : Jvm.MethodName)) ∈ lw_all := lw_g (lw_at lw_m6 105 rfl) rfl
theorem q1361 : (Jvm.Cond.code ({ cls := "Lendlathe$1Part", name := "<init>", desc := "(LLendlathe;III)V" } : Jvm.MethodName) prog_3_method_1_code (8 : Nat) (Option.none : Option Jvm.ClassFile.FieldType)) ∈ lw_all := lw_g (lw_at lw_m6 106 rfl) rfl
theorem q1362 : (Jvm.Cond.methodLink "Lendlathe$1Part" (16 : Nat) ({ cls := "java/lang/Object", name := "<init>", desc := "()V" } : Jvm.MethodName)) ∈ lw_all := lw_g (lw_at lw_m6 107 rfl) rfl
theorem q1363 : (Jvm.Cond.methodLink "Lendlathe$1Part" (26 : Nat) ({ cls := "java/util/ArrayList", name := "size", desc := "()I" } : Jvm.MethodName)) ∈ lw_all := lw_g (lw_at lw_m6 108 rfl) rfl
theorem q1364 : (Jvm.Cond.methodLink "Lendlathe$1Part" (32 : Nat) ({ cls := "java/util/ArrayList", name := "get", desc := "(I)Ljava/lang/Object;" } : Jvm.MethodName)) ∈ lw_all := lw_g (lw_at lw_m6 109 rfl) rfl
theorem q1365 : (Jvm.Cond.classLink "Lendlathe$1Part" (36 : Nat) "Lendlathe$Entry") ∈ lw_all := lw_g (lw_at lw_m6 110 rfl) rfl
theorem q1366 : (Jvm.Cond.fieldLink "Lendlathe$1Part" (55 : Nat) "Lendlathe$1Part" "minutes" "I") ∈ lw_all := lw_g (lw_at lw_m6 111 rfl) rfl
theorem q1368 : (Jvm.Cond.fieldLink "Lendlathe$1Part" (56 : Nat) "Lendlathe$1Part" "share" "I") ∈ lw_all := lw_g (lw_at lw_m6 113 rfl) rfl
theorem q1370 : (Jvm.Cond.fieldLink "Lendlathe$1Part" (59 : Nat) "Lendlathe$1Part" "rest" "I") ∈ lw_all := lw_g (lw_at lw_m6 115 rfl) rfl
theorem q1372 : (Jvm.Cond.fieldLink "Lendlathe$1Part" (9 : Nat) "Lendlathe$1Part" "val$machine" "I") ∈ lw_all := lw_g (lw_at lw_m6 117 rfl) rfl
theorem q1373 : (Jvm.Cond.fieldLink "Lendlathe$1Part" (13 : Nat) "Lendlathe$1Part" "val$cost" "I") ∈ lw_all := lw_g (lw_at lw_m6 118 rfl) rfl
theorem q1374 : (Jvm.Cond.fieldLink "Lendlathe$1Part" (3 : Nat) "Lendlathe$1Part" "this$0" "LLendlathe;") ∈ lw_all := lw_g (lw_at lw_m6 119 rfl) rfl
theorem q1375 : (Jvm.Cond.laysFinal "Lendlathe$1Part" "Lendlathe$1Part" "minutes" "I") ∈ lw_all := lw_g (lw_at lw_m6 120 rfl) rfl
theorem q1376 : (Jvm.Cond.soleField "Lendlathe$1Part" "minutes") ∈ lw_all := lw_g (lw_at lw_m6 121 rfl) rfl
theorem q1377 : (Jvm.Cond.lays "Lendlathe$1Part" "Lendlathe$1Part" "share" "I") ∈ lw_all := lw_g (lw_at lw_m6 122 rfl) rfl
theorem q1378 : (Jvm.Cond.soleField "Lendlathe$1Part" "share") ∈ lw_all := lw_g (lw_at lw_m6 123 rfl) rfl
theorem q1379 : (Jvm.Cond.lays "Lendlathe$1Part" "Lendlathe$1Part" "rest" "I") ∈ lw_all := lw_g (lw_at lw_m6 124 rfl) rfl
theorem q1380 : (Jvm.Cond.soleField "Lendlathe$1Part" "rest") ∈ lw_all := lw_g (lw_at lw_m6 125 rfl) rfl
theorem q1381 : (Jvm.Cond.laysFinal "Lendlathe$1Part" "Lendlathe$1Part" "val$machine" "I") ∈ lw_all := lw_g (lw_at lw_m6 126 rfl) rfl
theorem q1382 : (Jvm.Cond.soleField "Lendlathe$1Part" "val$machine") ∈ lw_all := lw_g (lw_at lw_m6 127 rfl) rfl
theorem q1383 : (Jvm.Cond.laysFinal "Lendlathe$1Part" "Lendlathe$1Part" "val$cost" "I") ∈ lw_all := lw_g (lw_at lw_m6 128 rfl) rfl
theorem q1384 : (Jvm.Cond.soleField "Lendlathe$1Part" "val$cost") ∈ lw_all := lw_g (lw_at lw_m6 129 rfl) rfl
theorem q1385 : (Jvm.Cond.laysFinal "Lendlathe$1Part" "Lendlathe$1Part" "this$0" "LLendlathe;") ∈ lw_all := lw_g (lw_at lw_m6 130 rfl) rfl
theorem q1386 : (Jvm.Cond.soleField "Lendlathe$1Part" "this$0") ∈ lw_all := lw_g (lw_at lw_m6 131 rfl) rfl
theorem q1387 : (Jvm.Cond.superclass "Lendlathe$1Part" "java/lang/Object") ∈ lw_all := lw_g (lw_at lw_m6 132 rfl) rfl
theorem q1389 : (Jvm.Cond.instanceMethod ({ cls := "Lendlathe$1Part", name := "bears", desc := "(I)I" } : Jvm.MethodName)) ∈ lw_all := lw_g (lw_at lw_m6 134 rfl) rfl
theorem q1390 : (Jvm.Cond.selects "Lendlathe$1Part" ({ cls := "Lendlathe$1Part", name := "bears", desc := "(I)I" } : Jvm.MethodName) ({ cls := "Lendlathe$1Part", name := "bears", desc := "(I)I" } : Jvm.MethodName)) ∈ lw_all := lw_g (lw_at lw_m6 135 rfl) rfl
theorem q1391 : (Jvm.Cond.code ({ cls := "Lendlathe$1Part", name := "bears", desc := "(I)I" } : Jvm.MethodName) prog_3_method_2_code (2 : Nat) (Option.some Jvm.ClassFile.FieldType.int)) ∈ lw_all := lw_g (lw_at lw_m6 136 rfl) rfl
theorem q1851 : (Jvm.Cond.castable "Lendlathe$1Part" "java/lang/Object") ∈ lw_tbl := lw_at lw_m8 116 rfl
theorem in_X10 : ∀ w ∈ wsX100, w ∈ lw_all := lw_in wsX100 [1375, 1377, 1379, 1381, 1383, 1385] (by decide +kernel) (by decide +kernel)

/-! Lendlathe$Costing -/
set_option maxRecDepth 100000
def RX11 : String := "Lendlathe$Costing"
abbrev cX11_extra : ByteArray := prog_6_method_1_code
def yX11_extra : MethodName := ⟨RX11, "extra", "()I"⟩
theorem dX11_extra_0 : decode cX11_extra 0 = .ok (.iconst 0, 1) := by decide +kernel
theorem dX11_extra_1 : decode cX11_extra 1 = .ok (.ireturn, 1) := by decide +kernel
theorem q1165 : (Jvm.Cond.declares ({ cls := "Lendlathe$Costing", name := "extra", desc := "()I" } : Jvm.MethodName)) ∈ lw_tbl := lw_at lw_m5 150 rfl
theorem q1166 : (Jvm.Cond.instanceMethod ({ cls := "Lendlathe$Costing", name := "extra", desc := "()I" } : Jvm.MethodName)) ∈ lw_all := lw_g (lw_at lw_m5 151 rfl) rfl
theorem q1167 : (Jvm.Cond.code ({ cls := "Lendlathe$Costing", name := "extra", desc := "()I" } : Jvm.MethodName) prog_6_method_1_code (1 : Nat) (Option.some Jvm.ClassFile.FieldType.int)) ∈ lw_all := lw_g (lw_at lw_m5 152 rfl) rfl
theorem q1846 : (Jvm.Cond.initialized "Lendlathe$Costing") ∈ lw_all := lw_g (lw_at lw_m8 111 rfl) rfl

theorem q684 : (Jvm.Cond.interfaceMethod "Lendlathe$Check" "Lendlathe$Check" "fails" "(IIIIIC)Z") ∈ lw_tbl := lw_at lw_m3 149 rfl
set_option maxRecDepth 100000
theorem q685 : (Jvm.Cond.declares ({ cls := "Lendlathe$Check", name := "fails", desc := "(IIIIIC)Z" } : Jvm.MethodName)) ∈ lw_tbl := lw_at lw_m3 150 rfl
theorem q1850 : (Jvm.Cond.castable "Lendlathe$Check" "java/lang/Object") ∈ lw_tbl := lw_at lw_m8 115 rfl

theorem q1134 : (Jvm.Cond.interfaceMethod "Lendlathe$Tariff" "Lendlathe$Tariff" "of" "(I)I") ∈ lw_tbl := lw_at lw_m5 119 rfl
set_option maxRecDepth 100000
theorem q1135 : (Jvm.Cond.declares ({ cls := "Lendlathe$Tariff", name := "of", desc := "(I)I" } : Jvm.MethodName)) ∈ lw_tbl := lw_at lw_m5 120 rfl
theorem q1848 : (Jvm.Cond.castable "Lendlathe$Tariff" "java/lang/Object") ∈ lw_tbl := lw_at lw_m8 113 rfl

theorem q241 : (Jvm.Cond.sameMethod "[B" "java/lang/Object" "clone" "()Ljava/lang/Object;") ∈ lw_all := lw_g (lw_at lw_m1 186 rfl) rfl
set_option maxRecDepth 100000
theorem q244 : (Jvm.Cond.selects "[B" ({ cls := "[B", name := "clone", desc := "()Ljava/lang/Object;" } : Jvm.MethodName) ({ cls := "java/lang/Object", name := "clone", desc := "()Ljava/lang/Object;" } : Jvm.MethodName)) ∈ lw_all := lw_g (lw_at lw_m1 189 rfl) rfl
theorem q245 : (Jvm.Cond.castable "[B" "java/lang/Cloneable") ∈ lw_tbl := lw_at lw_m1 190 rfl
theorem q1876 : (Jvm.Cond.castable "[B" "java/lang/Object") ∈ lw_tbl := lw_at lw_m8 141 rfl

theorem q1885 : (Jvm.Cond.castable "[C" "java/lang/Object") ∈ lw_tbl := lw_at lw_m8 150 rfl
set_option maxRecDepth 100000

theorem q1886 : (Jvm.Cond.castable "[D" "java/lang/Object") ∈ lw_tbl := lw_at lw_m8 151 rfl
set_option maxRecDepth 100000

theorem q1874 : (Jvm.Cond.castable "[I" "java/lang/Object") ∈ lw_tbl := lw_at lw_m8 139 rfl
set_option maxRecDepth 100000

theorem q1884 : (Jvm.Cond.castable "[J" "java/lang/Object") ∈ lw_tbl := lw_at lw_m8 149 rfl
set_option maxRecDepth 100000

theorem q1882 : (Jvm.Cond.castable "[LLendlathe$1Part;" "java/lang/Object") ∈ lw_tbl := lw_at lw_m8 147 rfl
set_option maxRecDepth 100000

theorem q1880 : (Jvm.Cond.castable "[LLendlathe$Check;" "java/lang/Object") ∈ lw_tbl := lw_at lw_m8 145 rfl
set_option maxRecDepth 100000

theorem q1878 : (Jvm.Cond.castable "[LLendlathe$Entry;" "java/lang/Object") ∈ lw_tbl := lw_at lw_m8 143 rfl
set_option maxRecDepth 100000

theorem q1873 : (Jvm.Cond.castable "[LLendlathe$Tariff;" "java/lang/Object") ∈ lw_tbl := lw_at lw_m8 138 rfl
set_option maxRecDepth 100000

theorem q1870 : (Jvm.Cond.sameMethod "[Ljava/lang/Object;" "java/lang/Object" "getClass" "()Ljava/lang/Class;") ∈ lw_all := lw_g (lw_at lw_m8 135 rfl) rfl
set_option maxRecDepth 100000
theorem q1871 : (Jvm.Cond.selects "[Ljava/lang/Object;" ({ cls := "java/lang/Object", name := "getClass", desc := "()Ljava/lang/Class;" } : Jvm.MethodName) ({ cls := "java/lang/Object", name := "getClass", desc := "()Ljava/lang/Class;" } : Jvm.MethodName)) ∈ lw_all := lw_g (lw_at lw_m8 136 rfl) rfl
theorem q1875 : (Jvm.Cond.castable "[Ljava/lang/Object;" "java/lang/Object") ∈ lw_tbl := lw_at lw_m8 140 rfl

theorem q1879 : (Jvm.Cond.castable "[Z" "java/lang/Object") ∈ lw_tbl := lw_at lw_m8 144 rfl
set_option maxRecDepth 100000

theorem q1883 : (Jvm.Cond.castable "[[C" "java/lang/Object") ∈ lw_tbl := lw_at lw_m8 148 rfl
set_option maxRecDepth 100000

theorem q1881 : (Jvm.Cond.castable "[[I" "java/lang/Object") ∈ lw_tbl := lw_at lw_m8 146 rfl
set_option maxRecDepth 100000

theorem q1877 : (Jvm.Cond.castable "[[Z" "java/lang/Object") ∈ lw_tbl := lw_at lw_m8 142 rfl
set_option maxRecDepth 100000

theorem q75 : (Jvm.Cond.initialized "java/lang/Number") ∈ lw_all := lw_g (lw_at lw_m1 20 rfl) rfl
set_option maxRecDepth 100000

theorem q72 : (Jvm.Cond.initialized "java/lang/System") ∈ lw_all := lw_g (lw_at lw_m1 17 rfl) rfl
set_option maxRecDepth 100000
theorem q251 : (Jvm.Cond.static ({ cls := "java/lang/System", name := "arraycopy", desc := "(Ljava/lang/Object;ILjava/lang/Object;II)V" } : Jvm.MethodName)) ∈ lw_all := lw_g (lw_at lw_m1 196 rfl) rfl
theorem q252 : (Jvm.Cond.native ({ cls := "java/lang/System", name := "arraycopy", desc := "(Ljava/lang/Object;ILjava/lang/Object;II)V" } : Jvm.MethodName)) ∈ lw_all := lw_g (lw_at lw_m1 197 rfl) rfl

theorem q549 : (Jvm.Cond.interfaceMethod "java/util/Iterator" "java/util/Iterator" "hasNext" "()Z") ∈ lw_tbl := lw_at lw_m3 14 rfl
set_option maxRecDepth 100000
theorem q550 : (Jvm.Cond.declares ({ cls := "java/util/Iterator", name := "hasNext", desc := "()Z" } : Jvm.MethodName)) ∈ lw_tbl := lw_at lw_m3 15 rfl
theorem q559 : (Jvm.Cond.interfaceMethod "java/util/Iterator" "java/util/Iterator" "next" "()Ljava/lang/Object;") ∈ lw_tbl := lw_at lw_m3 24 rfl
theorem q560 : (Jvm.Cond.declares ({ cls := "java/util/Iterator", name := "next", desc := "()Ljava/lang/Object;" } : Jvm.MethodName)) ∈ lw_tbl := lw_at lw_m3 25 rfl

theorem q101 : (Jvm.Cond.arrayOver (Jvm.ClassFile.FieldType.object "Lendlathe$Tariff")) ∈ lw_tbl := lw_at lw_m1 46 rfl
set_option maxRecDepth 100000
theorem q112 : (Jvm.Cond.arrayClass Jvm.ClassFile.FieldType.int) ∈ lw_all := lw_g (lw_at lw_m1 57 rfl) rfl
theorem q126 : (Jvm.Cond.arrayOver (Jvm.ClassFile.FieldType.object "java/lang/Object")) ∈ lw_tbl := lw_at lw_m1 71 rfl
theorem q205 : (Jvm.Cond.arrayClass Jvm.ClassFile.FieldType.byte) ∈ lw_all := lw_g (lw_at lw_m1 150 rfl) rfl
theorem q458 : (Jvm.Cond.arrayOver (Jvm.ClassFile.FieldType.array Jvm.ClassFile.FieldType.boolean)) ∈ lw_tbl := lw_at lw_m2 163 rfl
theorem q466 : (Jvm.Cond.arrayOver (Jvm.ClassFile.FieldType.object "Lendlathe$Entry")) ∈ lw_tbl := lw_at lw_m2 171 rfl
theorem q480 : (Jvm.Cond.arrayClass Jvm.ClassFile.FieldType.boolean) ∈ lw_all := lw_g (lw_at lw_m2 185 rfl) rfl
theorem q482 : (Jvm.Cond.arrayOver (Jvm.ClassFile.FieldType.object "Lendlathe$Check")) ∈ lw_tbl := lw_at lw_m2 187 rfl
theorem q604 : (Jvm.Cond.arrayOver (Jvm.ClassFile.FieldType.array Jvm.ClassFile.FieldType.int)) ∈ lw_tbl := lw_at lw_m3 69 rfl
theorem q1357 : (Jvm.Cond.arrayOver (Jvm.ClassFile.FieldType.object "Lendlathe$1Part")) ∈ lw_tbl := lw_at lw_m6 102 rfl
theorem q1453 : (Jvm.Cond.arrayOver (Jvm.ClassFile.FieldType.array Jvm.ClassFile.FieldType.char)) ∈ lw_tbl := lw_at lw_m6 198 rfl
theorem q1545 : (Jvm.Cond.arrayClass Jvm.ClassFile.FieldType.long) ∈ lw_all := lw_g (lw_at lw_m7 50 rfl) rfl
theorem q1546 : (Jvm.Cond.arrayClass Jvm.ClassFile.FieldType.char) ∈ lw_all := lw_g (lw_at lw_m7 51 rfl) rfl
theorem q1835 : (Jvm.Cond.arrayClass Jvm.ClassFile.FieldType.double) ∈ lw_all := lw_g (lw_at lw_m8 100 rfl) rfl

