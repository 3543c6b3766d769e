/-! PaperMillLaw -/
set_option maxRecDepth 100000
def RX0 : String := "PaperMillLaw"
abbrev cX0_deliver : ByteArray := method_3_code
def yX0_deliver : MethodName := ⟨RX0, "deliver", "(LPaperMill;IIII[J)I"⟩
def dkwX0_deliver_1 : List UInt8 := [172, 58, 6, 6, 172, 3, 172]
abbrev dktX0_deliver_1 : List UInt8 := dkwX0_deliver_1 ++ []
def dkwX0_deliver_0 : List UInt8 := [25, 5, 3, 42, 27, 28, 29, 21, 4, 182, 0, 7, 133, 80, 167, 0, 15, 58, 6, 4, 172, 58, 6, 5]
abbrev dktX0_deliver_0 : List UInt8 := dkwX0_deliver_0 ++ dktX0_deliver_1
theorem dksX0_deliver_0 : cX0_deliver.data.toList.drop 0 = dktX0_deliver_0 := by decide +kernel
theorem dksX0_deliver_1 : cX0_deliver.data.toList.drop 24 = dktX0_deliver_1 := dk_seg dksX0_deliver_0 24 rfl rfl
theorem dX0_deliver_0 : decode cX0_deliver 0 = .ok (.aload 5, 2) := dk_25 5 (dk_at dksX0_deliver_0 0 rfl rfl)
theorem dX0_deliver_2 : decode cX0_deliver 2 = .ok (.iconst 0, 1) := dk_3 (dk_at dksX0_deliver_0 2 rfl rfl)
theorem dX0_deliver_3 : decode cX0_deliver 3 = .ok (.aload_n 0, 1) := dk_42 (dk_at dksX0_deliver_0 3 rfl rfl)
theorem dX0_deliver_4 : decode cX0_deliver 4 = .ok (.iload_n 1, 1) := dk_27 (dk_at dksX0_deliver_0 4 rfl rfl)
theorem dX0_deliver_5 : decode cX0_deliver 5 = .ok (.iload_n 2, 1) := dk_28 (dk_at dksX0_deliver_0 5 rfl rfl)
theorem dX0_deliver_6 : decode cX0_deliver 6 = .ok (.iload_n 3, 1) := dk_29 (dk_at dksX0_deliver_0 6 rfl rfl)
theorem dX0_deliver_7 : decode cX0_deliver 7 = .ok (.iload 4, 2) := dk_21 4 (dk_at dksX0_deliver_0 7 rfl rfl)
theorem dX0_deliver_9 : decode cX0_deliver 9 = .ok (.invokevirtual 7, 3) := dk_182 0 7 (dk_at dksX0_deliver_0 9 rfl rfl)
theorem dX0_deliver_12 : decode cX0_deliver 12 = .ok (.i2l, 1) := dk_133 (dk_at dksX0_deliver_0 12 rfl rfl)
theorem dX0_deliver_13 : decode cX0_deliver 13 = .ok (.lastore, 1) := dk_80 (dk_at dksX0_deliver_0 13 rfl rfl)
theorem dX0_deliver_14 : decode cX0_deliver 14 = .ok (.goto 15, 3) := dk_167 0 15 (dk_at dksX0_deliver_0 14 rfl rfl)
theorem dX0_deliver_17 : decode cX0_deliver 17 = .ok (.astore 6, 2) := dk_58 6 (dk_at dksX0_deliver_0 17 rfl rfl)
theorem dX0_deliver_19 : decode cX0_deliver 19 = .ok (.iconst 1, 1) := dk_4 (dk_at dksX0_deliver_0 19 rfl rfl)
theorem dX0_deliver_20 : decode cX0_deliver 20 = .ok (.ireturn, 1) := dk_172 (dk_at dksX0_deliver_0 20 rfl rfl)
theorem dX0_deliver_21 : decode cX0_deliver 21 = .ok (.astore 6, 2) := dk_58 6 (dk_at dksX0_deliver_0 21 rfl rfl)
theorem dX0_deliver_23 : decode cX0_deliver 23 = .ok (.iconst 2, 1) := dk_5 (dk_at dksX0_deliver_0 23 rfl rfl)
theorem dX0_deliver_24 : decode cX0_deliver 24 = .ok (.ireturn, 1) := dk_172 (dk_at dksX0_deliver_1 0 rfl rfl)
theorem dX0_deliver_25 : decode cX0_deliver 25 = .ok (.astore 6, 2) := dk_58 6 (dk_at dksX0_deliver_1 1 rfl rfl)
theorem dX0_deliver_27 : decode cX0_deliver 27 = .ok (.iconst 3, 1) := dk_6 (dk_at dksX0_deliver_1 3 rfl rfl)
theorem dX0_deliver_28 : decode cX0_deliver 28 = .ok (.ireturn, 1) := dk_172 (dk_at dksX0_deliver_1 4 rfl rfl)
theorem dX0_deliver_29 : decode cX0_deliver 29 = .ok (.iconst 0, 1) := dk_3 (dk_at dksX0_deliver_1 5 rfl rfl)
theorem dX0_deliver_30 : decode cX0_deliver 30 = .ok (.ireturn, 1) := dk_172 (dk_at dksX0_deliver_1 6 rfl rfl)
abbrev cX0_payToll : ByteArray := method_4_code
def yX0_payToll : MethodName := ⟨RX0, "payToll", "(LPaperMill;II[J)I"⟩
def dkwX0_payToll_1 : List UInt8 := [172, 3, 172]
abbrev dktX0_payToll_1 : List UInt8 := dkwX0_payToll_1 ++ []
def dkwX0_payToll_0 : List UInt8 := [45, 3, 42, 27, 28, 182, 0, 19, 133, 80, 167, 0, 15, 58, 4, 4, 172, 58, 4, 5, 172, 58, 4, 6]
abbrev dktX0_payToll_0 : List UInt8 := dkwX0_payToll_0 ++ dktX0_payToll_1
theorem dksX0_payToll_0 : cX0_payToll.data.toList.drop 0 = dktX0_payToll_0 := by decide +kernel
theorem dksX0_payToll_1 : cX0_payToll.data.toList.drop 24 = dktX0_payToll_1 := dk_seg dksX0_payToll_0 24 rfl rfl
theorem dX0_payToll_0 : decode cX0_payToll 0 = .ok (.aload_n 3, 1) := dk_45 (dk_at dksX0_payToll_0 0 rfl rfl)
theorem dX0_payToll_1 : decode cX0_payToll 1 = .ok (.iconst 0, 1) := dk_3 (dk_at dksX0_payToll_0 1 rfl rfl)
theorem dX0_payToll_2 : decode cX0_payToll 2 = .ok (.aload_n 0, 1) := dk_42 (dk_at dksX0_payToll_0 2 rfl rfl)
theorem dX0_payToll_3 : decode cX0_payToll 3 = .ok (.iload_n 1, 1) := dk_27 (dk_at dksX0_payToll_0 3 rfl rfl)
theorem dX0_payToll_4 : decode cX0_payToll 4 = .ok (.iload_n 2, 1) := dk_28 (dk_at dksX0_payToll_0 4 rfl rfl)
theorem dX0_payToll_5 : decode cX0_payToll 5 = .ok (.invokevirtual 19, 3) := dk_182 0 19 (dk_at dksX0_payToll_0 5 rfl rfl)
theorem dX0_payToll_8 : decode cX0_payToll 8 = .ok (.i2l, 1) := dk_133 (dk_at dksX0_payToll_0 8 rfl rfl)
theorem dX0_payToll_9 : decode cX0_payToll 9 = .ok (.lastore, 1) := dk_80 (dk_at dksX0_payToll_0 9 rfl rfl)
theorem dX0_payToll_10 : decode cX0_payToll 10 = .ok (.goto 15, 3) := dk_167 0 15 (dk_at dksX0_payToll_0 10 rfl rfl)
theorem dX0_payToll_13 : decode cX0_payToll 13 = .ok (.astore 4, 2) := dk_58 4 (dk_at dksX0_payToll_0 13 rfl rfl)
theorem dX0_payToll_15 : decode cX0_payToll 15 = .ok (.iconst 1, 1) := dk_4 (dk_at dksX0_payToll_0 15 rfl rfl)
theorem dX0_payToll_16 : decode cX0_payToll 16 = .ok (.ireturn, 1) := dk_172 (dk_at dksX0_payToll_0 16 rfl rfl)
theorem dX0_payToll_17 : decode cX0_payToll 17 = .ok (.astore 4, 2) := dk_58 4 (dk_at dksX0_payToll_0 17 rfl rfl)
theorem dX0_payToll_19 : decode cX0_payToll 19 = .ok (.iconst 2, 1) := dk_5 (dk_at dksX0_payToll_0 19 rfl rfl)
theorem dX0_payToll_20 : decode cX0_payToll 20 = .ok (.ireturn, 1) := dk_172 (dk_at dksX0_payToll_0 20 rfl rfl)
theorem dX0_payToll_21 : decode cX0_payToll 21 = .ok (.astore 4, 2) := dk_58 4 (dk_at dksX0_payToll_0 21 rfl rfl)
theorem dX0_payToll_23 : decode cX0_payToll 23 = .ok (.iconst 3, 1) := dk_6 (dk_at dksX0_payToll_0 23 rfl rfl)
theorem dX0_payToll_24 : decode cX0_payToll 24 = .ok (.ireturn, 1) := dk_172 (dk_at dksX0_payToll_1 0 rfl rfl)
theorem dX0_payToll_25 : decode cX0_payToll 25 = .ok (.iconst 0, 1) := dk_3 (dk_at dksX0_payToll_1 1 rfl rfl)
theorem dX0_payToll_26 : decode cX0_payToll 26 = .ok (.ireturn, 1) := dk_172 (dk_at dksX0_payToll_1 2 rfl rfl)
abbrev cX0_givePass : ByteArray := method_5_code
def yX0_givePass : MethodName := ⟨RX0, "givePass", "(LPaperMill;II[J)I"⟩
def dkwX0_givePass_1 : List UInt8 := [172, 3, 172]
abbrev dktX0_givePass_1 : List UInt8 := dkwX0_givePass_1 ++ []
def dkwX0_givePass_0 : List UInt8 := [45, 3, 42, 27, 28, 182, 0, 23, 133, 80, 167, 0, 15, 58, 4, 4, 172, 58, 4, 5, 172, 58, 4, 6]
abbrev dktX0_givePass_0 : List UInt8 := dkwX0_givePass_0 ++ dktX0_givePass_1
theorem dksX0_givePass_0 : cX0_givePass.data.toList.drop 0 = dktX0_givePass_0 := by decide +kernel
theorem dksX0_givePass_1 : cX0_givePass.data.toList.drop 24 = dktX0_givePass_1 := dk_seg dksX0_givePass_0 24 rfl rfl
theorem dX0_givePass_0 : decode cX0_givePass 0 = .ok (.aload_n 3, 1) := dk_45 (dk_at dksX0_givePass_0 0 rfl rfl)
theorem dX0_givePass_1 : decode cX0_givePass 1 = .ok (.iconst 0, 1) := dk_3 (dk_at dksX0_givePass_0 1 rfl rfl)
theorem dX0_givePass_2 : decode cX0_givePass 2 = .ok (.aload_n 0, 1) := dk_42 (dk_at dksX0_givePass_0 2 rfl rfl)
theorem dX0_givePass_3 : decode cX0_givePass 3 = .ok (.iload_n 1, 1) := dk_27 (dk_at dksX0_givePass_0 3 rfl rfl)
theorem dX0_givePass_4 : decode cX0_givePass 4 = .ok (.iload_n 2, 1) := dk_28 (dk_at dksX0_givePass_0 4 rfl rfl)
theorem dX0_givePass_5 : decode cX0_givePass 5 = .ok (.invokevirtual 23, 3) := dk_182 0 23 (dk_at dksX0_givePass_0 5 rfl rfl)
theorem dX0_givePass_8 : decode cX0_givePass 8 = .ok (.i2l, 1) := dk_133 (dk_at dksX0_givePass_0 8 rfl rfl)
theorem dX0_givePass_9 : decode cX0_givePass 9 = .ok (.lastore, 1) := dk_80 (dk_at dksX0_givePass_0 9 rfl rfl)
theorem dX0_givePass_10 : decode cX0_givePass 10 = .ok (.goto 15, 3) := dk_167 0 15 (dk_at dksX0_givePass_0 10 rfl rfl)
theorem dX0_givePass_13 : decode cX0_givePass 13 = .ok (.astore 4, 2) := dk_58 4 (dk_at dksX0_givePass_0 13 rfl rfl)
theorem dX0_givePass_15 : decode cX0_givePass 15 = .ok (.iconst 1, 1) := dk_4 (dk_at dksX0_givePass_0 15 rfl rfl)
theorem dX0_givePass_16 : decode cX0_givePass 16 = .ok (.ireturn, 1) := dk_172 (dk_at dksX0_givePass_0 16 rfl rfl)
theorem dX0_givePass_17 : decode cX0_givePass 17 = .ok (.astore 4, 2) := dk_58 4 (dk_at dksX0_givePass_0 17 rfl rfl)
theorem dX0_givePass_19 : decode cX0_givePass 19 = .ok (.iconst 2, 1) := dk_5 (dk_at dksX0_givePass_0 19 rfl rfl)
theorem dX0_givePass_20 : decode cX0_givePass 20 = .ok (.ireturn, 1) := dk_172 (dk_at dksX0_givePass_0 20 rfl rfl)
theorem dX0_givePass_21 : decode cX0_givePass 21 = .ok (.astore 4, 2) := dk_58 4 (dk_at dksX0_givePass_0 21 rfl rfl)
theorem dX0_givePass_23 : decode cX0_givePass 23 = .ok (.iconst 3, 1) := dk_6 (dk_at dksX0_givePass_0 23 rfl rfl)
theorem dX0_givePass_24 : decode cX0_givePass 24 = .ok (.ireturn, 1) := dk_172 (dk_at dksX0_givePass_1 0 rfl rfl)
theorem dX0_givePass_25 : decode cX0_givePass 25 = .ok (.iconst 0, 1) := dk_3 (dk_at dksX0_givePass_1 1 rfl rfl)
theorem dX0_givePass_26 : decode cX0_givePass 26 = .ok (.ireturn, 1) := dk_172 (dk_at dksX0_givePass_1 2 rfl rfl)
abbrev cX0_setLimit : ByteArray := method_6_code
def yX0_setLimit : MethodName := ⟨RX0, "setLimit", "(LPaperMill;I[J)I"⟩
def dkwX0_setLimit_0 : List UInt8 := [44, 3, 42, 27, 182, 0, 26, 133, 80, 167, 0, 6, 78, 4, 172, 3, 172]
abbrev dktX0_setLimit_0 : List UInt8 := dkwX0_setLimit_0 ++ []
theorem dksX0_setLimit_0 : cX0_setLimit.data.toList.drop 0 = dktX0_setLimit_0 := by decide +kernel
theorem dX0_setLimit_0 : decode cX0_setLimit 0 = .ok (.aload_n 2, 1) := dk_44 (dk_at dksX0_setLimit_0 0 rfl rfl)
theorem dX0_setLimit_1 : decode cX0_setLimit 1 = .ok (.iconst 0, 1) := dk_3 (dk_at dksX0_setLimit_0 1 rfl rfl)
theorem dX0_setLimit_2 : decode cX0_setLimit 2 = .ok (.aload_n 0, 1) := dk_42 (dk_at dksX0_setLimit_0 2 rfl rfl)
theorem dX0_setLimit_3 : decode cX0_setLimit 3 = .ok (.iload_n 1, 1) := dk_27 (dk_at dksX0_setLimit_0 3 rfl rfl)
theorem dX0_setLimit_4 : decode cX0_setLimit 4 = .ok (.invokevirtual 26, 3) := dk_182 0 26 (dk_at dksX0_setLimit_0 4 rfl rfl)
theorem dX0_setLimit_7 : decode cX0_setLimit 7 = .ok (.i2l, 1) := dk_133 (dk_at dksX0_setLimit_0 7 rfl rfl)
theorem dX0_setLimit_8 : decode cX0_setLimit 8 = .ok (.lastore, 1) := dk_80 (dk_at dksX0_setLimit_0 8 rfl rfl)
theorem dX0_setLimit_9 : decode cX0_setLimit 9 = .ok (.goto 6, 3) := dk_167 0 6 (dk_at dksX0_setLimit_0 9 rfl rfl)
theorem dX0_setLimit_12 : decode cX0_setLimit 12 = .ok (.astore_n 3, 1) := dk_78 (dk_at dksX0_setLimit_0 12 rfl rfl)
theorem dX0_setLimit_13 : decode cX0_setLimit 13 = .ok (.iconst 1, 1) := dk_4 (dk_at dksX0_setLimit_0 13 rfl rfl)
theorem dX0_setLimit_14 : decode cX0_setLimit 14 = .ok (.ireturn, 1) := dk_172 (dk_at dksX0_setLimit_0 14 rfl rfl)
theorem dX0_setLimit_15 : decode cX0_setLimit 15 = .ok (.iconst 0, 1) := dk_3 (dk_at dksX0_setLimit_0 15 rfl rfl)
theorem dX0_setLimit_16 : decode cX0_setLimit 16 = .ok (.ireturn, 1) := dk_172 (dk_at dksX0_setLimit_0 16 rfl rfl)
abbrev cX0_setStove : ByteArray := method_7_code
def yX0_setStove : MethodName := ⟨RX0, "setStove", "(LPaperMill;I[J)I"⟩
def dkwX0_setStove_0 : List UInt8 := [44, 3, 42, 27, 182, 0, 30, 133, 80, 167, 0, 6, 78, 4, 172, 3, 172]
abbrev dktX0_setStove_0 : List UInt8 := dkwX0_setStove_0 ++ []
theorem dksX0_setStove_0 : cX0_setStove.data.toList.drop 0 = dktX0_setStove_0 := by decide +kernel
theorem dX0_setStove_0 : decode cX0_setStove 0 = .ok (.aload_n 2, 1) := dk_44 (dk_at dksX0_setStove_0 0 rfl rfl)
theorem dX0_setStove_1 : decode cX0_setStove 1 = .ok (.iconst 0, 1) := dk_3 (dk_at dksX0_setStove_0 1 rfl rfl)
theorem dX0_setStove_2 : decode cX0_setStove 2 = .ok (.aload_n 0, 1) := dk_42 (dk_at dksX0_setStove_0 2 rfl rfl)
theorem dX0_setStove_3 : decode cX0_setStove 3 = .ok (.iload_n 1, 1) := dk_27 (dk_at dksX0_setStove_0 3 rfl rfl)
theorem dX0_setStove_4 : decode cX0_setStove 4 = .ok (.invokevirtual 30, 3) := dk_182 0 30 (dk_at dksX0_setStove_0 4 rfl rfl)
theorem dX0_setStove_7 : decode cX0_setStove 7 = .ok (.i2l, 1) := dk_133 (dk_at dksX0_setStove_0 7 rfl rfl)
theorem dX0_setStove_8 : decode cX0_setStove 8 = .ok (.lastore, 1) := dk_80 (dk_at dksX0_setStove_0 8 rfl rfl)
theorem dX0_setStove_9 : decode cX0_setStove 9 = .ok (.goto 6, 3) := dk_167 0 6 (dk_at dksX0_setStove_0 9 rfl rfl)
theorem dX0_setStove_12 : decode cX0_setStove 12 = .ok (.astore_n 3, 1) := dk_78 (dk_at dksX0_setStove_0 12 rfl rfl)
theorem dX0_setStove_13 : decode cX0_setStove 13 = .ok (.iconst 1, 1) := dk_4 (dk_at dksX0_setStove_0 13 rfl rfl)
theorem dX0_setStove_14 : decode cX0_setStove 14 = .ok (.ireturn, 1) := dk_172 (dk_at dksX0_setStove_0 14 rfl rfl)
theorem dX0_setStove_15 : decode cX0_setStove 15 = .ok (.iconst 0, 1) := dk_3 (dk_at dksX0_setStove_0 15 rfl rfl)
theorem dX0_setStove_16 : decode cX0_setStove 16 = .ok (.ireturn, 1) := dk_172 (dk_at dksX0_setStove_0 16 rfl rfl)
abbrev cX0_moveBale : ByteArray := method_8_code
def yX0_moveBale : MethodName := ⟨RX0, "moveBale", "(LPaperMill;II[J)I"⟩
def dkwX0_moveBale_0 : List UInt8 := [45, 3, 42, 27, 28, 182, 0, 33, 133, 80, 167, 0, 7, 58, 4, 4, 172, 3, 172]
abbrev dktX0_moveBale_0 : List UInt8 := dkwX0_moveBale_0 ++ []
theorem dksX0_moveBale_0 : cX0_moveBale.data.toList.drop 0 = dktX0_moveBale_0 := by decide +kernel
theorem dX0_moveBale_0 : decode cX0_moveBale 0 = .ok (.aload_n 3, 1) := dk_45 (dk_at dksX0_moveBale_0 0 rfl rfl)
theorem dX0_moveBale_1 : decode cX0_moveBale 1 = .ok (.iconst 0, 1) := dk_3 (dk_at dksX0_moveBale_0 1 rfl rfl)
theorem dX0_moveBale_2 : decode cX0_moveBale 2 = .ok (.aload_n 0, 1) := dk_42 (dk_at dksX0_moveBale_0 2 rfl rfl)
theorem dX0_moveBale_3 : decode cX0_moveBale 3 = .ok (.iload_n 1, 1) := dk_27 (dk_at dksX0_moveBale_0 3 rfl rfl)
theorem dX0_moveBale_4 : decode cX0_moveBale 4 = .ok (.iload_n 2, 1) := dk_28 (dk_at dksX0_moveBale_0 4 rfl rfl)
theorem dX0_moveBale_5 : decode cX0_moveBale 5 = .ok (.invokevirtual 33, 3) := dk_182 0 33 (dk_at dksX0_moveBale_0 5 rfl rfl)
theorem dX0_moveBale_8 : decode cX0_moveBale 8 = .ok (.i2l, 1) := dk_133 (dk_at dksX0_moveBale_0 8 rfl rfl)
theorem dX0_moveBale_9 : decode cX0_moveBale 9 = .ok (.lastore, 1) := dk_80 (dk_at dksX0_moveBale_0 9 rfl rfl)
theorem dX0_moveBale_10 : decode cX0_moveBale 10 = .ok (.goto 7, 3) := dk_167 0 7 (dk_at dksX0_moveBale_0 10 rfl rfl)
theorem dX0_moveBale_13 : decode cX0_moveBale 13 = .ok (.astore 4, 2) := dk_58 4 (dk_at dksX0_moveBale_0 13 rfl rfl)
theorem dX0_moveBale_15 : decode cX0_moveBale 15 = .ok (.iconst 1, 1) := dk_4 (dk_at dksX0_moveBale_0 15 rfl rfl)
theorem dX0_moveBale_16 : decode cX0_moveBale 16 = .ok (.ireturn, 1) := dk_172 (dk_at dksX0_moveBale_0 16 rfl rfl)
theorem dX0_moveBale_17 : decode cX0_moveBale 17 = .ok (.iconst 0, 1) := dk_3 (dk_at dksX0_moveBale_0 17 rfl rfl)
theorem dX0_moveBale_18 : decode cX0_moveBale 18 = .ok (.ireturn, 1) := dk_172 (dk_at dksX0_moveBale_0 18 rfl rfl)
abbrev cX0_burn : ByteArray := method_9_code
def yX0_burn : MethodName := ⟨RX0, "burn", "(LPaperMill;I[J)I"⟩
def dkwX0_burn_0 : List UInt8 := [44, 3, 42, 27, 182, 0, 36, 133, 80, 167, 0, 6, 78, 4, 172, 3, 172]
abbrev dktX0_burn_0 : List UInt8 := dkwX0_burn_0 ++ []
theorem dksX0_burn_0 : cX0_burn.data.toList.drop 0 = dktX0_burn_0 := by decide +kernel
theorem dX0_burn_0 : decode cX0_burn 0 = .ok (.aload_n 2, 1) := dk_44 (dk_at dksX0_burn_0 0 rfl rfl)
theorem dX0_burn_1 : decode cX0_burn 1 = .ok (.iconst 0, 1) := dk_3 (dk_at dksX0_burn_0 1 rfl rfl)
theorem dX0_burn_2 : decode cX0_burn 2 = .ok (.aload_n 0, 1) := dk_42 (dk_at dksX0_burn_0 2 rfl rfl)
theorem dX0_burn_3 : decode cX0_burn 3 = .ok (.iload_n 1, 1) := dk_27 (dk_at dksX0_burn_0 3 rfl rfl)
theorem dX0_burn_4 : decode cX0_burn 4 = .ok (.invokevirtual 36, 3) := dk_182 0 36 (dk_at dksX0_burn_0 4 rfl rfl)
theorem dX0_burn_7 : decode cX0_burn 7 = .ok (.i2l, 1) := dk_133 (dk_at dksX0_burn_0 7 rfl rfl)
theorem dX0_burn_8 : decode cX0_burn 8 = .ok (.lastore, 1) := dk_80 (dk_at dksX0_burn_0 8 rfl rfl)
theorem dX0_burn_9 : decode cX0_burn 9 = .ok (.goto 6, 3) := dk_167 0 6 (dk_at dksX0_burn_0 9 rfl rfl)
theorem dX0_burn_12 : decode cX0_burn 12 = .ok (.astore_n 3, 1) := dk_78 (dk_at dksX0_burn_0 12 rfl rfl)
theorem dX0_burn_13 : decode cX0_burn 13 = .ok (.iconst 1, 1) := dk_4 (dk_at dksX0_burn_0 13 rfl rfl)
theorem dX0_burn_14 : decode cX0_burn 14 = .ok (.ireturn, 1) := dk_172 (dk_at dksX0_burn_0 14 rfl rfl)
theorem dX0_burn_15 : decode cX0_burn 15 = .ok (.iconst 0, 1) := dk_3 (dk_at dksX0_burn_0 15 rfl rfl)
theorem dX0_burn_16 : decode cX0_burn 16 = .ok (.ireturn, 1) := dk_172 (dk_at dksX0_burn_0 16 rfl rfl)
abbrev cX0_beat : ByteArray := method_10_code
def yX0_beat : MethodName := ⟨RX0, "beat", "(LPaperMill;II[J)I"⟩
def dkwX0_beat_1 : List UInt8 := [172, 3, 172]
abbrev dktX0_beat_1 : List UInt8 := dkwX0_beat_1 ++ []
def dkwX0_beat_0 : List UInt8 := [45, 3, 42, 27, 28, 182, 0, 39, 133, 80, 167, 0, 15, 58, 4, 4, 172, 58, 4, 5, 172, 58, 4, 6]
abbrev dktX0_beat_0 : List UInt8 := dkwX0_beat_0 ++ dktX0_beat_1
theorem dksX0_beat_0 : cX0_beat.data.toList.drop 0 = dktX0_beat_0 := by decide +kernel
theorem dksX0_beat_1 : cX0_beat.data.toList.drop 24 = dktX0_beat_1 := dk_seg dksX0_beat_0 24 rfl rfl
theorem dX0_beat_0 : decode cX0_beat 0 = .ok (.aload_n 3, 1) := dk_45 (dk_at dksX0_beat_0 0 rfl rfl)
theorem dX0_beat_1 : decode cX0_beat 1 = .ok (.iconst 0, 1) := dk_3 (dk_at dksX0_beat_0 1 rfl rfl)
theorem dX0_beat_2 : decode cX0_beat 2 = .ok (.aload_n 0, 1) := dk_42 (dk_at dksX0_beat_0 2 rfl rfl)
theorem dX0_beat_3 : decode cX0_beat 3 = .ok (.iload_n 1, 1) := dk_27 (dk_at dksX0_beat_0 3 rfl rfl)
theorem dX0_beat_4 : decode cX0_beat 4 = .ok (.iload_n 2, 1) := dk_28 (dk_at dksX0_beat_0 4 rfl rfl)
theorem dX0_beat_5 : decode cX0_beat 5 = .ok (.invokevirtual 39, 3) := dk_182 0 39 (dk_at dksX0_beat_0 5 rfl rfl)
theorem dX0_beat_8 : decode cX0_beat 8 = .ok (.i2l, 1) := dk_133 (dk_at dksX0_beat_0 8 rfl rfl)
theorem dX0_beat_9 : decode cX0_beat 9 = .ok (.lastore, 1) := dk_80 (dk_at dksX0_beat_0 9 rfl rfl)
theorem dX0_beat_10 : decode cX0_beat 10 = .ok (.goto 15, 3) := dk_167 0 15 (dk_at dksX0_beat_0 10 rfl rfl)
theorem dX0_beat_13 : decode cX0_beat 13 = .ok (.astore 4, 2) := dk_58 4 (dk_at dksX0_beat_0 13 rfl rfl)
theorem dX0_beat_15 : decode cX0_beat 15 = .ok (.iconst 1, 1) := dk_4 (dk_at dksX0_beat_0 15 rfl rfl)
theorem dX0_beat_16 : decode cX0_beat 16 = .ok (.ireturn, 1) := dk_172 (dk_at dksX0_beat_0 16 rfl rfl)
theorem dX0_beat_17 : decode cX0_beat 17 = .ok (.astore 4, 2) := dk_58 4 (dk_at dksX0_beat_0 17 rfl rfl)
theorem dX0_beat_19 : decode cX0_beat 19 = .ok (.iconst 2, 1) := dk_5 (dk_at dksX0_beat_0 19 rfl rfl)
theorem dX0_beat_20 : decode cX0_beat 20 = .ok (.ireturn, 1) := dk_172 (dk_at dksX0_beat_0 20 rfl rfl)
theorem dX0_beat_21 : decode cX0_beat 21 = .ok (.astore 4, 2) := dk_58 4 (dk_at dksX0_beat_0 21 rfl rfl)
theorem dX0_beat_23 : decode cX0_beat 23 = .ok (.iconst 3, 1) := dk_6 (dk_at dksX0_beat_0 23 rfl rfl)
theorem dX0_beat_24 : decode cX0_beat 24 = .ok (.ireturn, 1) := dk_172 (dk_at dksX0_beat_1 0 rfl rfl)
theorem dX0_beat_25 : decode cX0_beat 25 = .ok (.iconst 0, 1) := dk_3 (dk_at dksX0_beat_1 1 rfl rfl)
theorem dX0_beat_26 : decode cX0_beat 26 = .ok (.ireturn, 1) := dk_172 (dk_at dksX0_beat_1 2 rfl rfl)
abbrev cX0_stamp : ByteArray := method_11_code
def yX0_stamp : MethodName := ⟨RX0, "stamp", "(LPaperMill;II[J)I"⟩
def dkwX0_stamp_1 : List UInt8 := [172, 3, 172]
abbrev dktX0_stamp_1 : List UInt8 := dkwX0_stamp_1 ++ []
def dkwX0_stamp_0 : List UInt8 := [45, 3, 42, 27, 28, 182, 0, 42, 133, 80, 167, 0, 15, 58, 4, 4, 172, 58, 4, 5, 172, 58, 4, 6]
abbrev dktX0_stamp_0 : List UInt8 := dkwX0_stamp_0 ++ dktX0_stamp_1
theorem dksX0_stamp_0 : cX0_stamp.data.toList.drop 0 = dktX0_stamp_0 := by decide +kernel
theorem dksX0_stamp_1 : cX0_stamp.data.toList.drop 24 = dktX0_stamp_1 := dk_seg dksX0_stamp_0 24 rfl rfl
theorem dX0_stamp_0 : decode cX0_stamp 0 = .ok (.aload_n 3, 1) := dk_45 (dk_at dksX0_stamp_0 0 rfl rfl)
theorem dX0_stamp_1 : decode cX0_stamp 1 = .ok (.iconst 0, 1) := dk_3 (dk_at dksX0_stamp_0 1 rfl rfl)
theorem dX0_stamp_2 : decode cX0_stamp 2 = .ok (.aload_n 0, 1) := dk_42 (dk_at dksX0_stamp_0 2 rfl rfl)
theorem dX0_stamp_3 : decode cX0_stamp 3 = .ok (.iload_n 1, 1) := dk_27 (dk_at dksX0_stamp_0 3 rfl rfl)
theorem dX0_stamp_4 : decode cX0_stamp 4 = .ok (.iload_n 2, 1) := dk_28 (dk_at dksX0_stamp_0 4 rfl rfl)
theorem dX0_stamp_5 : decode cX0_stamp 5 = .ok (.invokevirtual 42, 3) := dk_182 0 42 (dk_at dksX0_stamp_0 5 rfl rfl)
theorem dX0_stamp_8 : decode cX0_stamp 8 = .ok (.i2l, 1) := dk_133 (dk_at dksX0_stamp_0 8 rfl rfl)
theorem dX0_stamp_9 : decode cX0_stamp 9 = .ok (.lastore, 1) := dk_80 (dk_at dksX0_stamp_0 9 rfl rfl)
theorem dX0_stamp_10 : decode cX0_stamp 10 = .ok (.goto 15, 3) := dk_167 0 15 (dk_at dksX0_stamp_0 10 rfl rfl)
theorem dX0_stamp_13 : decode cX0_stamp 13 = .ok (.astore 4, 2) := dk_58 4 (dk_at dksX0_stamp_0 13 rfl rfl)
theorem dX0_stamp_15 : decode cX0_stamp 15 = .ok (.iconst 1, 1) := dk_4 (dk_at dksX0_stamp_0 15 rfl rfl)
theorem dX0_stamp_16 : decode cX0_stamp 16 = .ok (.ireturn, 1) := dk_172 (dk_at dksX0_stamp_0 16 rfl rfl)
theorem dX0_stamp_17 : decode cX0_stamp 17 = .ok (.astore 4, 2) := dk_58 4 (dk_at dksX0_stamp_0 17 rfl rfl)
theorem dX0_stamp_19 : decode cX0_stamp 19 = .ok (.iconst 2, 1) := dk_5 (dk_at dksX0_stamp_0 19 rfl rfl)
theorem dX0_stamp_20 : decode cX0_stamp 20 = .ok (.ireturn, 1) := dk_172 (dk_at dksX0_stamp_0 20 rfl rfl)
theorem dX0_stamp_21 : decode cX0_stamp 21 = .ok (.astore 4, 2) := dk_58 4 (dk_at dksX0_stamp_0 21 rfl rfl)
theorem dX0_stamp_23 : decode cX0_stamp 23 = .ok (.iconst 3, 1) := dk_6 (dk_at dksX0_stamp_0 23 rfl rfl)
theorem dX0_stamp_24 : decode cX0_stamp 24 = .ok (.ireturn, 1) := dk_172 (dk_at dksX0_stamp_1 0 rfl rfl)
theorem dX0_stamp_25 : decode cX0_stamp 25 = .ok (.iconst 0, 1) := dk_3 (dk_at dksX0_stamp_1 1 rfl rfl)
theorem dX0_stamp_26 : decode cX0_stamp 26 = .ok (.ireturn, 1) := dk_172 (dk_at dksX0_stamp_1 2 rfl rfl)
abbrev cX0_drain : ByteArray := method_12_code
def yX0_drain : MethodName := ⟨RX0, "drain", "(LPaperMill;I[J)I"⟩
def dkwX0_drain_0 : List UInt8 := [44, 3, 42, 27, 182, 0, 45, 133, 80, 167, 0, 9, 78, 4, 172, 78, 5, 172, 3, 172]
abbrev dktX0_drain_0 : List UInt8 := dkwX0_drain_0 ++ []
theorem dksX0_drain_0 : cX0_drain.data.toList.drop 0 = dktX0_drain_0 := by decide +kernel
theorem dX0_drain_0 : decode cX0_drain 0 = .ok (.aload_n 2, 1) := dk_44 (dk_at dksX0_drain_0 0 rfl rfl)
theorem dX0_drain_1 : decode cX0_drain 1 = .ok (.iconst 0, 1) := dk_3 (dk_at dksX0_drain_0 1 rfl rfl)
theorem dX0_drain_2 : decode cX0_drain 2 = .ok (.aload_n 0, 1) := dk_42 (dk_at dksX0_drain_0 2 rfl rfl)
theorem dX0_drain_3 : decode cX0_drain 3 = .ok (.iload_n 1, 1) := dk_27 (dk_at dksX0_drain_0 3 rfl rfl)
theorem dX0_drain_4 : decode cX0_drain 4 = .ok (.invokevirtual 45, 3) := dk_182 0 45 (dk_at dksX0_drain_0 4 rfl rfl)
theorem dX0_drain_7 : decode cX0_drain 7 = .ok (.i2l, 1) := dk_133 (dk_at dksX0_drain_0 7 rfl rfl)
theorem dX0_drain_8 : decode cX0_drain 8 = .ok (.lastore, 1) := dk_80 (dk_at dksX0_drain_0 8 rfl rfl)
theorem dX0_drain_9 : decode cX0_drain 9 = .ok (.goto 9, 3) := dk_167 0 9 (dk_at dksX0_drain_0 9 rfl rfl)
theorem dX0_drain_12 : decode cX0_drain 12 = .ok (.astore_n 3, 1) := dk_78 (dk_at dksX0_drain_0 12 rfl rfl)
theorem dX0_drain_13 : decode cX0_drain 13 = .ok (.iconst 1, 1) := dk_4 (dk_at dksX0_drain_0 13 rfl rfl)
theorem dX0_drain_14 : decode cX0_drain 14 = .ok (.ireturn, 1) := dk_172 (dk_at dksX0_drain_0 14 rfl rfl)
theorem dX0_drain_15 : decode cX0_drain 15 = .ok (.astore_n 3, 1) := dk_78 (dk_at dksX0_drain_0 15 rfl rfl)
theorem dX0_drain_16 : decode cX0_drain 16 = .ok (.iconst 2, 1) := dk_5 (dk_at dksX0_drain_0 16 rfl rfl)
theorem dX0_drain_17 : decode cX0_drain 17 = .ok (.ireturn, 1) := dk_172 (dk_at dksX0_drain_0 17 rfl rfl)
theorem dX0_drain_18 : decode cX0_drain 18 = .ok (.iconst 0, 1) := dk_3 (dk_at dksX0_drain_0 18 rfl rfl)
theorem dX0_drain_19 : decode cX0_drain 19 = .ok (.ireturn, 1) := dk_172 (dk_at dksX0_drain_0 19 rfl rfl)
abbrev cX0_setMark : ByteArray := method_13_code
def yX0_setMark : MethodName := ⟨RX0, "setMark", "(LPaperMill;II[J)I"⟩
def dkwX0_setMark_1 : List UInt8 := [172, 3, 172]
abbrev dktX0_setMark_1 : List UInt8 := dkwX0_setMark_1 ++ []
def dkwX0_setMark_0 : List UInt8 := [45, 3, 42, 27, 28, 182, 0, 48, 133, 80, 167, 0, 15, 58, 4, 4, 172, 58, 4, 5, 172, 58, 4, 6]
abbrev dktX0_setMark_0 : List UInt8 := dkwX0_setMark_0 ++ dktX0_setMark_1
theorem dksX0_setMark_0 : cX0_setMark.data.toList.drop 0 = dktX0_setMark_0 := by decide +kernel
theorem dksX0_setMark_1 : cX0_setMark.data.toList.drop 24 = dktX0_setMark_1 := dk_seg dksX0_setMark_0 24 rfl rfl
theorem dX0_setMark_0 : decode cX0_setMark 0 = .ok (.aload_n 3, 1) := dk_45 (dk_at dksX0_setMark_0 0 rfl rfl)
theorem dX0_setMark_1 : decode cX0_setMark 1 = .ok (.iconst 0, 1) := dk_3 (dk_at dksX0_setMark_0 1 rfl rfl)
theorem dX0_setMark_2 : decode cX0_setMark 2 = .ok (.aload_n 0, 1) := dk_42 (dk_at dksX0_setMark_0 2 rfl rfl)
theorem dX0_setMark_3 : decode cX0_setMark 3 = .ok (.iload_n 1, 1) := dk_27 (dk_at dksX0_setMark_0 3 rfl rfl)
theorem dX0_setMark_4 : decode cX0_setMark 4 = .ok (.iload_n 2, 1) := dk_28 (dk_at dksX0_setMark_0 4 rfl rfl)
theorem dX0_setMark_5 : decode cX0_setMark 5 = .ok (.invokevirtual 48, 3) := dk_182 0 48 (dk_at dksX0_setMark_0 5 rfl rfl)
theorem dX0_setMark_8 : decode cX0_setMark 8 = .ok (.i2l, 1) := dk_133 (dk_at dksX0_setMark_0 8 rfl rfl)
theorem dX0_setMark_9 : decode cX0_setMark 9 = .ok (.lastore, 1) := dk_80 (dk_at dksX0_setMark_0 9 rfl rfl)
theorem dX0_setMark_10 : decode cX0_setMark 10 = .ok (.goto 15, 3) := dk_167 0 15 (dk_at dksX0_setMark_0 10 rfl rfl)
theorem dX0_setMark_13 : decode cX0_setMark 13 = .ok (.astore 4, 2) := dk_58 4 (dk_at dksX0_setMark_0 13 rfl rfl)
theorem dX0_setMark_15 : decode cX0_setMark 15 = .ok (.iconst 1, 1) := dk_4 (dk_at dksX0_setMark_0 15 rfl rfl)
theorem dX0_setMark_16 : decode cX0_setMark 16 = .ok (.ireturn, 1) := dk_172 (dk_at dksX0_setMark_0 16 rfl rfl)
theorem dX0_setMark_17 : decode cX0_setMark 17 = .ok (.astore 4, 2) := dk_58 4 (dk_at dksX0_setMark_0 17 rfl rfl)
theorem dX0_setMark_19 : decode cX0_setMark 19 = .ok (.iconst 2, 1) := dk_5 (dk_at dksX0_setMark_0 19 rfl rfl)
theorem dX0_setMark_20 : decode cX0_setMark 20 = .ok (.ireturn, 1) := dk_172 (dk_at dksX0_setMark_0 20 rfl rfl)
theorem dX0_setMark_21 : decode cX0_setMark 21 = .ok (.astore 4, 2) := dk_58 4 (dk_at dksX0_setMark_0 21 rfl rfl)
theorem dX0_setMark_23 : decode cX0_setMark 23 = .ok (.iconst 3, 1) := dk_6 (dk_at dksX0_setMark_0 23 rfl rfl)
theorem dX0_setMark_24 : decode cX0_setMark 24 = .ok (.ireturn, 1) := dk_172 (dk_at dksX0_setMark_1 0 rfl rfl)
theorem dX0_setMark_25 : decode cX0_setMark 25 = .ok (.iconst 0, 1) := dk_3 (dk_at dksX0_setMark_1 1 rfl rfl)
theorem dX0_setMark_26 : decode cX0_setMark 26 = .ok (.ireturn, 1) := dk_172 (dk_at dksX0_setMark_1 2 rfl rfl)
abbrev cX0_mend : ByteArray := method_14_code
def yX0_mend : MethodName := ⟨RX0, "mend", "(LPaperMill;I[J)I"⟩
def dkwX0_mend_0 : List UInt8 := [44, 3, 42, 27, 182, 0, 51, 133, 80, 167, 0, 9, 78, 4, 172, 78, 5, 172, 3, 172]
abbrev dktX0_mend_0 : List UInt8 := dkwX0_mend_0 ++ []
theorem dksX0_mend_0 : cX0_mend.data.toList.drop 0 = dktX0_mend_0 := by decide +kernel
theorem dX0_mend_0 : decode cX0_mend 0 = .ok (.aload_n 2, 1) := dk_44 (dk_at dksX0_mend_0 0 rfl rfl)
theorem dX0_mend_1 : decode cX0_mend 1 = .ok (.iconst 0, 1) := dk_3 (dk_at dksX0_mend_0 1 rfl rfl)
theorem dX0_mend_2 : decode cX0_mend 2 = .ok (.aload_n 0, 1) := dk_42 (dk_at dksX0_mend_0 2 rfl rfl)
theorem dX0_mend_3 : decode cX0_mend 3 = .ok (.iload_n 1, 1) := dk_27 (dk_at dksX0_mend_0 3 rfl rfl)
theorem dX0_mend_4 : decode cX0_mend 4 = .ok (.invokevirtual 51, 3) := dk_182 0 51 (dk_at dksX0_mend_0 4 rfl rfl)
theorem dX0_mend_7 : decode cX0_mend 7 = .ok (.i2l, 1) := dk_133 (dk_at dksX0_mend_0 7 rfl rfl)
theorem dX0_mend_8 : decode cX0_mend 8 = .ok (.lastore, 1) := dk_80 (dk_at dksX0_mend_0 8 rfl rfl)
theorem dX0_mend_9 : decode cX0_mend 9 = .ok (.goto 9, 3) := dk_167 0 9 (dk_at dksX0_mend_0 9 rfl rfl)
theorem dX0_mend_12 : decode cX0_mend 12 = .ok (.astore_n 3, 1) := dk_78 (dk_at dksX0_mend_0 12 rfl rfl)
theorem dX0_mend_13 : decode cX0_mend 13 = .ok (.iconst 1, 1) := dk_4 (dk_at dksX0_mend_0 13 rfl rfl)
theorem dX0_mend_14 : decode cX0_mend 14 = .ok (.ireturn, 1) := dk_172 (dk_at dksX0_mend_0 14 rfl rfl)
theorem dX0_mend_15 : decode cX0_mend 15 = .ok (.astore_n 3, 1) := dk_78 (dk_at dksX0_mend_0 15 rfl rfl)
theorem dX0_mend_16 : decode cX0_mend 16 = .ok (.iconst 2, 1) := dk_5 (dk_at dksX0_mend_0 16 rfl rfl)
theorem dX0_mend_17 : decode cX0_mend 17 = .ok (.ireturn, 1) := dk_172 (dk_at dksX0_mend_0 17 rfl rfl)
theorem dX0_mend_18 : decode cX0_mend 18 = .ok (.iconst 0, 1) := dk_3 (dk_at dksX0_mend_0 18 rfl rfl)
theorem dX0_mend_19 : decode cX0_mend 19 = .ok (.ireturn, 1) := dk_172 (dk_at dksX0_mend_0 19 rfl rfl)
abbrev cX0_make : ByteArray := method_15_code
def yX0_make : MethodName := ⟨RX0, "make", "(LPaperMill;III[J)I"⟩
def dkwX0_make_1 : List UInt8 := [58, 5, 6, 172, 3, 172]
abbrev dktX0_make_1 : List UInt8 := dkwX0_make_1 ++ []
def dkwX0_make_0 : List UInt8 := [25, 4, 3, 42, 27, 28, 29, 182, 0, 54, 133, 80, 167, 0, 15, 58, 5, 4, 172, 58, 5, 5, 172]
abbrev dktX0_make_0 : List UInt8 := dkwX0_make_0 ++ dktX0_make_1
theorem dksX0_make_0 : cX0_make.data.toList.drop 0 = dktX0_make_0 := by decide +kernel
theorem dksX0_make_1 : cX0_make.data.toList.drop 23 = dktX0_make_1 := dk_seg dksX0_make_0 23 rfl rfl
theorem dX0_make_0 : decode cX0_make 0 = .ok (.aload 4, 2) := dk_25 4 (dk_at dksX0_make_0 0 rfl rfl)
theorem dX0_make_2 : decode cX0_make 2 = .ok (.iconst 0, 1) := dk_3 (dk_at dksX0_make_0 2 rfl rfl)
theorem dX0_make_3 : decode cX0_make 3 = .ok (.aload_n 0, 1) := dk_42 (dk_at dksX0_make_0 3 rfl rfl)
theorem dX0_make_4 : decode cX0_make 4 = .ok (.iload_n 1, 1) := dk_27 (dk_at dksX0_make_0 4 rfl rfl)
theorem dX0_make_5 : decode cX0_make 5 = .ok (.iload_n 2, 1) := dk_28 (dk_at dksX0_make_0 5 rfl rfl)
theorem dX0_make_6 : decode cX0_make 6 = .ok (.iload_n 3, 1) := dk_29 (dk_at dksX0_make_0 6 rfl rfl)
theorem dX0_make_7 : decode cX0_make 7 = .ok (.invokevirtual 54, 3) := dk_182 0 54 (dk_at dksX0_make_0 7 rfl rfl)
theorem dX0_make_10 : decode cX0_make 10 = .ok (.i2l, 1) := dk_133 (dk_at dksX0_make_0 10 rfl rfl)
theorem dX0_make_11 : decode cX0_make 11 = .ok (.lastore, 1) := dk_80 (dk_at dksX0_make_0 11 rfl rfl)
theorem dX0_make_12 : decode cX0_make 12 = .ok (.goto 15, 3) := dk_167 0 15 (dk_at dksX0_make_0 12 rfl rfl)
theorem dX0_make_15 : decode cX0_make 15 = .ok (.astore 5, 2) := dk_58 5 (dk_at dksX0_make_0 15 rfl rfl)
theorem dX0_make_17 : decode cX0_make 17 = .ok (.iconst 1, 1) := dk_4 (dk_at dksX0_make_0 17 rfl rfl)
theorem dX0_make_18 : decode cX0_make 18 = .ok (.ireturn, 1) := dk_172 (dk_at dksX0_make_0 18 rfl rfl)
theorem dX0_make_19 : decode cX0_make 19 = .ok (.astore 5, 2) := dk_58 5 (dk_at dksX0_make_0 19 rfl rfl)
theorem dX0_make_21 : decode cX0_make 21 = .ok (.iconst 2, 1) := dk_5 (dk_at dksX0_make_0 21 rfl rfl)
theorem dX0_make_22 : decode cX0_make 22 = .ok (.ireturn, 1) := dk_172 (dk_at dksX0_make_0 22 rfl rfl)
theorem dX0_make_23 : decode cX0_make 23 = .ok (.astore 5, 2) := dk_58 5 (dk_at dksX0_make_1 0 rfl rfl)
theorem dX0_make_25 : decode cX0_make 25 = .ok (.iconst 3, 1) := dk_6 (dk_at dksX0_make_1 2 rfl rfl)
theorem dX0_make_26 : decode cX0_make 26 = .ok (.ireturn, 1) := dk_172 (dk_at dksX0_make_1 3 rfl rfl)
theorem dX0_make_27 : decode cX0_make 27 = .ok (.iconst 0, 1) := dk_3 (dk_at dksX0_make_1 4 rfl rfl)
theorem dX0_make_28 : decode cX0_make 28 = .ok (.ireturn, 1) := dk_172 (dk_at dksX0_make_1 5 rfl rfl)
abbrev cX0_pack : ByteArray := method_16_code
def yX0_pack : MethodName := ⟨RX0, "pack", "(LPaperMill;III[J)I"⟩
def dkwX0_pack_1 : List UInt8 := [172]
abbrev dktX0_pack_1 : List UInt8 := dkwX0_pack_1 ++ []
def dkwX0_pack_0 : List UInt8 := [25, 4, 3, 42, 27, 28, 29, 182, 0, 58, 133, 80, 167, 0, 11, 58, 5, 4, 172, 58, 5, 5, 172, 3]
abbrev dktX0_pack_0 : List UInt8 := dkwX0_pack_0 ++ dktX0_pack_1
theorem dksX0_pack_0 : cX0_pack.data.toList.drop 0 = dktX0_pack_0 := by decide +kernel
theorem dksX0_pack_1 : cX0_pack.data.toList.drop 24 = dktX0_pack_1 := dk_seg dksX0_pack_0 24 rfl rfl
theorem dX0_pack_0 : decode cX0_pack 0 = .ok (.aload 4, 2) := dk_25 4 (dk_at dksX0_pack_0 0 rfl rfl)
theorem dX0_pack_2 : decode cX0_pack 2 = .ok (.iconst 0, 1) := dk_3 (dk_at dksX0_pack_0 2 rfl rfl)
theorem dX0_pack_3 : decode cX0_pack 3 = .ok (.aload_n 0, 1) := dk_42 (dk_at dksX0_pack_0 3 rfl rfl)
theorem dX0_pack_4 : decode cX0_pack 4 = .ok (.iload_n 1, 1) := dk_27 (dk_at dksX0_pack_0 4 rfl rfl)
theorem dX0_pack_5 : decode cX0_pack 5 = .ok (.iload_n 2, 1) := dk_28 (dk_at dksX0_pack_0 5 rfl rfl)
theorem dX0_pack_6 : decode cX0_pack 6 = .ok (.iload_n 3, 1) := dk_29 (dk_at dksX0_pack_0 6 rfl rfl)
theorem dX0_pack_7 : decode cX0_pack 7 = .ok (.invokevirtual 58, 3) := dk_182 0 58 (dk_at dksX0_pack_0 7 rfl rfl)
theorem dX0_pack_10 : decode cX0_pack 10 = .ok (.i2l, 1) := dk_133 (dk_at dksX0_pack_0 10 rfl rfl)
theorem dX0_pack_11 : decode cX0_pack 11 = .ok (.lastore, 1) := dk_80 (dk_at dksX0_pack_0 11 rfl rfl)
theorem dX0_pack_12 : decode cX0_pack 12 = .ok (.goto 11, 3) := dk_167 0 11 (dk_at dksX0_pack_0 12 rfl rfl)
theorem dX0_pack_15 : decode cX0_pack 15 = .ok (.astore 5, 2) := dk_58 5 (dk_at dksX0_pack_0 15 rfl rfl)
theorem dX0_pack_17 : decode cX0_pack 17 = .ok (.iconst 1, 1) := dk_4 (dk_at dksX0_pack_0 17 rfl rfl)
theorem dX0_pack_18 : decode cX0_pack 18 = .ok (.ireturn, 1) := dk_172 (dk_at dksX0_pack_0 18 rfl rfl)
theorem dX0_pack_19 : decode cX0_pack 19 = .ok (.astore 5, 2) := dk_58 5 (dk_at dksX0_pack_0 19 rfl rfl)
theorem dX0_pack_21 : decode cX0_pack 21 = .ok (.iconst 2, 1) := dk_5 (dk_at dksX0_pack_0 21 rfl rfl)
theorem dX0_pack_22 : decode cX0_pack 22 = .ok (.ireturn, 1) := dk_172 (dk_at dksX0_pack_0 22 rfl rfl)
theorem dX0_pack_23 : decode cX0_pack 23 = .ok (.iconst 0, 1) := dk_3 (dk_at dksX0_pack_0 23 rfl rfl)
theorem dX0_pack_24 : decode cX0_pack 24 = .ok (.ireturn, 1) := dk_172 (dk_at dksX0_pack_1 0 rfl rfl)
abbrev cX0_packShort : ByteArray := method_17_code
def yX0_packShort : MethodName := ⟨RX0, "packShort", "(LPaperMill;III[J)I"⟩
def dkwX0_packShort_1 : List UInt8 := [172]
abbrev dktX0_packShort_1 : List UInt8 := dkwX0_packShort_1 ++ []
def dkwX0_packShort_0 : List UInt8 := [25, 4, 3, 42, 27, 28, 29, 182, 0, 61, 133, 80, 167, 0, 11, 58, 5, 4, 172, 58, 5, 5, 172, 3]
abbrev dktX0_packShort_0 : List UInt8 := dkwX0_packShort_0 ++ dktX0_packShort_1
theorem dksX0_packShort_0 : cX0_packShort.data.toList.drop 0 = dktX0_packShort_0 := by decide +kernel
theorem dksX0_packShort_1 : cX0_packShort.data.toList.drop 24 = dktX0_packShort_1 := dk_seg dksX0_packShort_0 24 rfl rfl
theorem dX0_packShort_0 : decode cX0_packShort 0 = .ok (.aload 4, 2) := dk_25 4 (dk_at dksX0_packShort_0 0 rfl rfl)
theorem dX0_packShort_2 : decode cX0_packShort 2 = .ok (.iconst 0, 1) := dk_3 (dk_at dksX0_packShort_0 2 rfl rfl)
theorem dX0_packShort_3 : decode cX0_packShort 3 = .ok (.aload_n 0, 1) := dk_42 (dk_at dksX0_packShort_0 3 rfl rfl)
theorem dX0_packShort_4 : decode cX0_packShort 4 = .ok (.iload_n 1, 1) := dk_27 (dk_at dksX0_packShort_0 4 rfl rfl)
theorem dX0_packShort_5 : decode cX0_packShort 5 = .ok (.iload_n 2, 1) := dk_28 (dk_at dksX0_packShort_0 5 rfl rfl)
theorem dX0_packShort_6 : decode cX0_packShort 6 = .ok (.iload_n 3, 1) := dk_29 (dk_at dksX0_packShort_0 6 rfl rfl)
theorem dX0_packShort_7 : decode cX0_packShort 7 = .ok (.invokevirtual 61, 3) := dk_182 0 61 (dk_at dksX0_packShort_0 7 rfl rfl)
theorem dX0_packShort_10 : decode cX0_packShort 10 = .ok (.i2l, 1) := dk_133 (dk_at dksX0_packShort_0 10 rfl rfl)
theorem dX0_packShort_11 : decode cX0_packShort 11 = .ok (.lastore, 1) := dk_80 (dk_at dksX0_packShort_0 11 rfl rfl)
theorem dX0_packShort_12 : decode cX0_packShort 12 = .ok (.goto 11, 3) := dk_167 0 11 (dk_at dksX0_packShort_0 12 rfl rfl)
theorem dX0_packShort_15 : decode cX0_packShort 15 = .ok (.astore 5, 2) := dk_58 5 (dk_at dksX0_packShort_0 15 rfl rfl)
theorem dX0_packShort_17 : decode cX0_packShort 17 = .ok (.iconst 1, 1) := dk_4 (dk_at dksX0_packShort_0 17 rfl rfl)
theorem dX0_packShort_18 : decode cX0_packShort 18 = .ok (.ireturn, 1) := dk_172 (dk_at dksX0_packShort_0 18 rfl rfl)
theorem dX0_packShort_19 : decode cX0_packShort 19 = .ok (.astore 5, 2) := dk_58 5 (dk_at dksX0_packShort_0 19 rfl rfl)
theorem dX0_packShort_21 : decode cX0_packShort 21 = .ok (.iconst 2, 1) := dk_5 (dk_at dksX0_packShort_0 21 rfl rfl)
theorem dX0_packShort_22 : decode cX0_packShort 22 = .ok (.ireturn, 1) := dk_172 (dk_at dksX0_packShort_0 22 rfl rfl)
theorem dX0_packShort_23 : decode cX0_packShort 23 = .ok (.iconst 0, 1) := dk_3 (dk_at dksX0_packShort_0 23 rfl rfl)
theorem dX0_packShort_24 : decode cX0_packShort 24 = .ok (.ireturn, 1) := dk_172 (dk_at dksX0_packShort_1 0 rfl rfl)
abbrev cX0_send : ByteArray := method_18_code
def yX0_send : MethodName := ⟨RX0, "send", "(LPaperMill;II[J)I"⟩
def dkwX0_send_0 : List UInt8 := [45, 3, 42, 27, 28, 182, 0, 64, 133, 80, 167, 0, 11, 58, 4, 4, 172, 58, 4, 5, 172, 3, 172]
abbrev dktX0_send_0 : List UInt8 := dkwX0_send_0 ++ []
theorem dksX0_send_0 : cX0_send.data.toList.drop 0 = dktX0_send_0 := by decide +kernel
theorem dX0_send_0 : decode cX0_send 0 = .ok (.aload_n 3, 1) := dk_45 (dk_at dksX0_send_0 0 rfl rfl)
theorem dX0_send_1 : decode cX0_send 1 = .ok (.iconst 0, 1) := dk_3 (dk_at dksX0_send_0 1 rfl rfl)
theorem dX0_send_2 : decode cX0_send 2 = .ok (.aload_n 0, 1) := dk_42 (dk_at dksX0_send_0 2 rfl rfl)
theorem dX0_send_3 : decode cX0_send 3 = .ok (.iload_n 1, 1) := dk_27 (dk_at dksX0_send_0 3 rfl rfl)
theorem dX0_send_4 : decode cX0_send 4 = .ok (.iload_n 2, 1) := dk_28 (dk_at dksX0_send_0 4 rfl rfl)
theorem dX0_send_5 : decode cX0_send 5 = .ok (.invokevirtual 64, 3) := dk_182 0 64 (dk_at dksX0_send_0 5 rfl rfl)
theorem dX0_send_8 : decode cX0_send 8 = .ok (.i2l, 1) := dk_133 (dk_at dksX0_send_0 8 rfl rfl)
theorem dX0_send_9 : decode cX0_send 9 = .ok (.lastore, 1) := dk_80 (dk_at dksX0_send_0 9 rfl rfl)
theorem dX0_send_10 : decode cX0_send 10 = .ok (.goto 11, 3) := dk_167 0 11 (dk_at dksX0_send_0 10 rfl rfl)
theorem dX0_send_13 : decode cX0_send 13 = .ok (.astore 4, 2) := dk_58 4 (dk_at dksX0_send_0 13 rfl rfl)
theorem dX0_send_15 : decode cX0_send 15 = .ok (.iconst 1, 1) := dk_4 (dk_at dksX0_send_0 15 rfl rfl)
theorem dX0_send_16 : decode cX0_send 16 = .ok (.ireturn, 1) := dk_172 (dk_at dksX0_send_0 16 rfl rfl)
theorem dX0_send_17 : decode cX0_send 17 = .ok (.astore 4, 2) := dk_58 4 (dk_at dksX0_send_0 17 rfl rfl)
theorem dX0_send_19 : decode cX0_send 19 = .ok (.iconst 2, 1) := dk_5 (dk_at dksX0_send_0 19 rfl rfl)
theorem dX0_send_20 : decode cX0_send 20 = .ok (.ireturn, 1) := dk_172 (dk_at dksX0_send_0 20 rfl rfl)
theorem dX0_send_21 : decode cX0_send 21 = .ok (.iconst 0, 1) := dk_3 (dk_at dksX0_send_0 21 rfl rfl)
theorem dX0_send_22 : decode cX0_send 22 = .ok (.ireturn, 1) := dk_172 (dk_at dksX0_send_0 22 rfl rfl)
abbrev cX0_pass : ByteArray := method_19_code
def yX0_pass : MethodName := ⟨RX0, "pass", "(LPaperMill;I[J)I"⟩
def dkwX0_pass_0 : List UInt8 := [44, 3, 42, 27, 182, 0, 67, 133, 80, 167, 0, 9, 78, 4, 172, 78, 5, 172, 3, 172]
abbrev dktX0_pass_0 : List UInt8 := dkwX0_pass_0 ++ []
theorem dksX0_pass_0 : cX0_pass.data.toList.drop 0 = dktX0_pass_0 := by decide +kernel
theorem dX0_pass_0 : decode cX0_pass 0 = .ok (.aload_n 2, 1) := dk_44 (dk_at dksX0_pass_0 0 rfl rfl)
theorem dX0_pass_1 : decode cX0_pass 1 = .ok (.iconst 0, 1) := dk_3 (dk_at dksX0_pass_0 1 rfl rfl)
theorem dX0_pass_2 : decode cX0_pass 2 = .ok (.aload_n 0, 1) := dk_42 (dk_at dksX0_pass_0 2 rfl rfl)
theorem dX0_pass_3 : decode cX0_pass 3 = .ok (.iload_n 1, 1) := dk_27 (dk_at dksX0_pass_0 3 rfl rfl)
theorem dX0_pass_4 : decode cX0_pass 4 = .ok (.invokevirtual 67, 3) := dk_182 0 67 (dk_at dksX0_pass_0 4 rfl rfl)
theorem dX0_pass_7 : decode cX0_pass 7 = .ok (.i2l, 1) := dk_133 (dk_at dksX0_pass_0 7 rfl rfl)
theorem dX0_pass_8 : decode cX0_pass 8 = .ok (.lastore, 1) := dk_80 (dk_at dksX0_pass_0 8 rfl rfl)
theorem dX0_pass_9 : decode cX0_pass 9 = .ok (.goto 9, 3) := dk_167 0 9 (dk_at dksX0_pass_0 9 rfl rfl)
theorem dX0_pass_12 : decode cX0_pass 12 = .ok (.astore_n 3, 1) := dk_78 (dk_at dksX0_pass_0 12 rfl rfl)
theorem dX0_pass_13 : decode cX0_pass 13 = .ok (.iconst 1, 1) := dk_4 (dk_at dksX0_pass_0 13 rfl rfl)
theorem dX0_pass_14 : decode cX0_pass 14 = .ok (.ireturn, 1) := dk_172 (dk_at dksX0_pass_0 14 rfl rfl)
theorem dX0_pass_15 : decode cX0_pass 15 = .ok (.astore_n 3, 1) := dk_78 (dk_at dksX0_pass_0 15 rfl rfl)
theorem dX0_pass_16 : decode cX0_pass 16 = .ok (.iconst 2, 1) := dk_5 (dk_at dksX0_pass_0 16 rfl rfl)
theorem dX0_pass_17 : decode cX0_pass 17 = .ok (.ireturn, 1) := dk_172 (dk_at dksX0_pass_0 17 rfl rfl)
theorem dX0_pass_18 : decode cX0_pass 18 = .ok (.iconst 0, 1) := dk_3 (dk_at dksX0_pass_0 18 rfl rfl)
theorem dX0_pass_19 : decode cX0_pass 19 = .ok (.ireturn, 1) := dk_172 (dk_at dksX0_pass_0 19 rfl rfl)
abbrev cX0_debtOf : ByteArray := method_20_code
def yX0_debtOf : MethodName := ⟨RX0, "debtOf", "(LPaperMill;I[J)I"⟩
def dkwX0_debtOf_0 : List UInt8 := [44, 3, 42, 27, 182, 0, 70, 133, 80, 167, 0, 6, 78, 4, 172, 3, 172]
abbrev dktX0_debtOf_0 : List UInt8 := dkwX0_debtOf_0 ++ []
theorem dksX0_debtOf_0 : cX0_debtOf.data.toList.drop 0 = dktX0_debtOf_0 := by decide +kernel
theorem dX0_debtOf_0 : decode cX0_debtOf 0 = .ok (.aload_n 2, 1) := dk_44 (dk_at dksX0_debtOf_0 0 rfl rfl)
theorem dX0_debtOf_1 : decode cX0_debtOf 1 = .ok (.iconst 0, 1) := dk_3 (dk_at dksX0_debtOf_0 1 rfl rfl)
theorem dX0_debtOf_2 : decode cX0_debtOf 2 = .ok (.aload_n 0, 1) := dk_42 (dk_at dksX0_debtOf_0 2 rfl rfl)
theorem dX0_debtOf_3 : decode cX0_debtOf 3 = .ok (.iload_n 1, 1) := dk_27 (dk_at dksX0_debtOf_0 3 rfl rfl)
theorem dX0_debtOf_4 : decode cX0_debtOf 4 = .ok (.invokevirtual 70, 3) := dk_182 0 70 (dk_at dksX0_debtOf_0 4 rfl rfl)
theorem dX0_debtOf_7 : decode cX0_debtOf 7 = .ok (.i2l, 1) := dk_133 (dk_at dksX0_debtOf_0 7 rfl rfl)
theorem dX0_debtOf_8 : decode cX0_debtOf 8 = .ok (.lastore, 1) := dk_80 (dk_at dksX0_debtOf_0 8 rfl rfl)
theorem dX0_debtOf_9 : decode cX0_debtOf 9 = .ok (.goto 6, 3) := dk_167 0 6 (dk_at dksX0_debtOf_0 9 rfl rfl)
theorem dX0_debtOf_12 : decode cX0_debtOf 12 = .ok (.astore_n 3, 1) := dk_78 (dk_at dksX0_debtOf_0 12 rfl rfl)
theorem dX0_debtOf_13 : decode cX0_debtOf 13 = .ok (.iconst 1, 1) := dk_4 (dk_at dksX0_debtOf_0 13 rfl rfl)
theorem dX0_debtOf_14 : decode cX0_debtOf 14 = .ok (.ireturn, 1) := dk_172 (dk_at dksX0_debtOf_0 14 rfl rfl)
theorem dX0_debtOf_15 : decode cX0_debtOf 15 = .ok (.iconst 0, 1) := dk_3 (dk_at dksX0_debtOf_0 15 rfl rfl)
theorem dX0_debtOf_16 : decode cX0_debtOf 16 = .ok (.ireturn, 1) := dk_172 (dk_at dksX0_debtOf_0 16 rfl rfl)
abbrev cX0_passLeft : ByteArray := method_21_code
def yX0_passLeft : MethodName := ⟨RX0, "passLeft", "(LPaperMill;I[J)I"⟩
def dkwX0_passLeft_0 : List UInt8 := [44, 3, 42, 27, 182, 0, 73, 133, 80, 167, 0, 6, 78, 4, 172, 3, 172]
abbrev dktX0_passLeft_0 : List UInt8 := dkwX0_passLeft_0 ++ []
theorem dksX0_passLeft_0 : cX0_passLeft.data.toList.drop 0 = dktX0_passLeft_0 := by decide +kernel
theorem dX0_passLeft_0 : decode cX0_passLeft 0 = .ok (.aload_n 2, 1) := dk_44 (dk_at dksX0_passLeft_0 0 rfl rfl)
theorem dX0_passLeft_1 : decode cX0_passLeft 1 = .ok (.iconst 0, 1) := dk_3 (dk_at dksX0_passLeft_0 1 rfl rfl)
theorem dX0_passLeft_2 : decode cX0_passLeft 2 = .ok (.aload_n 0, 1) := dk_42 (dk_at dksX0_passLeft_0 2 rfl rfl)
theorem dX0_passLeft_3 : decode cX0_passLeft 3 = .ok (.iload_n 1, 1) := dk_27 (dk_at dksX0_passLeft_0 3 rfl rfl)
theorem dX0_passLeft_4 : decode cX0_passLeft 4 = .ok (.invokevirtual 73, 3) := dk_182 0 73 (dk_at dksX0_passLeft_0 4 rfl rfl)
theorem dX0_passLeft_7 : decode cX0_passLeft 7 = .ok (.i2l, 1) := dk_133 (dk_at dksX0_passLeft_0 7 rfl rfl)
theorem dX0_passLeft_8 : decode cX0_passLeft 8 = .ok (.lastore, 1) := dk_80 (dk_at dksX0_passLeft_0 8 rfl rfl)
theorem dX0_passLeft_9 : decode cX0_passLeft 9 = .ok (.goto 6, 3) := dk_167 0 6 (dk_at dksX0_passLeft_0 9 rfl rfl)
theorem dX0_passLeft_12 : decode cX0_passLeft 12 = .ok (.astore_n 3, 1) := dk_78 (dk_at dksX0_passLeft_0 12 rfl rfl)
theorem dX0_passLeft_13 : decode cX0_passLeft 13 = .ok (.iconst 1, 1) := dk_4 (dk_at dksX0_passLeft_0 13 rfl rfl)
theorem dX0_passLeft_14 : decode cX0_passLeft 14 = .ok (.ireturn, 1) := dk_172 (dk_at dksX0_passLeft_0 14 rfl rfl)
theorem dX0_passLeft_15 : decode cX0_passLeft 15 = .ok (.iconst 0, 1) := dk_3 (dk_at dksX0_passLeft_0 15 rfl rfl)
theorem dX0_passLeft_16 : decode cX0_passLeft 16 = .ok (.ireturn, 1) := dk_172 (dk_at dksX0_passLeft_0 16 rfl rfl)
abbrev cX0_tollFor : ByteArray := method_22_code
def yX0_tollFor : MethodName := ⟨RX0, "tollFor", "(LPaperMill;II[J)I"⟩
def dkwX0_tollFor_0 : List UInt8 := [45, 3, 42, 27, 28, 182, 0, 76, 133, 80, 167, 0, 11, 58, 4, 4, 172, 58, 4, 5, 172, 3, 172]
abbrev dktX0_tollFor_0 : List UInt8 := dkwX0_tollFor_0 ++ []
theorem dksX0_tollFor_0 : cX0_tollFor.data.toList.drop 0 = dktX0_tollFor_0 := by decide +kernel
theorem dX0_tollFor_0 : decode cX0_tollFor 0 = .ok (.aload_n 3, 1) := dk_45 (dk_at dksX0_tollFor_0 0 rfl rfl)
theorem dX0_tollFor_1 : decode cX0_tollFor 1 = .ok (.iconst 0, 1) := dk_3 (dk_at dksX0_tollFor_0 1 rfl rfl)
theorem dX0_tollFor_2 : decode cX0_tollFor 2 = .ok (.aload_n 0, 1) := dk_42 (dk_at dksX0_tollFor_0 2 rfl rfl)
theorem dX0_tollFor_3 : decode cX0_tollFor 3 = .ok (.iload_n 1, 1) := dk_27 (dk_at dksX0_tollFor_0 3 rfl rfl)
theorem dX0_tollFor_4 : decode cX0_tollFor 4 = .ok (.iload_n 2, 1) := dk_28 (dk_at dksX0_tollFor_0 4 rfl rfl)
theorem dX0_tollFor_5 : decode cX0_tollFor 5 = .ok (.invokevirtual 76, 3) := dk_182 0 76 (dk_at dksX0_tollFor_0 5 rfl rfl)
theorem dX0_tollFor_8 : decode cX0_tollFor 8 = .ok (.i2l, 1) := dk_133 (dk_at dksX0_tollFor_0 8 rfl rfl)
theorem dX0_tollFor_9 : decode cX0_tollFor 9 = .ok (.lastore, 1) := dk_80 (dk_at dksX0_tollFor_0 9 rfl rfl)
theorem dX0_tollFor_10 : decode cX0_tollFor 10 = .ok (.goto 11, 3) := dk_167 0 11 (dk_at dksX0_tollFor_0 10 rfl rfl)
theorem dX0_tollFor_13 : decode cX0_tollFor 13 = .ok (.astore 4, 2) := dk_58 4 (dk_at dksX0_tollFor_0 13 rfl rfl)
theorem dX0_tollFor_15 : decode cX0_tollFor 15 = .ok (.iconst 1, 1) := dk_4 (dk_at dksX0_tollFor_0 15 rfl rfl)
theorem dX0_tollFor_16 : decode cX0_tollFor 16 = .ok (.ireturn, 1) := dk_172 (dk_at dksX0_tollFor_0 16 rfl rfl)
theorem dX0_tollFor_17 : decode cX0_tollFor 17 = .ok (.astore 4, 2) := dk_58 4 (dk_at dksX0_tollFor_0 17 rfl rfl)
theorem dX0_tollFor_19 : decode cX0_tollFor 19 = .ok (.iconst 2, 1) := dk_5 (dk_at dksX0_tollFor_0 19 rfl rfl)
theorem dX0_tollFor_20 : decode cX0_tollFor 20 = .ok (.ireturn, 1) := dk_172 (dk_at dksX0_tollFor_0 20 rfl rfl)
theorem dX0_tollFor_21 : decode cX0_tollFor 21 = .ok (.iconst 0, 1) := dk_3 (dk_at dksX0_tollFor_0 21 rfl rfl)
theorem dX0_tollFor_22 : decode cX0_tollFor 22 = .ok (.ireturn, 1) := dk_172 (dk_at dksX0_tollFor_0 22 rfl rfl)
abbrev cX0_whyNotIn : ByteArray := method_23_code
def yX0_whyNotIn : MethodName := ⟨RX0, "whyNotIn", "(LPaperMill;III[J)I"⟩
def dkwX0_whyNotIn_1 : List UInt8 := [172]
abbrev dktX0_whyNotIn_1 : List UInt8 := dkwX0_whyNotIn_1 ++ []
def dkwX0_whyNotIn_0 : List UInt8 := [25, 4, 3, 42, 27, 28, 29, 182, 0, 79, 133, 80, 167, 0, 11, 58, 5, 4, 172, 58, 5, 5, 172, 3]
abbrev dktX0_whyNotIn_0 : List UInt8 := dkwX0_whyNotIn_0 ++ dktX0_whyNotIn_1
theorem dksX0_whyNotIn_0 : cX0_whyNotIn.data.toList.drop 0 = dktX0_whyNotIn_0 := by decide +kernel
theorem dksX0_whyNotIn_1 : cX0_whyNotIn.data.toList.drop 24 = dktX0_whyNotIn_1 := dk_seg dksX0_whyNotIn_0 24 rfl rfl
theorem dX0_whyNotIn_0 : decode cX0_whyNotIn 0 = .ok (.aload 4, 2) := dk_25 4 (dk_at dksX0_whyNotIn_0 0 rfl rfl)
theorem dX0_whyNotIn_2 : decode cX0_whyNotIn 2 = .ok (.iconst 0, 1) := dk_3 (dk_at dksX0_whyNotIn_0 2 rfl rfl)
theorem dX0_whyNotIn_3 : decode cX0_whyNotIn 3 = .ok (.aload_n 0, 1) := dk_42 (dk_at dksX0_whyNotIn_0 3 rfl rfl)
theorem dX0_whyNotIn_4 : decode cX0_whyNotIn 4 = .ok (.iload_n 1, 1) := dk_27 (dk_at dksX0_whyNotIn_0 4 rfl rfl)
theorem dX0_whyNotIn_5 : decode cX0_whyNotIn 5 = .ok (.iload_n 2, 1) := dk_28 (dk_at dksX0_whyNotIn_0 5 rfl rfl)
theorem dX0_whyNotIn_6 : decode cX0_whyNotIn 6 = .ok (.iload_n 3, 1) := dk_29 (dk_at dksX0_whyNotIn_0 6 rfl rfl)
theorem dX0_whyNotIn_7 : decode cX0_whyNotIn 7 = .ok (.invokevirtual 79, 3) := dk_182 0 79 (dk_at dksX0_whyNotIn_0 7 rfl rfl)
theorem dX0_whyNotIn_10 : decode cX0_whyNotIn 10 = .ok (.i2l, 1) := dk_133 (dk_at dksX0_whyNotIn_0 10 rfl rfl)
theorem dX0_whyNotIn_11 : decode cX0_whyNotIn 11 = .ok (.lastore, 1) := dk_80 (dk_at dksX0_whyNotIn_0 11 rfl rfl)
theorem dX0_whyNotIn_12 : decode cX0_whyNotIn 12 = .ok (.goto 11, 3) := dk_167 0 11 (dk_at dksX0_whyNotIn_0 12 rfl rfl)
theorem dX0_whyNotIn_15 : decode cX0_whyNotIn 15 = .ok (.astore 5, 2) := dk_58 5 (dk_at dksX0_whyNotIn_0 15 rfl rfl)
theorem dX0_whyNotIn_17 : decode cX0_whyNotIn 17 = .ok (.iconst 1, 1) := dk_4 (dk_at dksX0_whyNotIn_0 17 rfl rfl)
theorem dX0_whyNotIn_18 : decode cX0_whyNotIn 18 = .ok (.ireturn, 1) := dk_172 (dk_at dksX0_whyNotIn_0 18 rfl rfl)
theorem dX0_whyNotIn_19 : decode cX0_whyNotIn 19 = .ok (.astore 5, 2) := dk_58 5 (dk_at dksX0_whyNotIn_0 19 rfl rfl)
theorem dX0_whyNotIn_21 : decode cX0_whyNotIn 21 = .ok (.iconst 2, 1) := dk_5 (dk_at dksX0_whyNotIn_0 21 rfl rfl)
theorem dX0_whyNotIn_22 : decode cX0_whyNotIn 22 = .ok (.ireturn, 1) := dk_172 (dk_at dksX0_whyNotIn_0 22 rfl rfl)
theorem dX0_whyNotIn_23 : decode cX0_whyNotIn 23 = .ok (.iconst 0, 1) := dk_3 (dk_at dksX0_whyNotIn_0 23 rfl rfl)
theorem dX0_whyNotIn_24 : decode cX0_whyNotIn 24 = .ok (.ireturn, 1) := dk_172 (dk_at dksX0_whyNotIn_1 0 rfl rfl)
abbrev cX0_sortOf : ByteArray := method_24_code
def yX0_sortOf : MethodName := ⟨RX0, "sortOf", "(LPaperMill;I[J)I"⟩
def dkwX0_sortOf_0 : List UInt8 := [44, 3, 42, 27, 182, 0, 82, 133, 80, 167, 0, 6, 78, 4, 172, 3, 172]
abbrev dktX0_sortOf_0 : List UInt8 := dkwX0_sortOf_0 ++ []
theorem dksX0_sortOf_0 : cX0_sortOf.data.toList.drop 0 = dktX0_sortOf_0 := by decide +kernel
theorem dX0_sortOf_0 : decode cX0_sortOf 0 = .ok (.aload_n 2, 1) := dk_44 (dk_at dksX0_sortOf_0 0 rfl rfl)
theorem dX0_sortOf_1 : decode cX0_sortOf 1 = .ok (.iconst 0, 1) := dk_3 (dk_at dksX0_sortOf_0 1 rfl rfl)
theorem dX0_sortOf_2 : decode cX0_sortOf 2 = .ok (.aload_n 0, 1) := dk_42 (dk_at dksX0_sortOf_0 2 rfl rfl)
theorem dX0_sortOf_3 : decode cX0_sortOf 3 = .ok (.iload_n 1, 1) := dk_27 (dk_at dksX0_sortOf_0 3 rfl rfl)
theorem dX0_sortOf_4 : decode cX0_sortOf 4 = .ok (.invokevirtual 82, 3) := dk_182 0 82 (dk_at dksX0_sortOf_0 4 rfl rfl)
theorem dX0_sortOf_7 : decode cX0_sortOf 7 = .ok (.i2l, 1) := dk_133 (dk_at dksX0_sortOf_0 7 rfl rfl)
theorem dX0_sortOf_8 : decode cX0_sortOf 8 = .ok (.lastore, 1) := dk_80 (dk_at dksX0_sortOf_0 8 rfl rfl)
theorem dX0_sortOf_9 : decode cX0_sortOf 9 = .ok (.goto 6, 3) := dk_167 0 6 (dk_at dksX0_sortOf_0 9 rfl rfl)
theorem dX0_sortOf_12 : decode cX0_sortOf 12 = .ok (.astore_n 3, 1) := dk_78 (dk_at dksX0_sortOf_0 12 rfl rfl)
theorem dX0_sortOf_13 : decode cX0_sortOf 13 = .ok (.iconst 1, 1) := dk_4 (dk_at dksX0_sortOf_0 13 rfl rfl)
theorem dX0_sortOf_14 : decode cX0_sortOf 14 = .ok (.ireturn, 1) := dk_172 (dk_at dksX0_sortOf_0 14 rfl rfl)
theorem dX0_sortOf_15 : decode cX0_sortOf 15 = .ok (.iconst 0, 1) := dk_3 (dk_at dksX0_sortOf_0 15 rfl rfl)
theorem dX0_sortOf_16 : decode cX0_sortOf 16 = .ok (.ireturn, 1) := dk_172 (dk_at dksX0_sortOf_0 16 rfl rfl)
abbrev cX0_ragsOf : ByteArray := method_25_code
def yX0_ragsOf : MethodName := ⟨RX0, "ragsOf", "(LPaperMill;I[J)I"⟩
def dkwX0_ragsOf_0 : List UInt8 := [44, 3, 42, 27, 182, 0, 85, 133, 80, 167, 0, 6, 78, 4, 172, 3, 172]
abbrev dktX0_ragsOf_0 : List UInt8 := dkwX0_ragsOf_0 ++ []
theorem dksX0_ragsOf_0 : cX0_ragsOf.data.toList.drop 0 = dktX0_ragsOf_0 := by decide +kernel
theorem dX0_ragsOf_0 : decode cX0_ragsOf 0 = .ok (.aload_n 2, 1) := dk_44 (dk_at dksX0_ragsOf_0 0 rfl rfl)
theorem dX0_ragsOf_1 : decode cX0_ragsOf 1 = .ok (.iconst 0, 1) := dk_3 (dk_at dksX0_ragsOf_0 1 rfl rfl)
theorem dX0_ragsOf_2 : decode cX0_ragsOf 2 = .ok (.aload_n 0, 1) := dk_42 (dk_at dksX0_ragsOf_0 2 rfl rfl)
theorem dX0_ragsOf_3 : decode cX0_ragsOf 3 = .ok (.iload_n 1, 1) := dk_27 (dk_at dksX0_ragsOf_0 3 rfl rfl)
theorem dX0_ragsOf_4 : decode cX0_ragsOf 4 = .ok (.invokevirtual 85, 3) := dk_182 0 85 (dk_at dksX0_ragsOf_0 4 rfl rfl)
theorem dX0_ragsOf_7 : decode cX0_ragsOf 7 = .ok (.i2l, 1) := dk_133 (dk_at dksX0_ragsOf_0 7 rfl rfl)
theorem dX0_ragsOf_8 : decode cX0_ragsOf 8 = .ok (.lastore, 1) := dk_80 (dk_at dksX0_ragsOf_0 8 rfl rfl)
theorem dX0_ragsOf_9 : decode cX0_ragsOf 9 = .ok (.goto 6, 3) := dk_167 0 6 (dk_at dksX0_ragsOf_0 9 rfl rfl)
theorem dX0_ragsOf_12 : decode cX0_ragsOf 12 = .ok (.astore_n 3, 1) := dk_78 (dk_at dksX0_ragsOf_0 12 rfl rfl)
theorem dX0_ragsOf_13 : decode cX0_ragsOf 13 = .ok (.iconst 1, 1) := dk_4 (dk_at dksX0_ragsOf_0 13 rfl rfl)
theorem dX0_ragsOf_14 : decode cX0_ragsOf 14 = .ok (.ireturn, 1) := dk_172 (dk_at dksX0_ragsOf_0 14 rfl rfl)
theorem dX0_ragsOf_15 : decode cX0_ragsOf 15 = .ok (.iconst 0, 1) := dk_3 (dk_at dksX0_ragsOf_0 15 rfl rfl)
theorem dX0_ragsOf_16 : decode cX0_ragsOf 16 = .ok (.ireturn, 1) := dk_172 (dk_at dksX0_ragsOf_0 16 rfl rfl)
abbrev cX0_dampOf : ByteArray := method_26_code
def yX0_dampOf : MethodName := ⟨RX0, "dampOf", "(LPaperMill;I[J)I"⟩
def dkwX0_dampOf_0 : List UInt8 := [44, 3, 42, 27, 182, 0, 88, 133, 80, 167, 0, 6, 78, 4, 172, 3, 172]
abbrev dktX0_dampOf_0 : List UInt8 := dkwX0_dampOf_0 ++ []
theorem dksX0_dampOf_0 : cX0_dampOf.data.toList.drop 0 = dktX0_dampOf_0 := by decide +kernel
theorem dX0_dampOf_0 : decode cX0_dampOf 0 = .ok (.aload_n 2, 1) := dk_44 (dk_at dksX0_dampOf_0 0 rfl rfl)
theorem dX0_dampOf_1 : decode cX0_dampOf 1 = .ok (.iconst 0, 1) := dk_3 (dk_at dksX0_dampOf_0 1 rfl rfl)
theorem dX0_dampOf_2 : decode cX0_dampOf 2 = .ok (.aload_n 0, 1) := dk_42 (dk_at dksX0_dampOf_0 2 rfl rfl)
theorem dX0_dampOf_3 : decode cX0_dampOf 3 = .ok (.iload_n 1, 1) := dk_27 (dk_at dksX0_dampOf_0 3 rfl rfl)
theorem dX0_dampOf_4 : decode cX0_dampOf 4 = .ok (.invokevirtual 88, 3) := dk_182 0 88 (dk_at dksX0_dampOf_0 4 rfl rfl)
theorem dX0_dampOf_7 : decode cX0_dampOf 7 = .ok (.i2l, 1) := dk_133 (dk_at dksX0_dampOf_0 7 rfl rfl)
theorem dX0_dampOf_8 : decode cX0_dampOf 8 = .ok (.lastore, 1) := dk_80 (dk_at dksX0_dampOf_0 8 rfl rfl)
theorem dX0_dampOf_9 : decode cX0_dampOf 9 = .ok (.goto 6, 3) := dk_167 0 6 (dk_at dksX0_dampOf_0 9 rfl rfl)
theorem dX0_dampOf_12 : decode cX0_dampOf 12 = .ok (.astore_n 3, 1) := dk_78 (dk_at dksX0_dampOf_0 12 rfl rfl)
theorem dX0_dampOf_13 : decode cX0_dampOf 13 = .ok (.iconst 1, 1) := dk_4 (dk_at dksX0_dampOf_0 13 rfl rfl)
theorem dX0_dampOf_14 : decode cX0_dampOf 14 = .ok (.ireturn, 1) := dk_172 (dk_at dksX0_dampOf_0 14 rfl rfl)
theorem dX0_dampOf_15 : decode cX0_dampOf 15 = .ok (.iconst 0, 1) := dk_3 (dk_at dksX0_dampOf_0 15 rfl rfl)
theorem dX0_dampOf_16 : decode cX0_dampOf 16 = .ok (.ireturn, 1) := dk_172 (dk_at dksX0_dampOf_0 16 rfl rfl)
abbrev cX0_wetDaysOf : ByteArray := method_27_code
def yX0_wetDaysOf : MethodName := ⟨RX0, "wetDaysOf", "(LPaperMill;I[J)I"⟩
def dkwX0_wetDaysOf_0 : List UInt8 := [44, 3, 42, 27, 182, 0, 91, 133, 80, 167, 0, 6, 78, 4, 172, 3, 172]
abbrev dktX0_wetDaysOf_0 : List UInt8 := dkwX0_wetDaysOf_0 ++ []
theorem dksX0_wetDaysOf_0 : cX0_wetDaysOf.data.toList.drop 0 = dktX0_wetDaysOf_0 := by decide +kernel
theorem dX0_wetDaysOf_0 : decode cX0_wetDaysOf 0 = .ok (.aload_n 2, 1) := dk_44 (dk_at dksX0_wetDaysOf_0 0 rfl rfl)
theorem dX0_wetDaysOf_1 : decode cX0_wetDaysOf 1 = .ok (.iconst 0, 1) := dk_3 (dk_at dksX0_wetDaysOf_0 1 rfl rfl)
theorem dX0_wetDaysOf_2 : decode cX0_wetDaysOf 2 = .ok (.aload_n 0, 1) := dk_42 (dk_at dksX0_wetDaysOf_0 2 rfl rfl)
theorem dX0_wetDaysOf_3 : decode cX0_wetDaysOf 3 = .ok (.iload_n 1, 1) := dk_27 (dk_at dksX0_wetDaysOf_0 3 rfl rfl)
theorem dX0_wetDaysOf_4 : decode cX0_wetDaysOf 4 = .ok (.invokevirtual 91, 3) := dk_182 0 91 (dk_at dksX0_wetDaysOf_0 4 rfl rfl)
theorem dX0_wetDaysOf_7 : decode cX0_wetDaysOf 7 = .ok (.i2l, 1) := dk_133 (dk_at dksX0_wetDaysOf_0 7 rfl rfl)
theorem dX0_wetDaysOf_8 : decode cX0_wetDaysOf 8 = .ok (.lastore, 1) := dk_80 (dk_at dksX0_wetDaysOf_0 8 rfl rfl)
theorem dX0_wetDaysOf_9 : decode cX0_wetDaysOf 9 = .ok (.goto 6, 3) := dk_167 0 6 (dk_at dksX0_wetDaysOf_0 9 rfl rfl)
theorem dX0_wetDaysOf_12 : decode cX0_wetDaysOf 12 = .ok (.astore_n 3, 1) := dk_78 (dk_at dksX0_wetDaysOf_0 12 rfl rfl)
theorem dX0_wetDaysOf_13 : decode cX0_wetDaysOf 13 = .ok (.iconst 1, 1) := dk_4 (dk_at dksX0_wetDaysOf_0 13 rfl rfl)
theorem dX0_wetDaysOf_14 : decode cX0_wetDaysOf 14 = .ok (.ireturn, 1) := dk_172 (dk_at dksX0_wetDaysOf_0 14 rfl rfl)
theorem dX0_wetDaysOf_15 : decode cX0_wetDaysOf 15 = .ok (.iconst 0, 1) := dk_3 (dk_at dksX0_wetDaysOf_0 15 rfl rfl)
theorem dX0_wetDaysOf_16 : decode cX0_wetDaysOf 16 = .ok (.ireturn, 1) := dk_172 (dk_at dksX0_wetDaysOf_0 16 rfl rfl)
abbrev cX0_goodRags : ByteArray := method_28_code
def yX0_goodRags : MethodName := ⟨RX0, "goodRags", "(LPaperMill;I[J)I"⟩
def dkwX0_goodRags_0 : List UInt8 := [44, 3, 42, 27, 182, 0, 94, 133, 80, 167, 0, 6, 78, 4, 172, 3, 172]
abbrev dktX0_goodRags_0 : List UInt8 := dkwX0_goodRags_0 ++ []
theorem dksX0_goodRags_0 : cX0_goodRags.data.toList.drop 0 = dktX0_goodRags_0 := by decide +kernel
theorem dX0_goodRags_0 : decode cX0_goodRags 0 = .ok (.aload_n 2, 1) := dk_44 (dk_at dksX0_goodRags_0 0 rfl rfl)
theorem dX0_goodRags_1 : decode cX0_goodRags 1 = .ok (.iconst 0, 1) := dk_3 (dk_at dksX0_goodRags_0 1 rfl rfl)
theorem dX0_goodRags_2 : decode cX0_goodRags 2 = .ok (.aload_n 0, 1) := dk_42 (dk_at dksX0_goodRags_0 2 rfl rfl)
theorem dX0_goodRags_3 : decode cX0_goodRags 3 = .ok (.iload_n 1, 1) := dk_27 (dk_at dksX0_goodRags_0 3 rfl rfl)
theorem dX0_goodRags_4 : decode cX0_goodRags 4 = .ok (.invokevirtual 94, 3) := dk_182 0 94 (dk_at dksX0_goodRags_0 4 rfl rfl)
theorem dX0_goodRags_7 : decode cX0_goodRags 7 = .ok (.i2l, 1) := dk_133 (dk_at dksX0_goodRags_0 7 rfl rfl)
theorem dX0_goodRags_8 : decode cX0_goodRags 8 = .ok (.lastore, 1) := dk_80 (dk_at dksX0_goodRags_0 8 rfl rfl)
theorem dX0_goodRags_9 : decode cX0_goodRags 9 = .ok (.goto 6, 3) := dk_167 0 6 (dk_at dksX0_goodRags_0 9 rfl rfl)
theorem dX0_goodRags_12 : decode cX0_goodRags 12 = .ok (.astore_n 3, 1) := dk_78 (dk_at dksX0_goodRags_0 12 rfl rfl)
theorem dX0_goodRags_13 : decode cX0_goodRags 13 = .ok (.iconst 1, 1) := dk_4 (dk_at dksX0_goodRags_0 13 rfl rfl)
theorem dX0_goodRags_14 : decode cX0_goodRags 14 = .ok (.ireturn, 1) := dk_172 (dk_at dksX0_goodRags_0 14 rfl rfl)
theorem dX0_goodRags_15 : decode cX0_goodRags 15 = .ok (.iconst 0, 1) := dk_3 (dk_at dksX0_goodRags_0 15 rfl rfl)
theorem dX0_goodRags_16 : decode cX0_goodRags 16 = .ok (.ireturn, 1) := dk_172 (dk_at dksX0_goodRags_0 16 rfl rfl)
abbrev cX0_mouldReach : ByteArray := method_29_code
def yX0_mouldReach : MethodName := ⟨RX0, "mouldReach", "(LPaperMill;I[J)I"⟩
def dkwX0_mouldReach_0 : List UInt8 := [44, 3, 42, 27, 182, 0, 97, 133, 80, 167, 0, 6, 78, 4, 172, 3, 172]
abbrev dktX0_mouldReach_0 : List UInt8 := dkwX0_mouldReach_0 ++ []
theorem dksX0_mouldReach_0 : cX0_mouldReach.data.toList.drop 0 = dktX0_mouldReach_0 := by decide +kernel
theorem dX0_mouldReach_0 : decode cX0_mouldReach 0 = .ok (.aload_n 2, 1) := dk_44 (dk_at dksX0_mouldReach_0 0 rfl rfl)
theorem dX0_mouldReach_1 : decode cX0_mouldReach 1 = .ok (.iconst 0, 1) := dk_3 (dk_at dksX0_mouldReach_0 1 rfl rfl)
theorem dX0_mouldReach_2 : decode cX0_mouldReach 2 = .ok (.aload_n 0, 1) := dk_42 (dk_at dksX0_mouldReach_0 2 rfl rfl)
theorem dX0_mouldReach_3 : decode cX0_mouldReach 3 = .ok (.iload_n 1, 1) := dk_27 (dk_at dksX0_mouldReach_0 3 rfl rfl)
theorem dX0_mouldReach_4 : decode cX0_mouldReach 4 = .ok (.invokevirtual 97, 3) := dk_182 0 97 (dk_at dksX0_mouldReach_0 4 rfl rfl)
theorem dX0_mouldReach_7 : decode cX0_mouldReach 7 = .ok (.i2l, 1) := dk_133 (dk_at dksX0_mouldReach_0 7 rfl rfl)
theorem dX0_mouldReach_8 : decode cX0_mouldReach 8 = .ok (.lastore, 1) := dk_80 (dk_at dksX0_mouldReach_0 8 rfl rfl)
theorem dX0_mouldReach_9 : decode cX0_mouldReach 9 = .ok (.goto 6, 3) := dk_167 0 6 (dk_at dksX0_mouldReach_0 9 rfl rfl)
theorem dX0_mouldReach_12 : decode cX0_mouldReach 12 = .ok (.astore_n 3, 1) := dk_78 (dk_at dksX0_mouldReach_0 12 rfl rfl)
theorem dX0_mouldReach_13 : decode cX0_mouldReach 13 = .ok (.iconst 1, 1) := dk_4 (dk_at dksX0_mouldReach_0 13 rfl rfl)
theorem dX0_mouldReach_14 : decode cX0_mouldReach 14 = .ok (.ireturn, 1) := dk_172 (dk_at dksX0_mouldReach_0 14 rfl rfl)
theorem dX0_mouldReach_15 : decode cX0_mouldReach 15 = .ok (.iconst 0, 1) := dk_3 (dk_at dksX0_mouldReach_0 15 rfl rfl)
theorem dX0_mouldReach_16 : decode cX0_mouldReach 16 = .ok (.ireturn, 1) := dk_172 (dk_at dksX0_mouldReach_0 16 rfl rfl)
abbrev cX0_partsOf : ByteArray := method_30_code
def yX0_partsOf : MethodName := ⟨RX0, "partsOf", "(LPaperMill;I[J)I"⟩
def dkwX0_partsOf_0 : List UInt8 := [44, 3, 42, 27, 182, 0, 100, 133, 80, 167, 0, 6, 78, 4, 172, 3, 172]
abbrev dktX0_partsOf_0 : List UInt8 := dkwX0_partsOf_0 ++ []
theorem dksX0_partsOf_0 : cX0_partsOf.data.toList.drop 0 = dktX0_partsOf_0 := by decide +kernel
theorem dX0_partsOf_0 : decode cX0_partsOf 0 = .ok (.aload_n 2, 1) := dk_44 (dk_at dksX0_partsOf_0 0 rfl rfl)
theorem dX0_partsOf_1 : decode cX0_partsOf 1 = .ok (.iconst 0, 1) := dk_3 (dk_at dksX0_partsOf_0 1 rfl rfl)
theorem dX0_partsOf_2 : decode cX0_partsOf 2 = .ok (.aload_n 0, 1) := dk_42 (dk_at dksX0_partsOf_0 2 rfl rfl)
theorem dX0_partsOf_3 : decode cX0_partsOf 3 = .ok (.iload_n 1, 1) := dk_27 (dk_at dksX0_partsOf_0 3 rfl rfl)
theorem dX0_partsOf_4 : decode cX0_partsOf 4 = .ok (.invokevirtual 100, 3) := dk_182 0 100 (dk_at dksX0_partsOf_0 4 rfl rfl)
theorem dX0_partsOf_7 : decode cX0_partsOf 7 = .ok (.i2l, 1) := dk_133 (dk_at dksX0_partsOf_0 7 rfl rfl)
theorem dX0_partsOf_8 : decode cX0_partsOf 8 = .ok (.lastore, 1) := dk_80 (dk_at dksX0_partsOf_0 8 rfl rfl)
theorem dX0_partsOf_9 : decode cX0_partsOf 9 = .ok (.goto 6, 3) := dk_167 0 6 (dk_at dksX0_partsOf_0 9 rfl rfl)
theorem dX0_partsOf_12 : decode cX0_partsOf 12 = .ok (.astore_n 3, 1) := dk_78 (dk_at dksX0_partsOf_0 12 rfl rfl)
theorem dX0_partsOf_13 : decode cX0_partsOf 13 = .ok (.iconst 1, 1) := dk_4 (dk_at dksX0_partsOf_0 13 rfl rfl)
theorem dX0_partsOf_14 : decode cX0_partsOf 14 = .ok (.ireturn, 1) := dk_172 (dk_at dksX0_partsOf_0 14 rfl rfl)
theorem dX0_partsOf_15 : decode cX0_partsOf 15 = .ok (.iconst 0, 1) := dk_3 (dk_at dksX0_partsOf_0 15 rfl rfl)
theorem dX0_partsOf_16 : decode cX0_partsOf 16 = .ok (.ireturn, 1) := dk_172 (dk_at dksX0_partsOf_0 16 rfl rfl)
abbrev cX0_shareOf : ByteArray := method_31_code
def yX0_shareOf : MethodName := ⟨RX0, "shareOf", "(LPaperMill;II[J)I"⟩
def dkwX0_shareOf_0 : List UInt8 := [45, 3, 42, 27, 28, 182, 0, 103, 133, 80, 167, 0, 7, 58, 4, 4, 172, 3, 172]
abbrev dktX0_shareOf_0 : List UInt8 := dkwX0_shareOf_0 ++ []
theorem dksX0_shareOf_0 : cX0_shareOf.data.toList.drop 0 = dktX0_shareOf_0 := by decide +kernel
theorem dX0_shareOf_0 : decode cX0_shareOf 0 = .ok (.aload_n 3, 1) := dk_45 (dk_at dksX0_shareOf_0 0 rfl rfl)
theorem dX0_shareOf_1 : decode cX0_shareOf 1 = .ok (.iconst 0, 1) := dk_3 (dk_at dksX0_shareOf_0 1 rfl rfl)
theorem dX0_shareOf_2 : decode cX0_shareOf 2 = .ok (.aload_n 0, 1) := dk_42 (dk_at dksX0_shareOf_0 2 rfl rfl)
theorem dX0_shareOf_3 : decode cX0_shareOf 3 = .ok (.iload_n 1, 1) := dk_27 (dk_at dksX0_shareOf_0 3 rfl rfl)
theorem dX0_shareOf_4 : decode cX0_shareOf 4 = .ok (.iload_n 2, 1) := dk_28 (dk_at dksX0_shareOf_0 4 rfl rfl)
theorem dX0_shareOf_5 : decode cX0_shareOf 5 = .ok (.invokevirtual 103, 3) := dk_182 0 103 (dk_at dksX0_shareOf_0 5 rfl rfl)
theorem dX0_shareOf_8 : decode cX0_shareOf 8 = .ok (.i2l, 1) := dk_133 (dk_at dksX0_shareOf_0 8 rfl rfl)
theorem dX0_shareOf_9 : decode cX0_shareOf 9 = .ok (.lastore, 1) := dk_80 (dk_at dksX0_shareOf_0 9 rfl rfl)
theorem dX0_shareOf_10 : decode cX0_shareOf 10 = .ok (.goto 7, 3) := dk_167 0 7 (dk_at dksX0_shareOf_0 10 rfl rfl)
theorem dX0_shareOf_13 : decode cX0_shareOf 13 = .ok (.astore 4, 2) := dk_58 4 (dk_at dksX0_shareOf_0 13 rfl rfl)
theorem dX0_shareOf_15 : decode cX0_shareOf 15 = .ok (.iconst 1, 1) := dk_4 (dk_at dksX0_shareOf_0 15 rfl rfl)
theorem dX0_shareOf_16 : decode cX0_shareOf 16 = .ok (.ireturn, 1) := dk_172 (dk_at dksX0_shareOf_0 16 rfl rfl)
theorem dX0_shareOf_17 : decode cX0_shareOf 17 = .ok (.iconst 0, 1) := dk_3 (dk_at dksX0_shareOf_0 17 rfl rfl)
theorem dX0_shareOf_18 : decode cX0_shareOf 18 = .ok (.ireturn, 1) := dk_172 (dk_at dksX0_shareOf_0 18 rfl rfl)
abbrev cX0_unitsIn : ByteArray := method_32_code
def yX0_unitsIn : MethodName := ⟨RX0, "unitsIn", "(LPaperMill;I[J)I"⟩
def dkwX0_unitsIn_0 : List UInt8 := [44, 3, 42, 27, 182, 0, 106, 133, 80, 167, 0, 6, 78, 4, 172, 3, 172]
abbrev dktX0_unitsIn_0 : List UInt8 := dkwX0_unitsIn_0 ++ []
theorem dksX0_unitsIn_0 : cX0_unitsIn.data.toList.drop 0 = dktX0_unitsIn_0 := by decide +kernel
theorem dX0_unitsIn_0 : decode cX0_unitsIn 0 = .ok (.aload_n 2, 1) := dk_44 (dk_at dksX0_unitsIn_0 0 rfl rfl)
theorem dX0_unitsIn_1 : decode cX0_unitsIn 1 = .ok (.iconst 0, 1) := dk_3 (dk_at dksX0_unitsIn_0 1 rfl rfl)
theorem dX0_unitsIn_2 : decode cX0_unitsIn 2 = .ok (.aload_n 0, 1) := dk_42 (dk_at dksX0_unitsIn_0 2 rfl rfl)
theorem dX0_unitsIn_3 : decode cX0_unitsIn 3 = .ok (.iload_n 1, 1) := dk_27 (dk_at dksX0_unitsIn_0 3 rfl rfl)
theorem dX0_unitsIn_4 : decode cX0_unitsIn 4 = .ok (.invokevirtual 106, 3) := dk_182 0 106 (dk_at dksX0_unitsIn_0 4 rfl rfl)
theorem dX0_unitsIn_7 : decode cX0_unitsIn 7 = .ok (.i2l, 1) := dk_133 (dk_at dksX0_unitsIn_0 7 rfl rfl)
theorem dX0_unitsIn_8 : decode cX0_unitsIn 8 = .ok (.lastore, 1) := dk_80 (dk_at dksX0_unitsIn_0 8 rfl rfl)
theorem dX0_unitsIn_9 : decode cX0_unitsIn 9 = .ok (.goto 6, 3) := dk_167 0 6 (dk_at dksX0_unitsIn_0 9 rfl rfl)
theorem dX0_unitsIn_12 : decode cX0_unitsIn 12 = .ok (.astore_n 3, 1) := dk_78 (dk_at dksX0_unitsIn_0 12 rfl rfl)
theorem dX0_unitsIn_13 : decode cX0_unitsIn 13 = .ok (.iconst 1, 1) := dk_4 (dk_at dksX0_unitsIn_0 13 rfl rfl)
theorem dX0_unitsIn_14 : decode cX0_unitsIn 14 = .ok (.ireturn, 1) := dk_172 (dk_at dksX0_unitsIn_0 14 rfl rfl)
theorem dX0_unitsIn_15 : decode cX0_unitsIn 15 = .ok (.iconst 0, 1) := dk_3 (dk_at dksX0_unitsIn_0 15 rfl rfl)
theorem dX0_unitsIn_16 : decode cX0_unitsIn 16 = .ok (.ireturn, 1) := dk_172 (dk_at dksX0_unitsIn_0 16 rfl rfl)
abbrev cX0_hoursOf : ByteArray := method_33_code
def yX0_hoursOf : MethodName := ⟨RX0, "hoursOf", "(LPaperMill;I[J)I"⟩
def dkwX0_hoursOf_0 : List UInt8 := [44, 3, 42, 27, 182, 0, 109, 133, 80, 167, 0, 6, 78, 4, 172, 3, 172]
abbrev dktX0_hoursOf_0 : List UInt8 := dkwX0_hoursOf_0 ++ []
theorem dksX0_hoursOf_0 : cX0_hoursOf.data.toList.drop 0 = dktX0_hoursOf_0 := by decide +kernel
theorem dX0_hoursOf_0 : decode cX0_hoursOf 0 = .ok (.aload_n 2, 1) := dk_44 (dk_at dksX0_hoursOf_0 0 rfl rfl)
theorem dX0_hoursOf_1 : decode cX0_hoursOf 1 = .ok (.iconst 0, 1) := dk_3 (dk_at dksX0_hoursOf_0 1 rfl rfl)
theorem dX0_hoursOf_2 : decode cX0_hoursOf 2 = .ok (.aload_n 0, 1) := dk_42 (dk_at dksX0_hoursOf_0 2 rfl rfl)
theorem dX0_hoursOf_3 : decode cX0_hoursOf 3 = .ok (.iload_n 1, 1) := dk_27 (dk_at dksX0_hoursOf_0 3 rfl rfl)
theorem dX0_hoursOf_4 : decode cX0_hoursOf 4 = .ok (.invokevirtual 109, 3) := dk_182 0 109 (dk_at dksX0_hoursOf_0 4 rfl rfl)
theorem dX0_hoursOf_7 : decode cX0_hoursOf 7 = .ok (.i2l, 1) := dk_133 (dk_at dksX0_hoursOf_0 7 rfl rfl)
theorem dX0_hoursOf_8 : decode cX0_hoursOf 8 = .ok (.lastore, 1) := dk_80 (dk_at dksX0_hoursOf_0 8 rfl rfl)
theorem dX0_hoursOf_9 : decode cX0_hoursOf 9 = .ok (.goto 6, 3) := dk_167 0 6 (dk_at dksX0_hoursOf_0 9 rfl rfl)
theorem dX0_hoursOf_12 : decode cX0_hoursOf 12 = .ok (.astore_n 3, 1) := dk_78 (dk_at dksX0_hoursOf_0 12 rfl rfl)
theorem dX0_hoursOf_13 : decode cX0_hoursOf 13 = .ok (.iconst 1, 1) := dk_4 (dk_at dksX0_hoursOf_0 13 rfl rfl)
theorem dX0_hoursOf_14 : decode cX0_hoursOf 14 = .ok (.ireturn, 1) := dk_172 (dk_at dksX0_hoursOf_0 14 rfl rfl)
theorem dX0_hoursOf_15 : decode cX0_hoursOf 15 = .ok (.iconst 0, 1) := dk_3 (dk_at dksX0_hoursOf_0 15 rfl rfl)
theorem dX0_hoursOf_16 : decode cX0_hoursOf 16 = .ok (.ireturn, 1) := dk_172 (dk_at dksX0_hoursOf_0 16 rfl rfl)
abbrev cX0_strengthOf : ByteArray := method_34_code
def yX0_strengthOf : MethodName := ⟨RX0, "strengthOf", "(LPaperMill;I[J)I"⟩
def dkwX0_strengthOf_0 : List UInt8 := [44, 3, 42, 27, 182, 0, 112, 133, 80, 167, 0, 6, 78, 4, 172, 3, 172]
abbrev dktX0_strengthOf_0 : List UInt8 := dkwX0_strengthOf_0 ++ []
theorem dksX0_strengthOf_0 : cX0_strengthOf.data.toList.drop 0 = dktX0_strengthOf_0 := by decide +kernel
theorem dX0_strengthOf_0 : decode cX0_strengthOf 0 = .ok (.aload_n 2, 1) := dk_44 (dk_at dksX0_strengthOf_0 0 rfl rfl)
theorem dX0_strengthOf_1 : decode cX0_strengthOf 1 = .ok (.iconst 0, 1) := dk_3 (dk_at dksX0_strengthOf_0 1 rfl rfl)
theorem dX0_strengthOf_2 : decode cX0_strengthOf 2 = .ok (.aload_n 0, 1) := dk_42 (dk_at dksX0_strengthOf_0 2 rfl rfl)
theorem dX0_strengthOf_3 : decode cX0_strengthOf 3 = .ok (.iload_n 1, 1) := dk_27 (dk_at dksX0_strengthOf_0 3 rfl rfl)
theorem dX0_strengthOf_4 : decode cX0_strengthOf 4 = .ok (.invokevirtual 112, 3) := dk_182 0 112 (dk_at dksX0_strengthOf_0 4 rfl rfl)
theorem dX0_strengthOf_7 : decode cX0_strengthOf 7 = .ok (.i2l, 1) := dk_133 (dk_at dksX0_strengthOf_0 7 rfl rfl)
theorem dX0_strengthOf_8 : decode cX0_strengthOf 8 = .ok (.lastore, 1) := dk_80 (dk_at dksX0_strengthOf_0 8 rfl rfl)
theorem dX0_strengthOf_9 : decode cX0_strengthOf 9 = .ok (.goto 6, 3) := dk_167 0 6 (dk_at dksX0_strengthOf_0 9 rfl rfl)
theorem dX0_strengthOf_12 : decode cX0_strengthOf 12 = .ok (.astore_n 3, 1) := dk_78 (dk_at dksX0_strengthOf_0 12 rfl rfl)
theorem dX0_strengthOf_13 : decode cX0_strengthOf 13 = .ok (.iconst 1, 1) := dk_4 (dk_at dksX0_strengthOf_0 13 rfl rfl)
theorem dX0_strengthOf_14 : decode cX0_strengthOf 14 = .ok (.ireturn, 1) := dk_172 (dk_at dksX0_strengthOf_0 14 rfl rfl)
theorem dX0_strengthOf_15 : decode cX0_strengthOf 15 = .ok (.iconst 0, 1) := dk_3 (dk_at dksX0_strengthOf_0 15 rfl rfl)
theorem dX0_strengthOf_16 : decode cX0_strengthOf 16 = .ok (.ireturn, 1) := dk_172 (dk_at dksX0_strengthOf_0 16 rfl rfl)
abbrev cX0_whyNotBeaten : ByteArray := method_35_code
def yX0_whyNotBeaten : MethodName := ⟨RX0, "whyNotBeaten", "(LPaperMill;II[J)I"⟩
def dkwX0_whyNotBeaten_0 : List UInt8 := [45, 3, 42, 27, 28, 182, 0, 115, 133, 80, 167, 0, 11, 58, 4, 4, 172, 58, 4, 5, 172, 3, 172]
abbrev dktX0_whyNotBeaten_0 : List UInt8 := dkwX0_whyNotBeaten_0 ++ []
theorem dksX0_whyNotBeaten_0 : cX0_whyNotBeaten.data.toList.drop 0 = dktX0_whyNotBeaten_0 := by decide +kernel
theorem dX0_whyNotBeaten_0 : decode cX0_whyNotBeaten 0 = .ok (.aload_n 3, 1) := dk_45 (dk_at dksX0_whyNotBeaten_0 0 rfl rfl)
theorem dX0_whyNotBeaten_1 : decode cX0_whyNotBeaten 1 = .ok (.iconst 0, 1) := dk_3 (dk_at dksX0_whyNotBeaten_0 1 rfl rfl)
theorem dX0_whyNotBeaten_2 : decode cX0_whyNotBeaten 2 = .ok (.aload_n 0, 1) := dk_42 (dk_at dksX0_whyNotBeaten_0 2 rfl rfl)
theorem dX0_whyNotBeaten_3 : decode cX0_whyNotBeaten 3 = .ok (.iload_n 1, 1) := dk_27 (dk_at dksX0_whyNotBeaten_0 3 rfl rfl)
theorem dX0_whyNotBeaten_4 : decode cX0_whyNotBeaten 4 = .ok (.iload_n 2, 1) := dk_28 (dk_at dksX0_whyNotBeaten_0 4 rfl rfl)
theorem dX0_whyNotBeaten_5 : decode cX0_whyNotBeaten 5 = .ok (.invokevirtual 115, 3) := dk_182 0 115 (dk_at dksX0_whyNotBeaten_0 5 rfl rfl)
theorem dX0_whyNotBeaten_8 : decode cX0_whyNotBeaten 8 = .ok (.i2l, 1) := dk_133 (dk_at dksX0_whyNotBeaten_0 8 rfl rfl)
theorem dX0_whyNotBeaten_9 : decode cX0_whyNotBeaten 9 = .ok (.lastore, 1) := dk_80 (dk_at dksX0_whyNotBeaten_0 9 rfl rfl)
theorem dX0_whyNotBeaten_10 : decode cX0_whyNotBeaten 10 = .ok (.goto 11, 3) := dk_167 0 11 (dk_at dksX0_whyNotBeaten_0 10 rfl rfl)
theorem dX0_whyNotBeaten_13 : decode cX0_whyNotBeaten 13 = .ok (.astore 4, 2) := dk_58 4 (dk_at dksX0_whyNotBeaten_0 13 rfl rfl)
theorem dX0_whyNotBeaten_15 : decode cX0_whyNotBeaten 15 = .ok (.iconst 1, 1) := dk_4 (dk_at dksX0_whyNotBeaten_0 15 rfl rfl)
theorem dX0_whyNotBeaten_16 : decode cX0_whyNotBeaten 16 = .ok (.ireturn, 1) := dk_172 (dk_at dksX0_whyNotBeaten_0 16 rfl rfl)
theorem dX0_whyNotBeaten_17 : decode cX0_whyNotBeaten 17 = .ok (.astore 4, 2) := dk_58 4 (dk_at dksX0_whyNotBeaten_0 17 rfl rfl)
theorem dX0_whyNotBeaten_19 : decode cX0_whyNotBeaten 19 = .ok (.iconst 2, 1) := dk_5 (dk_at dksX0_whyNotBeaten_0 19 rfl rfl)
theorem dX0_whyNotBeaten_20 : decode cX0_whyNotBeaten 20 = .ok (.ireturn, 1) := dk_172 (dk_at dksX0_whyNotBeaten_0 20 rfl rfl)
theorem dX0_whyNotBeaten_21 : decode cX0_whyNotBeaten 21 = .ok (.iconst 0, 1) := dk_3 (dk_at dksX0_whyNotBeaten_0 21 rfl rfl)
theorem dX0_whyNotBeaten_22 : decode cX0_whyNotBeaten 22 = .ok (.ireturn, 1) := dk_172 (dk_at dksX0_whyNotBeaten_0 22 rfl rfl)
abbrev cX0_markOf : ByteArray := method_36_code
def yX0_markOf : MethodName := ⟨RX0, "markOf", "(LPaperMill;I[J)I"⟩
def dkwX0_markOf_0 : List UInt8 := [44, 3, 42, 27, 182, 0, 118, 133, 80, 167, 0, 6, 78, 4, 172, 3, 172]
abbrev dktX0_markOf_0 : List UInt8 := dkwX0_markOf_0 ++ []
theorem dksX0_markOf_0 : cX0_markOf.data.toList.drop 0 = dktX0_markOf_0 := by decide +kernel
theorem dX0_markOf_0 : decode cX0_markOf 0 = .ok (.aload_n 2, 1) := dk_44 (dk_at dksX0_markOf_0 0 rfl rfl)
theorem dX0_markOf_1 : decode cX0_markOf 1 = .ok (.iconst 0, 1) := dk_3 (dk_at dksX0_markOf_0 1 rfl rfl)
theorem dX0_markOf_2 : decode cX0_markOf 2 = .ok (.aload_n 0, 1) := dk_42 (dk_at dksX0_markOf_0 2 rfl rfl)
theorem dX0_markOf_3 : decode cX0_markOf 3 = .ok (.iload_n 1, 1) := dk_27 (dk_at dksX0_markOf_0 3 rfl rfl)
theorem dX0_markOf_4 : decode cX0_markOf 4 = .ok (.invokevirtual 118, 3) := dk_182 0 118 (dk_at dksX0_markOf_0 4 rfl rfl)
theorem dX0_markOf_7 : decode cX0_markOf 7 = .ok (.i2l, 1) := dk_133 (dk_at dksX0_markOf_0 7 rfl rfl)
theorem dX0_markOf_8 : decode cX0_markOf 8 = .ok (.lastore, 1) := dk_80 (dk_at dksX0_markOf_0 8 rfl rfl)
theorem dX0_markOf_9 : decode cX0_markOf 9 = .ok (.goto 6, 3) := dk_167 0 6 (dk_at dksX0_markOf_0 9 rfl rfl)
theorem dX0_markOf_12 : decode cX0_markOf 12 = .ok (.astore_n 3, 1) := dk_78 (dk_at dksX0_markOf_0 12 rfl rfl)
theorem dX0_markOf_13 : decode cX0_markOf 13 = .ok (.iconst 1, 1) := dk_4 (dk_at dksX0_markOf_0 13 rfl rfl)
theorem dX0_markOf_14 : decode cX0_markOf 14 = .ok (.ireturn, 1) := dk_172 (dk_at dksX0_markOf_0 14 rfl rfl)
theorem dX0_markOf_15 : decode cX0_markOf 15 = .ok (.iconst 0, 1) := dk_3 (dk_at dksX0_markOf_0 15 rfl rfl)
theorem dX0_markOf_16 : decode cX0_markOf 16 = .ok (.ireturn, 1) := dk_172 (dk_at dksX0_markOf_0 16 rfl rfl)
abbrev cX0_wearOf : ByteArray := method_37_code
def yX0_wearOf : MethodName := ⟨RX0, "wearOf", "(LPaperMill;I[J)I"⟩
def dkwX0_wearOf_0 : List UInt8 := [44, 3, 42, 27, 182, 0, 121, 133, 80, 167, 0, 6, 78, 4, 172, 3, 172]
abbrev dktX0_wearOf_0 : List UInt8 := dkwX0_wearOf_0 ++ []
theorem dksX0_wearOf_0 : cX0_wearOf.data.toList.drop 0 = dktX0_wearOf_0 := by decide +kernel
theorem dX0_wearOf_0 : decode cX0_wearOf 0 = .ok (.aload_n 2, 1) := dk_44 (dk_at dksX0_wearOf_0 0 rfl rfl)
theorem dX0_wearOf_1 : decode cX0_wearOf 1 = .ok (.iconst 0, 1) := dk_3 (dk_at dksX0_wearOf_0 1 rfl rfl)
theorem dX0_wearOf_2 : decode cX0_wearOf 2 = .ok (.aload_n 0, 1) := dk_42 (dk_at dksX0_wearOf_0 2 rfl rfl)
theorem dX0_wearOf_3 : decode cX0_wearOf 3 = .ok (.iload_n 1, 1) := dk_27 (dk_at dksX0_wearOf_0 3 rfl rfl)
theorem dX0_wearOf_4 : decode cX0_wearOf 4 = .ok (.invokevirtual 121, 3) := dk_182 0 121 (dk_at dksX0_wearOf_0 4 rfl rfl)
theorem dX0_wearOf_7 : decode cX0_wearOf 7 = .ok (.i2l, 1) := dk_133 (dk_at dksX0_wearOf_0 7 rfl rfl)
theorem dX0_wearOf_8 : decode cX0_wearOf 8 = .ok (.lastore, 1) := dk_80 (dk_at dksX0_wearOf_0 8 rfl rfl)
theorem dX0_wearOf_9 : decode cX0_wearOf 9 = .ok (.goto 6, 3) := dk_167 0 6 (dk_at dksX0_wearOf_0 9 rfl rfl)
theorem dX0_wearOf_12 : decode cX0_wearOf 12 = .ok (.astore_n 3, 1) := dk_78 (dk_at dksX0_wearOf_0 12 rfl rfl)
theorem dX0_wearOf_13 : decode cX0_wearOf 13 = .ok (.iconst 1, 1) := dk_4 (dk_at dksX0_wearOf_0 13 rfl rfl)
theorem dX0_wearOf_14 : decode cX0_wearOf 14 = .ok (.ireturn, 1) := dk_172 (dk_at dksX0_wearOf_0 14 rfl rfl)
theorem dX0_wearOf_15 : decode cX0_wearOf 15 = .ok (.iconst 0, 1) := dk_3 (dk_at dksX0_wearOf_0 15 rfl rfl)
theorem dX0_wearOf_16 : decode cX0_wearOf 16 = .ok (.ireturn, 1) := dk_172 (dk_at dksX0_wearOf_0 16 rfl rfl)
abbrev cX0_pointsOf : ByteArray := method_38_code
def yX0_pointsOf : MethodName := ⟨RX0, "pointsOf", "(LPaperMill;II[J)I"⟩
def dkwX0_pointsOf_0 : List UInt8 := [45, 3, 42, 27, 28, 182, 0, 124, 133, 80, 167, 0, 11, 58, 4, 4, 172, 58, 4, 5, 172, 3, 172]
abbrev dktX0_pointsOf_0 : List UInt8 := dkwX0_pointsOf_0 ++ []
theorem dksX0_pointsOf_0 : cX0_pointsOf.data.toList.drop 0 = dktX0_pointsOf_0 := by decide +kernel
theorem dX0_pointsOf_0 : decode cX0_pointsOf 0 = .ok (.aload_n 3, 1) := dk_45 (dk_at dksX0_pointsOf_0 0 rfl rfl)
theorem dX0_pointsOf_1 : decode cX0_pointsOf 1 = .ok (.iconst 0, 1) := dk_3 (dk_at dksX0_pointsOf_0 1 rfl rfl)
theorem dX0_pointsOf_2 : decode cX0_pointsOf 2 = .ok (.aload_n 0, 1) := dk_42 (dk_at dksX0_pointsOf_0 2 rfl rfl)
theorem dX0_pointsOf_3 : decode cX0_pointsOf 3 = .ok (.iload_n 1, 1) := dk_27 (dk_at dksX0_pointsOf_0 3 rfl rfl)
theorem dX0_pointsOf_4 : decode cX0_pointsOf 4 = .ok (.iload_n 2, 1) := dk_28 (dk_at dksX0_pointsOf_0 4 rfl rfl)
theorem dX0_pointsOf_5 : decode cX0_pointsOf 5 = .ok (.invokevirtual 124, 3) := dk_182 0 124 (dk_at dksX0_pointsOf_0 5 rfl rfl)
theorem dX0_pointsOf_8 : decode cX0_pointsOf 8 = .ok (.i2l, 1) := dk_133 (dk_at dksX0_pointsOf_0 8 rfl rfl)
theorem dX0_pointsOf_9 : decode cX0_pointsOf 9 = .ok (.lastore, 1) := dk_80 (dk_at dksX0_pointsOf_0 9 rfl rfl)
theorem dX0_pointsOf_10 : decode cX0_pointsOf 10 = .ok (.goto 11, 3) := dk_167 0 11 (dk_at dksX0_pointsOf_0 10 rfl rfl)
theorem dX0_pointsOf_13 : decode cX0_pointsOf 13 = .ok (.astore 4, 2) := dk_58 4 (dk_at dksX0_pointsOf_0 13 rfl rfl)
theorem dX0_pointsOf_15 : decode cX0_pointsOf 15 = .ok (.iconst 1, 1) := dk_4 (dk_at dksX0_pointsOf_0 15 rfl rfl)
theorem dX0_pointsOf_16 : decode cX0_pointsOf 16 = .ok (.ireturn, 1) := dk_172 (dk_at dksX0_pointsOf_0 16 rfl rfl)
theorem dX0_pointsOf_17 : decode cX0_pointsOf 17 = .ok (.astore 4, 2) := dk_58 4 (dk_at dksX0_pointsOf_0 17 rfl rfl)
theorem dX0_pointsOf_19 : decode cX0_pointsOf 19 = .ok (.iconst 2, 1) := dk_5 (dk_at dksX0_pointsOf_0 19 rfl rfl)
theorem dX0_pointsOf_20 : decode cX0_pointsOf 20 = .ok (.ireturn, 1) := dk_172 (dk_at dksX0_pointsOf_0 20 rfl rfl)
theorem dX0_pointsOf_21 : decode cX0_pointsOf 21 = .ok (.iconst 0, 1) := dk_3 (dk_at dksX0_pointsOf_0 21 rfl rfl)
theorem dX0_pointsOf_22 : decode cX0_pointsOf 22 = .ok (.ireturn, 1) := dk_172 (dk_at dksX0_pointsOf_0 22 rfl rfl)
abbrev cX0_whyNotMade : ByteArray := method_39_code
def yX0_whyNotMade : MethodName := ⟨RX0, "whyNotMade", "(LPaperMill;III[J)I"⟩
def dkwX0_whyNotMade_1 : List UInt8 := [172]
abbrev dktX0_whyNotMade_1 : List UInt8 := dkwX0_whyNotMade_1 ++ []
def dkwX0_whyNotMade_0 : List UInt8 := [25, 4, 3, 42, 27, 28, 29, 182, 0, 127, 133, 80, 167, 0, 11, 58, 5, 4, 172, 58, 5, 5, 172, 3]
abbrev dktX0_whyNotMade_0 : List UInt8 := dkwX0_whyNotMade_0 ++ dktX0_whyNotMade_1
theorem dksX0_whyNotMade_0 : cX0_whyNotMade.data.toList.drop 0 = dktX0_whyNotMade_0 := by decide +kernel
theorem dksX0_whyNotMade_1 : cX0_whyNotMade.data.toList.drop 24 = dktX0_whyNotMade_1 := dk_seg dksX0_whyNotMade_0 24 rfl rfl
theorem dX0_whyNotMade_0 : decode cX0_whyNotMade 0 = .ok (.aload 4, 2) := dk_25 4 (dk_at dksX0_whyNotMade_0 0 rfl rfl)
theorem dX0_whyNotMade_2 : decode cX0_whyNotMade 2 = .ok (.iconst 0, 1) := dk_3 (dk_at dksX0_whyNotMade_0 2 rfl rfl)
theorem dX0_whyNotMade_3 : decode cX0_whyNotMade 3 = .ok (.aload_n 0, 1) := dk_42 (dk_at dksX0_whyNotMade_0 3 rfl rfl)
theorem dX0_whyNotMade_4 : decode cX0_whyNotMade 4 = .ok (.iload_n 1, 1) := dk_27 (dk_at dksX0_whyNotMade_0 4 rfl rfl)
theorem dX0_whyNotMade_5 : decode cX0_whyNotMade 5 = .ok (.iload_n 2, 1) := dk_28 (dk_at dksX0_whyNotMade_0 5 rfl rfl)
theorem dX0_whyNotMade_6 : decode cX0_whyNotMade 6 = .ok (.iload_n 3, 1) := dk_29 (dk_at dksX0_whyNotMade_0 6 rfl rfl)
theorem dX0_whyNotMade_7 : decode cX0_whyNotMade 7 = .ok (.invokevirtual 127, 3) := dk_182 0 127 (dk_at dksX0_whyNotMade_0 7 rfl rfl)
theorem dX0_whyNotMade_10 : decode cX0_whyNotMade 10 = .ok (.i2l, 1) := dk_133 (dk_at dksX0_whyNotMade_0 10 rfl rfl)
theorem dX0_whyNotMade_11 : decode cX0_whyNotMade 11 = .ok (.lastore, 1) := dk_80 (dk_at dksX0_whyNotMade_0 11 rfl rfl)
theorem dX0_whyNotMade_12 : decode cX0_whyNotMade 12 = .ok (.goto 11, 3) := dk_167 0 11 (dk_at dksX0_whyNotMade_0 12 rfl rfl)
theorem dX0_whyNotMade_15 : decode cX0_whyNotMade 15 = .ok (.astore 5, 2) := dk_58 5 (dk_at dksX0_whyNotMade_0 15 rfl rfl)
theorem dX0_whyNotMade_17 : decode cX0_whyNotMade 17 = .ok (.iconst 1, 1) := dk_4 (dk_at dksX0_whyNotMade_0 17 rfl rfl)
theorem dX0_whyNotMade_18 : decode cX0_whyNotMade 18 = .ok (.ireturn, 1) := dk_172 (dk_at dksX0_whyNotMade_0 18 rfl rfl)
theorem dX0_whyNotMade_19 : decode cX0_whyNotMade 19 = .ok (.astore 5, 2) := dk_58 5 (dk_at dksX0_whyNotMade_0 19 rfl rfl)
theorem dX0_whyNotMade_21 : decode cX0_whyNotMade 21 = .ok (.iconst 2, 1) := dk_5 (dk_at dksX0_whyNotMade_0 21 rfl rfl)
theorem dX0_whyNotMade_22 : decode cX0_whyNotMade 22 = .ok (.ireturn, 1) := dk_172 (dk_at dksX0_whyNotMade_0 22 rfl rfl)
theorem dX0_whyNotMade_23 : decode cX0_whyNotMade 23 = .ok (.iconst 0, 1) := dk_3 (dk_at dksX0_whyNotMade_0 23 rfl rfl)
theorem dX0_whyNotMade_24 : decode cX0_whyNotMade 24 = .ok (.ireturn, 1) := dk_172 (dk_at dksX0_whyNotMade_1 0 rfl rfl)
abbrev cX0_sheetsFrom : ByteArray := method_40_code
def yX0_sheetsFrom : MethodName := ⟨RX0, "sheetsFrom", "(LPaperMill;II[J)I"⟩
def dkwX0_sheetsFrom_0 : List UInt8 := [45, 3, 42, 27, 28, 182, 0, 130, 133, 80, 167, 0, 7, 58, 4, 4, 172, 3, 172]
abbrev dktX0_sheetsFrom_0 : List UInt8 := dkwX0_sheetsFrom_0 ++ []
theorem dksX0_sheetsFrom_0 : cX0_sheetsFrom.data.toList.drop 0 = dktX0_sheetsFrom_0 := by decide +kernel
theorem dX0_sheetsFrom_0 : decode cX0_sheetsFrom 0 = .ok (.aload_n 3, 1) := dk_45 (dk_at dksX0_sheetsFrom_0 0 rfl rfl)
theorem dX0_sheetsFrom_1 : decode cX0_sheetsFrom 1 = .ok (.iconst 0, 1) := dk_3 (dk_at dksX0_sheetsFrom_0 1 rfl rfl)
theorem dX0_sheetsFrom_2 : decode cX0_sheetsFrom 2 = .ok (.aload_n 0, 1) := dk_42 (dk_at dksX0_sheetsFrom_0 2 rfl rfl)
theorem dX0_sheetsFrom_3 : decode cX0_sheetsFrom 3 = .ok (.iload_n 1, 1) := dk_27 (dk_at dksX0_sheetsFrom_0 3 rfl rfl)
theorem dX0_sheetsFrom_4 : decode cX0_sheetsFrom 4 = .ok (.iload_n 2, 1) := dk_28 (dk_at dksX0_sheetsFrom_0 4 rfl rfl)
theorem dX0_sheetsFrom_5 : decode cX0_sheetsFrom 5 = .ok (.invokevirtual 130, 3) := dk_182 0 130 (dk_at dksX0_sheetsFrom_0 5 rfl rfl)
theorem dX0_sheetsFrom_8 : decode cX0_sheetsFrom 8 = .ok (.i2l, 1) := dk_133 (dk_at dksX0_sheetsFrom_0 8 rfl rfl)
theorem dX0_sheetsFrom_9 : decode cX0_sheetsFrom 9 = .ok (.lastore, 1) := dk_80 (dk_at dksX0_sheetsFrom_0 9 rfl rfl)
theorem dX0_sheetsFrom_10 : decode cX0_sheetsFrom 10 = .ok (.goto 7, 3) := dk_167 0 7 (dk_at dksX0_sheetsFrom_0 10 rfl rfl)
theorem dX0_sheetsFrom_13 : decode cX0_sheetsFrom 13 = .ok (.astore 4, 2) := dk_58 4 (dk_at dksX0_sheetsFrom_0 13 rfl rfl)
theorem dX0_sheetsFrom_15 : decode cX0_sheetsFrom 15 = .ok (.iconst 1, 1) := dk_4 (dk_at dksX0_sheetsFrom_0 15 rfl rfl)
theorem dX0_sheetsFrom_16 : decode cX0_sheetsFrom 16 = .ok (.ireturn, 1) := dk_172 (dk_at dksX0_sheetsFrom_0 16 rfl rfl)
theorem dX0_sheetsFrom_17 : decode cX0_sheetsFrom 17 = .ok (.iconst 0, 1) := dk_3 (dk_at dksX0_sheetsFrom_0 17 rfl rfl)
theorem dX0_sheetsFrom_18 : decode cX0_sheetsFrom 18 = .ok (.ireturn, 1) := dk_172 (dk_at dksX0_sheetsFrom_0 18 rfl rfl)
abbrev cX0_sheetsByTrying : ByteArray := method_41_code
def yX0_sheetsByTrying : MethodName := ⟨RX0, "sheetsByTrying", "(LPaperMill;II[J)I"⟩
def dkwX0_sheetsByTrying_0 : List UInt8 := [45, 3, 42, 27, 28, 182, 0, 133, 133, 80, 167, 0, 7, 58, 4, 4, 172, 3, 172]
abbrev dktX0_sheetsByTrying_0 : List UInt8 := dkwX0_sheetsByTrying_0 ++ []
theorem dksX0_sheetsByTrying_0 : cX0_sheetsByTrying.data.toList.drop 0 = dktX0_sheetsByTrying_0 := by decide +kernel
theorem dX0_sheetsByTrying_0 : decode cX0_sheetsByTrying 0 = .ok (.aload_n 3, 1) := dk_45 (dk_at dksX0_sheetsByTrying_0 0 rfl rfl)
theorem dX0_sheetsByTrying_1 : decode cX0_sheetsByTrying 1 = .ok (.iconst 0, 1) := dk_3 (dk_at dksX0_sheetsByTrying_0 1 rfl rfl)
theorem dX0_sheetsByTrying_2 : decode cX0_sheetsByTrying 2 = .ok (.aload_n 0, 1) := dk_42 (dk_at dksX0_sheetsByTrying_0 2 rfl rfl)
theorem dX0_sheetsByTrying_3 : decode cX0_sheetsByTrying 3 = .ok (.iload_n 1, 1) := dk_27 (dk_at dksX0_sheetsByTrying_0 3 rfl rfl)
theorem dX0_sheetsByTrying_4 : decode cX0_sheetsByTrying 4 = .ok (.iload_n 2, 1) := dk_28 (dk_at dksX0_sheetsByTrying_0 4 rfl rfl)
theorem dX0_sheetsByTrying_5 : decode cX0_sheetsByTrying 5 = .ok (.invokevirtual 133, 3) := dk_182 0 133 (dk_at dksX0_sheetsByTrying_0 5 rfl rfl)
theorem dX0_sheetsByTrying_8 : decode cX0_sheetsByTrying 8 = .ok (.i2l, 1) := dk_133 (dk_at dksX0_sheetsByTrying_0 8 rfl rfl)
theorem dX0_sheetsByTrying_9 : decode cX0_sheetsByTrying 9 = .ok (.lastore, 1) := dk_80 (dk_at dksX0_sheetsByTrying_0 9 rfl rfl)
theorem dX0_sheetsByTrying_10 : decode cX0_sheetsByTrying 10 = .ok (.goto 7, 3) := dk_167 0 7 (dk_at dksX0_sheetsByTrying_0 10 rfl rfl)
theorem dX0_sheetsByTrying_13 : decode cX0_sheetsByTrying 13 = .ok (.astore 4, 2) := dk_58 4 (dk_at dksX0_sheetsByTrying_0 13 rfl rfl)
theorem dX0_sheetsByTrying_15 : decode cX0_sheetsByTrying 15 = .ok (.iconst 1, 1) := dk_4 (dk_at dksX0_sheetsByTrying_0 15 rfl rfl)
theorem dX0_sheetsByTrying_16 : decode cX0_sheetsByTrying 16 = .ok (.ireturn, 1) := dk_172 (dk_at dksX0_sheetsByTrying_0 16 rfl rfl)
theorem dX0_sheetsByTrying_17 : decode cX0_sheetsByTrying 17 = .ok (.iconst 0, 1) := dk_3 (dk_at dksX0_sheetsByTrying_0 17 rfl rfl)
theorem dX0_sheetsByTrying_18 : decode cX0_sheetsByTrying 18 = .ok (.ireturn, 1) := dk_172 (dk_at dksX0_sheetsByTrying_0 18 rfl rfl)
abbrev cX0_sheetsOn : ByteArray := method_42_code
def yX0_sheetsOn : MethodName := ⟨RX0, "sheetsOn", "(LPaperMill;I[J)I"⟩
def dkwX0_sheetsOn_0 : List UInt8 := [44, 3, 42, 27, 182, 0, 136, 133, 80, 167, 0, 6, 78, 4, 172, 3, 172]
abbrev dktX0_sheetsOn_0 : List UInt8 := dkwX0_sheetsOn_0 ++ []
theorem dksX0_sheetsOn_0 : cX0_sheetsOn.data.toList.drop 0 = dktX0_sheetsOn_0 := by decide +kernel
theorem dX0_sheetsOn_0 : decode cX0_sheetsOn 0 = .ok (.aload_n 2, 1) := dk_44 (dk_at dksX0_sheetsOn_0 0 rfl rfl)
theorem dX0_sheetsOn_1 : decode cX0_sheetsOn 1 = .ok (.iconst 0, 1) := dk_3 (dk_at dksX0_sheetsOn_0 1 rfl rfl)
theorem dX0_sheetsOn_2 : decode cX0_sheetsOn 2 = .ok (.aload_n 0, 1) := dk_42 (dk_at dksX0_sheetsOn_0 2 rfl rfl)
theorem dX0_sheetsOn_3 : decode cX0_sheetsOn 3 = .ok (.iload_n 1, 1) := dk_27 (dk_at dksX0_sheetsOn_0 3 rfl rfl)
theorem dX0_sheetsOn_4 : decode cX0_sheetsOn 4 = .ok (.invokevirtual 136, 3) := dk_182 0 136 (dk_at dksX0_sheetsOn_0 4 rfl rfl)
theorem dX0_sheetsOn_7 : decode cX0_sheetsOn 7 = .ok (.i2l, 1) := dk_133 (dk_at dksX0_sheetsOn_0 7 rfl rfl)
theorem dX0_sheetsOn_8 : decode cX0_sheetsOn 8 = .ok (.lastore, 1) := dk_80 (dk_at dksX0_sheetsOn_0 8 rfl rfl)
theorem dX0_sheetsOn_9 : decode cX0_sheetsOn 9 = .ok (.goto 6, 3) := dk_167 0 6 (dk_at dksX0_sheetsOn_0 9 rfl rfl)
theorem dX0_sheetsOn_12 : decode cX0_sheetsOn 12 = .ok (.astore_n 3, 1) := dk_78 (dk_at dksX0_sheetsOn_0 12 rfl rfl)
theorem dX0_sheetsOn_13 : decode cX0_sheetsOn 13 = .ok (.iconst 1, 1) := dk_4 (dk_at dksX0_sheetsOn_0 13 rfl rfl)
theorem dX0_sheetsOn_14 : decode cX0_sheetsOn 14 = .ok (.ireturn, 1) := dk_172 (dk_at dksX0_sheetsOn_0 14 rfl rfl)
theorem dX0_sheetsOn_15 : decode cX0_sheetsOn 15 = .ok (.iconst 0, 1) := dk_3 (dk_at dksX0_sheetsOn_0 15 rfl rfl)
theorem dX0_sheetsOn_16 : decode cX0_sheetsOn 16 = .ok (.ireturn, 1) := dk_172 (dk_at dksX0_sheetsOn_0 16 rfl rfl)
abbrev cX0_gradeOf : ByteArray := method_43_code
def yX0_gradeOf : MethodName := ⟨RX0, "gradeOf", "(LPaperMill;I[J)I"⟩
def dkwX0_gradeOf_0 : List UInt8 := [44, 3, 42, 27, 182, 0, 139, 133, 80, 167, 0, 6, 78, 4, 172, 3, 172]
abbrev dktX0_gradeOf_0 : List UInt8 := dkwX0_gradeOf_0 ++ []
theorem dksX0_gradeOf_0 : cX0_gradeOf.data.toList.drop 0 = dktX0_gradeOf_0 := by decide +kernel
theorem dX0_gradeOf_0 : decode cX0_gradeOf 0 = .ok (.aload_n 2, 1) := dk_44 (dk_at dksX0_gradeOf_0 0 rfl rfl)
theorem dX0_gradeOf_1 : decode cX0_gradeOf 1 = .ok (.iconst 0, 1) := dk_3 (dk_at dksX0_gradeOf_0 1 rfl rfl)
theorem dX0_gradeOf_2 : decode cX0_gradeOf 2 = .ok (.aload_n 0, 1) := dk_42 (dk_at dksX0_gradeOf_0 2 rfl rfl)
theorem dX0_gradeOf_3 : decode cX0_gradeOf 3 = .ok (.iload_n 1, 1) := dk_27 (dk_at dksX0_gradeOf_0 3 rfl rfl)
theorem dX0_gradeOf_4 : decode cX0_gradeOf 4 = .ok (.invokevirtual 139, 3) := dk_182 0 139 (dk_at dksX0_gradeOf_0 4 rfl rfl)
theorem dX0_gradeOf_7 : decode cX0_gradeOf 7 = .ok (.i2l, 1) := dk_133 (dk_at dksX0_gradeOf_0 7 rfl rfl)
theorem dX0_gradeOf_8 : decode cX0_gradeOf 8 = .ok (.lastore, 1) := dk_80 (dk_at dksX0_gradeOf_0 8 rfl rfl)
theorem dX0_gradeOf_9 : decode cX0_gradeOf 9 = .ok (.goto 6, 3) := dk_167 0 6 (dk_at dksX0_gradeOf_0 9 rfl rfl)
theorem dX0_gradeOf_12 : decode cX0_gradeOf 12 = .ok (.astore_n 3, 1) := dk_78 (dk_at dksX0_gradeOf_0 12 rfl rfl)
theorem dX0_gradeOf_13 : decode cX0_gradeOf 13 = .ok (.iconst 1, 1) := dk_4 (dk_at dksX0_gradeOf_0 13 rfl rfl)
theorem dX0_gradeOf_14 : decode cX0_gradeOf 14 = .ok (.ireturn, 1) := dk_172 (dk_at dksX0_gradeOf_0 14 rfl rfl)
theorem dX0_gradeOf_15 : decode cX0_gradeOf 15 = .ok (.iconst 0, 1) := dk_3 (dk_at dksX0_gradeOf_0 15 rfl rfl)
theorem dX0_gradeOf_16 : decode cX0_gradeOf 16 = .ok (.ireturn, 1) := dk_172 (dk_at dksX0_gradeOf_0 16 rfl rfl)
abbrev cX0_drySheets : ByteArray := method_44_code
def yX0_drySheets : MethodName := ⟨RX0, "drySheets", "(LPaperMill;III[J)I"⟩
def dkwX0_drySheets_0 : List UInt8 := [25, 4, 3, 42, 27, 28, 29, 182, 0, 142, 133, 80, 167, 0, 7, 58, 5, 4, 172, 3, 172]
abbrev dktX0_drySheets_0 : List UInt8 := dkwX0_drySheets_0 ++ []
theorem dksX0_drySheets_0 : cX0_drySheets.data.toList.drop 0 = dktX0_drySheets_0 := by decide +kernel
theorem dX0_drySheets_0 : decode cX0_drySheets 0 = .ok (.aload 4, 2) := dk_25 4 (dk_at dksX0_drySheets_0 0 rfl rfl)
theorem dX0_drySheets_2 : decode cX0_drySheets 2 = .ok (.iconst 0, 1) := dk_3 (dk_at dksX0_drySheets_0 2 rfl rfl)
theorem dX0_drySheets_3 : decode cX0_drySheets 3 = .ok (.aload_n 0, 1) := dk_42 (dk_at dksX0_drySheets_0 3 rfl rfl)
theorem dX0_drySheets_4 : decode cX0_drySheets 4 = .ok (.iload_n 1, 1) := dk_27 (dk_at dksX0_drySheets_0 4 rfl rfl)
theorem dX0_drySheets_5 : decode cX0_drySheets 5 = .ok (.iload_n 2, 1) := dk_28 (dk_at dksX0_drySheets_0 5 rfl rfl)
theorem dX0_drySheets_6 : decode cX0_drySheets 6 = .ok (.iload_n 3, 1) := dk_29 (dk_at dksX0_drySheets_0 6 rfl rfl)
theorem dX0_drySheets_7 : decode cX0_drySheets 7 = .ok (.invokevirtual 142, 3) := dk_182 0 142 (dk_at dksX0_drySheets_0 7 rfl rfl)
theorem dX0_drySheets_10 : decode cX0_drySheets 10 = .ok (.i2l, 1) := dk_133 (dk_at dksX0_drySheets_0 10 rfl rfl)
theorem dX0_drySheets_11 : decode cX0_drySheets 11 = .ok (.lastore, 1) := dk_80 (dk_at dksX0_drySheets_0 11 rfl rfl)
theorem dX0_drySheets_12 : decode cX0_drySheets 12 = .ok (.goto 7, 3) := dk_167 0 7 (dk_at dksX0_drySheets_0 12 rfl rfl)
theorem dX0_drySheets_15 : decode cX0_drySheets 15 = .ok (.astore 5, 2) := dk_58 5 (dk_at dksX0_drySheets_0 15 rfl rfl)
theorem dX0_drySheets_17 : decode cX0_drySheets 17 = .ok (.iconst 1, 1) := dk_4 (dk_at dksX0_drySheets_0 17 rfl rfl)
theorem dX0_drySheets_18 : decode cX0_drySheets 18 = .ok (.ireturn, 1) := dk_172 (dk_at dksX0_drySheets_0 18 rfl rfl)
theorem dX0_drySheets_19 : decode cX0_drySheets 19 = .ok (.iconst 0, 1) := dk_3 (dk_at dksX0_drySheets_0 19 rfl rfl)
theorem dX0_drySheets_20 : decode cX0_drySheets 20 = .ok (.ireturn, 1) := dk_172 (dk_at dksX0_drySheets_0 20 rfl rfl)
abbrev cX0_whyNotPacked : ByteArray := method_45_code
def yX0_whyNotPacked : MethodName := ⟨RX0, "whyNotPacked", "(LPaperMill;III[J)I"⟩
def dkwX0_whyNotPacked_0 : List UInt8 := [25, 4, 3, 42, 27, 28, 29, 182, 0, 145, 133, 80, 167, 0, 7, 58, 5, 4, 172, 3, 172]
abbrev dktX0_whyNotPacked_0 : List UInt8 := dkwX0_whyNotPacked_0 ++ []
theorem dksX0_whyNotPacked_0 : cX0_whyNotPacked.data.toList.drop 0 = dktX0_whyNotPacked_0 := by decide +kernel
theorem dX0_whyNotPacked_0 : decode cX0_whyNotPacked 0 = .ok (.aload 4, 2) := dk_25 4 (dk_at dksX0_whyNotPacked_0 0 rfl rfl)
theorem dX0_whyNotPacked_2 : decode cX0_whyNotPacked 2 = .ok (.iconst 0, 1) := dk_3 (dk_at dksX0_whyNotPacked_0 2 rfl rfl)
theorem dX0_whyNotPacked_3 : decode cX0_whyNotPacked 3 = .ok (.aload_n 0, 1) := dk_42 (dk_at dksX0_whyNotPacked_0 3 rfl rfl)
theorem dX0_whyNotPacked_4 : decode cX0_whyNotPacked 4 = .ok (.iload_n 1, 1) := dk_27 (dk_at dksX0_whyNotPacked_0 4 rfl rfl)
theorem dX0_whyNotPacked_5 : decode cX0_whyNotPacked 5 = .ok (.iload_n 2, 1) := dk_28 (dk_at dksX0_whyNotPacked_0 5 rfl rfl)
theorem dX0_whyNotPacked_6 : decode cX0_whyNotPacked 6 = .ok (.iload_n 3, 1) := dk_29 (dk_at dksX0_whyNotPacked_0 6 rfl rfl)
theorem dX0_whyNotPacked_7 : decode cX0_whyNotPacked 7 = .ok (.invokevirtual 145, 3) := dk_182 0 145 (dk_at dksX0_whyNotPacked_0 7 rfl rfl)
theorem dX0_whyNotPacked_10 : decode cX0_whyNotPacked 10 = .ok (.i2l, 1) := dk_133 (dk_at dksX0_whyNotPacked_0 10 rfl rfl)
theorem dX0_whyNotPacked_11 : decode cX0_whyNotPacked 11 = .ok (.lastore, 1) := dk_80 (dk_at dksX0_whyNotPacked_0 11 rfl rfl)
theorem dX0_whyNotPacked_12 : decode cX0_whyNotPacked 12 = .ok (.goto 7, 3) := dk_167 0 7 (dk_at dksX0_whyNotPacked_0 12 rfl rfl)
theorem dX0_whyNotPacked_15 : decode cX0_whyNotPacked 15 = .ok (.astore 5, 2) := dk_58 5 (dk_at dksX0_whyNotPacked_0 15 rfl rfl)
theorem dX0_whyNotPacked_17 : decode cX0_whyNotPacked 17 = .ok (.iconst 1, 1) := dk_4 (dk_at dksX0_whyNotPacked_0 17 rfl rfl)
theorem dX0_whyNotPacked_18 : decode cX0_whyNotPacked 18 = .ok (.ireturn, 1) := dk_172 (dk_at dksX0_whyNotPacked_0 18 rfl rfl)
theorem dX0_whyNotPacked_19 : decode cX0_whyNotPacked 19 = .ok (.iconst 0, 1) := dk_3 (dk_at dksX0_whyNotPacked_0 19 rfl rfl)
theorem dX0_whyNotPacked_20 : decode cX0_whyNotPacked 20 = .ok (.ireturn, 1) := dk_172 (dk_at dksX0_whyNotPacked_0 20 rfl rfl)
abbrev cX0_quiresOf : ByteArray := method_46_code
def yX0_quiresOf : MethodName := ⟨RX0, "quiresOf", "(LPaperMill;I[J)I"⟩
def dkwX0_quiresOf_0 : List UInt8 := [44, 3, 42, 27, 182, 0, 148, 133, 80, 167, 0, 6, 78, 4, 172, 3, 172]
abbrev dktX0_quiresOf_0 : List UInt8 := dkwX0_quiresOf_0 ++ []
theorem dksX0_quiresOf_0 : cX0_quiresOf.data.toList.drop 0 = dktX0_quiresOf_0 := by decide +kernel
theorem dX0_quiresOf_0 : decode cX0_quiresOf 0 = .ok (.aload_n 2, 1) := dk_44 (dk_at dksX0_quiresOf_0 0 rfl rfl)
theorem dX0_quiresOf_1 : decode cX0_quiresOf 1 = .ok (.iconst 0, 1) := dk_3 (dk_at dksX0_quiresOf_0 1 rfl rfl)
theorem dX0_quiresOf_2 : decode cX0_quiresOf 2 = .ok (.aload_n 0, 1) := dk_42 (dk_at dksX0_quiresOf_0 2 rfl rfl)
theorem dX0_quiresOf_3 : decode cX0_quiresOf 3 = .ok (.iload_n 1, 1) := dk_27 (dk_at dksX0_quiresOf_0 3 rfl rfl)
theorem dX0_quiresOf_4 : decode cX0_quiresOf 4 = .ok (.invokevirtual 148, 3) := dk_182 0 148 (dk_at dksX0_quiresOf_0 4 rfl rfl)
theorem dX0_quiresOf_7 : decode cX0_quiresOf 7 = .ok (.i2l, 1) := dk_133 (dk_at dksX0_quiresOf_0 7 rfl rfl)
theorem dX0_quiresOf_8 : decode cX0_quiresOf 8 = .ok (.lastore, 1) := dk_80 (dk_at dksX0_quiresOf_0 8 rfl rfl)
theorem dX0_quiresOf_9 : decode cX0_quiresOf 9 = .ok (.goto 6, 3) := dk_167 0 6 (dk_at dksX0_quiresOf_0 9 rfl rfl)
theorem dX0_quiresOf_12 : decode cX0_quiresOf 12 = .ok (.astore_n 3, 1) := dk_78 (dk_at dksX0_quiresOf_0 12 rfl rfl)
theorem dX0_quiresOf_13 : decode cX0_quiresOf 13 = .ok (.iconst 1, 1) := dk_4 (dk_at dksX0_quiresOf_0 13 rfl rfl)
theorem dX0_quiresOf_14 : decode cX0_quiresOf 14 = .ok (.ireturn, 1) := dk_172 (dk_at dksX0_quiresOf_0 14 rfl rfl)
theorem dX0_quiresOf_15 : decode cX0_quiresOf 15 = .ok (.iconst 0, 1) := dk_3 (dk_at dksX0_quiresOf_0 15 rfl rfl)
theorem dX0_quiresOf_16 : decode cX0_quiresOf 16 = .ok (.ireturn, 1) := dk_172 (dk_at dksX0_quiresOf_0 16 rfl rfl)
abbrev cX0_priceOf : ByteArray := method_47_code
def yX0_priceOf : MethodName := ⟨RX0, "priceOf", "(LPaperMill;I[J)I"⟩
def dkwX0_priceOf_0 : List UInt8 := [44, 3, 42, 27, 182, 0, 151, 133, 80, 167, 0, 6, 78, 4, 172, 3, 172]
abbrev dktX0_priceOf_0 : List UInt8 := dkwX0_priceOf_0 ++ []
theorem dksX0_priceOf_0 : cX0_priceOf.data.toList.drop 0 = dktX0_priceOf_0 := by decide +kernel
theorem dX0_priceOf_0 : decode cX0_priceOf 0 = .ok (.aload_n 2, 1) := dk_44 (dk_at dksX0_priceOf_0 0 rfl rfl)
theorem dX0_priceOf_1 : decode cX0_priceOf 1 = .ok (.iconst 0, 1) := dk_3 (dk_at dksX0_priceOf_0 1 rfl rfl)
theorem dX0_priceOf_2 : decode cX0_priceOf 2 = .ok (.aload_n 0, 1) := dk_42 (dk_at dksX0_priceOf_0 2 rfl rfl)
theorem dX0_priceOf_3 : decode cX0_priceOf 3 = .ok (.iload_n 1, 1) := dk_27 (dk_at dksX0_priceOf_0 3 rfl rfl)
theorem dX0_priceOf_4 : decode cX0_priceOf 4 = .ok (.invokevirtual 151, 3) := dk_182 0 151 (dk_at dksX0_priceOf_0 4 rfl rfl)
theorem dX0_priceOf_7 : decode cX0_priceOf 7 = .ok (.i2l, 1) := dk_133 (dk_at dksX0_priceOf_0 7 rfl rfl)
theorem dX0_priceOf_8 : decode cX0_priceOf 8 = .ok (.lastore, 1) := dk_80 (dk_at dksX0_priceOf_0 8 rfl rfl)
theorem dX0_priceOf_9 : decode cX0_priceOf 9 = .ok (.goto 6, 3) := dk_167 0 6 (dk_at dksX0_priceOf_0 9 rfl rfl)
theorem dX0_priceOf_12 : decode cX0_priceOf 12 = .ok (.astore_n 3, 1) := dk_78 (dk_at dksX0_priceOf_0 12 rfl rfl)
theorem dX0_priceOf_13 : decode cX0_priceOf 13 = .ok (.iconst 1, 1) := dk_4 (dk_at dksX0_priceOf_0 13 rfl rfl)
theorem dX0_priceOf_14 : decode cX0_priceOf 14 = .ok (.ireturn, 1) := dk_172 (dk_at dksX0_priceOf_0 14 rfl rfl)
theorem dX0_priceOf_15 : decode cX0_priceOf 15 = .ok (.iconst 0, 1) := dk_3 (dk_at dksX0_priceOf_0 15 rfl rfl)
theorem dX0_priceOf_16 : decode cX0_priceOf 16 = .ok (.ireturn, 1) := dk_172 (dk_at dksX0_priceOf_0 16 rfl rfl)
abbrev cX0_lostIn : ByteArray := method_48_code
def yX0_lostIn : MethodName := ⟨RX0, "lostIn", "(LPaperMill;I[J)I"⟩
def dkwX0_lostIn_0 : List UInt8 := [44, 3, 42, 27, 182, 0, 154, 133, 80, 167, 0, 6, 78, 4, 172, 3, 172]
abbrev dktX0_lostIn_0 : List UInt8 := dkwX0_lostIn_0 ++ []
theorem dksX0_lostIn_0 : cX0_lostIn.data.toList.drop 0 = dktX0_lostIn_0 := by decide +kernel
theorem dX0_lostIn_0 : decode cX0_lostIn 0 = .ok (.aload_n 2, 1) := dk_44 (dk_at dksX0_lostIn_0 0 rfl rfl)
theorem dX0_lostIn_1 : decode cX0_lostIn 1 = .ok (.iconst 0, 1) := dk_3 (dk_at dksX0_lostIn_0 1 rfl rfl)
theorem dX0_lostIn_2 : decode cX0_lostIn 2 = .ok (.aload_n 0, 1) := dk_42 (dk_at dksX0_lostIn_0 2 rfl rfl)
theorem dX0_lostIn_3 : decode cX0_lostIn 3 = .ok (.iload_n 1, 1) := dk_27 (dk_at dksX0_lostIn_0 3 rfl rfl)
theorem dX0_lostIn_4 : decode cX0_lostIn 4 = .ok (.invokevirtual 154, 3) := dk_182 0 154 (dk_at dksX0_lostIn_0 4 rfl rfl)
theorem dX0_lostIn_7 : decode cX0_lostIn 7 = .ok (.i2l, 1) := dk_133 (dk_at dksX0_lostIn_0 7 rfl rfl)
theorem dX0_lostIn_8 : decode cX0_lostIn 8 = .ok (.lastore, 1) := dk_80 (dk_at dksX0_lostIn_0 8 rfl rfl)
theorem dX0_lostIn_9 : decode cX0_lostIn 9 = .ok (.goto 6, 3) := dk_167 0 6 (dk_at dksX0_lostIn_0 9 rfl rfl)
theorem dX0_lostIn_12 : decode cX0_lostIn 12 = .ok (.astore_n 3, 1) := dk_78 (dk_at dksX0_lostIn_0 12 rfl rfl)
theorem dX0_lostIn_13 : decode cX0_lostIn 13 = .ok (.iconst 1, 1) := dk_4 (dk_at dksX0_lostIn_0 13 rfl rfl)
theorem dX0_lostIn_14 : decode cX0_lostIn 14 = .ok (.ireturn, 1) := dk_172 (dk_at dksX0_lostIn_0 14 rfl rfl)
theorem dX0_lostIn_15 : decode cX0_lostIn 15 = .ok (.iconst 0, 1) := dk_3 (dk_at dksX0_lostIn_0 15 rfl rfl)
theorem dX0_lostIn_16 : decode cX0_lostIn 16 = .ok (.ireturn, 1) := dk_172 (dk_at dksX0_lostIn_0 16 rfl rfl)
abbrev cX0_append : ByteArray := method_49_code
def yX0_append : MethodName := ⟨RX0, "append", "(LPaperMill;I[J)I"⟩
def dkwX0_append_0 : List UInt8 := [44, 3, 42, 27, 182, 0, 157, 133, 80, 167, 0, 9, 78, 4, 172, 78, 5, 172, 3, 172]
abbrev dktX0_append_0 : List UInt8 := dkwX0_append_0 ++ []
theorem dksX0_append_0 : cX0_append.data.toList.drop 0 = dktX0_append_0 := by decide +kernel
theorem dX0_append_0 : decode cX0_append 0 = .ok (.aload_n 2, 1) := dk_44 (dk_at dksX0_append_0 0 rfl rfl)
theorem dX0_append_1 : decode cX0_append 1 = .ok (.iconst 0, 1) := dk_3 (dk_at dksX0_append_0 1 rfl rfl)
theorem dX0_append_2 : decode cX0_append 2 = .ok (.aload_n 0, 1) := dk_42 (dk_at dksX0_append_0 2 rfl rfl)
theorem dX0_append_3 : decode cX0_append 3 = .ok (.iload_n 1, 1) := dk_27 (dk_at dksX0_append_0 3 rfl rfl)
theorem dX0_append_4 : decode cX0_append 4 = .ok (.invokevirtual 157, 3) := dk_182 0 157 (dk_at dksX0_append_0 4 rfl rfl)
theorem dX0_append_7 : decode cX0_append 7 = .ok (.i2l, 1) := dk_133 (dk_at dksX0_append_0 7 rfl rfl)
theorem dX0_append_8 : decode cX0_append 8 = .ok (.lastore, 1) := dk_80 (dk_at dksX0_append_0 8 rfl rfl)
theorem dX0_append_9 : decode cX0_append 9 = .ok (.goto 9, 3) := dk_167 0 9 (dk_at dksX0_append_0 9 rfl rfl)
theorem dX0_append_12 : decode cX0_append 12 = .ok (.astore_n 3, 1) := dk_78 (dk_at dksX0_append_0 12 rfl rfl)
theorem dX0_append_13 : decode cX0_append 13 = .ok (.iconst 1, 1) := dk_4 (dk_at dksX0_append_0 13 rfl rfl)
theorem dX0_append_14 : decode cX0_append 14 = .ok (.ireturn, 1) := dk_172 (dk_at dksX0_append_0 14 rfl rfl)
theorem dX0_append_15 : decode cX0_append 15 = .ok (.astore_n 3, 1) := dk_78 (dk_at dksX0_append_0 15 rfl rfl)
theorem dX0_append_16 : decode cX0_append 16 = .ok (.iconst 2, 1) := dk_5 (dk_at dksX0_append_0 16 rfl rfl)
theorem dX0_append_17 : decode cX0_append 17 = .ok (.ireturn, 1) := dk_172 (dk_at dksX0_append_0 17 rfl rfl)
theorem dX0_append_18 : decode cX0_append 18 = .ok (.iconst 0, 1) := dk_3 (dk_at dksX0_append_0 18 rfl rfl)
theorem dX0_append_19 : decode cX0_append 19 = .ok (.ireturn, 1) := dk_172 (dk_at dksX0_append_0 19 rfl rfl)
abbrev cX0_runText : ByteArray := method_50_code
def yX0_runText : MethodName := ⟨RX0, "runText", "(LPaperMill;[J)I"⟩
def dkwX0_runText_0 : List UInt8 := [43, 3, 42, 182, 0, 160, 133, 80, 167, 0, 6, 77, 4, 172, 3, 172]
abbrev dktX0_runText_0 : List UInt8 := dkwX0_runText_0 ++ []
theorem dksX0_runText_0 : cX0_runText.data.toList.drop 0 = dktX0_runText_0 := by decide +kernel
theorem dX0_runText_0 : decode cX0_runText 0 = .ok (.aload_n 1, 1) := dk_43 (dk_at dksX0_runText_0 0 rfl rfl)
theorem dX0_runText_1 : decode cX0_runText 1 = .ok (.iconst 0, 1) := dk_3 (dk_at dksX0_runText_0 1 rfl rfl)
theorem dX0_runText_2 : decode cX0_runText 2 = .ok (.aload_n 0, 1) := dk_42 (dk_at dksX0_runText_0 2 rfl rfl)
theorem dX0_runText_3 : decode cX0_runText 3 = .ok (.invokevirtual 160, 3) := dk_182 0 160 (dk_at dksX0_runText_0 3 rfl rfl)
theorem dX0_runText_6 : decode cX0_runText 6 = .ok (.i2l, 1) := dk_133 (dk_at dksX0_runText_0 6 rfl rfl)
theorem dX0_runText_7 : decode cX0_runText 7 = .ok (.lastore, 1) := dk_80 (dk_at dksX0_runText_0 7 rfl rfl)
theorem dX0_runText_8 : decode cX0_runText 8 = .ok (.goto 6, 3) := dk_167 0 6 (dk_at dksX0_runText_0 8 rfl rfl)
theorem dX0_runText_11 : decode cX0_runText 11 = .ok (.astore_n 2, 1) := dk_77 (dk_at dksX0_runText_0 11 rfl rfl)
theorem dX0_runText_12 : decode cX0_runText 12 = .ok (.iconst 1, 1) := dk_4 (dk_at dksX0_runText_0 12 rfl rfl)
theorem dX0_runText_13 : decode cX0_runText 13 = .ok (.ireturn, 1) := dk_172 (dk_at dksX0_runText_0 13 rfl rfl)
theorem dX0_runText_14 : decode cX0_runText 14 = .ok (.iconst 0, 1) := dk_3 (dk_at dksX0_runText_0 14 rfl rfl)
theorem dX0_runText_15 : decode cX0_runText 15 = .ok (.ireturn, 1) := dk_172 (dk_at dksX0_runText_0 15 rfl rfl)
abbrev cX0_undo : ByteArray := method_51_code
def yX0_undo : MethodName := ⟨RX0, "undo", "(LPaperMill;[J)I"⟩
def dkwX0_undo_0 : List UInt8 := [43, 3, 42, 182, 0, 164, 133, 80, 167, 0, 6, 77, 4, 172, 3, 172]
abbrev dktX0_undo_0 : List UInt8 := dkwX0_undo_0 ++ []
theorem dksX0_undo_0 : cX0_undo.data.toList.drop 0 = dktX0_undo_0 := by decide +kernel
theorem dX0_undo_0 : decode cX0_undo 0 = .ok (.aload_n 1, 1) := dk_43 (dk_at dksX0_undo_0 0 rfl rfl)
theorem dX0_undo_1 : decode cX0_undo 1 = .ok (.iconst 0, 1) := dk_3 (dk_at dksX0_undo_0 1 rfl rfl)
theorem dX0_undo_2 : decode cX0_undo 2 = .ok (.aload_n 0, 1) := dk_42 (dk_at dksX0_undo_0 2 rfl rfl)
theorem dX0_undo_3 : decode cX0_undo 3 = .ok (.invokevirtual 164, 3) := dk_182 0 164 (dk_at dksX0_undo_0 3 rfl rfl)
theorem dX0_undo_6 : decode cX0_undo 6 = .ok (.i2l, 1) := dk_133 (dk_at dksX0_undo_0 6 rfl rfl)
theorem dX0_undo_7 : decode cX0_undo 7 = .ok (.lastore, 1) := dk_80 (dk_at dksX0_undo_0 7 rfl rfl)
theorem dX0_undo_8 : decode cX0_undo 8 = .ok (.goto 6, 3) := dk_167 0 6 (dk_at dksX0_undo_0 8 rfl rfl)
theorem dX0_undo_11 : decode cX0_undo 11 = .ok (.astore_n 2, 1) := dk_77 (dk_at dksX0_undo_0 11 rfl rfl)
theorem dX0_undo_12 : decode cX0_undo 12 = .ok (.iconst 1, 1) := dk_4 (dk_at dksX0_undo_0 12 rfl rfl)
theorem dX0_undo_13 : decode cX0_undo 13 = .ok (.ireturn, 1) := dk_172 (dk_at dksX0_undo_0 13 rfl rfl)
theorem dX0_undo_14 : decode cX0_undo 14 = .ok (.iconst 0, 1) := dk_3 (dk_at dksX0_undo_0 14 rfl rfl)
theorem dX0_undo_15 : decode cX0_undo 15 = .ok (.ireturn, 1) := dk_172 (dk_at dksX0_undo_0 15 rfl rfl)
abbrev cX0_restoreSnapshot : ByteArray := method_52_code
def yX0_restoreSnapshot : MethodName := ⟨RX0, "restoreSnapshot", "(LPaperMill;[J)I"⟩
def dkwX0_restoreSnapshot_0 : List UInt8 := [43, 3, 42, 182, 0, 167, 133, 80, 167, 0, 6, 77, 4, 172, 3, 172]
abbrev dktX0_restoreSnapshot_0 : List UInt8 := dkwX0_restoreSnapshot_0 ++ []
theorem dksX0_restoreSnapshot_0 : cX0_restoreSnapshot.data.toList.drop 0 = dktX0_restoreSnapshot_0 := by decide +kernel
theorem dX0_restoreSnapshot_0 : decode cX0_restoreSnapshot 0 = .ok (.aload_n 1, 1) := dk_43 (dk_at dksX0_restoreSnapshot_0 0 rfl rfl)
theorem dX0_restoreSnapshot_1 : decode cX0_restoreSnapshot 1 = .ok (.iconst 0, 1) := dk_3 (dk_at dksX0_restoreSnapshot_0 1 rfl rfl)
theorem dX0_restoreSnapshot_2 : decode cX0_restoreSnapshot 2 = .ok (.aload_n 0, 1) := dk_42 (dk_at dksX0_restoreSnapshot_0 2 rfl rfl)
theorem dX0_restoreSnapshot_3 : decode cX0_restoreSnapshot 3 = .ok (.invokevirtual 167, 3) := dk_182 0 167 (dk_at dksX0_restoreSnapshot_0 3 rfl rfl)
theorem dX0_restoreSnapshot_6 : decode cX0_restoreSnapshot 6 = .ok (.i2l, 1) := dk_133 (dk_at dksX0_restoreSnapshot_0 6 rfl rfl)
theorem dX0_restoreSnapshot_7 : decode cX0_restoreSnapshot 7 = .ok (.lastore, 1) := dk_80 (dk_at dksX0_restoreSnapshot_0 7 rfl rfl)
theorem dX0_restoreSnapshot_8 : decode cX0_restoreSnapshot 8 = .ok (.goto 6, 3) := dk_167 0 6 (dk_at dksX0_restoreSnapshot_0 8 rfl rfl)
theorem dX0_restoreSnapshot_11 : decode cX0_restoreSnapshot 11 = .ok (.astore_n 2, 1) := dk_77 (dk_at dksX0_restoreSnapshot_0 11 rfl rfl)
theorem dX0_restoreSnapshot_12 : decode cX0_restoreSnapshot 12 = .ok (.iconst 1, 1) := dk_4 (dk_at dksX0_restoreSnapshot_0 12 rfl rfl)
theorem dX0_restoreSnapshot_13 : decode cX0_restoreSnapshot 13 = .ok (.ireturn, 1) := dk_172 (dk_at dksX0_restoreSnapshot_0 13 rfl rfl)
theorem dX0_restoreSnapshot_14 : decode cX0_restoreSnapshot 14 = .ok (.iconst 0, 1) := dk_3 (dk_at dksX0_restoreSnapshot_0 14 rfl rfl)
theorem dX0_restoreSnapshot_15 : decode cX0_restoreSnapshot 15 = .ok (.ireturn, 1) := dk_172 (dk_at dksX0_restoreSnapshot_0 15 rfl rfl)
theorem q111 : (Jvm.Cond.initialized "PaperMillLaw") ∈ lw_all := lw_g (lw_at lw_m1 0 rfl) rfl
theorem q154 : (Jvm.Cond.classLink "PaperMillLaw" (8 : Nat) "PaperMill") ∈ lw_all := lw_g (lw_at lw_m1 43 rfl) rfl
theorem q156 : (Jvm.Cond.methodLink "PaperMillLaw" (170 : Nat) ({ cls := "PaperMill", name := "<init>", desc := "()V" } : Jvm.MethodName)) ∈ lw_all := lw_g (lw_at lw_m1 45 rfl) rfl
theorem q499 : (Jvm.Cond.methodLink "PaperMillLaw" (246 : Nat) ({ cls := "PaperMill", name := "bales", desc := "()I" } : Jvm.MethodName)) ∈ lw_all := lw_g (lw_at lw_m2 148 rfl) rfl
theorem q512 : (Jvm.Cond.methodLink "PaperMillLaw" (271 : Nat) ({ cls := "PaperMill", name := "recipeDepth", desc := "()I" } : Jvm.MethodName)) ∈ lw_all := lw_g (lw_at lw_m2 161 rfl) rfl
theorem q522 : (Jvm.Cond.methodLink "PaperMillLaw" (308 : Nat) ({ cls := "PaperMill", name := "piles", desc := "()I" } : Jvm.MethodName)) ∈ lw_all := lw_g (lw_at lw_m2 171 rfl) rfl
theorem q526 : (Jvm.Cond.methodLink "PaperMillLaw" (324 : Nat) ({ cls := "PaperMill", name := "reams", desc := "()I" } : Jvm.MethodName)) ∈ lw_all := lw_g (lw_at lw_m2 175 rfl) rfl
theorem q530 : (Jvm.Cond.methodLink "PaperMillLaw" (334 : Nat) ({ cls := "PaperMill", name := "day", desc := "()I" } : Jvm.MethodName)) ∈ lw_all := lw_g (lw_at lw_m2 179 rfl) rfl
theorem q534 : (Jvm.Cond.methodLink "PaperMillLaw" (338 : Nat) ({ cls := "PaperMill", name := "purse", desc := "()I" } : Jvm.MethodName)) ∈ lw_all := lw_g (lw_at lw_m2 183 rfl) rfl
theorem q538 : (Jvm.Cond.methodLink "PaperMillLaw" (342 : Nat) ({ cls := "PaperMill", name := "unitsByPlaces", desc := "()I" } : Jvm.MethodName)) ∈ lw_all := lw_g (lw_at lw_m2 187 rfl) rfl
theorem q587 : (Jvm.Cond.methodLink "PaperMillLaw" (346 : Nat) ({ cls := "PaperMill", name := "unitsByAccount", desc := "()I" } : Jvm.MethodName)) ∈ lw_all := lw_g (lw_at lw_m2 236 rfl) rfl
theorem q595 : (Jvm.Cond.methodLink "PaperMillLaw" (350 : Nat) ({ cls := "PaperMill", name := "meanDamp", desc := "()D" } : Jvm.MethodName)) ∈ lw_all := lw_g (lw_at lw_m3 4 rfl) rfl
theorem q611 : (Jvm.Cond.methodLink "PaperMillLaw" (355 : Nat) ({ cls := "PaperMill", name := "daysUntilMould", desc := "()I" } : Jvm.MethodName)) ∈ lw_all := lw_g (lw_at lw_m3 20 rfl) rfl
theorem q747 : (Jvm.Cond.methodLink "PaperMillLaw" (365 : Nat) ({ cls := "PaperMill", name := "clearText", desc := "()I" } : Jvm.MethodName)) ∈ lw_all := lw_g (lw_at lw_m3 156 rfl) rfl
theorem q1081 : (Jvm.Cond.methodLink "PaperMillLaw" (369 : Nat) ({ cls := "PaperMill", name := "errorPosition", desc := "()I" } : Jvm.MethodName)) ∈ lw_all := lw_g (lw_at lw_m5 10 rfl) rfl
theorem q1398 : (Jvm.Cond.methodLink "PaperMillLaw" (380 : Nat) ({ cls := "PaperMill", name := "takeSnapshot", desc := "()I" } : Jvm.MethodName)) ∈ lw_all := lw_g (lw_at lw_m6 87 rfl) rfl
theorem q1402 : (Jvm.Cond.methodLink "PaperMillLaw" (174 : Nat) ({ cls := "PaperMillLaw", name := "deliver", desc := "(LPaperMill;IIII[J)I" } : Jvm.MethodName)) ∈ lw_all := lw_g (lw_at lw_m6 91 rfl) rfl
theorem q1403 : (Jvm.Cond.static ({ cls := "PaperMillLaw", name := "deliver", desc := "(LPaperMill;IIII[J)I" } : Jvm.MethodName)) ∈ lw_all := lw_g (lw_at lw_m6 92 rfl) rfl
theorem q1404 : (Jvm.Cond.codeWith ({ cls := "PaperMillLaw", name := "deliver", desc := "(LPaperMill;IIII[J)I" } : Jvm.MethodName) method_3_code (7 : Nat) (Option.some Jvm.ClassFile.FieldType.int) [((0 : Nat), (14 : Nat), (17 : Nat), (13 : Nat)), ((0 : Nat), (14 : Nat), (21 : Nat), (15 : Nat)), ((0 : Nat), (14 : Nat), (25 : Nat), (17 : Nat))]) ∈ lw_all := lw_g (lw_at lw_m6 93 rfl) rfl
theorem q1405 : (Jvm.Cond.classLink "PaperMillLaw" (13 : Nat) "java/lang/IndexOutOfBoundsException") ∈ lw_all := lw_g (lw_at lw_m6 94 rfl) rfl
theorem q1408 : (Jvm.Cond.classLink "PaperMillLaw" (15 : Nat) "java/lang/IllegalArgumentException") ∈ lw_all := lw_g (lw_at lw_m6 97 rfl) rfl
theorem q1409 : (Jvm.Cond.classLink "PaperMillLaw" (17 : Nat) "java/lang/IllegalStateException") ∈ lw_all := lw_g (lw_at lw_m6 98 rfl) rfl
theorem q1410 : (Jvm.Cond.methodLink "PaperMillLaw" (7 : Nat) ({ cls := "PaperMill", name := "deliver", desc := "(IIII)I" } : Jvm.MethodName)) ∈ lw_all := lw_g (lw_at lw_m6 99 rfl) rfl
theorem q1510 : (Jvm.Cond.methodLink "PaperMillLaw" (183 : Nat) ({ cls := "PaperMillLaw", name := "payToll", desc := "(LPaperMill;II[J)I" } : Jvm.MethodName)) ∈ lw_all := lw_g (lw_at lw_m6 199 rfl) rfl
theorem q1511 : (Jvm.Cond.static ({ cls := "PaperMillLaw", name := "payToll", desc := "(LPaperMill;II[J)I" } : Jvm.MethodName)) ∈ lw_all := lw_g (lw_at lw_m6 200 rfl) rfl
theorem q1512 : (Jvm.Cond.codeWith ({ cls := "PaperMillLaw", name := "payToll", desc := "(LPaperMill;II[J)I" } : Jvm.MethodName) method_4_code (5 : Nat) (Option.some Jvm.ClassFile.FieldType.int) [((0 : Nat), (10 : Nat), (13 : Nat), (13 : Nat)), ((0 : Nat), (10 : Nat), (17 : Nat), (15 : Nat)), ((0 : Nat), (10 : Nat), (21 : Nat), (17 : Nat))]) ∈ lw_all := lw_g (lw_at lw_m6 201 rfl) rfl
theorem q1513 : (Jvm.Cond.methodLink "PaperMillLaw" (19 : Nat) ({ cls := "PaperMill", name := "payToll", desc := "(II)I" } : Jvm.MethodName)) ∈ lw_all := lw_g (lw_at lw_m6 202 rfl) rfl
theorem q1522 : (Jvm.Cond.methodLink "PaperMillLaw" (187 : Nat) ({ cls := "PaperMillLaw", name := "givePass", desc := "(LPaperMill;II[J)I" } : Jvm.MethodName)) ∈ lw_all := lw_g (lw_at lw_m6 211 rfl) rfl
theorem q1523 : (Jvm.Cond.static ({ cls := "PaperMillLaw", name := "givePass", desc := "(LPaperMill;II[J)I" } : Jvm.MethodName)) ∈ lw_all := lw_g (lw_at lw_m6 212 rfl) rfl
theorem q1524 : (Jvm.Cond.codeWith ({ cls := "PaperMillLaw", name := "givePass", desc := "(LPaperMill;II[J)I" } : Jvm.MethodName) method_5_code (5 : Nat) (Option.some Jvm.ClassFile.FieldType.int) [((0 : Nat), (10 : Nat), (13 : Nat), (13 : Nat)), ((0 : Nat), (10 : Nat), (17 : Nat), (15 : Nat)), ((0 : Nat), (10 : Nat), (21 : Nat), (17 : Nat))]) ∈ lw_all := lw_g (lw_at lw_m6 213 rfl) rfl
theorem q1525 : (Jvm.Cond.methodLink "PaperMillLaw" (23 : Nat) ({ cls := "PaperMill", name := "givePass", desc := "(II)I" } : Jvm.MethodName)) ∈ lw_all := lw_g (lw_at lw_m6 214 rfl) rfl
theorem q1530 : (Jvm.Cond.methodLink "PaperMillLaw" (190 : Nat) ({ cls := "PaperMillLaw", name := "setLimit", desc := "(LPaperMill;I[J)I" } : Jvm.MethodName)) ∈ lw_all := lw_g (lw_at lw_m6 219 rfl) rfl
theorem q1531 : (Jvm.Cond.static ({ cls := "PaperMillLaw", name := "setLimit", desc := "(LPaperMill;I[J)I" } : Jvm.MethodName)) ∈ lw_all := lw_g (lw_at lw_m6 220 rfl) rfl
theorem q1532 : (Jvm.Cond.codeWith ({ cls := "PaperMillLaw", name := "setLimit", desc := "(LPaperMill;I[J)I" } : Jvm.MethodName) method_6_code (4 : Nat) (Option.some Jvm.ClassFile.FieldType.int) [((0 : Nat), (9 : Nat), (12 : Nat), (15 : Nat))]) ∈ lw_all := lw_g (lw_at lw_m6 221 rfl) rfl
theorem q1533 : (Jvm.Cond.methodLink "PaperMillLaw" (26 : Nat) ({ cls := "PaperMill", name := "setLimit", desc := "(I)I" } : Jvm.MethodName)) ∈ lw_all := lw_g (lw_at lw_m6 222 rfl) rfl
theorem q1537 : (Jvm.Cond.methodLink "PaperMillLaw" (194 : Nat) ({ cls := "PaperMillLaw", name := "setStove", desc := "(LPaperMill;I[J)I" } : Jvm.MethodName)) ∈ lw_all := lw_g (lw_at lw_m6 226 rfl) rfl
theorem q1538 : (Jvm.Cond.static ({ cls := "PaperMillLaw", name := "setStove", desc := "(LPaperMill;I[J)I" } : Jvm.MethodName)) ∈ lw_all := lw_g (lw_at lw_m6 227 rfl) rfl
theorem q1539 : (Jvm.Cond.codeWith ({ cls := "PaperMillLaw", name := "setStove", desc := "(LPaperMill;I[J)I" } : Jvm.MethodName) method_7_code (4 : Nat) (Option.some Jvm.ClassFile.FieldType.int) [((0 : Nat), (9 : Nat), (12 : Nat), (15 : Nat))]) ∈ lw_all := lw_g (lw_at lw_m6 228 rfl) rfl
theorem q1540 : (Jvm.Cond.methodLink "PaperMillLaw" (30 : Nat) ({ cls := "PaperMill", name := "setStove", desc := "(I)I" } : Jvm.MethodName)) ∈ lw_all := lw_g (lw_at lw_m6 229 rfl) rfl
theorem q1544 : (Jvm.Cond.methodLink "PaperMillLaw" (197 : Nat) ({ cls := "PaperMillLaw", name := "moveBale", desc := "(LPaperMill;II[J)I" } : Jvm.MethodName)) ∈ lw_all := lw_g (lw_at lw_m6 233 rfl) rfl
theorem q1545 : (Jvm.Cond.static ({ cls := "PaperMillLaw", name := "moveBale", desc := "(LPaperMill;II[J)I" } : Jvm.MethodName)) ∈ lw_all := lw_g (lw_at lw_m6 234 rfl) rfl
theorem q1546 : (Jvm.Cond.codeWith ({ cls := "PaperMillLaw", name := "moveBale", desc := "(LPaperMill;II[J)I" } : Jvm.MethodName) method_8_code (5 : Nat) (Option.some Jvm.ClassFile.FieldType.int) [((0 : Nat), (10 : Nat), (13 : Nat), (13 : Nat))]) ∈ lw_all := lw_g (lw_at lw_m6 235 rfl) rfl
theorem q1547 : (Jvm.Cond.methodLink "PaperMillLaw" (33 : Nat) ({ cls := "PaperMill", name := "moveBale", desc := "(II)I" } : Jvm.MethodName)) ∈ lw_all := lw_g (lw_at lw_m6 236 rfl) rfl
theorem q1579 : (Jvm.Cond.methodLink "PaperMillLaw" (200 : Nat) ({ cls := "PaperMillLaw", name := "burn", desc := "(LPaperMill;I[J)I" } : Jvm.MethodName)) ∈ lw_all := lw_g (lw_at lw_m7 28 rfl) rfl
theorem q1580 : (Jvm.Cond.static ({ cls := "PaperMillLaw", name := "burn", desc := "(LPaperMill;I[J)I" } : Jvm.MethodName)) ∈ lw_all := lw_g (lw_at lw_m7 29 rfl) rfl
theorem q1581 : (Jvm.Cond.codeWith ({ cls := "PaperMillLaw", name := "burn", desc := "(LPaperMill;I[J)I" } : Jvm.MethodName) method_9_code (4 : Nat) (Option.some Jvm.ClassFile.FieldType.int) [((0 : Nat), (9 : Nat), (12 : Nat), (13 : Nat))]) ∈ lw_all := lw_g (lw_at lw_m7 30 rfl) rfl
theorem q1582 : (Jvm.Cond.methodLink "PaperMillLaw" (36 : Nat) ({ cls := "PaperMill", name := "burn", desc := "(I)I" } : Jvm.MethodName)) ∈ lw_all := lw_g (lw_at lw_m7 31 rfl) rfl
theorem q1586 : (Jvm.Cond.methodLink "PaperMillLaw" (203 : Nat) ({ cls := "PaperMillLaw", name := "beat", desc := "(LPaperMill;II[J)I" } : Jvm.MethodName)) ∈ lw_all := lw_g (lw_at lw_m7 35 rfl) rfl
theorem q1587 : (Jvm.Cond.static ({ cls := "PaperMillLaw", name := "beat", desc := "(LPaperMill;II[J)I" } : Jvm.MethodName)) ∈ lw_all := lw_g (lw_at lw_m7 36 rfl) rfl
theorem q1588 : (Jvm.Cond.codeWith ({ cls := "PaperMillLaw", name := "beat", desc := "(LPaperMill;II[J)I" } : Jvm.MethodName) method_10_code (5 : Nat) (Option.some Jvm.ClassFile.FieldType.int) [((0 : Nat), (10 : Nat), (13 : Nat), (13 : Nat)), ((0 : Nat), (10 : Nat), (17 : Nat), (15 : Nat)), ((0 : Nat), (10 : Nat), (21 : Nat), (17 : Nat))]) ∈ lw_all := lw_g (lw_at lw_m7 37 rfl) rfl
theorem q1589 : (Jvm.Cond.methodLink "PaperMillLaw" (39 : Nat) ({ cls := "PaperMill", name := "beat", desc := "(II)I" } : Jvm.MethodName)) ∈ lw_all := lw_g (lw_at lw_m7 38 rfl) rfl
theorem q1600 : (Jvm.Cond.methodLink "PaperMillLaw" (206 : Nat) ({ cls := "PaperMillLaw", name := "stamp", desc := "(LPaperMill;II[J)I" } : Jvm.MethodName)) ∈ lw_all := lw_g (lw_at lw_m7 49 rfl) rfl
theorem q1601 : (Jvm.Cond.static ({ cls := "PaperMillLaw", name := "stamp", desc := "(LPaperMill;II[J)I" } : Jvm.MethodName)) ∈ lw_all := lw_g (lw_at lw_m7 50 rfl) rfl
theorem q1602 : (Jvm.Cond.codeWith ({ cls := "PaperMillLaw", name := "stamp", desc := "(LPaperMill;II[J)I" } : Jvm.MethodName) method_11_code (5 : Nat) (Option.some Jvm.ClassFile.FieldType.int) [((0 : Nat), (10 : Nat), (13 : Nat), (13 : Nat)), ((0 : Nat), (10 : Nat), (17 : Nat), (15 : Nat)), ((0 : Nat), (10 : Nat), (21 : Nat), (17 : Nat))]) ∈ lw_all := lw_g (lw_at lw_m7 51 rfl) rfl
theorem q1603 : (Jvm.Cond.methodLink "PaperMillLaw" (42 : Nat) ({ cls := "PaperMill", name := "stamp", desc := "(II)I" } : Jvm.MethodName)) ∈ lw_all := lw_g (lw_at lw_m7 52 rfl) rfl
theorem q1609 : (Jvm.Cond.methodLink "PaperMillLaw" (209 : Nat) ({ cls := "PaperMillLaw", name := "drain", desc := "(LPaperMill;I[J)I" } : Jvm.MethodName)) ∈ lw_all := lw_g (lw_at lw_m7 58 rfl) rfl
theorem q1610 : (Jvm.Cond.static ({ cls := "PaperMillLaw", name := "drain", desc := "(LPaperMill;I[J)I" } : Jvm.MethodName)) ∈ lw_all := lw_g (lw_at lw_m7 59 rfl) rfl
theorem q1611 : (Jvm.Cond.codeWith ({ cls := "PaperMillLaw", name := "drain", desc := "(LPaperMill;I[J)I" } : Jvm.MethodName) method_12_code (4 : Nat) (Option.some Jvm.ClassFile.FieldType.int) [((0 : Nat), (9 : Nat), (12 : Nat), (13 : Nat)), ((0 : Nat), (9 : Nat), (15 : Nat), (17 : Nat))]) ∈ lw_all := lw_g (lw_at lw_m7 60 rfl) rfl
theorem q1612 : (Jvm.Cond.methodLink "PaperMillLaw" (45 : Nat) ({ cls := "PaperMill", name := "drain", desc := "(I)I" } : Jvm.MethodName)) ∈ lw_all := lw_g (lw_at lw_m7 61 rfl) rfl
theorem q1618 : (Jvm.Cond.methodLink "PaperMillLaw" (212 : Nat) ({ cls := "PaperMillLaw", name := "setMark", desc := "(LPaperMill;II[J)I" } : Jvm.MethodName)) ∈ lw_all := lw_g (lw_at lw_m7 67 rfl) rfl
theorem q1619 : (Jvm.Cond.static ({ cls := "PaperMillLaw", name := "setMark", desc := "(LPaperMill;II[J)I" } : Jvm.MethodName)) ∈ lw_all := lw_g (lw_at lw_m7 68 rfl) rfl
theorem q1620 : (Jvm.Cond.codeWith ({ cls := "PaperMillLaw", name := "setMark", desc := "(LPaperMill;II[J)I" } : Jvm.MethodName) method_13_code (5 : Nat) (Option.some Jvm.ClassFile.FieldType.int) [((0 : Nat), (10 : Nat), (13 : Nat), (13 : Nat)), ((0 : Nat), (10 : Nat), (17 : Nat), (15 : Nat)), ((0 : Nat), (10 : Nat), (21 : Nat), (17 : Nat))]) ∈ lw_all := lw_g (lw_at lw_m7 69 rfl) rfl
theorem q1621 : (Jvm.Cond.methodLink "PaperMillLaw" (48 : Nat) ({ cls := "PaperMill", name := "setMark", desc := "(II)I" } : Jvm.MethodName)) ∈ lw_all := lw_g (lw_at lw_m7 70 rfl) rfl
theorem q1630 : (Jvm.Cond.methodLink "PaperMillLaw" (215 : Nat) ({ cls := "PaperMillLaw", name := "mend", desc := "(LPaperMill;I[J)I" } : Jvm.MethodName)) ∈ lw_all := lw_g (lw_at lw_m7 79 rfl) rfl
theorem q1631 : (Jvm.Cond.static ({ cls := "PaperMillLaw", name := "mend", desc := "(LPaperMill;I[J)I" } : Jvm.MethodName)) ∈ lw_all := lw_g (lw_at lw_m7 80 rfl) rfl
theorem q1632 : (Jvm.Cond.codeWith ({ cls := "PaperMillLaw", name := "mend", desc := "(LPaperMill;I[J)I" } : Jvm.MethodName) method_14_code (4 : Nat) (Option.some Jvm.ClassFile.FieldType.int) [((0 : Nat), (9 : Nat), (12 : Nat), (13 : Nat)), ((0 : Nat), (9 : Nat), (15 : Nat), (17 : Nat))]) ∈ lw_all := lw_g (lw_at lw_m7 81 rfl) rfl
theorem q1633 : (Jvm.Cond.methodLink "PaperMillLaw" (51 : Nat) ({ cls := "PaperMill", name := "mend", desc := "(I)I" } : Jvm.MethodName)) ∈ lw_all := lw_g (lw_at lw_m7 82 rfl) rfl
theorem q1637 : (Jvm.Cond.methodLink "PaperMillLaw" (218 : Nat) ({ cls := "PaperMillLaw", name := "make", desc := "(LPaperMill;III[J)I" } : Jvm.MethodName)) ∈ lw_all := lw_g (lw_at lw_m7 86 rfl) rfl
theorem q1638 : (Jvm.Cond.static ({ cls := "PaperMillLaw", name := "make", desc := "(LPaperMill;III[J)I" } : Jvm.MethodName)) ∈ lw_all := lw_g (lw_at lw_m7 87 rfl) rfl
theorem q1639 : (Jvm.Cond.codeWith ({ cls := "PaperMillLaw", name := "make", desc := "(LPaperMill;III[J)I" } : Jvm.MethodName) method_15_code (6 : Nat) (Option.some Jvm.ClassFile.FieldType.int) [((0 : Nat), (12 : Nat), (15 : Nat), (13 : Nat)), ((0 : Nat), (12 : Nat), (19 : Nat), (15 : Nat)), ((0 : Nat), (12 : Nat), (23 : Nat), (17 : Nat))]) ∈ lw_all := lw_g (lw_at lw_m7 88 rfl) rfl
theorem q1640 : (Jvm.Cond.methodLink "PaperMillLaw" (54 : Nat) ({ cls := "PaperMill", name := "make", desc := "(III)I" } : Jvm.MethodName)) ∈ lw_all := lw_g (lw_at lw_m7 89 rfl) rfl
theorem q1646 : (Jvm.Cond.methodLink "PaperMillLaw" (222 : Nat) ({ cls := "PaperMillLaw", name := "pack", desc := "(LPaperMill;III[J)I" } : Jvm.MethodName)) ∈ lw_all := lw_g (lw_at lw_m7 95 rfl) rfl
theorem q1647 : (Jvm.Cond.static ({ cls := "PaperMillLaw", name := "pack", desc := "(LPaperMill;III[J)I" } : Jvm.MethodName)) ∈ lw_all := lw_g (lw_at lw_m7 96 rfl) rfl
theorem q1648 : (Jvm.Cond.codeWith ({ cls := "PaperMillLaw", name := "pack", desc := "(LPaperMill;III[J)I" } : Jvm.MethodName) method_16_code (6 : Nat) (Option.some Jvm.ClassFile.FieldType.int) [((0 : Nat), (12 : Nat), (15 : Nat), (15 : Nat)), ((0 : Nat), (12 : Nat), (19 : Nat), (17 : Nat))]) ∈ lw_all := lw_g (lw_at lw_m7 97 rfl) rfl
theorem q1649 : (Jvm.Cond.methodLink "PaperMillLaw" (58 : Nat) ({ cls := "PaperMill", name := "pack", desc := "(III)I" } : Jvm.MethodName)) ∈ lw_all := lw_g (lw_at lw_m7 98 rfl) rfl
theorem q1696 : (Jvm.Cond.methodLink "PaperMillLaw" (225 : Nat) ({ cls := "PaperMillLaw", name := "packShort", desc := "(LPaperMill;III[J)I" } : Jvm.MethodName)) ∈ lw_all := lw_g (lw_at lw_m7 145 rfl) rfl
theorem q1697 : (Jvm.Cond.static ({ cls := "PaperMillLaw", name := "packShort", desc := "(LPaperMill;III[J)I" } : Jvm.MethodName)) ∈ lw_all := lw_g (lw_at lw_m7 146 rfl) rfl
theorem q1698 : (Jvm.Cond.codeWith ({ cls := "PaperMillLaw", name := "packShort", desc := "(LPaperMill;III[J)I" } : Jvm.MethodName) method_17_code (6 : Nat) (Option.some Jvm.ClassFile.FieldType.int) [((0 : Nat), (12 : Nat), (15 : Nat), (15 : Nat)), ((0 : Nat), (12 : Nat), (19 : Nat), (17 : Nat))]) ∈ lw_all := lw_g (lw_at lw_m7 147 rfl) rfl
theorem q1699 : (Jvm.Cond.methodLink "PaperMillLaw" (61 : Nat) ({ cls := "PaperMill", name := "packShort", desc := "(III)I" } : Jvm.MethodName)) ∈ lw_all := lw_g (lw_at lw_m7 148 rfl) rfl
theorem q1703 : (Jvm.Cond.methodLink "PaperMillLaw" (228 : Nat) ({ cls := "PaperMillLaw", name := "send", desc := "(LPaperMill;II[J)I" } : Jvm.MethodName)) ∈ lw_all := lw_g (lw_at lw_m7 152 rfl) rfl
theorem q1704 : (Jvm.Cond.static ({ cls := "PaperMillLaw", name := "send", desc := "(LPaperMill;II[J)I" } : Jvm.MethodName)) ∈ lw_all := lw_g (lw_at lw_m7 153 rfl) rfl
theorem q1705 : (Jvm.Cond.codeWith ({ cls := "PaperMillLaw", name := "send", desc := "(LPaperMill;II[J)I" } : Jvm.MethodName) method_18_code (5 : Nat) (Option.some Jvm.ClassFile.FieldType.int) [((0 : Nat), (10 : Nat), (13 : Nat), (13 : Nat)), ((0 : Nat), (10 : Nat), (17 : Nat), (17 : Nat))]) ∈ lw_all := lw_g (lw_at lw_m7 154 rfl) rfl
theorem q1706 : (Jvm.Cond.methodLink "PaperMillLaw" (64 : Nat) ({ cls := "PaperMill", name := "send", desc := "(II)I" } : Jvm.MethodName)) ∈ lw_all := lw_g (lw_at lw_m7 155 rfl) rfl
theorem q1748 : (Jvm.Cond.methodLink "PaperMillLaw" (231 : Nat) ({ cls := "PaperMillLaw", name := "pass", desc := "(LPaperMill;I[J)I" } : Jvm.MethodName)) ∈ lw_all := lw_g (lw_at lw_m7 197 rfl) rfl
theorem q1749 : (Jvm.Cond.static ({ cls := "PaperMillLaw", name := "pass", desc := "(LPaperMill;I[J)I" } : Jvm.MethodName)) ∈ lw_all := lw_g (lw_at lw_m7 198 rfl) rfl
theorem q1750 : (Jvm.Cond.codeWith ({ cls := "PaperMillLaw", name := "pass", desc := "(LPaperMill;I[J)I" } : Jvm.MethodName) method_19_code (4 : Nat) (Option.some Jvm.ClassFile.FieldType.int) [((0 : Nat), (9 : Nat), (12 : Nat), (15 : Nat)), ((0 : Nat), (9 : Nat), (15 : Nat), (17 : Nat))]) ∈ lw_all := lw_g (lw_at lw_m7 199 rfl) rfl
theorem q1751 : (Jvm.Cond.methodLink "PaperMillLaw" (67 : Nat) ({ cls := "PaperMill", name := "pass", desc := "(I)I" } : Jvm.MethodName)) ∈ lw_all := lw_g (lw_at lw_m7 200 rfl) rfl
theorem q1757 : (Jvm.Cond.methodLink "PaperMillLaw" (234 : Nat) ({ cls := "PaperMillLaw", name := "debtOf", desc := "(LPaperMill;I[J)I" } : Jvm.MethodName)) ∈ lw_all := lw_g (lw_at lw_m7 206 rfl) rfl
theorem q1758 : (Jvm.Cond.static ({ cls := "PaperMillLaw", name := "debtOf", desc := "(LPaperMill;I[J)I" } : Jvm.MethodName)) ∈ lw_all := lw_g (lw_at lw_m7 207 rfl) rfl
theorem q1759 : (Jvm.Cond.codeWith ({ cls := "PaperMillLaw", name := "debtOf", desc := "(LPaperMill;I[J)I" } : Jvm.MethodName) method_20_code (4 : Nat) (Option.some Jvm.ClassFile.FieldType.int) [((0 : Nat), (9 : Nat), (12 : Nat), (13 : Nat))]) ∈ lw_all := lw_g (lw_at lw_m7 208 rfl) rfl
theorem q1760 : (Jvm.Cond.methodLink "PaperMillLaw" (70 : Nat) ({ cls := "PaperMill", name := "debtOf", desc := "(I)I" } : Jvm.MethodName)) ∈ lw_all := lw_g (lw_at lw_m7 209 rfl) rfl
theorem q1764 : (Jvm.Cond.methodLink "PaperMillLaw" (237 : Nat) ({ cls := "PaperMillLaw", name := "passLeft", desc := "(LPaperMill;I[J)I" } : Jvm.MethodName)) ∈ lw_all := lw_g (lw_at lw_m7 213 rfl) rfl
theorem q1765 : (Jvm.Cond.static ({ cls := "PaperMillLaw", name := "passLeft", desc := "(LPaperMill;I[J)I" } : Jvm.MethodName)) ∈ lw_all := lw_g (lw_at lw_m7 214 rfl) rfl
theorem q1766 : (Jvm.Cond.codeWith ({ cls := "PaperMillLaw", name := "passLeft", desc := "(LPaperMill;I[J)I" } : Jvm.MethodName) method_21_code (4 : Nat) (Option.some Jvm.ClassFile.FieldType.int) [((0 : Nat), (9 : Nat), (12 : Nat), (13 : Nat))]) ∈ lw_all := lw_g (lw_at lw_m7 215 rfl) rfl
theorem q1767 : (Jvm.Cond.methodLink "PaperMillLaw" (73 : Nat) ({ cls := "PaperMill", name := "passLeft", desc := "(I)I" } : Jvm.MethodName)) ∈ lw_all := lw_g (lw_at lw_m7 216 rfl) rfl
theorem q1772 : (Jvm.Cond.methodLink "PaperMillLaw" (240 : Nat) ({ cls := "PaperMillLaw", name := "tollFor", desc := "(LPaperMill;II[J)I" } : Jvm.MethodName)) ∈ lw_all := lw_g (lw_at lw_m7 221 rfl) rfl
theorem q1773 : (Jvm.Cond.static ({ cls := "PaperMillLaw", name := "tollFor", desc := "(LPaperMill;II[J)I" } : Jvm.MethodName)) ∈ lw_all := lw_g (lw_at lw_m7 222 rfl) rfl
theorem q1774 : (Jvm.Cond.codeWith ({ cls := "PaperMillLaw", name := "tollFor", desc := "(LPaperMill;II[J)I" } : Jvm.MethodName) method_22_code (5 : Nat) (Option.some Jvm.ClassFile.FieldType.int) [((0 : Nat), (10 : Nat), (13 : Nat), (13 : Nat)), ((0 : Nat), (10 : Nat), (17 : Nat), (15 : Nat))]) ∈ lw_all := lw_g (lw_at lw_m7 223 rfl) rfl
theorem q1775 : (Jvm.Cond.methodLink "PaperMillLaw" (76 : Nat) ({ cls := "PaperMill", name := "tollFor", desc := "(II)I" } : Jvm.MethodName)) ∈ lw_all := lw_g (lw_at lw_m7 224 rfl) rfl
theorem q1780 : (Jvm.Cond.methodLink "PaperMillLaw" (243 : Nat) ({ cls := "PaperMillLaw", name := "whyNotIn", desc := "(LPaperMill;III[J)I" } : Jvm.MethodName)) ∈ lw_all := lw_g (lw_at lw_m7 229 rfl) rfl
theorem q1781 : (Jvm.Cond.static ({ cls := "PaperMillLaw", name := "whyNotIn", desc := "(LPaperMill;III[J)I" } : Jvm.MethodName)) ∈ lw_all := lw_g (lw_at lw_m7 230 rfl) rfl
theorem q1782 : (Jvm.Cond.codeWith ({ cls := "PaperMillLaw", name := "whyNotIn", desc := "(LPaperMill;III[J)I" } : Jvm.MethodName) method_23_code (6 : Nat) (Option.some Jvm.ClassFile.FieldType.int) [((0 : Nat), (12 : Nat), (15 : Nat), (13 : Nat)), ((0 : Nat), (12 : Nat), (19 : Nat), (15 : Nat))]) ∈ lw_all := lw_g (lw_at lw_m7 231 rfl) rfl
theorem q1783 : (Jvm.Cond.methodLink "PaperMillLaw" (79 : Nat) ({ cls := "PaperMill", name := "whyNotIn", desc := "(III)I" } : Jvm.MethodName)) ∈ lw_all := lw_g (lw_at lw_m7 232 rfl) rfl
theorem q1787 : (Jvm.Cond.methodLink "PaperMillLaw" (250 : Nat) ({ cls := "PaperMillLaw", name := "sortOf", desc := "(LPaperMill;I[J)I" } : Jvm.MethodName)) ∈ lw_all := lw_g (lw_at lw_m7 236 rfl) rfl
theorem q1788 : (Jvm.Cond.static ({ cls := "PaperMillLaw", name := "sortOf", desc := "(LPaperMill;I[J)I" } : Jvm.MethodName)) ∈ lw_all := lw_g (lw_at lw_m7 237 rfl) rfl
theorem q1789 : (Jvm.Cond.codeWith ({ cls := "PaperMillLaw", name := "sortOf", desc := "(LPaperMill;I[J)I" } : Jvm.MethodName) method_24_code (4 : Nat) (Option.some Jvm.ClassFile.FieldType.int) [((0 : Nat), (9 : Nat), (12 : Nat), (13 : Nat))]) ∈ lw_all := lw_g (lw_at lw_m7 238 rfl) rfl
theorem q1790 : (Jvm.Cond.methodLink "PaperMillLaw" (82 : Nat) ({ cls := "PaperMill", name := "sortOf", desc := "(I)I" } : Jvm.MethodName)) ∈ lw_all := lw_g (lw_at lw_m7 239 rfl) rfl
theorem q1798 : (Jvm.Cond.methodLink "PaperMillLaw" (253 : Nat) ({ cls := "PaperMillLaw", name := "ragsOf", desc := "(LPaperMill;I[J)I" } : Jvm.MethodName)) ∈ lw_all := lw_g (lw_at lw_m8 7 rfl) rfl
theorem q1799 : (Jvm.Cond.static ({ cls := "PaperMillLaw", name := "ragsOf", desc := "(LPaperMill;I[J)I" } : Jvm.MethodName)) ∈ lw_all := lw_g (lw_at lw_m8 8 rfl) rfl
theorem q1800 : (Jvm.Cond.codeWith ({ cls := "PaperMillLaw", name := "ragsOf", desc := "(LPaperMill;I[J)I" } : Jvm.MethodName) method_25_code (4 : Nat) (Option.some Jvm.ClassFile.FieldType.int) [((0 : Nat), (9 : Nat), (12 : Nat), (13 : Nat))]) ∈ lw_all := lw_g (lw_at lw_m8 9 rfl) rfl
theorem q1801 : (Jvm.Cond.methodLink "PaperMillLaw" (85 : Nat) ({ cls := "PaperMill", name := "ragsOf", desc := "(I)I" } : Jvm.MethodName)) ∈ lw_all := lw_g (lw_at lw_m8 10 rfl) rfl
theorem q1805 : (Jvm.Cond.methodLink "PaperMillLaw" (256 : Nat) ({ cls := "PaperMillLaw", name := "dampOf", desc := "(LPaperMill;I[J)I" } : Jvm.MethodName)) ∈ lw_all := lw_g (lw_at lw_m8 14 rfl) rfl
theorem q1806 : (Jvm.Cond.static ({ cls := "PaperMillLaw", name := "dampOf", desc := "(LPaperMill;I[J)I" } : Jvm.MethodName)) ∈ lw_all := lw_g (lw_at lw_m8 15 rfl) rfl
theorem q1807 : (Jvm.Cond.codeWith ({ cls := "PaperMillLaw", name := "dampOf", desc := "(LPaperMill;I[J)I" } : Jvm.MethodName) method_26_code (4 : Nat) (Option.some Jvm.ClassFile.FieldType.int) [((0 : Nat), (9 : Nat), (12 : Nat), (13 : Nat))]) ∈ lw_all := lw_g (lw_at lw_m8 16 rfl) rfl
theorem q1808 : (Jvm.Cond.methodLink "PaperMillLaw" (88 : Nat) ({ cls := "PaperMill", name := "dampOf", desc := "(I)I" } : Jvm.MethodName)) ∈ lw_all := lw_g (lw_at lw_m8 17 rfl) rfl
theorem q1812 : (Jvm.Cond.methodLink "PaperMillLaw" (259 : Nat) ({ cls := "PaperMillLaw", name := "wetDaysOf", desc := "(LPaperMill;I[J)I" } : Jvm.MethodName)) ∈ lw_all := lw_g (lw_at lw_m8 21 rfl) rfl
theorem q1813 : (Jvm.Cond.static ({ cls := "PaperMillLaw", name := "wetDaysOf", desc := "(LPaperMill;I[J)I" } : Jvm.MethodName)) ∈ lw_all := lw_g (lw_at lw_m8 22 rfl) rfl
theorem q1814 : (Jvm.Cond.codeWith ({ cls := "PaperMillLaw", name := "wetDaysOf", desc := "(LPaperMill;I[J)I" } : Jvm.MethodName) method_27_code (4 : Nat) (Option.some Jvm.ClassFile.FieldType.int) [((0 : Nat), (9 : Nat), (12 : Nat), (13 : Nat))]) ∈ lw_all := lw_g (lw_at lw_m8 23 rfl) rfl
theorem q1815 : (Jvm.Cond.methodLink "PaperMillLaw" (91 : Nat) ({ cls := "PaperMill", name := "wetDaysOf", desc := "(I)I" } : Jvm.MethodName)) ∈ lw_all := lw_g (lw_at lw_m8 24 rfl) rfl
theorem q1819 : (Jvm.Cond.methodLink "PaperMillLaw" (262 : Nat) ({ cls := "PaperMillLaw", name := "goodRags", desc := "(LPaperMill;I[J)I" } : Jvm.MethodName)) ∈ lw_all := lw_g (lw_at lw_m8 28 rfl) rfl
theorem q1820 : (Jvm.Cond.static ({ cls := "PaperMillLaw", name := "goodRags", desc := "(LPaperMill;I[J)I" } : Jvm.MethodName)) ∈ lw_all := lw_g (lw_at lw_m8 29 rfl) rfl
theorem q1821 : (Jvm.Cond.codeWith ({ cls := "PaperMillLaw", name := "goodRags", desc := "(LPaperMill;I[J)I" } : Jvm.MethodName) method_28_code (4 : Nat) (Option.some Jvm.ClassFile.FieldType.int) [((0 : Nat), (9 : Nat), (12 : Nat), (15 : Nat))]) ∈ lw_all := lw_g (lw_at lw_m8 30 rfl) rfl
theorem q1822 : (Jvm.Cond.methodLink "PaperMillLaw" (94 : Nat) ({ cls := "PaperMill", name := "goodRags", desc := "(I)I" } : Jvm.MethodName)) ∈ lw_all := lw_g (lw_at lw_m8 31 rfl) rfl
theorem q1827 : (Jvm.Cond.methodLink "PaperMillLaw" (265 : Nat) ({ cls := "PaperMillLaw", name := "mouldReach", desc := "(LPaperMill;I[J)I" } : Jvm.MethodName)) ∈ lw_all := lw_g (lw_at lw_m8 36 rfl) rfl
theorem q1828 : (Jvm.Cond.static ({ cls := "PaperMillLaw", name := "mouldReach", desc := "(LPaperMill;I[J)I" } : Jvm.MethodName)) ∈ lw_all := lw_g (lw_at lw_m8 37 rfl) rfl
theorem q1829 : (Jvm.Cond.codeWith ({ cls := "PaperMillLaw", name := "mouldReach", desc := "(LPaperMill;I[J)I" } : Jvm.MethodName) method_29_code (4 : Nat) (Option.some Jvm.ClassFile.FieldType.int) [((0 : Nat), (9 : Nat), (12 : Nat), (13 : Nat))]) ∈ lw_all := lw_g (lw_at lw_m8 38 rfl) rfl
theorem q1830 : (Jvm.Cond.methodLink "PaperMillLaw" (97 : Nat) ({ cls := "PaperMill", name := "mouldReach", desc := "(I)I" } : Jvm.MethodName)) ∈ lw_all := lw_g (lw_at lw_m8 39 rfl) rfl
theorem q1842 : (Jvm.Cond.methodLink "PaperMillLaw" (268 : Nat) ({ cls := "PaperMillLaw", name := "partsOf", desc := "(LPaperMill;I[J)I" } : Jvm.MethodName)) ∈ lw_all := lw_g (lw_at lw_m8 51 rfl) rfl
theorem q1843 : (Jvm.Cond.static ({ cls := "PaperMillLaw", name := "partsOf", desc := "(LPaperMill;I[J)I" } : Jvm.MethodName)) ∈ lw_all := lw_g (lw_at lw_m8 52 rfl) rfl
theorem q1844 : (Jvm.Cond.codeWith ({ cls := "PaperMillLaw", name := "partsOf", desc := "(LPaperMill;I[J)I" } : Jvm.MethodName) method_30_code (4 : Nat) (Option.some Jvm.ClassFile.FieldType.int) [((0 : Nat), (9 : Nat), (12 : Nat), (15 : Nat))]) ∈ lw_all := lw_g (lw_at lw_m8 53 rfl) rfl
theorem q1845 : (Jvm.Cond.methodLink "PaperMillLaw" (100 : Nat) ({ cls := "PaperMill", name := "partsOf", desc := "(I)I" } : Jvm.MethodName)) ∈ lw_all := lw_g (lw_at lw_m8 54 rfl) rfl
theorem q1849 : (Jvm.Cond.methodLink "PaperMillLaw" (275 : Nat) ({ cls := "PaperMillLaw", name := "shareOf", desc := "(LPaperMill;II[J)I" } : Jvm.MethodName)) ∈ lw_all := lw_g (lw_at lw_m8 58 rfl) rfl
theorem q1850 : (Jvm.Cond.static ({ cls := "PaperMillLaw", name := "shareOf", desc := "(LPaperMill;II[J)I" } : Jvm.MethodName)) ∈ lw_all := lw_g (lw_at lw_m8 59 rfl) rfl
theorem q1851 : (Jvm.Cond.codeWith ({ cls := "PaperMillLaw", name := "shareOf", desc := "(LPaperMill;II[J)I" } : Jvm.MethodName) method_31_code (5 : Nat) (Option.some Jvm.ClassFile.FieldType.int) [((0 : Nat), (10 : Nat), (13 : Nat), (15 : Nat))]) ∈ lw_all := lw_g (lw_at lw_m8 60 rfl) rfl
theorem q1852 : (Jvm.Cond.methodLink "PaperMillLaw" (103 : Nat) ({ cls := "PaperMill", name := "shareOf", desc := "(II)I" } : Jvm.MethodName)) ∈ lw_all := lw_g (lw_at lw_m8 61 rfl) rfl
theorem q1857 : (Jvm.Cond.methodLink "PaperMillLaw" (278 : Nat) ({ cls := "PaperMillLaw", name := "unitsIn", desc := "(LPaperMill;I[J)I" } : Jvm.MethodName)) ∈ lw_all := lw_g (lw_at lw_m8 66 rfl) rfl
theorem q1858 : (Jvm.Cond.static ({ cls := "PaperMillLaw", name := "unitsIn", desc := "(LPaperMill;I[J)I" } : Jvm.MethodName)) ∈ lw_all := lw_g (lw_at lw_m8 67 rfl) rfl
theorem q1859 : (Jvm.Cond.codeWith ({ cls := "PaperMillLaw", name := "unitsIn", desc := "(LPaperMill;I[J)I" } : Jvm.MethodName) method_32_code (4 : Nat) (Option.some Jvm.ClassFile.FieldType.int) [((0 : Nat), (9 : Nat), (12 : Nat), (13 : Nat))]) ∈ lw_all := lw_g (lw_at lw_m8 68 rfl) rfl
theorem q1860 : (Jvm.Cond.methodLink "PaperMillLaw" (106 : Nat) ({ cls := "PaperMill", name := "unitsIn", desc := "(I)I" } : Jvm.MethodName)) ∈ lw_all := lw_g (lw_at lw_m8 69 rfl) rfl
theorem q1864 : (Jvm.Cond.methodLink "PaperMillLaw" (281 : Nat) ({ cls := "PaperMillLaw", name := "hoursOf", desc := "(LPaperMill;I[J)I" } : Jvm.MethodName)) ∈ lw_all := lw_g (lw_at lw_m8 73 rfl) rfl
theorem q1865 : (Jvm.Cond.static ({ cls := "PaperMillLaw", name := "hoursOf", desc := "(LPaperMill;I[J)I" } : Jvm.MethodName)) ∈ lw_all := lw_g (lw_at lw_m8 74 rfl) rfl
theorem q1866 : (Jvm.Cond.codeWith ({ cls := "PaperMillLaw", name := "hoursOf", desc := "(LPaperMill;I[J)I" } : Jvm.MethodName) method_33_code (4 : Nat) (Option.some Jvm.ClassFile.FieldType.int) [((0 : Nat), (9 : Nat), (12 : Nat), (13 : Nat))]) ∈ lw_all := lw_g (lw_at lw_m8 75 rfl) rfl
theorem q1867 : (Jvm.Cond.methodLink "PaperMillLaw" (109 : Nat) ({ cls := "PaperMill", name := "hoursOf", desc := "(I)I" } : Jvm.MethodName)) ∈ lw_all := lw_g (lw_at lw_m8 76 rfl) rfl
theorem q1871 : (Jvm.Cond.methodLink "PaperMillLaw" (284 : Nat) ({ cls := "PaperMillLaw", name := "strengthOf", desc := "(LPaperMill;I[J)I" } : Jvm.MethodName)) ∈ lw_all := lw_g (lw_at lw_m8 80 rfl) rfl
theorem q1872 : (Jvm.Cond.static ({ cls := "PaperMillLaw", name := "strengthOf", desc := "(LPaperMill;I[J)I" } : Jvm.MethodName)) ∈ lw_all := lw_g (lw_at lw_m8 81 rfl) rfl
theorem q1873 : (Jvm.Cond.codeWith ({ cls := "PaperMillLaw", name := "strengthOf", desc := "(LPaperMill;I[J)I" } : Jvm.MethodName) method_34_code (4 : Nat) (Option.some Jvm.ClassFile.FieldType.int) [((0 : Nat), (9 : Nat), (12 : Nat), (13 : Nat))]) ∈ lw_all := lw_g (lw_at lw_m8 82 rfl) rfl
theorem q1874 : (Jvm.Cond.methodLink "PaperMillLaw" (112 : Nat) ({ cls := "PaperMill", name := "strengthOf", desc := "(I)I" } : Jvm.MethodName)) ∈ lw_all := lw_g (lw_at lw_m8 83 rfl) rfl
theorem q1878 : (Jvm.Cond.methodLink "PaperMillLaw" (287 : Nat) ({ cls := "PaperMillLaw", name := "whyNotBeaten", desc := "(LPaperMill;II[J)I" } : Jvm.MethodName)) ∈ lw_all := lw_g (lw_at lw_m8 87 rfl) rfl
theorem q1879 : (Jvm.Cond.static ({ cls := "PaperMillLaw", name := "whyNotBeaten", desc := "(LPaperMill;II[J)I" } : Jvm.MethodName)) ∈ lw_all := lw_g (lw_at lw_m8 88 rfl) rfl
theorem q1880 : (Jvm.Cond.codeWith ({ cls := "PaperMillLaw", name := "whyNotBeaten", desc := "(LPaperMill;II[J)I" } : Jvm.MethodName) method_35_code (5 : Nat) (Option.some Jvm.ClassFile.FieldType.int) [((0 : Nat), (10 : Nat), (13 : Nat), (13 : Nat)), ((0 : Nat), (10 : Nat), (17 : Nat), (15 : Nat))]) ∈ lw_all := lw_g (lw_at lw_m8 89 rfl) rfl
theorem q1881 : (Jvm.Cond.methodLink "PaperMillLaw" (115 : Nat) ({ cls := "PaperMill", name := "whyNotBeaten", desc := "(II)I" } : Jvm.MethodName)) ∈ lw_all := lw_g (lw_at lw_m8 90 rfl) rfl
theorem q1885 : (Jvm.Cond.methodLink "PaperMillLaw" (290 : Nat) ({ cls := "PaperMillLaw", name := "markOf", desc := "(LPaperMill;I[J)I" } : Jvm.MethodName)) ∈ lw_all := lw_g (lw_at lw_m8 94 rfl) rfl
theorem q1886 : (Jvm.Cond.static ({ cls := "PaperMillLaw", name := "markOf", desc := "(LPaperMill;I[J)I" } : Jvm.MethodName)) ∈ lw_all := lw_g (lw_at lw_m8 95 rfl) rfl
theorem q1887 : (Jvm.Cond.codeWith ({ cls := "PaperMillLaw", name := "markOf", desc := "(LPaperMill;I[J)I" } : Jvm.MethodName) method_36_code (4 : Nat) (Option.some Jvm.ClassFile.FieldType.int) [((0 : Nat), (9 : Nat), (12 : Nat), (13 : Nat))]) ∈ lw_all := lw_g (lw_at lw_m8 96 rfl) rfl
theorem q1888 : (Jvm.Cond.methodLink "PaperMillLaw" (118 : Nat) ({ cls := "PaperMill", name := "markOf", desc := "(I)I" } : Jvm.MethodName)) ∈ lw_all := lw_g (lw_at lw_m8 97 rfl) rfl
theorem q1892 : (Jvm.Cond.methodLink "PaperMillLaw" (293 : Nat) ({ cls := "PaperMillLaw", name := "wearOf", desc := "(LPaperMill;I[J)I" } : Jvm.MethodName)) ∈ lw_all := lw_g (lw_at lw_m8 101 rfl) rfl
theorem q1893 : (Jvm.Cond.static ({ cls := "PaperMillLaw", name := "wearOf", desc := "(LPaperMill;I[J)I" } : Jvm.MethodName)) ∈ lw_all := lw_g (lw_at lw_m8 102 rfl) rfl
theorem q1894 : (Jvm.Cond.codeWith ({ cls := "PaperMillLaw", name := "wearOf", desc := "(LPaperMill;I[J)I" } : Jvm.MethodName) method_37_code (4 : Nat) (Option.some Jvm.ClassFile.FieldType.int) [((0 : Nat), (9 : Nat), (12 : Nat), (13 : Nat))]) ∈ lw_all := lw_g (lw_at lw_m8 103 rfl) rfl
theorem q1895 : (Jvm.Cond.methodLink "PaperMillLaw" (121 : Nat) ({ cls := "PaperMill", name := "wearOf", desc := "(I)I" } : Jvm.MethodName)) ∈ lw_all := lw_g (lw_at lw_m8 104 rfl) rfl
theorem q1899 : (Jvm.Cond.methodLink "PaperMillLaw" (296 : Nat) ({ cls := "PaperMillLaw", name := "pointsOf", desc := "(LPaperMill;II[J)I" } : Jvm.MethodName)) ∈ lw_all := lw_g (lw_at lw_m8 108 rfl) rfl
theorem q1900 : (Jvm.Cond.static ({ cls := "PaperMillLaw", name := "pointsOf", desc := "(LPaperMill;II[J)I" } : Jvm.MethodName)) ∈ lw_all := lw_g (lw_at lw_m8 109 rfl) rfl
theorem q1901 : (Jvm.Cond.codeWith ({ cls := "PaperMillLaw", name := "pointsOf", desc := "(LPaperMill;II[J)I" } : Jvm.MethodName) method_38_code (5 : Nat) (Option.some Jvm.ClassFile.FieldType.int) [((0 : Nat), (10 : Nat), (13 : Nat), (13 : Nat)), ((0 : Nat), (10 : Nat), (17 : Nat), (17 : Nat))]) ∈ lw_all := lw_g (lw_at lw_m8 110 rfl) rfl
theorem q1902 : (Jvm.Cond.methodLink "PaperMillLaw" (124 : Nat) ({ cls := "PaperMill", name := "pointsOf", desc := "(II)I" } : Jvm.MethodName)) ∈ lw_all := lw_g (lw_at lw_m8 111 rfl) rfl
theorem q1907 : (Jvm.Cond.methodLink "PaperMillLaw" (299 : Nat) ({ cls := "PaperMillLaw", name := "whyNotMade", desc := "(LPaperMill;III[J)I" } : Jvm.MethodName)) ∈ lw_all := lw_g (lw_at lw_m8 116 rfl) rfl
theorem q1908 : (Jvm.Cond.static ({ cls := "PaperMillLaw", name := "whyNotMade", desc := "(LPaperMill;III[J)I" } : Jvm.MethodName)) ∈ lw_all := lw_g (lw_at lw_m8 117 rfl) rfl
theorem q1909 : (Jvm.Cond.codeWith ({ cls := "PaperMillLaw", name := "whyNotMade", desc := "(LPaperMill;III[J)I" } : Jvm.MethodName) method_39_code (6 : Nat) (Option.some Jvm.ClassFile.FieldType.int) [((0 : Nat), (12 : Nat), (15 : Nat), (13 : Nat)), ((0 : Nat), (12 : Nat), (19 : Nat), (15 : Nat))]) ∈ lw_all := lw_g (lw_at lw_m8 118 rfl) rfl
theorem q1910 : (Jvm.Cond.methodLink "PaperMillLaw" (127 : Nat) ({ cls := "PaperMill", name := "whyNotMade", desc := "(III)I" } : Jvm.MethodName)) ∈ lw_all := lw_g (lw_at lw_m8 119 rfl) rfl
theorem q1914 : (Jvm.Cond.methodLink "PaperMillLaw" (302 : Nat) ({ cls := "PaperMillLaw", name := "sheetsFrom", desc := "(LPaperMill;II[J)I" } : Jvm.MethodName)) ∈ lw_all := lw_g (lw_at lw_m8 123 rfl) rfl
theorem q1915 : (Jvm.Cond.static ({ cls := "PaperMillLaw", name := "sheetsFrom", desc := "(LPaperMill;II[J)I" } : Jvm.MethodName)) ∈ lw_all := lw_g (lw_at lw_m8 124 rfl) rfl
theorem q1916 : (Jvm.Cond.codeWith ({ cls := "PaperMillLaw", name := "sheetsFrom", desc := "(LPaperMill;II[J)I" } : Jvm.MethodName) method_40_code (5 : Nat) (Option.some Jvm.ClassFile.FieldType.int) [((0 : Nat), (10 : Nat), (13 : Nat), (13 : Nat))]) ∈ lw_all := lw_g (lw_at lw_m8 125 rfl) rfl
theorem q1917 : (Jvm.Cond.methodLink "PaperMillLaw" (130 : Nat) ({ cls := "PaperMill", name := "sheetsFrom", desc := "(II)I" } : Jvm.MethodName)) ∈ lw_all := lw_g (lw_at lw_m8 126 rfl) rfl
theorem q1925 : (Jvm.Cond.methodLink "PaperMillLaw" (305 : Nat) ({ cls := "PaperMillLaw", name := "sheetsByTrying", desc := "(LPaperMill;II[J)I" } : Jvm.MethodName)) ∈ lw_all := lw_g (lw_at lw_m8 134 rfl) rfl
theorem q1926 : (Jvm.Cond.static ({ cls := "PaperMillLaw", name := "sheetsByTrying", desc := "(LPaperMill;II[J)I" } : Jvm.MethodName)) ∈ lw_all := lw_g (lw_at lw_m8 135 rfl) rfl
theorem q1927 : (Jvm.Cond.codeWith ({ cls := "PaperMillLaw", name := "sheetsByTrying", desc := "(LPaperMill;II[J)I" } : Jvm.MethodName) method_41_code (5 : Nat) (Option.some Jvm.ClassFile.FieldType.int) [((0 : Nat), (10 : Nat), (13 : Nat), (13 : Nat))]) ∈ lw_all := lw_g (lw_at lw_m8 136 rfl) rfl
theorem q1928 : (Jvm.Cond.methodLink "PaperMillLaw" (133 : Nat) ({ cls := "PaperMill", name := "sheetsByTrying", desc := "(II)I" } : Jvm.MethodName)) ∈ lw_all := lw_g (lw_at lw_m8 137 rfl) rfl
theorem q1932 : (Jvm.Cond.methodLink "PaperMillLaw" (312 : Nat) ({ cls := "PaperMillLaw", name := "sheetsOn", desc := "(LPaperMill;I[J)I" } : Jvm.MethodName)) ∈ lw_all := lw_g (lw_at lw_m8 141 rfl) rfl
theorem q1933 : (Jvm.Cond.static ({ cls := "PaperMillLaw", name := "sheetsOn", desc := "(LPaperMill;I[J)I" } : Jvm.MethodName)) ∈ lw_all := lw_g (lw_at lw_m8 142 rfl) rfl
theorem q1934 : (Jvm.Cond.codeWith ({ cls := "PaperMillLaw", name := "sheetsOn", desc := "(LPaperMill;I[J)I" } : Jvm.MethodName) method_42_code (4 : Nat) (Option.some Jvm.ClassFile.FieldType.int) [((0 : Nat), (9 : Nat), (12 : Nat), (13 : Nat))]) ∈ lw_all := lw_g (lw_at lw_m8 143 rfl) rfl
theorem q1935 : (Jvm.Cond.methodLink "PaperMillLaw" (136 : Nat) ({ cls := "PaperMill", name := "sheetsOn", desc := "(I)I" } : Jvm.MethodName)) ∈ lw_all := lw_g (lw_at lw_m8 144 rfl) rfl
theorem q1944 : (Jvm.Cond.methodLink "PaperMillLaw" (315 : Nat) ({ cls := "PaperMillLaw", name := "gradeOf", desc := "(LPaperMill;I[J)I" } : Jvm.MethodName)) ∈ lw_all := lw_g (lw_at lw_m8 153 rfl) rfl
theorem q1945 : (Jvm.Cond.static ({ cls := "PaperMillLaw", name := "gradeOf", desc := "(LPaperMill;I[J)I" } : Jvm.MethodName)) ∈ lw_all := lw_g (lw_at lw_m8 154 rfl) rfl
theorem q1946 : (Jvm.Cond.codeWith ({ cls := "PaperMillLaw", name := "gradeOf", desc := "(LPaperMill;I[J)I" } : Jvm.MethodName) method_43_code (4 : Nat) (Option.some Jvm.ClassFile.FieldType.int) [((0 : Nat), (9 : Nat), (12 : Nat), (13 : Nat))]) ∈ lw_all := lw_g (lw_at lw_m8 155 rfl) rfl
theorem q1947 : (Jvm.Cond.methodLink "PaperMillLaw" (139 : Nat) ({ cls := "PaperMill", name := "gradeOf", desc := "(I)I" } : Jvm.MethodName)) ∈ lw_all := lw_g (lw_at lw_m8 156 rfl) rfl
theorem q1953 : (Jvm.Cond.methodLink "PaperMillLaw" (318 : Nat) ({ cls := "PaperMillLaw", name := "drySheets", desc := "(LPaperMill;III[J)I" } : Jvm.MethodName)) ∈ lw_all := lw_g (lw_at lw_m8 162 rfl) rfl
theorem q1954 : (Jvm.Cond.static ({ cls := "PaperMillLaw", name := "drySheets", desc := "(LPaperMill;III[J)I" } : Jvm.MethodName)) ∈ lw_all := lw_g (lw_at lw_m8 163 rfl) rfl
theorem q1955 : (Jvm.Cond.codeWith ({ cls := "PaperMillLaw", name := "drySheets", desc := "(LPaperMill;III[J)I" } : Jvm.MethodName) method_44_code (6 : Nat) (Option.some Jvm.ClassFile.FieldType.int) [((0 : Nat), (12 : Nat), (15 : Nat), (15 : Nat))]) ∈ lw_all := lw_g (lw_at lw_m8 164 rfl) rfl
theorem q1956 : (Jvm.Cond.methodLink "PaperMillLaw" (142 : Nat) ({ cls := "PaperMill", name := "drySheets", desc := "(III)I" } : Jvm.MethodName)) ∈ lw_all := lw_g (lw_at lw_m8 165 rfl) rfl
theorem q1960 : (Jvm.Cond.methodLink "PaperMillLaw" (321 : Nat) ({ cls := "PaperMillLaw", name := "whyNotPacked", desc := "(LPaperMill;III[J)I" } : Jvm.MethodName)) ∈ lw_all := lw_g (lw_at lw_m8 169 rfl) rfl
theorem q1961 : (Jvm.Cond.static ({ cls := "PaperMillLaw", name := "whyNotPacked", desc := "(LPaperMill;III[J)I" } : Jvm.MethodName)) ∈ lw_all := lw_g (lw_at lw_m8 170 rfl) rfl
theorem q1962 : (Jvm.Cond.codeWith ({ cls := "PaperMillLaw", name := "whyNotPacked", desc := "(LPaperMill;III[J)I" } : Jvm.MethodName) method_45_code (6 : Nat) (Option.some Jvm.ClassFile.FieldType.int) [((0 : Nat), (12 : Nat), (15 : Nat), (15 : Nat))]) ∈ lw_all := lw_g (lw_at lw_m8 171 rfl) rfl
theorem q1963 : (Jvm.Cond.methodLink "PaperMillLaw" (145 : Nat) ({ cls := "PaperMill", name := "whyNotPacked", desc := "(III)I" } : Jvm.MethodName)) ∈ lw_all := lw_g (lw_at lw_m8 172 rfl) rfl
theorem q1967 : (Jvm.Cond.methodLink "PaperMillLaw" (328 : Nat) ({ cls := "PaperMillLaw", name := "quiresOf", desc := "(LPaperMill;I[J)I" } : Jvm.MethodName)) ∈ lw_all := lw_g (lw_at lw_m8 176 rfl) rfl
theorem q1968 : (Jvm.Cond.static ({ cls := "PaperMillLaw", name := "quiresOf", desc := "(LPaperMill;I[J)I" } : Jvm.MethodName)) ∈ lw_all := lw_g (lw_at lw_m8 177 rfl) rfl
theorem q1969 : (Jvm.Cond.codeWith ({ cls := "PaperMillLaw", name := "quiresOf", desc := "(LPaperMill;I[J)I" } : Jvm.MethodName) method_46_code (4 : Nat) (Option.some Jvm.ClassFile.FieldType.int) [((0 : Nat), (9 : Nat), (12 : Nat), (13 : Nat))]) ∈ lw_all := lw_g (lw_at lw_m8 178 rfl) rfl
theorem q1970 : (Jvm.Cond.methodLink "PaperMillLaw" (148 : Nat) ({ cls := "PaperMill", name := "quiresOf", desc := "(I)I" } : Jvm.MethodName)) ∈ lw_all := lw_g (lw_at lw_m8 179 rfl) rfl
theorem q1974 : (Jvm.Cond.methodLink "PaperMillLaw" (331 : Nat) ({ cls := "PaperMillLaw", name := "priceOf", desc := "(LPaperMill;I[J)I" } : Jvm.MethodName)) ∈ lw_all := lw_g (lw_at lw_m8 183 rfl) rfl
theorem q1975 : (Jvm.Cond.static ({ cls := "PaperMillLaw", name := "priceOf", desc := "(LPaperMill;I[J)I" } : Jvm.MethodName)) ∈ lw_all := lw_g (lw_at lw_m8 184 rfl) rfl
theorem q1976 : (Jvm.Cond.codeWith ({ cls := "PaperMillLaw", name := "priceOf", desc := "(LPaperMill;I[J)I" } : Jvm.MethodName) method_47_code (4 : Nat) (Option.some Jvm.ClassFile.FieldType.int) [((0 : Nat), (9 : Nat), (12 : Nat), (13 : Nat))]) ∈ lw_all := lw_g (lw_at lw_m8 185 rfl) rfl
theorem q1977 : (Jvm.Cond.methodLink "PaperMillLaw" (151 : Nat) ({ cls := "PaperMill", name := "priceOf", desc := "(I)I" } : Jvm.MethodName)) ∈ lw_all := lw_g (lw_at lw_m8 186 rfl) rfl
theorem q1981 : (Jvm.Cond.methodLink "PaperMillLaw" (359 : Nat) ({ cls := "PaperMillLaw", name := "lostIn", desc := "(LPaperMill;I[J)I" } : Jvm.MethodName)) ∈ lw_all := lw_g (lw_at lw_m8 190 rfl) rfl
theorem q1982 : (Jvm.Cond.static ({ cls := "PaperMillLaw", name := "lostIn", desc := "(LPaperMill;I[J)I" } : Jvm.MethodName)) ∈ lw_all := lw_g (lw_at lw_m8 191 rfl) rfl
theorem q1983 : (Jvm.Cond.codeWith ({ cls := "PaperMillLaw", name := "lostIn", desc := "(LPaperMill;I[J)I" } : Jvm.MethodName) method_48_code (4 : Nat) (Option.some Jvm.ClassFile.FieldType.int) [((0 : Nat), (9 : Nat), (12 : Nat), (15 : Nat))]) ∈ lw_all := lw_g (lw_at lw_m8 192 rfl) rfl
theorem q1984 : (Jvm.Cond.methodLink "PaperMillLaw" (154 : Nat) ({ cls := "PaperMill", name := "lostIn", desc := "(I)I" } : Jvm.MethodName)) ∈ lw_all := lw_g (lw_at lw_m8 193 rfl) rfl
theorem q1988 : (Jvm.Cond.methodLink "PaperMillLaw" (362 : Nat) ({ cls := "PaperMillLaw", name := "append", desc := "(LPaperMill;I[J)I" } : Jvm.MethodName)) ∈ lw_all := lw_g (lw_at lw_m8 197 rfl) rfl
theorem q1989 : (Jvm.Cond.static ({ cls := "PaperMillLaw", name := "append", desc := "(LPaperMill;I[J)I" } : Jvm.MethodName)) ∈ lw_all := lw_g (lw_at lw_m8 198 rfl) rfl
theorem q1990 : (Jvm.Cond.codeWith ({ cls := "PaperMillLaw", name := "append", desc := "(LPaperMill;I[J)I" } : Jvm.MethodName) method_49_code (4 : Nat) (Option.some Jvm.ClassFile.FieldType.int) [((0 : Nat), (9 : Nat), (12 : Nat), (15 : Nat)), ((0 : Nat), (9 : Nat), (15 : Nat), (17 : Nat))]) ∈ lw_all := lw_g (lw_at lw_m8 199 rfl) rfl
theorem q1991 : (Jvm.Cond.methodLink "PaperMillLaw" (157 : Nat) ({ cls := "PaperMill", name := "append", desc := "(I)I" } : Jvm.MethodName)) ∈ lw_all := lw_g (lw_at lw_m8 200 rfl) rfl
theorem q2012 : (Jvm.Cond.methodLink "PaperMillLaw" (373 : Nat) ({ cls := "PaperMillLaw", name := "runText", desc := "(LPaperMill;[J)I" } : Jvm.MethodName)) ∈ lw_all := lw_g (lw_at lw_m8 221 rfl) rfl
theorem q2013 : (Jvm.Cond.static ({ cls := "PaperMillLaw", name := "runText", desc := "(LPaperMill;[J)I" } : Jvm.MethodName)) ∈ lw_all := lw_g (lw_at lw_m8 222 rfl) rfl
theorem q2014 : (Jvm.Cond.codeWith ({ cls := "PaperMillLaw", name := "runText", desc := "(LPaperMill;[J)I" } : Jvm.MethodName) method_50_code (3 : Nat) (Option.some Jvm.ClassFile.FieldType.int) [((0 : Nat), (8 : Nat), (11 : Nat), (15 : Nat))]) ∈ lw_all := lw_g (lw_at lw_m8 223 rfl) rfl
theorem q2015 : (Jvm.Cond.methodLink "PaperMillLaw" (160 : Nat) ({ cls := "PaperMill", name := "runText", desc := "()I" } : Jvm.MethodName)) ∈ lw_all := lw_g (lw_at lw_m8 224 rfl) rfl
theorem q2027 : (Jvm.Cond.methodLink "PaperMillLaw" (377 : Nat) ({ cls := "PaperMillLaw", name := "undo", desc := "(LPaperMill;[J)I" } : Jvm.MethodName)) ∈ lw_all := lw_g (lw_at lw_m8 236 rfl) rfl
theorem q2028 : (Jvm.Cond.static ({ cls := "PaperMillLaw", name := "undo", desc := "(LPaperMill;[J)I" } : Jvm.MethodName)) ∈ lw_all := lw_g (lw_at lw_m8 237 rfl) rfl
theorem q2029 : (Jvm.Cond.codeWith ({ cls := "PaperMillLaw", name := "undo", desc := "(LPaperMill;[J)I" } : Jvm.MethodName) method_51_code (3 : Nat) (Option.some Jvm.ClassFile.FieldType.int) [((0 : Nat), (8 : Nat), (11 : Nat), (17 : Nat))]) ∈ lw_all := lw_g (lw_at lw_m8 238 rfl) rfl
theorem q2030 : (Jvm.Cond.methodLink "PaperMillLaw" (164 : Nat) ({ cls := "PaperMill", name := "undo", desc := "()I" } : Jvm.MethodName)) ∈ lw_all := lw_g (lw_at lw_m8 239 rfl) rfl
theorem q2050 : (Jvm.Cond.methodLink "PaperMillLaw" (384 : Nat) ({ cls := "PaperMillLaw", name := "restoreSnapshot", desc := "(LPaperMill;[J)I" } : Jvm.MethodName)) ∈ lw_all := lw_g (lw_at lw_m9 19 rfl) rfl
theorem q2051 : (Jvm.Cond.static ({ cls := "PaperMillLaw", name := "restoreSnapshot", desc := "(LPaperMill;[J)I" } : Jvm.MethodName)) ∈ lw_all := lw_g (lw_at lw_m9 20 rfl) rfl
theorem q2052 : (Jvm.Cond.codeWith ({ cls := "PaperMillLaw", name := "restoreSnapshot", desc := "(LPaperMill;[J)I" } : Jvm.MethodName) method_52_code (3 : Nat) (Option.some Jvm.ClassFile.FieldType.int) [((0 : Nat), (8 : Nat), (11 : Nat), (17 : Nat))]) ∈ lw_all := lw_g (lw_at lw_m9 21 rfl) rfl
theorem q2053 : (Jvm.Cond.methodLink "PaperMillLaw" (167 : Nat) ({ cls := "PaperMill", name := "restoreSnapshot", desc := "()I" } : Jvm.MethodName)) ∈ lw_all := lw_g (lw_at lw_m9 22 rfl) rfl
theorem q2057 : (Jvm.Cond.classLink "PaperMillLaw" (171 : Nat) "PaperMillModel") ∈ lw_all := lw_g (lw_at lw_m9 26 rfl) rfl
theorem q2059 : (Jvm.Cond.methodLink "PaperMillLaw" (173 : Nat) ({ cls := "PaperMillModel", name := "<init>", desc := "()V" } : Jvm.MethodName)) ∈ lw_all := lw_g (lw_at lw_m9 28 rfl) rfl
theorem q2112 : (Jvm.Cond.methodLink "PaperMillLaw" (180 : Nat) ({ cls := "PaperMillModel", name := "thrown", desc := "()I" } : Jvm.MethodName)) ∈ lw_all := lw_g (lw_at lw_m9 81 rfl) rfl
theorem q2116 : (Jvm.Cond.methodLink "PaperMillLaw" (179 : Nat) ({ cls := "PaperMillModel", name := "deliver", desc := "(IIII)I" } : Jvm.MethodName)) ∈ lw_all := lw_g (lw_at lw_m9 85 rfl) rfl
theorem q2166 : (Jvm.Cond.methodLink "PaperMillLaw" (186 : Nat) ({ cls := "PaperMillModel", name := "payToll", desc := "(II)I" } : Jvm.MethodName)) ∈ lw_all := lw_g (lw_at lw_m9 135 rfl) rfl
theorem q2170 : (Jvm.Cond.methodLink "PaperMillLaw" (189 : Nat) ({ cls := "PaperMillModel", name := "givePass", desc := "(II)I" } : Jvm.MethodName)) ∈ lw_all := lw_g (lw_at lw_m9 139 rfl) rfl
theorem q2174 : (Jvm.Cond.methodLink "PaperMillLaw" (193 : Nat) ({ cls := "PaperMillModel", name := "setLimit", desc := "(I)I" } : Jvm.MethodName)) ∈ lw_all := lw_g (lw_at lw_m9 143 rfl) rfl
theorem q2182 : (Jvm.Cond.methodLink "PaperMillLaw" (196 : Nat) ({ cls := "PaperMillModel", name := "setStove", desc := "(I)I" } : Jvm.MethodName)) ∈ lw_all := lw_g (lw_at lw_m9 151 rfl) rfl
theorem q2186 : (Jvm.Cond.methodLink "PaperMillLaw" (199 : Nat) ({ cls := "PaperMillModel", name := "moveBale", desc := "(II)I" } : Jvm.MethodName)) ∈ lw_all := lw_g (lw_at lw_m9 155 rfl) rfl
theorem q2198 : (Jvm.Cond.methodLink "PaperMillLaw" (202 : Nat) ({ cls := "PaperMillModel", name := "burn", desc := "(I)I" } : Jvm.MethodName)) ∈ lw_all := lw_g (lw_at lw_m9 167 rfl) rfl
theorem q2206 : (Jvm.Cond.methodLink "PaperMillLaw" (205 : Nat) ({ cls := "PaperMillModel", name := "beat", desc := "(II)I" } : Jvm.MethodName)) ∈ lw_all := lw_g (lw_at lw_m9 175 rfl) rfl
theorem q2246 : (Jvm.Cond.methodLink "PaperMillLaw" (208 : Nat) ({ cls := "PaperMillModel", name := "stamp", desc := "(II)I" } : Jvm.MethodName)) ∈ lw_all := lw_g (lw_at lw_m9 215 rfl) rfl
theorem q2258 : (Jvm.Cond.methodLink "PaperMillLaw" (211 : Nat) ({ cls := "PaperMillModel", name := "drain", desc := "(I)I" } : Jvm.MethodName)) ∈ lw_all := lw_g (lw_at lw_m9 227 rfl) rfl
theorem q2266 : (Jvm.Cond.methodLink "PaperMillLaw" (214 : Nat) ({ cls := "PaperMillModel", name := "setMark", desc := "(II)I" } : Jvm.MethodName)) ∈ lw_all := lw_g (lw_at lw_m9 235 rfl) rfl
theorem q2277 : (Jvm.Cond.methodLink "PaperMillLaw" (217 : Nat) ({ cls := "PaperMillModel", name := "mend", desc := "(I)I" } : Jvm.MethodName)) ∈ lw_all := lw_g (lw_at lw_m10 6 rfl) rfl
theorem q2285 : (Jvm.Cond.methodLink "PaperMillLaw" (221 : Nat) ({ cls := "PaperMillModel", name := "make", desc := "(III)I" } : Jvm.MethodName)) ∈ lw_all := lw_g (lw_at lw_m10 14 rfl) rfl
theorem q2307 : (Jvm.Cond.methodLink "PaperMillLaw" (224 : Nat) ({ cls := "PaperMillModel", name := "pack", desc := "(III)I" } : Jvm.MethodName)) ∈ lw_all := lw_g (lw_at lw_m10 36 rfl) rfl
theorem q2334 : (Jvm.Cond.methodLink "PaperMillLaw" (227 : Nat) ({ cls := "PaperMillModel", name := "packShort", desc := "(III)I" } : Jvm.MethodName)) ∈ lw_all := lw_g (lw_at lw_m10 63 rfl) rfl
theorem q2342 : (Jvm.Cond.methodLink "PaperMillLaw" (230 : Nat) ({ cls := "PaperMillModel", name := "send", desc := "(II)I" } : Jvm.MethodName)) ∈ lw_all := lw_g (lw_at lw_m10 71 rfl) rfl
theorem q2366 : (Jvm.Cond.methodLink "PaperMillLaw" (233 : Nat) ({ cls := "PaperMillModel", name := "pass", desc := "(I)I" } : Jvm.MethodName)) ∈ lw_all := lw_g (lw_at lw_m10 95 rfl) rfl
theorem q2398 : (Jvm.Cond.methodLink "PaperMillLaw" (236 : Nat) ({ cls := "PaperMillModel", name := "debtOf", desc := "(I)I" } : Jvm.MethodName)) ∈ lw_all := lw_g (lw_at lw_m10 127 rfl) rfl
theorem q2402 : (Jvm.Cond.methodLink "PaperMillLaw" (239 : Nat) ({ cls := "PaperMillModel", name := "passLeft", desc := "(I)I" } : Jvm.MethodName)) ∈ lw_all := lw_g (lw_at lw_m10 131 rfl) rfl
theorem q2406 : (Jvm.Cond.methodLink "PaperMillLaw" (242 : Nat) ({ cls := "PaperMillModel", name := "tollFor", desc := "(II)I" } : Jvm.MethodName)) ∈ lw_all := lw_g (lw_at lw_m10 135 rfl) rfl
theorem q2410 : (Jvm.Cond.methodLink "PaperMillLaw" (245 : Nat) ({ cls := "PaperMillModel", name := "whyNotIn", desc := "(III)I" } : Jvm.MethodName)) ∈ lw_all := lw_g (lw_at lw_m10 139 rfl) rfl
theorem q2414 : (Jvm.Cond.methodLink "PaperMillLaw" (249 : Nat) ({ cls := "PaperMillModel", name := "bales", desc := "()I" } : Jvm.MethodName)) ∈ lw_all := lw_g (lw_at lw_m10 143 rfl) rfl
theorem q2422 : (Jvm.Cond.methodLink "PaperMillLaw" (252 : Nat) ({ cls := "PaperMillModel", name := "sortOf", desc := "(I)I" } : Jvm.MethodName)) ∈ lw_all := lw_g (lw_at lw_m10 151 rfl) rfl
theorem q2430 : (Jvm.Cond.methodLink "PaperMillLaw" (255 : Nat) ({ cls := "PaperMillModel", name := "ragsOf", desc := "(I)I" } : Jvm.MethodName)) ∈ lw_all := lw_g (lw_at lw_m10 159 rfl) rfl
theorem q2434 : (Jvm.Cond.methodLink "PaperMillLaw" (258 : Nat) ({ cls := "PaperMillModel", name := "dampOf", desc := "(I)I" } : Jvm.MethodName)) ∈ lw_all := lw_g (lw_at lw_m10 163 rfl) rfl
theorem q2438 : (Jvm.Cond.methodLink "PaperMillLaw" (261 : Nat) ({ cls := "PaperMillModel", name := "wetDaysOf", desc := "(I)I" } : Jvm.MethodName)) ∈ lw_all := lw_g (lw_at lw_m10 167 rfl) rfl
theorem q2442 : (Jvm.Cond.methodLink "PaperMillLaw" (264 : Nat) ({ cls := "PaperMillModel", name := "goodRags", desc := "(I)I" } : Jvm.MethodName)) ∈ lw_all := lw_g (lw_at lw_m10 171 rfl) rfl
theorem q2446 : (Jvm.Cond.methodLink "PaperMillLaw" (267 : Nat) ({ cls := "PaperMillModel", name := "mouldReach", desc := "(I)I" } : Jvm.MethodName)) ∈ lw_all := lw_g (lw_at lw_m10 175 rfl) rfl
theorem q2454 : (Jvm.Cond.methodLink "PaperMillLaw" (270 : Nat) ({ cls := "PaperMillModel", name := "partsOf", desc := "(I)I" } : Jvm.MethodName)) ∈ lw_all := lw_g (lw_at lw_m10 183 rfl) rfl
theorem q2458 : (Jvm.Cond.methodLink "PaperMillLaw" (274 : Nat) ({ cls := "PaperMillModel", name := "recipeDepth", desc := "()I" } : Jvm.MethodName)) ∈ lw_all := lw_g (lw_at lw_m10 187 rfl) rfl
theorem q2462 : (Jvm.Cond.methodLink "PaperMillLaw" (277 : Nat) ({ cls := "PaperMillModel", name := "shareOf", desc := "(II)I" } : Jvm.MethodName)) ∈ lw_all := lw_g (lw_at lw_m10 191 rfl) rfl
theorem q2470 : (Jvm.Cond.methodLink "PaperMillLaw" (280 : Nat) ({ cls := "PaperMillModel", name := "unitsIn", desc := "(I)I" } : Jvm.MethodName)) ∈ lw_all := lw_g (lw_at lw_m10 199 rfl) rfl
theorem q2478 : (Jvm.Cond.methodLink "PaperMillLaw" (283 : Nat) ({ cls := "PaperMillModel", name := "hoursOf", desc := "(I)I" } : Jvm.MethodName)) ∈ lw_all := lw_g (lw_at lw_m10 207 rfl) rfl
theorem q2482 : (Jvm.Cond.methodLink "PaperMillLaw" (286 : Nat) ({ cls := "PaperMillModel", name := "strengthOf", desc := "(I)I" } : Jvm.MethodName)) ∈ lw_all := lw_g (lw_at lw_m10 211 rfl) rfl
theorem q2486 : (Jvm.Cond.methodLink "PaperMillLaw" (289 : Nat) ({ cls := "PaperMillModel", name := "whyNotBeaten", desc := "(II)I" } : Jvm.MethodName)) ∈ lw_all := lw_g (lw_at lw_m10 215 rfl) rfl
theorem q2490 : (Jvm.Cond.methodLink "PaperMillLaw" (292 : Nat) ({ cls := "PaperMillModel", name := "markOf", desc := "(I)I" } : Jvm.MethodName)) ∈ lw_all := lw_g (lw_at lw_m10 219 rfl) rfl
theorem q2498 : (Jvm.Cond.methodLink "PaperMillLaw" (295 : Nat) ({ cls := "PaperMillModel", name := "wearOf", desc := "(I)I" } : Jvm.MethodName)) ∈ lw_all := lw_g (lw_at lw_m10 227 rfl) rfl
theorem q2502 : (Jvm.Cond.methodLink "PaperMillLaw" (298 : Nat) ({ cls := "PaperMillModel", name := "pointsOf", desc := "(II)I" } : Jvm.MethodName)) ∈ lw_all := lw_g (lw_at lw_m10 231 rfl) rfl
theorem q2506 : (Jvm.Cond.methodLink "PaperMillLaw" (301 : Nat) ({ cls := "PaperMillModel", name := "whyNotMade", desc := "(III)I" } : Jvm.MethodName)) ∈ lw_all := lw_g (lw_at lw_m10 235 rfl) rfl
theorem q2510 : (Jvm.Cond.methodLink "PaperMillLaw" (304 : Nat) ({ cls := "PaperMillModel", name := "sheetsFrom", desc := "(II)I" } : Jvm.MethodName)) ∈ lw_all := lw_g (lw_at lw_m10 239 rfl) rfl
theorem q2518 : (Jvm.Cond.methodLink "PaperMillLaw" (307 : Nat) ({ cls := "PaperMillModel", name := "sheetsByTrying", desc := "(II)I" } : Jvm.MethodName)) ∈ lw_all := lw_g (lw_at lw_m11 7 rfl) rfl
theorem q2522 : (Jvm.Cond.methodLink "PaperMillLaw" (311 : Nat) ({ cls := "PaperMillModel", name := "piles", desc := "()I" } : Jvm.MethodName)) ∈ lw_all := lw_g (lw_at lw_m11 11 rfl) rfl
theorem q2526 : (Jvm.Cond.methodLink "PaperMillLaw" (314 : Nat) ({ cls := "PaperMillModel", name := "sheetsOn", desc := "(I)I" } : Jvm.MethodName)) ∈ lw_all := lw_g (lw_at lw_m11 15 rfl) rfl
theorem q2534 : (Jvm.Cond.methodLink "PaperMillLaw" (317 : Nat) ({ cls := "PaperMillModel", name := "gradeOf", desc := "(I)I" } : Jvm.MethodName)) ∈ lw_all := lw_g (lw_at lw_m11 23 rfl) rfl
theorem q2538 : (Jvm.Cond.methodLink "PaperMillLaw" (320 : Nat) ({ cls := "PaperMillModel", name := "drySheets", desc := "(III)I" } : Jvm.MethodName)) ∈ lw_all := lw_g (lw_at lw_m11 27 rfl) rfl
theorem q2542 : (Jvm.Cond.methodLink "PaperMillLaw" (323 : Nat) ({ cls := "PaperMillModel", name := "whyNotPacked", desc := "(III)I" } : Jvm.MethodName)) ∈ lw_all := lw_g (lw_at lw_m11 31 rfl) rfl
theorem q2546 : (Jvm.Cond.methodLink "PaperMillLaw" (327 : Nat) ({ cls := "PaperMillModel", name := "reams", desc := "()I" } : Jvm.MethodName)) ∈ lw_all := lw_g (lw_at lw_m11 35 rfl) rfl
theorem q2550 : (Jvm.Cond.methodLink "PaperMillLaw" (330 : Nat) ({ cls := "PaperMillModel", name := "quiresOf", desc := "(I)I" } : Jvm.MethodName)) ∈ lw_all := lw_g (lw_at lw_m11 39 rfl) rfl
theorem q2554 : (Jvm.Cond.methodLink "PaperMillLaw" (333 : Nat) ({ cls := "PaperMillModel", name := "priceOf", desc := "(I)I" } : Jvm.MethodName)) ∈ lw_all := lw_g (lw_at lw_m11 43 rfl) rfl
theorem q2558 : (Jvm.Cond.methodLink "PaperMillLaw" (337 : Nat) ({ cls := "PaperMillModel", name := "day", desc := "()I" } : Jvm.MethodName)) ∈ lw_all := lw_g (lw_at lw_m11 47 rfl) rfl
theorem q2562 : (Jvm.Cond.methodLink "PaperMillLaw" (341 : Nat) ({ cls := "PaperMillModel", name := "purse", desc := "()I" } : Jvm.MethodName)) ∈ lw_all := lw_g (lw_at lw_m11 51 rfl) rfl
theorem q2566 : (Jvm.Cond.methodLink "PaperMillLaw" (345 : Nat) ({ cls := "PaperMillModel", name := "unitsByPlaces", desc := "()I" } : Jvm.MethodName)) ∈ lw_all := lw_g (lw_at lw_m11 55 rfl) rfl
theorem q2574 : (Jvm.Cond.methodLink "PaperMillLaw" (349 : Nat) ({ cls := "PaperMillModel", name := "unitsByAccount", desc := "()I" } : Jvm.MethodName)) ∈ lw_all := lw_g (lw_at lw_m11 63 rfl) rfl
theorem q2578 : (Jvm.Cond.methodLink "PaperMillLaw" (354 : Nat) ({ cls := "PaperMillModel", name := "meanDamp", desc := "()D" } : Jvm.MethodName)) ∈ lw_all := lw_g (lw_at lw_m11 67 rfl) rfl
theorem q2582 : (Jvm.Cond.methodLink "PaperMillLaw" (358 : Nat) ({ cls := "PaperMillModel", name := "daysUntilMould", desc := "()I" } : Jvm.MethodName)) ∈ lw_all := lw_g (lw_at lw_m11 71 rfl) rfl
theorem q2586 : (Jvm.Cond.methodLink "PaperMillLaw" (361 : Nat) ({ cls := "PaperMillModel", name := "lostIn", desc := "(I)I" } : Jvm.MethodName)) ∈ lw_all := lw_g (lw_at lw_m11 75 rfl) rfl
theorem q2590 : (Jvm.Cond.methodLink "PaperMillLaw" (364 : Nat) ({ cls := "PaperMillModel", name := "append", desc := "(I)I" } : Jvm.MethodName)) ∈ lw_all := lw_g (lw_at lw_m11 79 rfl) rfl
theorem q2594 : (Jvm.Cond.methodLink "PaperMillLaw" (368 : Nat) ({ cls := "PaperMillModel", name := "clearText", desc := "()I" } : Jvm.MethodName)) ∈ lw_all := lw_g (lw_at lw_m11 83 rfl) rfl
theorem q2598 : (Jvm.Cond.methodLink "PaperMillLaw" (372 : Nat) ({ cls := "PaperMillModel", name := "errorPosition", desc := "()I" } : Jvm.MethodName)) ∈ lw_all := lw_g (lw_at lw_m11 87 rfl) rfl
theorem q2657 : (Jvm.Cond.methodLink "PaperMillLaw" (376 : Nat) ({ cls := "PaperMillModel", name := "runText", desc := "()I" } : Jvm.MethodName)) ∈ lw_all := lw_g (lw_at lw_m11 146 rfl) rfl
theorem q2665 : (Jvm.Cond.methodLink "PaperMillLaw" (379 : Nat) ({ cls := "PaperMillModel", name := "undo", desc := "()I" } : Jvm.MethodName)) ∈ lw_all := lw_g (lw_at lw_m11 154 rfl) rfl
theorem q2669 : (Jvm.Cond.methodLink "PaperMillLaw" (383 : Nat) ({ cls := "PaperMillModel", name := "takeSnapshot", desc := "()I" } : Jvm.MethodName)) ∈ lw_all := lw_g (lw_at lw_m11 158 rfl) rfl
theorem q2673 : (Jvm.Cond.methodLink "PaperMillLaw" (386 : Nat) ({ cls := "PaperMillModel", name := "restoreSnapshot", desc := "()I" } : Jvm.MethodName)) ∈ lw_all := lw_g (lw_at lw_m11 162 rfl) rfl
/-! the law's own entry -/
set_option maxRecDepth 100000
abbrev cL_law : ByteArray := code
def dkwL_law_144 : List UInt8 := [21, 6, 133, 148, 153, 0, 5, 3, 172, 167, 0, 3, 132, 4, 5, 167, 241, 235, 4, 172]
abbrev dktL_law_144 : List UInt8 := dkwL_law_144 ++ []
def dkwL_law_143 : List UInt8 := [182, 1, 130, 54, 6, 44, 182, 0, 180, 21, 5, 159, 0, 5, 3, 172, 21, 5, 154, 0, 15, 45, 3, 47]
abbrev dktL_law_143 : List UInt8 := dkwL_law_143 ++ dktL_law_144
def dkwL_law_142 : List UInt8 := [167, 0, 60, 43, 182, 1, 124, 44, 182, 1, 127, 159, 0, 49, 3, 172, 43, 45, 184, 1, 128, 54, 5, 44]
abbrev dktL_law_142 : List UInt8 := dkwL_law_142 ++ dktL_law_143
def dkwL_law_141 : List UInt8 := [159, 0, 5, 3, 172, 21, 5, 154, 0, 15, 45, 3, 47, 21, 6, 133, 148, 153, 0, 5, 3, 172]
abbrev dktL_law_141 : List UInt8 := dkwL_law_141 ++ dktL_law_142
def dkwL_law_140 : List UInt8 := [167, 0, 104, 43, 45, 184, 1, 121, 54, 5, 44, 182, 1, 123, 54, 6, 44, 182, 0, 180, 21, 5]
abbrev dktL_law_140 : List UInt8 := dkwL_law_140 ++ dktL_law_141
def dkwL_law_139 : List UInt8 := [159, 0, 5, 3, 172, 21, 5, 154, 0, 15, 45, 3, 47, 21, 6, 133, 148, 153, 0, 5, 3, 172]
abbrev dktL_law_139 : List UInt8 := dkwL_law_139 ++ dktL_law_140
def dkwL_law_138 : List UInt8 := [159, 0, 150, 3, 172, 43, 45, 184, 1, 117, 54, 5, 44, 182, 1, 120, 54, 6, 44, 182, 0, 180, 21, 5]
abbrev dktL_law_138 : List UInt8 := dkwL_law_138 ++ dktL_law_139
def dkwL_law_137 : List UInt8 := [167, 0, 174, 43, 182, 1, 109, 44, 182, 1, 112, 159, 0, 163, 3, 172, 43, 182, 1, 113, 44, 182, 1, 116]
abbrev dktL_law_137 : List UInt8 := dkwL_law_137 ++ dktL_law_138
def dkwL_law_136 : List UInt8 := [21, 5, 159, 0, 5, 3, 172, 21, 5, 154, 0, 15, 45, 3, 47, 21, 6, 133, 148, 153, 0, 5, 3, 172]
abbrev dktL_law_136 : List UInt8 := dkwL_law_136 ++ dktL_law_137
def dkwL_law_135 : List UInt8 := [46, 45, 184, 1, 106, 54, 5, 44, 42, 21, 4, 4, 96, 46, 182, 1, 108, 54, 6, 44, 182, 0, 180]
abbrev dktL_law_135 : List UInt8 := dkwL_law_135 ++ dktL_law_136
def dkwL_law_134 : List UInt8 := [154, 0, 15, 45, 3, 47, 21, 6, 133, 148, 153, 0, 5, 3, 172, 167, 0, 230, 43, 42, 21, 4, 4, 96]
abbrev dktL_law_134 : List UInt8 := dkwL_law_134 ++ dktL_law_135
def dkwL_law_133 : List UInt8 := [21, 4, 4, 96, 46, 182, 1, 105, 54, 6, 44, 182, 0, 180, 21, 5, 159, 0, 5, 3, 172, 21, 5]
abbrev dktL_law_133 : List UInt8 := dkwL_law_133 ++ dktL_law_134
def dkwL_law_132 : List UInt8 := [182, 1, 102, 159, 1, 32, 3, 172, 43, 42, 21, 4, 4, 96, 46, 45, 184, 1, 103, 54, 5, 44, 42]
abbrev dktL_law_132 : List UInt8 := dkwL_law_132 ++ dktL_law_133
def dkwL_law_131 : List UInt8 := [24, 5, 151, 153, 0, 11, 24, 7, 24, 7, 151, 154, 0, 5, 3, 172, 167, 1, 43, 43, 182, 1, 99, 44]
abbrev dktL_law_131 : List UInt8 := dkwL_law_131 ++ dktL_law_132
def dkwL_law_130 : List UInt8 := [172, 43, 182, 1, 94, 57, 5, 44, 182, 1, 98, 57, 7, 24, 5, 24, 7, 151, 153, 0, 21, 24, 5]
abbrev dktL_law_130 : List UInt8 := dkwL_law_130 ++ dktL_law_131
def dkwL_law_129 : List UInt8 := [182, 1, 86, 44, 182, 1, 89, 159, 1, 99, 3, 172, 43, 182, 1, 90, 44, 182, 1, 93, 159, 1, 86, 3]
abbrev dktL_law_129 : List UInt8 := dkwL_law_129 ++ dktL_law_130
def dkwL_law_128 : List UInt8 := [182, 1, 81, 159, 1, 125, 3, 172, 43, 182, 1, 82, 44, 182, 1, 85, 159, 1, 112, 3, 172, 43]
abbrev dktL_law_128 : List UInt8 := dkwL_law_128 ++ dktL_law_129
def dkwL_law_127 : List UInt8 := [154, 0, 15, 45, 3, 47, 21, 6, 133, 148, 153, 0, 5, 3, 172, 167, 1, 136, 43, 182, 1, 78, 44]
abbrev dktL_law_127 : List UInt8 := dkwL_law_127 ++ dktL_law_128
def dkwL_law_126 : List UInt8 := [21, 4, 4, 96, 46, 182, 1, 77, 54, 6, 44, 182, 0, 180, 21, 5, 159, 0, 5, 3, 172, 21, 5]
abbrev dktL_law_126 : List UInt8 := dkwL_law_126 ++ dktL_law_127
def dkwL_law_125 : List UInt8 := [148, 153, 0, 5, 3, 172, 167, 1, 192, 43, 42, 21, 4, 4, 96, 46, 45, 184, 1, 75, 54, 5, 44, 42]
abbrev dktL_law_125 : List UInt8 := dkwL_law_125 ++ dktL_law_126
def dkwL_law_124 : List UInt8 := [54, 6, 44, 182, 0, 180, 21, 5, 159, 0, 5, 3, 172, 21, 5, 154, 0, 15, 45, 3, 47, 21, 6, 133]
abbrev dktL_law_124 : List UInt8 := dkwL_law_124 ++ dktL_law_125
def dkwL_law_123 : List UInt8 := [172, 43, 42, 21, 4, 4, 96, 46, 45, 184, 1, 72, 54, 5, 44, 42, 21, 4, 4, 96, 46, 182, 1, 74]
abbrev dktL_law_123 : List UInt8 := dkwL_law_123 ++ dktL_law_124
def dkwL_law_122 : List UInt8 := [21, 6, 133, 148, 153, 0, 5, 3, 172, 167, 2, 5, 43, 182, 1, 68, 44, 182, 1, 71, 159, 1, 250, 3]
abbrev dktL_law_122 : List UInt8 := dkwL_law_122 ++ dktL_law_123
def dkwL_law_121 : List UInt8 := [182, 1, 67, 54, 6, 44, 182, 0, 180, 21, 5, 159, 0, 5, 3, 172, 21, 5, 154, 0, 15, 45, 3, 47]
abbrev dktL_law_121 : List UInt8 := dkwL_law_121 ++ dktL_law_122
def dkwL_law_120 : List UInt8 := [184, 1, 65, 54, 5, 44, 42, 21, 4, 4, 96, 46, 42, 21, 4, 5, 96, 46, 42, 21, 4, 6, 96, 46]
abbrev dktL_law_120 : List UInt8 := dkwL_law_120 ++ dktL_law_121
def dkwL_law_119 : List UInt8 := [167, 2, 85, 43, 42, 21, 4, 4, 96, 46, 42, 21, 4, 5, 96, 46, 42, 21, 4, 6, 96, 46, 45]
abbrev dktL_law_119 : List UInt8 := dkwL_law_119 ++ dktL_law_120
def dkwL_law_118 : List UInt8 := [21, 5, 159, 0, 5, 3, 172, 21, 5, 154, 0, 15, 45, 3, 47, 21, 6, 133, 148, 153, 0, 5, 3, 172]
abbrev dktL_law_118 : List UInt8 := dkwL_law_118 ++ dktL_law_119
def dkwL_law_117 : List UInt8 := [96, 46, 42, 21, 4, 5, 96, 46, 42, 21, 4, 6, 96, 46, 182, 1, 64, 54, 6, 44, 182, 0, 180]
abbrev dktL_law_117 : List UInt8 := dkwL_law_117 ++ dktL_law_118
def dkwL_law_116 : List UInt8 := [46, 42, 21, 4, 5, 96, 46, 42, 21, 4, 6, 96, 46, 45, 184, 1, 62, 54, 5, 44, 42, 21, 4, 4]
abbrev dktL_law_116 : List UInt8 := dkwL_law_116 ++ dktL_law_117
def dkwL_law_115 : List UInt8 := [154, 0, 15, 45, 3, 47, 21, 6, 133, 148, 153, 0, 5, 3, 172, 167, 2, 165, 43, 42, 21, 4, 4, 96]
abbrev dktL_law_115 : List UInt8 := dkwL_law_115 ++ dktL_law_116
def dkwL_law_114 : List UInt8 := [21, 4, 4, 96, 46, 182, 1, 61, 54, 6, 44, 182, 0, 180, 21, 5, 159, 0, 5, 3, 172, 21, 5]
abbrev dktL_law_114 : List UInt8 := dkwL_law_114 ++ dktL_law_115
def dkwL_law_113 : List UInt8 := [148, 153, 0, 5, 3, 172, 167, 2, 221, 43, 42, 21, 4, 4, 96, 46, 45, 184, 1, 59, 54, 5, 44, 42]
abbrev dktL_law_113 : List UInt8 := dkwL_law_113 ++ dktL_law_114
def dkwL_law_112 : List UInt8 := [54, 6, 44, 182, 0, 180, 21, 5, 159, 0, 5, 3, 172, 21, 5, 154, 0, 15, 45, 3, 47, 21, 6, 133]
abbrev dktL_law_112 : List UInt8 := dkwL_law_112 ++ dktL_law_113
def dkwL_law_111 : List UInt8 := [172, 43, 42, 21, 4, 4, 96, 46, 45, 184, 1, 56, 54, 5, 44, 42, 21, 4, 4, 96, 46, 182, 1, 58]
abbrev dktL_law_111 : List UInt8 := dkwL_law_111 ++ dktL_law_112
def dkwL_law_110 : List UInt8 := [21, 6, 133, 148, 153, 0, 5, 3, 172, 167, 3, 34, 43, 182, 1, 52, 44, 182, 1, 55, 159, 3, 23, 3]
abbrev dktL_law_110 : List UInt8 := dkwL_law_110 ++ dktL_law_111
def dkwL_law_109 : List UInt8 := [182, 1, 51, 54, 6, 44, 182, 0, 180, 21, 5, 159, 0, 5, 3, 172, 21, 5, 154, 0, 15, 45, 3, 47]
abbrev dktL_law_109 : List UInt8 := dkwL_law_109 ++ dktL_law_110
def dkwL_law_108 : List UInt8 := [5, 96, 46, 45, 184, 1, 49, 54, 5, 44, 42, 21, 4, 4, 96, 46, 42, 21, 4, 5, 96, 46]
abbrev dktL_law_108 : List UInt8 := dkwL_law_108 ++ dktL_law_109
def dkwL_law_107 : List UInt8 := [3, 47, 21, 6, 133, 148, 153, 0, 5, 3, 172, 167, 3, 102, 43, 42, 21, 4, 4, 96, 46, 42, 21, 4]
abbrev dktL_law_107 : List UInt8 := dkwL_law_107 ++ dktL_law_108
def dkwL_law_106 : List UInt8 := [96, 46, 182, 1, 48, 54, 6, 44, 182, 0, 180, 21, 5, 159, 0, 5, 3, 172, 21, 5, 154, 0, 15, 45]
abbrev dktL_law_106 : List UInt8 := dkwL_law_106 ++ dktL_law_107
def dkwL_law_105 : List UInt8 := [46, 42, 21, 4, 5, 96, 46, 45, 184, 1, 46, 54, 5, 44, 42, 21, 4, 4, 96, 46, 42, 21, 4, 5]
abbrev dktL_law_105 : List UInt8 := dkwL_law_105 ++ dktL_law_106
def dkwL_law_104 : List UInt8 := [154, 0, 15, 45, 3, 47, 21, 6, 133, 148, 153, 0, 5, 3, 172, 167, 3, 170, 43, 42, 21, 4, 4, 96]
abbrev dktL_law_104 : List UInt8 := dkwL_law_104 ++ dktL_law_105
def dkwL_law_103 : List UInt8 := [42, 21, 4, 6, 96, 46, 182, 1, 45, 54, 6, 44, 182, 0, 180, 21, 5, 159, 0, 5, 3, 172, 21, 5]
abbrev dktL_law_103 : List UInt8 := dkwL_law_103 ++ dktL_law_104
def dkwL_law_102 : List UInt8 := [21, 4, 6, 96, 46, 45, 184, 1, 43, 54, 5, 44, 42, 21, 4, 4, 96, 46, 42, 21, 4, 5, 96, 46]
abbrev dktL_law_102 : List UInt8 := dkwL_law_102 ++ dktL_law_103
def dkwL_law_101 : List UInt8 := [148, 153, 0, 5, 3, 172, 167, 3, 250, 43, 42, 21, 4, 4, 96, 46, 42, 21, 4, 5, 96, 46, 42]
abbrev dktL_law_101 : List UInt8 := dkwL_law_101 ++ dktL_law_102
def dkwL_law_100 : List UInt8 := [54, 6, 44, 182, 0, 180, 21, 5, 159, 0, 5, 3, 172, 21, 5, 154, 0, 15, 45, 3, 47, 21, 6, 133]
abbrev dktL_law_100 : List UInt8 := dkwL_law_100 ++ dktL_law_101
def dkwL_law_99 : List UInt8 := [46, 45, 184, 1, 40, 54, 5, 44, 42, 21, 4, 4, 96, 46, 42, 21, 4, 5, 96, 46, 182, 1, 42]
abbrev dktL_law_99 : List UInt8 := dkwL_law_99 ++ dktL_law_100
def dkwL_law_98 : List UInt8 := [21, 6, 133, 148, 153, 0, 5, 3, 172, 167, 4, 62, 43, 42, 21, 4, 4, 96, 46, 42, 21, 4, 5, 96]
abbrev dktL_law_98 : List UInt8 := dkwL_law_98 ++ dktL_law_99
def dkwL_law_97 : List UInt8 := [182, 1, 39, 54, 6, 44, 182, 0, 180, 21, 5, 159, 0, 5, 3, 172, 21, 5, 154, 0, 15, 45, 3, 47]
abbrev dktL_law_97 : List UInt8 := dkwL_law_97 ++ dktL_law_98
def dkwL_law_96 : List UInt8 := [167, 4, 118, 43, 42, 21, 4, 4, 96, 46, 45, 184, 1, 37, 54, 5, 44, 42, 21, 4, 4, 96, 46]
abbrev dktL_law_96 : List UInt8 := dkwL_law_96 ++ dktL_law_97
def dkwL_law_95 : List UInt8 := [159, 0, 5, 3, 172, 21, 5, 154, 0, 15, 45, 3, 47, 21, 6, 133, 148, 153, 0, 5, 3, 172]
abbrev dktL_law_95 : List UInt8 := dkwL_law_95 ++ dktL_law_96
def dkwL_law_94 : List UInt8 := [184, 1, 34, 54, 5, 44, 42, 21, 4, 4, 96, 46, 182, 1, 36, 54, 6, 44, 182, 0, 180, 21, 5]
abbrev dktL_law_94 : List UInt8 := dkwL_law_94 ++ dktL_law_95
def dkwL_law_93 : List UInt8 := [3, 47, 21, 6, 133, 148, 153, 0, 5, 3, 172, 167, 4, 174, 43, 42, 21, 4, 4, 96, 46, 45]
abbrev dktL_law_93 : List UInt8 := dkwL_law_93 ++ dktL_law_94
def dkwL_law_92 : List UInt8 := [96, 46, 182, 1, 33, 54, 6, 44, 182, 0, 180, 21, 5, 159, 0, 5, 3, 172, 21, 5, 154, 0, 15, 45]
abbrev dktL_law_92 : List UInt8 := dkwL_law_92 ++ dktL_law_93
def dkwL_law_91 : List UInt8 := [46, 42, 21, 4, 5, 96, 46, 45, 184, 1, 31, 54, 5, 44, 42, 21, 4, 4, 96, 46, 42, 21, 4, 5]
abbrev dktL_law_91 : List UInt8 := dkwL_law_91 ++ dktL_law_92
def dkwL_law_90 : List UInt8 := [154, 0, 15, 45, 3, 47, 21, 6, 133, 148, 153, 0, 5, 3, 172, 167, 4, 242, 43, 42, 21, 4, 4, 96]
abbrev dktL_law_90 : List UInt8 := dkwL_law_90 ++ dktL_law_91
def dkwL_law_89 : List UInt8 := [21, 4, 4, 96, 46, 182, 1, 30, 54, 6, 44, 182, 0, 180, 21, 5, 159, 0, 5, 3, 172, 21, 5]
abbrev dktL_law_89 : List UInt8 := dkwL_law_89 ++ dktL_law_90
def dkwL_law_88 : List UInt8 := [153, 0, 5, 3, 172, 167, 5, 42, 43, 42, 21, 4, 4, 96, 46, 45, 184, 1, 28, 54, 5, 44, 42]
abbrev dktL_law_88 : List UInt8 := dkwL_law_88 ++ dktL_law_89
def dkwL_law_87 : List UInt8 := [182, 0, 180, 21, 5, 159, 0, 5, 3, 172, 21, 5, 154, 0, 15, 45, 3, 47, 21, 6, 133, 148]
abbrev dktL_law_87 : List UInt8 := dkwL_law_87 ++ dktL_law_88
def dkwL_law_86 : List UInt8 := [21, 4, 4, 96, 46, 45, 184, 1, 25, 54, 5, 44, 42, 21, 4, 4, 96, 46, 182, 1, 27, 54, 6, 44]
abbrev dktL_law_86 : List UInt8 := dkwL_law_86 ++ dktL_law_87
def dkwL_law_85 : List UInt8 := [172, 21, 5, 154, 0, 15, 45, 3, 47, 21, 6, 133, 148, 153, 0, 5, 3, 172, 167, 5, 98, 43, 42]
abbrev dktL_law_85 : List UInt8 := dkwL_law_85 ++ dktL_law_86
def dkwL_law_84 : List UInt8 := [54, 5, 44, 42, 21, 4, 4, 96, 46, 182, 1, 24, 54, 6, 44, 182, 0, 180, 21, 5, 159, 0, 5, 3]
abbrev dktL_law_84 : List UInt8 := dkwL_law_84 ++ dktL_law_85
def dkwL_law_83 : List UInt8 := [21, 6, 133, 148, 153, 0, 5, 3, 172, 167, 5, 154, 43, 42, 21, 4, 4, 96, 46, 45, 184, 1, 22]
abbrev dktL_law_83 : List UInt8 := dkwL_law_83 ++ dktL_law_84
def dkwL_law_82 : List UInt8 := [182, 1, 21, 54, 6, 44, 182, 0, 180, 21, 5, 159, 0, 5, 3, 172, 21, 5, 154, 0, 15, 45, 3, 47]
abbrev dktL_law_82 : List UInt8 := dkwL_law_82 ++ dktL_law_83
def dkwL_law_81 : List UInt8 := [21, 4, 5, 96, 46, 45, 184, 1, 19, 54, 5, 44, 42, 21, 4, 4, 96, 46, 42, 21, 4, 5, 96, 46]
abbrev dktL_law_81 : List UInt8 := dkwL_law_81 ++ dktL_law_82
def dkwL_law_80 : List UInt8 := [167, 5, 235, 43, 182, 1, 15, 44, 182, 1, 18, 159, 5, 224, 3, 172, 43, 42, 21, 4, 4, 96, 46, 42]
abbrev dktL_law_80 : List UInt8 := dkwL_law_80 ++ dktL_law_81
def dkwL_law_79 : List UInt8 := [21, 5, 159, 0, 5, 3, 172, 21, 5, 154, 0, 15, 45, 3, 47, 21, 6, 133, 148, 153, 0, 5, 3, 172]
abbrev dktL_law_79 : List UInt8 := dkwL_law_79 ++ dktL_law_80
def dkwL_law_78 : List UInt8 := [46, 45, 184, 1, 12, 54, 5, 44, 42, 21, 4, 4, 96, 46, 182, 1, 14, 54, 6, 44, 182, 0, 180]
abbrev dktL_law_78 : List UInt8 := dkwL_law_78 ++ dktL_law_79
def dkwL_law_77 : List UInt8 := [154, 0, 15, 45, 3, 47, 21, 6, 133, 148, 153, 0, 5, 3, 172, 167, 6, 35, 43, 42, 21, 4, 4, 96]
abbrev dktL_law_77 : List UInt8 := dkwL_law_77 ++ dktL_law_78
def dkwL_law_76 : List UInt8 := [21, 4, 4, 96, 46, 182, 1, 11, 54, 6, 44, 182, 0, 180, 21, 5, 159, 0, 5, 3, 172, 21, 5]
abbrev dktL_law_76 : List UInt8 := dkwL_law_76 ++ dktL_law_77
def dkwL_law_75 : List UInt8 := [153, 0, 5, 3, 172, 167, 6, 91, 43, 42, 21, 4, 4, 96, 46, 45, 184, 1, 9, 54, 5, 44, 42]
abbrev dktL_law_75 : List UInt8 := dkwL_law_75 ++ dktL_law_76
def dkwL_law_74 : List UInt8 := [182, 0, 180, 21, 5, 159, 0, 5, 3, 172, 21, 5, 154, 0, 15, 45, 3, 47, 21, 6, 133, 148]
abbrev dktL_law_74 : List UInt8 := dkwL_law_74 ++ dktL_law_75
def dkwL_law_73 : List UInt8 := [21, 4, 4, 96, 46, 45, 184, 1, 6, 54, 5, 44, 42, 21, 4, 4, 96, 46, 182, 1, 8, 54, 6, 44]
abbrev dktL_law_73 : List UInt8 := dkwL_law_73 ++ dktL_law_74
def dkwL_law_72 : List UInt8 := [172, 21, 5, 154, 0, 15, 45, 3, 47, 21, 6, 133, 148, 153, 0, 5, 3, 172, 167, 6, 147, 43, 42]
abbrev dktL_law_72 : List UInt8 := dkwL_law_72 ++ dktL_law_73
def dkwL_law_71 : List UInt8 := [54, 5, 44, 42, 21, 4, 4, 96, 46, 182, 1, 5, 54, 6, 44, 182, 0, 180, 21, 5, 159, 0, 5, 3]
abbrev dktL_law_71 : List UInt8 := dkwL_law_71 ++ dktL_law_72
def dkwL_law_70 : List UInt8 := [21, 6, 133, 148, 153, 0, 5, 3, 172, 167, 6, 203, 43, 42, 21, 4, 4, 96, 46, 45, 184, 1, 3]
abbrev dktL_law_70 : List UInt8 := dkwL_law_70 ++ dktL_law_71
def dkwL_law_69 : List UInt8 := [182, 1, 2, 54, 6, 44, 182, 0, 180, 21, 5, 159, 0, 5, 3, 172, 21, 5, 154, 0, 15, 45, 3, 47]
abbrev dktL_law_69 : List UInt8 := dkwL_law_69 ++ dktL_law_70
def dkwL_law_68 : List UInt8 := [167, 7, 3, 43, 42, 21, 4, 4, 96, 46, 45, 184, 1, 0, 54, 5, 44, 42, 21, 4, 4, 96, 46]
abbrev dktL_law_68 : List UInt8 := dkwL_law_68 ++ dktL_law_69
def dkwL_law_67 : List UInt8 := [21, 5, 159, 0, 5, 3, 172, 21, 5, 154, 0, 15, 45, 3, 47, 21, 6, 133, 148, 153, 0, 5, 3, 172]
abbrev dktL_law_67 : List UInt8 := dkwL_law_67 ++ dktL_law_68
def dkwL_law_66 : List UInt8 := [46, 45, 184, 0, 253, 54, 5, 44, 42, 21, 4, 4, 96, 46, 182, 0, 255, 54, 6, 44, 182, 0, 180]
abbrev dktL_law_66 : List UInt8 := dkwL_law_66 ++ dktL_law_67
def dkwL_law_65 : List UInt8 := [154, 0, 15, 45, 3, 47, 21, 6, 133, 148, 153, 0, 5, 3, 172, 167, 7, 59, 43, 42, 21, 4, 4, 96]
abbrev dktL_law_65 : List UInt8 := dkwL_law_65 ++ dktL_law_66
def dkwL_law_64 : List UInt8 := [21, 4, 4, 96, 46, 182, 0, 252, 54, 6, 44, 182, 0, 180, 21, 5, 159, 0, 5, 3, 172, 21, 5]
abbrev dktL_law_64 : List UInt8 := dkwL_law_64 ++ dktL_law_65
def dkwL_law_63 : List UInt8 := [182, 0, 249, 159, 7, 117, 3, 172, 43, 42, 21, 4, 4, 96, 46, 45, 184, 0, 250, 54, 5, 44, 42]
abbrev dktL_law_63 : List UInt8 := dkwL_law_63 ++ dktL_law_64
def dkwL_law_62 : List UInt8 := [154, 0, 15, 45, 3, 47, 21, 6, 133, 148, 153, 0, 5, 3, 172, 167, 7, 128, 43, 182, 0, 246, 44]
abbrev dktL_law_62 : List UInt8 := dkwL_law_62 ++ dktL_law_63
def dkwL_law_61 : List UInt8 := [42, 21, 4, 6, 96, 46, 182, 0, 245, 54, 6, 44, 182, 0, 180, 21, 5, 159, 0, 5, 3, 172, 21, 5]
abbrev dktL_law_61 : List UInt8 := dkwL_law_61 ++ dktL_law_62
def dkwL_law_60 : List UInt8 := [21, 4, 6, 96, 46, 45, 184, 0, 243, 54, 5, 44, 42, 21, 4, 4, 96, 46, 42, 21, 4, 5, 96, 46]
abbrev dktL_law_60 : List UInt8 := dkwL_law_60 ++ dktL_law_61
def dkwL_law_59 : List UInt8 := [148, 153, 0, 5, 3, 172, 167, 7, 208, 43, 42, 21, 4, 4, 96, 46, 42, 21, 4, 5, 96, 46, 42]
abbrev dktL_law_59 : List UInt8 := dkwL_law_59 ++ dktL_law_60
def dkwL_law_58 : List UInt8 := [54, 6, 44, 182, 0, 180, 21, 5, 159, 0, 5, 3, 172, 21, 5, 154, 0, 15, 45, 3, 47, 21, 6, 133]
abbrev dktL_law_58 : List UInt8 := dkwL_law_58 ++ dktL_law_59
def dkwL_law_57 : List UInt8 := [46, 45, 184, 0, 240, 54, 5, 44, 42, 21, 4, 4, 96, 46, 42, 21, 4, 5, 96, 46, 182, 0, 242]
abbrev dktL_law_57 : List UInt8 := dkwL_law_57 ++ dktL_law_58
def dkwL_law_56 : List UInt8 := [21, 6, 133, 148, 153, 0, 5, 3, 172, 167, 8, 20, 43, 42, 21, 4, 4, 96, 46, 42, 21, 4, 5, 96]
abbrev dktL_law_56 : List UInt8 := dkwL_law_56 ++ dktL_law_57
def dkwL_law_55 : List UInt8 := [182, 0, 239, 54, 6, 44, 182, 0, 180, 21, 5, 159, 0, 5, 3, 172, 21, 5, 154, 0, 15, 45, 3, 47]
abbrev dktL_law_55 : List UInt8 := dkwL_law_55 ++ dktL_law_56
def dkwL_law_54 : List UInt8 := [167, 8, 76, 43, 42, 21, 4, 4, 96, 46, 45, 184, 0, 237, 54, 5, 44, 42, 21, 4, 4, 96, 46]
abbrev dktL_law_54 : List UInt8 := dkwL_law_54 ++ dktL_law_55
def dkwL_law_53 : List UInt8 := [21, 5, 159, 0, 5, 3, 172, 21, 5, 154, 0, 15, 45, 3, 47, 21, 6, 133, 148, 153, 0, 5, 3, 172]
abbrev dktL_law_53 : List UInt8 := dkwL_law_53 ++ dktL_law_54
def dkwL_law_52 : List UInt8 := [46, 45, 184, 0, 234, 54, 5, 44, 42, 21, 4, 4, 96, 46, 182, 0, 236, 54, 6, 44, 182, 0, 180]
abbrev dktL_law_52 : List UInt8 := dkwL_law_52 ++ dktL_law_53
def dkwL_law_51 : List UInt8 := [154, 0, 15, 45, 3, 47, 21, 6, 133, 148, 153, 0, 5, 3, 172, 167, 8, 132, 43, 42, 21, 4, 4, 96]
abbrev dktL_law_51 : List UInt8 := dkwL_law_51 ++ dktL_law_52
def dkwL_law_50 : List UInt8 := [21, 4, 4, 96, 46, 182, 0, 233, 54, 6, 44, 182, 0, 180, 21, 5, 159, 0, 5, 3, 172, 21, 5]
abbrev dktL_law_50 : List UInt8 := dkwL_law_50 ++ dktL_law_51
def dkwL_law_49 : List UInt8 := [153, 0, 5, 3, 172, 167, 8, 188, 43, 42, 21, 4, 4, 96, 46, 45, 184, 0, 231, 54, 5, 44, 42]
abbrev dktL_law_49 : List UInt8 := dkwL_law_49 ++ dktL_law_50
def dkwL_law_48 : List UInt8 := [182, 0, 180, 21, 5, 159, 0, 5, 3, 172, 21, 5, 154, 0, 15, 45, 3, 47, 21, 6, 133, 148]
abbrev dktL_law_48 : List UInt8 := dkwL_law_48 ++ dktL_law_49
def dkwL_law_47 : List UInt8 := [184, 0, 228, 54, 5, 44, 42, 21, 4, 4, 96, 46, 42, 21, 4, 5, 96, 46, 182, 0, 230, 54, 6, 44]
abbrev dktL_law_47 : List UInt8 := dkwL_law_47 ++ dktL_law_48
def dkwL_law_46 : List UInt8 := [153, 0, 5, 3, 172, 167, 9, 0, 43, 42, 21, 4, 4, 96, 46, 42, 21, 4, 5, 96, 46, 45]
abbrev dktL_law_46 : List UInt8 := dkwL_law_46 ++ dktL_law_47
def dkwL_law_45 : List UInt8 := [182, 0, 180, 21, 5, 159, 0, 5, 3, 172, 21, 5, 154, 0, 15, 45, 3, 47, 21, 6, 133, 148]
abbrev dktL_law_45 : List UInt8 := dkwL_law_45 ++ dktL_law_46
def dkwL_law_44 : List UInt8 := [21, 4, 4, 96, 46, 42, 21, 4, 5, 96, 46, 42, 21, 4, 6, 96, 46, 182, 0, 227, 54, 6, 44]
abbrev dktL_law_44 : List UInt8 := dkwL_law_44 ++ dktL_law_45
def dkwL_law_43 : List UInt8 := [4, 96, 46, 42, 21, 4, 5, 96, 46, 42, 21, 4, 6, 96, 46, 45, 184, 0, 225, 54, 5, 44, 42]
abbrev dktL_law_43 : List UInt8 := dkwL_law_43 ++ dktL_law_44
def dkwL_law_42 : List UInt8 := [21, 5, 154, 0, 15, 45, 3, 47, 21, 6, 133, 148, 153, 0, 5, 3, 172, 167, 9, 80, 43, 42, 21, 4]
abbrev dktL_law_42 : List UInt8 := dkwL_law_42 ++ dktL_law_43
def dkwL_law_41 : List UInt8 := [96, 46, 42, 21, 4, 6, 96, 46, 182, 0, 224, 54, 6, 44, 182, 0, 180, 21, 5, 159, 0, 5, 3, 172]
abbrev dktL_law_41 : List UInt8 := dkwL_law_41 ++ dktL_law_42
def dkwL_law_40 : List UInt8 := [46, 42, 21, 4, 6, 96, 46, 45, 184, 0, 222, 54, 5, 44, 42, 21, 4, 4, 96, 46, 42, 21, 4, 5]
abbrev dktL_law_40 : List UInt8 := dkwL_law_40 ++ dktL_law_41
def dkwL_law_39 : List UInt8 := [21, 6, 133, 148, 153, 0, 5, 3, 172, 167, 9, 160, 43, 42, 21, 4, 4, 96, 46, 42, 21, 4, 5, 96]
abbrev dktL_law_39 : List UInt8 := dkwL_law_39 ++ dktL_law_40
def dkwL_law_38 : List UInt8 := [182, 0, 221, 54, 6, 44, 182, 0, 180, 21, 5, 159, 0, 5, 3, 172, 21, 5, 154, 0, 15, 45, 3, 47]
abbrev dktL_law_38 : List UInt8 := dkwL_law_38 ++ dktL_law_39
def dkwL_law_37 : List UInt8 := [184, 0, 218, 54, 5, 44, 42, 21, 4, 4, 96, 46, 42, 21, 4, 5, 96, 46, 42, 21, 4, 6, 96, 46]
abbrev dktL_law_37 : List UInt8 := dkwL_law_37 ++ dktL_law_38
def dkwL_law_36 : List UInt8 := [167, 9, 240, 43, 42, 21, 4, 4, 96, 46, 42, 21, 4, 5, 96, 46, 42, 21, 4, 6, 96, 46, 45]
abbrev dktL_law_36 : List UInt8 := dkwL_law_36 ++ dktL_law_37
def dkwL_law_35 : List UInt8 := [21, 5, 159, 0, 5, 3, 172, 21, 5, 154, 0, 15, 45, 3, 47, 21, 6, 133, 148, 153, 0, 5, 3, 172]
abbrev dktL_law_35 : List UInt8 := dkwL_law_35 ++ dktL_law_36
def dkwL_law_34 : List UInt8 := [46, 45, 184, 0, 215, 54, 5, 44, 42, 21, 4, 4, 96, 46, 182, 0, 217, 54, 6, 44, 182, 0, 180]
abbrev dktL_law_34 : List UInt8 := dkwL_law_34 ++ dktL_law_35
def dkwL_law_33 : List UInt8 := [154, 0, 15, 45, 3, 47, 21, 6, 133, 148, 153, 0, 5, 3, 172, 167, 10, 40, 43, 42, 21, 4, 4, 96]
abbrev dktL_law_33 : List UInt8 := dkwL_law_33 ++ dktL_law_34
def dkwL_law_32 : List UInt8 := [42, 21, 4, 5, 96, 46, 182, 0, 214, 54, 6, 44, 182, 0, 180, 21, 5, 159, 0, 5, 3, 172, 21, 5]
abbrev dktL_law_32 : List UInt8 := dkwL_law_32 ++ dktL_law_33
def dkwL_law_31 : List UInt8 := [21, 4, 4, 96, 46, 42, 21, 4, 5, 96, 46, 45, 184, 0, 212, 54, 5, 44, 42, 21, 4, 4, 96, 46]
abbrev dktL_law_31 : List UInt8 := dkwL_law_31 ++ dktL_law_32
def dkwL_law_30 : List UInt8 := [172, 21, 5, 154, 0, 15, 45, 3, 47, 21, 6, 133, 148, 153, 0, 5, 3, 172, 167, 10, 108, 43, 42]
abbrev dktL_law_30 : List UInt8 := dkwL_law_30 ++ dktL_law_31
def dkwL_law_29 : List UInt8 := [54, 5, 44, 42, 21, 4, 4, 96, 46, 182, 0, 211, 54, 6, 44, 182, 0, 180, 21, 5, 159, 0, 5, 3]
abbrev dktL_law_29 : List UInt8 := dkwL_law_29 ++ dktL_law_30
def dkwL_law_28 : List UInt8 := [21, 6, 133, 148, 153, 0, 5, 3, 172, 167, 10, 164, 43, 42, 21, 4, 4, 96, 46, 45, 184, 0, 209]
abbrev dktL_law_28 : List UInt8 := dkwL_law_28 ++ dktL_law_29
def dkwL_law_27 : List UInt8 := [182, 0, 208, 54, 6, 44, 182, 0, 180, 21, 5, 159, 0, 5, 3, 172, 21, 5, 154, 0, 15, 45, 3, 47]
abbrev dktL_law_27 : List UInt8 := dkwL_law_27 ++ dktL_law_28
def dkwL_law_26 : List UInt8 := [5, 96, 46, 45, 184, 0, 206, 54, 5, 44, 42, 21, 4, 4, 96, 46, 42, 21, 4, 5, 96, 46]
abbrev dktL_law_26 : List UInt8 := dkwL_law_26 ++ dktL_law_27
def dkwL_law_25 : List UInt8 := [3, 47, 21, 6, 133, 148, 153, 0, 5, 3, 172, 167, 10, 232, 43, 42, 21, 4, 4, 96, 46, 42, 21, 4]
abbrev dktL_law_25 : List UInt8 := dkwL_law_25 ++ dktL_law_26
def dkwL_law_24 : List UInt8 := [96, 46, 182, 0, 205, 54, 6, 44, 182, 0, 180, 21, 5, 159, 0, 5, 3, 172, 21, 5, 154, 0, 15, 45]
abbrev dktL_law_24 : List UInt8 := dkwL_law_24 ++ dktL_law_25
def dkwL_law_23 : List UInt8 := [46, 42, 21, 4, 5, 96, 46, 45, 184, 0, 203, 54, 5, 44, 42, 21, 4, 4, 96, 46, 42, 21, 4, 5]
abbrev dktL_law_23 : List UInt8 := dkwL_law_23 ++ dktL_law_24
def dkwL_law_22 : List UInt8 := [154, 0, 15, 45, 3, 47, 21, 6, 133, 148, 153, 0, 5, 3, 172, 167, 11, 44, 43, 42, 21, 4, 4, 96]
abbrev dktL_law_22 : List UInt8 := dkwL_law_22 ++ dktL_law_23
def dkwL_law_21 : List UInt8 := [21, 4, 4, 96, 46, 182, 0, 202, 54, 6, 44, 182, 0, 180, 21, 5, 159, 0, 5, 3, 172, 21, 5]
abbrev dktL_law_21 : List UInt8 := dkwL_law_21 ++ dktL_law_22
def dkwL_law_20 : List UInt8 := [148, 153, 0, 5, 3, 172, 167, 11, 100, 43, 42, 21, 4, 4, 96, 46, 45, 184, 0, 200, 54, 5, 44, 42]
abbrev dktL_law_20 : List UInt8 := dkwL_law_20 ++ dktL_law_21
def dkwL_law_19 : List UInt8 := [54, 6, 44, 182, 0, 180, 21, 5, 159, 0, 5, 3, 172, 21, 5, 154, 0, 15, 45, 3, 47, 21, 6, 133]
abbrev dktL_law_19 : List UInt8 := dkwL_law_19 ++ dktL_law_20
def dkwL_law_18 : List UInt8 := [46, 45, 184, 0, 197, 54, 5, 44, 42, 21, 4, 4, 96, 46, 42, 21, 4, 5, 96, 46, 182, 0, 199]
abbrev dktL_law_18 : List UInt8 := dkwL_law_18 ++ dktL_law_19
def dkwL_law_17 : List UInt8 := [21, 6, 133, 148, 153, 0, 5, 3, 172, 167, 11, 168, 43, 42, 21, 4, 4, 96, 46, 42, 21, 4, 5, 96]
abbrev dktL_law_17 : List UInt8 := dkwL_law_17 ++ dktL_law_18
def dkwL_law_16 : List UInt8 := [182, 0, 196, 54, 6, 44, 182, 0, 180, 21, 5, 159, 0, 5, 3, 172, 21, 5, 154, 0, 15, 45, 3, 47]
abbrev dktL_law_16 : List UInt8 := dkwL_law_16 ++ dktL_law_17
def dkwL_law_15 : List UInt8 := [167, 11, 224, 43, 42, 21, 4, 4, 96, 46, 45, 184, 0, 194, 54, 5, 44, 42, 21, 4, 4, 96, 46]
abbrev dktL_law_15 : List UInt8 := dkwL_law_15 ++ dktL_law_16
def dkwL_law_14 : List UInt8 := [159, 0, 5, 3, 172, 21, 5, 154, 0, 15, 45, 3, 47, 21, 6, 133, 148, 153, 0, 5, 3, 172]
abbrev dktL_law_14 : List UInt8 := dkwL_law_14 ++ dktL_law_15
def dkwL_law_13 : List UInt8 := [184, 0, 190, 54, 5, 44, 42, 21, 4, 4, 96, 46, 182, 0, 193, 54, 6, 44, 182, 0, 180, 21, 5]
abbrev dktL_law_13 : List UInt8 := dkwL_law_13 ++ dktL_law_14
def dkwL_law_12 : List UInt8 := [3, 47, 21, 6, 133, 148, 153, 0, 5, 3, 172, 167, 12, 24, 43, 42, 21, 4, 4, 96, 46, 45]
abbrev dktL_law_12 : List UInt8 := dkwL_law_12 ++ dktL_law_13
def dkwL_law_11 : List UInt8 := [96, 46, 182, 0, 189, 54, 6, 44, 182, 0, 180, 21, 5, 159, 0, 5, 3, 172, 21, 5, 154, 0, 15, 45]
abbrev dktL_law_11 : List UInt8 := dkwL_law_11 ++ dktL_law_12
def dkwL_law_10 : List UInt8 := [46, 42, 21, 4, 5, 96, 46, 45, 184, 0, 187, 54, 5, 44, 42, 21, 4, 4, 96, 46, 42, 21, 4, 5]
abbrev dktL_law_10 : List UInt8 := dkwL_law_10 ++ dktL_law_11
def dkwL_law_9 : List UInt8 := [154, 0, 15, 45, 3, 47, 21, 6, 133, 148, 153, 0, 5, 3, 172, 167, 12, 92, 43, 42, 21, 4, 4, 96]
abbrev dktL_law_9 : List UInt8 := dkwL_law_9 ++ dktL_law_10
def dkwL_law_8 : List UInt8 := [21, 4, 5, 96, 46, 182, 0, 186, 54, 6, 44, 182, 0, 180, 21, 5, 159, 0, 5, 3, 172, 21, 5]
abbrev dktL_law_8 : List UInt8 := dkwL_law_8 ++ dktL_law_9
def dkwL_law_7 : List UInt8 := [4, 96, 46, 42, 21, 4, 5, 96, 46, 45, 184, 0, 183, 54, 5, 44, 42, 21, 4, 4, 96, 46, 42]
abbrev dktL_law_7 : List UInt8 := dkwL_law_7 ++ dktL_law_8
def dkwL_law_6 : List UInt8 := [21, 5, 154, 0, 15, 45, 3, 47, 21, 6, 133, 148, 153, 0, 5, 3, 172, 167, 12, 160, 43, 42, 21, 4]
abbrev dktL_law_6 : List UInt8 := dkwL_law_6 ++ dktL_law_7
def dkwL_law_5 : List UInt8 := [96, 46, 42, 21, 4, 7, 96, 46, 182, 0, 179, 54, 6, 44, 182, 0, 180, 21, 5, 159, 0, 5, 3, 172]
abbrev dktL_law_5 : List UInt8 := dkwL_law_5 ++ dktL_law_6
def dkwL_law_4 : List UInt8 := [46, 45, 184, 0, 174, 54, 5, 44, 42, 21, 4, 4, 96, 46, 42, 21, 4, 5, 96, 46, 42, 21, 4, 6]
abbrev dktL_law_4 : List UInt8 := dkwL_law_4 ++ dktL_law_5
def dkwL_law_3 : List UInt8 := [43, 42, 21, 4, 4, 96, 46, 42, 21, 4, 5, 96, 46, 42, 21, 4, 6, 96, 46, 42, 21, 4, 7, 96]
abbrev dktL_law_3 : List UInt8 := dkwL_law_3 ++ dktL_law_4
def dkwL_law_2 : List UInt8 := [170, 0, 0, 14, 2, 0, 0, 0, 0, 0, 0, 0, 62, 0, 0, 1, 9, 0, 0, 1, 101, 0, 0, 1, 169, 0, 0, 1, 237, 0, 0, 2, 37, 0, 0, 2, 93, 0, 0, 2, 161, 0, 0, 2, 217, 0, 0, 3, 29, 0, 0, 3, 97, 0, 0, 3, 153, 0, 0, 3, 221, 0, 0, 4, 21, 0, 0, 4, 101, 0, 0, 4, 181, 0, 0, 5, 5, 0, 0, 5, 73, 0, 0, 5, 129, 0, 0, 5, 185, 0, 0, 5, 241, 0, 0, 6, 53, 0, 0, 6, 133, 0, 0, 6, 146, 0, 0, 6, 202, 0, 0, 7, 2, 0, 0, 7, 58, 0, 0, 7, 114, 0, 0, 7, 170, 0, 0, 7, 226, 0, 0, 8, 26, 0, 0, 8, 39, 0, 0, 8, 107, 0, 0, 8, 163, 0, 0, 8, 219, 0, 0, 9, 19, 0, 0, 9, 87, 0, 0, 9, 143, 0, 0, 9, 199, 0, 0, 10, 11, 0, 0, 10, 91, 0, 0, 10, 159, 0, 0, 10, 227, 0, 0, 10, 240, 0, 0, 11, 40, 0, 0, 11, 96, 0, 0, 11, 176, 0, 0, 12, 0, 0, 0, 12, 13, 0, 0, 12, 69, 0, 0, 12, 125, 0, 0, 12, 138, 0, 0, 12, 151, 0, 0, 12, 164, 0, 0, 12, 177, 0, 0, 12, 218, 0, 0, 12, 231, 0, 0, 13, 31, 0, 0, 13, 87, 0, 0, 13, 100, 0, 0, 13, 113, 0, 0, 13, 157, 0, 0, 13, 201, 0, 0, 13, 214]
abbrev dktL_law_2 : List UInt8 := dkwL_law_2 ++ dktL_law_3
def dkwL_law_1 : List UInt8 := [21, 4, 42, 190, 8, 100, 163, 14, 18, 42, 21, 4, 46, 16, 63, 126]
abbrev dktL_law_1 : List UInt8 := dkwL_law_1 ++ dktL_law_2
def dkwL_law_0 : List UInt8 := [187, 0, 8, 89, 183, 0, 170, 76, 187, 0, 171, 89, 183, 0, 173, 77, 4, 188, 11, 78, 3, 54, 4]
abbrev dktL_law_0 : List UInt8 := dkwL_law_0 ++ dktL_law_1
theorem dksL_law_0 : cL_law.data.toList.drop 0 = dktL_law_0 := by decide +kernel
theorem dksL_law_1 : cL_law.data.toList.drop 23 = dktL_law_1 := dk_seg dksL_law_0 23 rfl rfl
theorem dksL_law_2 : cL_law.data.toList.drop 39 = dktL_law_2 := dk_seg dksL_law_1 16 rfl rfl
theorem dksL_law_3 : cL_law.data.toList.drop 304 = dktL_law_3 := dk_seg dksL_law_2 265 rfl rfl
theorem dksL_law_4 : cL_law.data.toList.drop 328 = dktL_law_4 := dk_seg dksL_law_3 24 rfl rfl
theorem dksL_law_5 : cL_law.data.toList.drop 352 = dktL_law_5 := dk_seg dksL_law_4 24 rfl rfl
theorem dksL_law_6 : cL_law.data.toList.drop 376 = dktL_law_6 := dk_seg dksL_law_5 24 rfl rfl
theorem dksL_law_7 : cL_law.data.toList.drop 400 = dktL_law_7 := dk_seg dksL_law_6 24 rfl rfl
theorem dksL_law_8 : cL_law.data.toList.drop 423 = dktL_law_8 := dk_seg dksL_law_7 23 rfl rfl
theorem dksL_law_9 : cL_law.data.toList.drop 446 = dktL_law_9 := dk_seg dksL_law_8 23 rfl rfl
theorem dksL_law_10 : cL_law.data.toList.drop 470 = dktL_law_10 := dk_seg dksL_law_9 24 rfl rfl
theorem dksL_law_11 : cL_law.data.toList.drop 494 = dktL_law_11 := dk_seg dksL_law_10 24 rfl rfl
theorem dksL_law_12 : cL_law.data.toList.drop 518 = dktL_law_12 := dk_seg dksL_law_11 24 rfl rfl
theorem dksL_law_13 : cL_law.data.toList.drop 540 = dktL_law_13 := dk_seg dksL_law_12 22 rfl rfl
theorem dksL_law_14 : cL_law.data.toList.drop 563 = dktL_law_14 := dk_seg dksL_law_13 23 rfl rfl
theorem dksL_law_15 : cL_law.data.toList.drop 585 = dktL_law_15 := dk_seg dksL_law_14 22 rfl rfl
theorem dksL_law_16 : cL_law.data.toList.drop 608 = dktL_law_16 := dk_seg dksL_law_15 23 rfl rfl
theorem dksL_law_17 : cL_law.data.toList.drop 632 = dktL_law_17 := dk_seg dksL_law_16 24 rfl rfl
theorem dksL_law_18 : cL_law.data.toList.drop 656 = dktL_law_18 := dk_seg dksL_law_17 24 rfl rfl
theorem dksL_law_19 : cL_law.data.toList.drop 679 = dktL_law_19 := dk_seg dksL_law_18 23 rfl rfl
theorem dksL_law_20 : cL_law.data.toList.drop 703 = dktL_law_20 := dk_seg dksL_law_19 24 rfl rfl
theorem dksL_law_21 : cL_law.data.toList.drop 727 = dktL_law_21 := dk_seg dksL_law_20 24 rfl rfl
theorem dksL_law_22 : cL_law.data.toList.drop 750 = dktL_law_22 := dk_seg dksL_law_21 23 rfl rfl
theorem dksL_law_23 : cL_law.data.toList.drop 774 = dktL_law_23 := dk_seg dksL_law_22 24 rfl rfl
theorem dksL_law_24 : cL_law.data.toList.drop 798 = dktL_law_24 := dk_seg dksL_law_23 24 rfl rfl
theorem dksL_law_25 : cL_law.data.toList.drop 822 = dktL_law_25 := dk_seg dksL_law_24 24 rfl rfl
theorem dksL_law_26 : cL_law.data.toList.drop 846 = dktL_law_26 := dk_seg dksL_law_25 24 rfl rfl
theorem dksL_law_27 : cL_law.data.toList.drop 868 = dktL_law_27 := dk_seg dksL_law_26 22 rfl rfl
theorem dksL_law_28 : cL_law.data.toList.drop 892 = dktL_law_28 := dk_seg dksL_law_27 24 rfl rfl
theorem dksL_law_29 : cL_law.data.toList.drop 915 = dktL_law_29 := dk_seg dksL_law_28 23 rfl rfl
theorem dksL_law_30 : cL_law.data.toList.drop 939 = dktL_law_30 := dk_seg dksL_law_29 24 rfl rfl
theorem dksL_law_31 : cL_law.data.toList.drop 962 = dktL_law_31 := dk_seg dksL_law_30 23 rfl rfl
theorem dksL_law_32 : cL_law.data.toList.drop 986 = dktL_law_32 := dk_seg dksL_law_31 24 rfl rfl
theorem dksL_law_33 : cL_law.data.toList.drop 1010 = dktL_law_33 := dk_seg dksL_law_32 24 rfl rfl
theorem dksL_law_34 : cL_law.data.toList.drop 1034 = dktL_law_34 := dk_seg dksL_law_33 24 rfl rfl
theorem dksL_law_35 : cL_law.data.toList.drop 1057 = dktL_law_35 := dk_seg dksL_law_34 23 rfl rfl
theorem dksL_law_36 : cL_law.data.toList.drop 1081 = dktL_law_36 := dk_seg dksL_law_35 24 rfl rfl
theorem dksL_law_37 : cL_law.data.toList.drop 1104 = dktL_law_37 := dk_seg dksL_law_36 23 rfl rfl
theorem dksL_law_38 : cL_law.data.toList.drop 1128 = dktL_law_38 := dk_seg dksL_law_37 24 rfl rfl
theorem dksL_law_39 : cL_law.data.toList.drop 1152 = dktL_law_39 := dk_seg dksL_law_38 24 rfl rfl
theorem dksL_law_40 : cL_law.data.toList.drop 1176 = dktL_law_40 := dk_seg dksL_law_39 24 rfl rfl
theorem dksL_law_41 : cL_law.data.toList.drop 1200 = dktL_law_41 := dk_seg dksL_law_40 24 rfl rfl
theorem dksL_law_42 : cL_law.data.toList.drop 1224 = dktL_law_42 := dk_seg dksL_law_41 24 rfl rfl
theorem dksL_law_43 : cL_law.data.toList.drop 1248 = dktL_law_43 := dk_seg dksL_law_42 24 rfl rfl
theorem dksL_law_44 : cL_law.data.toList.drop 1271 = dktL_law_44 := dk_seg dksL_law_43 23 rfl rfl
theorem dksL_law_45 : cL_law.data.toList.drop 1294 = dktL_law_45 := dk_seg dksL_law_44 23 rfl rfl
theorem dksL_law_46 : cL_law.data.toList.drop 1316 = dktL_law_46 := dk_seg dksL_law_45 22 rfl rfl
theorem dksL_law_47 : cL_law.data.toList.drop 1338 = dktL_law_47 := dk_seg dksL_law_46 22 rfl rfl
theorem dksL_law_48 : cL_law.data.toList.drop 1362 = dktL_law_48 := dk_seg dksL_law_47 24 rfl rfl
theorem dksL_law_49 : cL_law.data.toList.drop 1384 = dktL_law_49 := dk_seg dksL_law_48 22 rfl rfl
theorem dksL_law_50 : cL_law.data.toList.drop 1407 = dktL_law_50 := dk_seg dksL_law_49 23 rfl rfl
theorem dksL_law_51 : cL_law.data.toList.drop 1430 = dktL_law_51 := dk_seg dksL_law_50 23 rfl rfl
theorem dksL_law_52 : cL_law.data.toList.drop 1454 = dktL_law_52 := dk_seg dksL_law_51 24 rfl rfl
theorem dksL_law_53 : cL_law.data.toList.drop 1477 = dktL_law_53 := dk_seg dksL_law_52 23 rfl rfl
theorem dksL_law_54 : cL_law.data.toList.drop 1501 = dktL_law_54 := dk_seg dksL_law_53 24 rfl rfl
theorem dksL_law_55 : cL_law.data.toList.drop 1524 = dktL_law_55 := dk_seg dksL_law_54 23 rfl rfl
theorem dksL_law_56 : cL_law.data.toList.drop 1548 = dktL_law_56 := dk_seg dksL_law_55 24 rfl rfl
theorem dksL_law_57 : cL_law.data.toList.drop 1572 = dktL_law_57 := dk_seg dksL_law_56 24 rfl rfl
theorem dksL_law_58 : cL_law.data.toList.drop 1595 = dktL_law_58 := dk_seg dksL_law_57 23 rfl rfl
theorem dksL_law_59 : cL_law.data.toList.drop 1619 = dktL_law_59 := dk_seg dksL_law_58 24 rfl rfl
theorem dksL_law_60 : cL_law.data.toList.drop 1642 = dktL_law_60 := dk_seg dksL_law_59 23 rfl rfl
theorem dksL_law_61 : cL_law.data.toList.drop 1666 = dktL_law_61 := dk_seg dksL_law_60 24 rfl rfl
theorem dksL_law_62 : cL_law.data.toList.drop 1690 = dktL_law_62 := dk_seg dksL_law_61 24 rfl rfl
theorem dksL_law_63 : cL_law.data.toList.drop 1713 = dktL_law_63 := dk_seg dksL_law_62 23 rfl rfl
theorem dksL_law_64 : cL_law.data.toList.drop 1736 = dktL_law_64 := dk_seg dksL_law_63 23 rfl rfl
theorem dksL_law_65 : cL_law.data.toList.drop 1759 = dktL_law_65 := dk_seg dksL_law_64 23 rfl rfl
theorem dksL_law_66 : cL_law.data.toList.drop 1783 = dktL_law_66 := dk_seg dksL_law_65 24 rfl rfl
theorem dksL_law_67 : cL_law.data.toList.drop 1806 = dktL_law_67 := dk_seg dksL_law_66 23 rfl rfl
theorem dksL_law_68 : cL_law.data.toList.drop 1830 = dktL_law_68 := dk_seg dksL_law_67 24 rfl rfl
theorem dksL_law_69 : cL_law.data.toList.drop 1853 = dktL_law_69 := dk_seg dksL_law_68 23 rfl rfl
theorem dksL_law_70 : cL_law.data.toList.drop 1877 = dktL_law_70 := dk_seg dksL_law_69 24 rfl rfl
theorem dksL_law_71 : cL_law.data.toList.drop 1900 = dktL_law_71 := dk_seg dksL_law_70 23 rfl rfl
theorem dksL_law_72 : cL_law.data.toList.drop 1924 = dktL_law_72 := dk_seg dksL_law_71 24 rfl rfl
theorem dksL_law_73 : cL_law.data.toList.drop 1947 = dktL_law_73 := dk_seg dksL_law_72 23 rfl rfl
theorem dksL_law_74 : cL_law.data.toList.drop 1971 = dktL_law_74 := dk_seg dksL_law_73 24 rfl rfl
theorem dksL_law_75 : cL_law.data.toList.drop 1993 = dktL_law_75 := dk_seg dksL_law_74 22 rfl rfl
theorem dksL_law_76 : cL_law.data.toList.drop 2016 = dktL_law_76 := dk_seg dksL_law_75 23 rfl rfl
theorem dksL_law_77 : cL_law.data.toList.drop 2039 = dktL_law_77 := dk_seg dksL_law_76 23 rfl rfl
theorem dksL_law_78 : cL_law.data.toList.drop 2063 = dktL_law_78 := dk_seg dksL_law_77 24 rfl rfl
theorem dksL_law_79 : cL_law.data.toList.drop 2086 = dktL_law_79 := dk_seg dksL_law_78 23 rfl rfl
theorem dksL_law_80 : cL_law.data.toList.drop 2110 = dktL_law_80 := dk_seg dksL_law_79 24 rfl rfl
theorem dksL_law_81 : cL_law.data.toList.drop 2134 = dktL_law_81 := dk_seg dksL_law_80 24 rfl rfl
theorem dksL_law_82 : cL_law.data.toList.drop 2158 = dktL_law_82 := dk_seg dksL_law_81 24 rfl rfl
theorem dksL_law_83 : cL_law.data.toList.drop 2182 = dktL_law_83 := dk_seg dksL_law_82 24 rfl rfl
theorem dksL_law_84 : cL_law.data.toList.drop 2205 = dktL_law_84 := dk_seg dksL_law_83 23 rfl rfl
theorem dksL_law_85 : cL_law.data.toList.drop 2229 = dktL_law_85 := dk_seg dksL_law_84 24 rfl rfl
theorem dksL_law_86 : cL_law.data.toList.drop 2252 = dktL_law_86 := dk_seg dksL_law_85 23 rfl rfl
theorem dksL_law_87 : cL_law.data.toList.drop 2276 = dktL_law_87 := dk_seg dksL_law_86 24 rfl rfl
theorem dksL_law_88 : cL_law.data.toList.drop 2298 = dktL_law_88 := dk_seg dksL_law_87 22 rfl rfl
theorem dksL_law_89 : cL_law.data.toList.drop 2321 = dktL_law_89 := dk_seg dksL_law_88 23 rfl rfl
theorem dksL_law_90 : cL_law.data.toList.drop 2344 = dktL_law_90 := dk_seg dksL_law_89 23 rfl rfl
theorem dksL_law_91 : cL_law.data.toList.drop 2368 = dktL_law_91 := dk_seg dksL_law_90 24 rfl rfl
theorem dksL_law_92 : cL_law.data.toList.drop 2392 = dktL_law_92 := dk_seg dksL_law_91 24 rfl rfl
theorem dksL_law_93 : cL_law.data.toList.drop 2416 = dktL_law_93 := dk_seg dksL_law_92 24 rfl rfl
theorem dksL_law_94 : cL_law.data.toList.drop 2438 = dktL_law_94 := dk_seg dksL_law_93 22 rfl rfl
theorem dksL_law_95 : cL_law.data.toList.drop 2461 = dktL_law_95 := dk_seg dksL_law_94 23 rfl rfl
theorem dksL_law_96 : cL_law.data.toList.drop 2483 = dktL_law_96 := dk_seg dksL_law_95 22 rfl rfl
theorem dksL_law_97 : cL_law.data.toList.drop 2506 = dktL_law_97 := dk_seg dksL_law_96 23 rfl rfl
theorem dksL_law_98 : cL_law.data.toList.drop 2530 = dktL_law_98 := dk_seg dksL_law_97 24 rfl rfl
theorem dksL_law_99 : cL_law.data.toList.drop 2554 = dktL_law_99 := dk_seg dksL_law_98 24 rfl rfl
theorem dksL_law_100 : cL_law.data.toList.drop 2577 = dktL_law_100 := dk_seg dksL_law_99 23 rfl rfl
theorem dksL_law_101 : cL_law.data.toList.drop 2601 = dktL_law_101 := dk_seg dksL_law_100 24 rfl rfl
theorem dksL_law_102 : cL_law.data.toList.drop 2624 = dktL_law_102 := dk_seg dksL_law_101 23 rfl rfl
theorem dksL_law_103 : cL_law.data.toList.drop 2648 = dktL_law_103 := dk_seg dksL_law_102 24 rfl rfl
theorem dksL_law_104 : cL_law.data.toList.drop 2672 = dktL_law_104 := dk_seg dksL_law_103 24 rfl rfl
theorem dksL_law_105 : cL_law.data.toList.drop 2696 = dktL_law_105 := dk_seg dksL_law_104 24 rfl rfl
theorem dksL_law_106 : cL_law.data.toList.drop 2720 = dktL_law_106 := dk_seg dksL_law_105 24 rfl rfl
theorem dksL_law_107 : cL_law.data.toList.drop 2744 = dktL_law_107 := dk_seg dksL_law_106 24 rfl rfl
theorem dksL_law_108 : cL_law.data.toList.drop 2768 = dktL_law_108 := dk_seg dksL_law_107 24 rfl rfl
theorem dksL_law_109 : cL_law.data.toList.drop 2790 = dktL_law_109 := dk_seg dksL_law_108 22 rfl rfl
theorem dksL_law_110 : cL_law.data.toList.drop 2814 = dktL_law_110 := dk_seg dksL_law_109 24 rfl rfl
theorem dksL_law_111 : cL_law.data.toList.drop 2838 = dktL_law_111 := dk_seg dksL_law_110 24 rfl rfl
theorem dksL_law_112 : cL_law.data.toList.drop 2862 = dktL_law_112 := dk_seg dksL_law_111 24 rfl rfl
theorem dksL_law_113 : cL_law.data.toList.drop 2886 = dktL_law_113 := dk_seg dksL_law_112 24 rfl rfl
theorem dksL_law_114 : cL_law.data.toList.drop 2910 = dktL_law_114 := dk_seg dksL_law_113 24 rfl rfl
theorem dksL_law_115 : cL_law.data.toList.drop 2933 = dktL_law_115 := dk_seg dksL_law_114 23 rfl rfl
theorem dksL_law_116 : cL_law.data.toList.drop 2957 = dktL_law_116 := dk_seg dksL_law_115 24 rfl rfl
theorem dksL_law_117 : cL_law.data.toList.drop 2981 = dktL_law_117 := dk_seg dksL_law_116 24 rfl rfl
theorem dksL_law_118 : cL_law.data.toList.drop 3004 = dktL_law_118 := dk_seg dksL_law_117 23 rfl rfl
theorem dksL_law_119 : cL_law.data.toList.drop 3028 = dktL_law_119 := dk_seg dksL_law_118 24 rfl rfl
theorem dksL_law_120 : cL_law.data.toList.drop 3051 = dktL_law_120 := dk_seg dksL_law_119 23 rfl rfl
theorem dksL_law_121 : cL_law.data.toList.drop 3075 = dktL_law_121 := dk_seg dksL_law_120 24 rfl rfl
theorem dksL_law_122 : cL_law.data.toList.drop 3099 = dktL_law_122 := dk_seg dksL_law_121 24 rfl rfl
theorem dksL_law_123 : cL_law.data.toList.drop 3123 = dktL_law_123 := dk_seg dksL_law_122 24 rfl rfl
theorem dksL_law_124 : cL_law.data.toList.drop 3147 = dktL_law_124 := dk_seg dksL_law_123 24 rfl rfl
theorem dksL_law_125 : cL_law.data.toList.drop 3171 = dktL_law_125 := dk_seg dksL_law_124 24 rfl rfl
theorem dksL_law_126 : cL_law.data.toList.drop 3195 = dktL_law_126 := dk_seg dksL_law_125 24 rfl rfl
theorem dksL_law_127 : cL_law.data.toList.drop 3218 = dktL_law_127 := dk_seg dksL_law_126 23 rfl rfl
theorem dksL_law_128 : cL_law.data.toList.drop 3241 = dktL_law_128 := dk_seg dksL_law_127 23 rfl rfl
theorem dksL_law_129 : cL_law.data.toList.drop 3263 = dktL_law_129 := dk_seg dksL_law_128 22 rfl rfl
theorem dksL_law_130 : cL_law.data.toList.drop 3287 = dktL_law_130 := dk_seg dksL_law_129 24 rfl rfl
theorem dksL_law_131 : cL_law.data.toList.drop 3310 = dktL_law_131 := dk_seg dksL_law_130 23 rfl rfl
theorem dksL_law_132 : cL_law.data.toList.drop 3334 = dktL_law_132 := dk_seg dksL_law_131 24 rfl rfl
theorem dksL_law_133 : cL_law.data.toList.drop 3357 = dktL_law_133 := dk_seg dksL_law_132 23 rfl rfl
theorem dksL_law_134 : cL_law.data.toList.drop 3380 = dktL_law_134 := dk_seg dksL_law_133 23 rfl rfl
theorem dksL_law_135 : cL_law.data.toList.drop 3404 = dktL_law_135 := dk_seg dksL_law_134 24 rfl rfl
theorem dksL_law_136 : cL_law.data.toList.drop 3427 = dktL_law_136 := dk_seg dksL_law_135 23 rfl rfl
theorem dksL_law_137 : cL_law.data.toList.drop 3451 = dktL_law_137 := dk_seg dksL_law_136 24 rfl rfl
theorem dksL_law_138 : cL_law.data.toList.drop 3475 = dktL_law_138 := dk_seg dksL_law_137 24 rfl rfl
theorem dksL_law_139 : cL_law.data.toList.drop 3499 = dktL_law_139 := dk_seg dksL_law_138 24 rfl rfl
theorem dksL_law_140 : cL_law.data.toList.drop 3521 = dktL_law_140 := dk_seg dksL_law_139 22 rfl rfl
theorem dksL_law_141 : cL_law.data.toList.drop 3543 = dktL_law_141 := dk_seg dksL_law_140 22 rfl rfl
theorem dksL_law_142 : cL_law.data.toList.drop 3565 = dktL_law_142 := dk_seg dksL_law_141 22 rfl rfl
theorem dksL_law_143 : cL_law.data.toList.drop 3589 = dktL_law_143 := dk_seg dksL_law_142 24 rfl rfl
theorem dksL_law_144 : cL_law.data.toList.drop 3613 = dktL_law_144 := dk_seg dksL_law_143 24 rfl rfl
theorem dL_law_0 : decode cL_law 0 = .ok (.new 8, 3) := dk_187 0 8 (dk_at dksL_law_0 0 rfl rfl)
theorem dL_law_3 : decode cL_law 3 = .ok (.dup, 1) := dk_89 (dk_at dksL_law_0 3 rfl rfl)
theorem dL_law_4 : decode cL_law 4 = .ok (.invokespecial 170, 3) := dk_183 0 170 (dk_at dksL_law_0 4 rfl rfl)
theorem dL_law_7 : decode cL_law 7 = .ok (.astore_n 1, 1) := dk_76 (dk_at dksL_law_0 7 rfl rfl)
theorem dL_law_8 : decode cL_law 8 = .ok (.new 171, 3) := dk_187 0 171 (dk_at dksL_law_0 8 rfl rfl)
theorem dL_law_11 : decode cL_law 11 = .ok (.dup, 1) := dk_89 (dk_at dksL_law_0 11 rfl rfl)
theorem dL_law_12 : decode cL_law 12 = .ok (.invokespecial 173, 3) := dk_183 0 173 (dk_at dksL_law_0 12 rfl rfl)
theorem dL_law_15 : decode cL_law 15 = .ok (.astore_n 2, 1) := dk_77 (dk_at dksL_law_0 15 rfl rfl)
theorem dL_law_16 : decode cL_law 16 = .ok (.iconst 1, 1) := dk_4 (dk_at dksL_law_0 16 rfl rfl)
theorem dL_law_17 : decode cL_law 17 = .ok (.newarray .long, 2) := dk_188_11 (dk_at dksL_law_0 17 rfl rfl)
theorem dL_law_19 : decode cL_law 19 = .ok (.astore_n 3, 1) := dk_78 (dk_at dksL_law_0 19 rfl rfl)
theorem dL_law_20 : decode cL_law 20 = .ok (.iconst 0, 1) := dk_3 (dk_at dksL_law_0 20 rfl rfl)
theorem dL_law_21 : decode cL_law 21 = .ok (.istore 4, 2) := dk_54 4 (dk_at dksL_law_0 21 rfl rfl)
theorem dL_law_23 : decode cL_law 23 = .ok (.iload 4, 2) := dk_21 4 (dk_at dksL_law_1 0 rfl rfl)
theorem dL_law_25 : decode cL_law 25 = .ok (.aload_n 0, 1) := dk_42 (dk_at dksL_law_1 2 rfl rfl)
theorem dL_law_26 : decode cL_law 26 = .ok (.arraylength, 1) := dk_190 (dk_at dksL_law_1 3 rfl rfl)
theorem dL_law_27 : decode cL_law 27 = .ok (.iconst 5, 1) := dk_8 (dk_at dksL_law_1 4 rfl rfl)
theorem dL_law_28 : decode cL_law 28 = .ok (.isub, 1) := dk_100 (dk_at dksL_law_1 5 rfl rfl)
theorem dL_law_29 : decode cL_law 29 = .ok (.if_icmp .gt 3602, 3) := dk_163 14 18 (dk_at dksL_law_1 6 rfl rfl)
theorem dL_law_32 : decode cL_law 32 = .ok (.aload_n 0, 1) := dk_42 (dk_at dksL_law_1 9 rfl rfl)
theorem dL_law_33 : decode cL_law 33 = .ok (.iload 4, 2) := dk_21 4 (dk_at dksL_law_1 10 rfl rfl)
theorem dL_law_35 : decode cL_law 35 = .ok (.iaload, 1) := dk_46 (dk_at dksL_law_1 12 rfl rfl)
theorem dL_law_36 : decode cL_law 36 = .ok (.bipush 63, 2) := dk_16 63 (dk_at dksL_law_1 13 rfl rfl)
theorem dL_law_38 : decode cL_law 38 = .ok (.iand, 1) := dk_126 (dk_at dksL_law_1 15 rfl rfl)
theorem dL_law_39 : decode cL_law 39 = .ok (.tableswitch 3586 0 62 #[265, 357, 425, 493, 549, 605, 673, 729, 797, 865, 921, 989, 1045, 1125, 1205, 1285, 1353, 1409, 1465, 1521, 1589, 1669, 1682, 1738, 1794, 1850, 1906, 1962, 2018, 2074, 2087, 2155, 2211, 2267, 2323, 2391, 2447, 2503, 2571, 2651, 2719, 2787, 2800, 2856, 2912, 2992, 3072, 3085, 3141, 3197, 3210, 3223, 3236, 3249, 3290, 3303, 3359, 3415, 3428, 3441, 3485, 3529, 3542], 265) := by decide +kernel
theorem dL_law_304 : decode cL_law 304 = .ok (.aload_n 1, 1) := dk_43 (dk_at dksL_law_3 0 rfl rfl)
theorem dL_law_305 : decode cL_law 305 = .ok (.aload_n 0, 1) := dk_42 (dk_at dksL_law_3 1 rfl rfl)
theorem dL_law_306 : decode cL_law 306 = .ok (.iload 4, 2) := dk_21 4 (dk_at dksL_law_3 2 rfl rfl)
theorem dL_law_308 : decode cL_law 308 = .ok (.iconst 1, 1) := dk_4 (dk_at dksL_law_3 4 rfl rfl)
theorem dL_law_309 : decode cL_law 309 = .ok (.iadd, 1) := dk_96 (dk_at dksL_law_3 5 rfl rfl)
theorem dL_law_310 : decode cL_law 310 = .ok (.iaload, 1) := dk_46 (dk_at dksL_law_3 6 rfl rfl)
theorem dL_law_311 : decode cL_law 311 = .ok (.aload_n 0, 1) := dk_42 (dk_at dksL_law_3 7 rfl rfl)
theorem dL_law_312 : decode cL_law 312 = .ok (.iload 4, 2) := dk_21 4 (dk_at dksL_law_3 8 rfl rfl)
theorem dL_law_314 : decode cL_law 314 = .ok (.iconst 2, 1) := dk_5 (dk_at dksL_law_3 10 rfl rfl)
theorem dL_law_315 : decode cL_law 315 = .ok (.iadd, 1) := dk_96 (dk_at dksL_law_3 11 rfl rfl)
theorem dL_law_316 : decode cL_law 316 = .ok (.iaload, 1) := dk_46 (dk_at dksL_law_3 12 rfl rfl)
theorem dL_law_317 : decode cL_law 317 = .ok (.aload_n 0, 1) := dk_42 (dk_at dksL_law_3 13 rfl rfl)
theorem dL_law_318 : decode cL_law 318 = .ok (.iload 4, 2) := dk_21 4 (dk_at dksL_law_3 14 rfl rfl)
theorem dL_law_320 : decode cL_law 320 = .ok (.iconst 3, 1) := dk_6 (dk_at dksL_law_3 16 rfl rfl)
theorem dL_law_321 : decode cL_law 321 = .ok (.iadd, 1) := dk_96 (dk_at dksL_law_3 17 rfl rfl)
theorem dL_law_322 : decode cL_law 322 = .ok (.iaload, 1) := dk_46 (dk_at dksL_law_3 18 rfl rfl)
theorem dL_law_323 : decode cL_law 323 = .ok (.aload_n 0, 1) := dk_42 (dk_at dksL_law_3 19 rfl rfl)
theorem dL_law_324 : decode cL_law 324 = .ok (.iload 4, 2) := dk_21 4 (dk_at dksL_law_3 20 rfl rfl)
theorem dL_law_326 : decode cL_law 326 = .ok (.iconst 4, 1) := dk_7 (dk_at dksL_law_3 22 rfl rfl)
theorem dL_law_327 : decode cL_law 327 = .ok (.iadd, 1) := dk_96 (dk_at dksL_law_3 23 rfl rfl)
theorem dL_law_328 : decode cL_law 328 = .ok (.iaload, 1) := dk_46 (dk_at dksL_law_4 0 rfl rfl)
theorem dL_law_329 : decode cL_law 329 = .ok (.aload_n 3, 1) := dk_45 (dk_at dksL_law_4 1 rfl rfl)
theorem dL_law_330 : decode cL_law 330 = .ok (.invokestatic 174, 3) := dk_184 0 174 (dk_at dksL_law_4 2 rfl rfl)
theorem dL_law_333 : decode cL_law 333 = .ok (.istore 5, 2) := dk_54 5 (dk_at dksL_law_4 5 rfl rfl)
theorem dL_law_335 : decode cL_law 335 = .ok (.aload_n 2, 1) := dk_44 (dk_at dksL_law_4 7 rfl rfl)
theorem dL_law_336 : decode cL_law 336 = .ok (.aload_n 0, 1) := dk_42 (dk_at dksL_law_4 8 rfl rfl)
theorem dL_law_337 : decode cL_law 337 = .ok (.iload 4, 2) := dk_21 4 (dk_at dksL_law_4 9 rfl rfl)
theorem dL_law_339 : decode cL_law 339 = .ok (.iconst 1, 1) := dk_4 (dk_at dksL_law_4 11 rfl rfl)
theorem dL_law_340 : decode cL_law 340 = .ok (.iadd, 1) := dk_96 (dk_at dksL_law_4 12 rfl rfl)
theorem dL_law_341 : decode cL_law 341 = .ok (.iaload, 1) := dk_46 (dk_at dksL_law_4 13 rfl rfl)
theorem dL_law_342 : decode cL_law 342 = .ok (.aload_n 0, 1) := dk_42 (dk_at dksL_law_4 14 rfl rfl)
theorem dL_law_343 : decode cL_law 343 = .ok (.iload 4, 2) := dk_21 4 (dk_at dksL_law_4 15 rfl rfl)
theorem dL_law_345 : decode cL_law 345 = .ok (.iconst 2, 1) := dk_5 (dk_at dksL_law_4 17 rfl rfl)
theorem dL_law_346 : decode cL_law 346 = .ok (.iadd, 1) := dk_96 (dk_at dksL_law_4 18 rfl rfl)
theorem dL_law_347 : decode cL_law 347 = .ok (.iaload, 1) := dk_46 (dk_at dksL_law_4 19 rfl rfl)
theorem dL_law_348 : decode cL_law 348 = .ok (.aload_n 0, 1) := dk_42 (dk_at dksL_law_4 20 rfl rfl)
theorem dL_law_349 : decode cL_law 349 = .ok (.iload 4, 2) := dk_21 4 (dk_at dksL_law_4 21 rfl rfl)
theorem dL_law_351 : decode cL_law 351 = .ok (.iconst 3, 1) := dk_6 (dk_at dksL_law_4 23 rfl rfl)
theorem dL_law_352 : decode cL_law 352 = .ok (.iadd, 1) := dk_96 (dk_at dksL_law_5 0 rfl rfl)
theorem dL_law_353 : decode cL_law 353 = .ok (.iaload, 1) := dk_46 (dk_at dksL_law_5 1 rfl rfl)
theorem dL_law_354 : decode cL_law 354 = .ok (.aload_n 0, 1) := dk_42 (dk_at dksL_law_5 2 rfl rfl)
theorem dL_law_355 : decode cL_law 355 = .ok (.iload 4, 2) := dk_21 4 (dk_at dksL_law_5 3 rfl rfl)
theorem dL_law_357 : decode cL_law 357 = .ok (.iconst 4, 1) := dk_7 (dk_at dksL_law_5 5 rfl rfl)
theorem dL_law_358 : decode cL_law 358 = .ok (.iadd, 1) := dk_96 (dk_at dksL_law_5 6 rfl rfl)
theorem dL_law_359 : decode cL_law 359 = .ok (.iaload, 1) := dk_46 (dk_at dksL_law_5 7 rfl rfl)
theorem dL_law_360 : decode cL_law 360 = .ok (.invokevirtual 179, 3) := dk_182 0 179 (dk_at dksL_law_5 8 rfl rfl)
theorem dL_law_363 : decode cL_law 363 = .ok (.istore 6, 2) := dk_54 6 (dk_at dksL_law_5 11 rfl rfl)
theorem dL_law_365 : decode cL_law 365 = .ok (.aload_n 2, 1) := dk_44 (dk_at dksL_law_5 13 rfl rfl)
theorem dL_law_366 : decode cL_law 366 = .ok (.invokevirtual 180, 3) := dk_182 0 180 (dk_at dksL_law_5 14 rfl rfl)
theorem dL_law_369 : decode cL_law 369 = .ok (.iload 5, 2) := dk_21 5 (dk_at dksL_law_5 17 rfl rfl)
theorem dL_law_371 : decode cL_law 371 = .ok (.if_icmp .eq 5, 3) := dk_159 0 5 (dk_at dksL_law_5 19 rfl rfl)
theorem dL_law_374 : decode cL_law 374 = .ok (.iconst 0, 1) := dk_3 (dk_at dksL_law_5 22 rfl rfl)
theorem dL_law_375 : decode cL_law 375 = .ok (.ireturn, 1) := dk_172 (dk_at dksL_law_5 23 rfl rfl)
theorem dL_law_376 : decode cL_law 376 = .ok (.iload 5, 2) := dk_21 5 (dk_at dksL_law_6 0 rfl rfl)
theorem dL_law_378 : decode cL_law 378 = .ok (.ifCond .ne 15, 3) := dk_154 0 15 (dk_at dksL_law_6 2 rfl rfl)
theorem dL_law_381 : decode cL_law 381 = .ok (.aload_n 3, 1) := dk_45 (dk_at dksL_law_6 5 rfl rfl)
theorem dL_law_382 : decode cL_law 382 = .ok (.iconst 0, 1) := dk_3 (dk_at dksL_law_6 6 rfl rfl)
theorem dL_law_383 : decode cL_law 383 = .ok (.laload, 1) := dk_47 (dk_at dksL_law_6 7 rfl rfl)
theorem dL_law_384 : decode cL_law 384 = .ok (.iload 6, 2) := dk_21 6 (dk_at dksL_law_6 8 rfl rfl)
theorem dL_law_386 : decode cL_law 386 = .ok (.i2l, 1) := dk_133 (dk_at dksL_law_6 10 rfl rfl)
theorem dL_law_387 : decode cL_law 387 = .ok (.lcmp, 1) := dk_148 (dk_at dksL_law_6 11 rfl rfl)
theorem dL_law_388 : decode cL_law 388 = .ok (.ifCond .eq 5, 3) := dk_153 0 5 (dk_at dksL_law_6 12 rfl rfl)
theorem dL_law_391 : decode cL_law 391 = .ok (.iconst 0, 1) := dk_3 (dk_at dksL_law_6 15 rfl rfl)
theorem dL_law_392 : decode cL_law 392 = .ok (.ireturn, 1) := dk_172 (dk_at dksL_law_6 16 rfl rfl)
theorem dL_law_393 : decode cL_law 393 = .ok (.goto 3232, 3) := dk_167 12 160 (dk_at dksL_law_6 17 rfl rfl)
theorem dL_law_396 : decode cL_law 396 = .ok (.aload_n 1, 1) := dk_43 (dk_at dksL_law_6 20 rfl rfl)
theorem dL_law_397 : decode cL_law 397 = .ok (.aload_n 0, 1) := dk_42 (dk_at dksL_law_6 21 rfl rfl)
theorem dL_law_398 : decode cL_law 398 = .ok (.iload 4, 2) := dk_21 4 (dk_at dksL_law_6 22 rfl rfl)
theorem dL_law_400 : decode cL_law 400 = .ok (.iconst 1, 1) := dk_4 (dk_at dksL_law_7 0 rfl rfl)
theorem dL_law_401 : decode cL_law 401 = .ok (.iadd, 1) := dk_96 (dk_at dksL_law_7 1 rfl rfl)
theorem dL_law_402 : decode cL_law 402 = .ok (.iaload, 1) := dk_46 (dk_at dksL_law_7 2 rfl rfl)
theorem dL_law_403 : decode cL_law 403 = .ok (.aload_n 0, 1) := dk_42 (dk_at dksL_law_7 3 rfl rfl)
theorem dL_law_404 : decode cL_law 404 = .ok (.iload 4, 2) := dk_21 4 (dk_at dksL_law_7 4 rfl rfl)
theorem dL_law_406 : decode cL_law 406 = .ok (.iconst 2, 1) := dk_5 (dk_at dksL_law_7 6 rfl rfl)
theorem dL_law_407 : decode cL_law 407 = .ok (.iadd, 1) := dk_96 (dk_at dksL_law_7 7 rfl rfl)
theorem dL_law_408 : decode cL_law 408 = .ok (.iaload, 1) := dk_46 (dk_at dksL_law_7 8 rfl rfl)
theorem dL_law_409 : decode cL_law 409 = .ok (.aload_n 3, 1) := dk_45 (dk_at dksL_law_7 9 rfl rfl)
theorem dL_law_410 : decode cL_law 410 = .ok (.invokestatic 183, 3) := dk_184 0 183 (dk_at dksL_law_7 10 rfl rfl)
theorem dL_law_413 : decode cL_law 413 = .ok (.istore 5, 2) := dk_54 5 (dk_at dksL_law_7 13 rfl rfl)
theorem dL_law_415 : decode cL_law 415 = .ok (.aload_n 2, 1) := dk_44 (dk_at dksL_law_7 15 rfl rfl)
theorem dL_law_416 : decode cL_law 416 = .ok (.aload_n 0, 1) := dk_42 (dk_at dksL_law_7 16 rfl rfl)
theorem dL_law_417 : decode cL_law 417 = .ok (.iload 4, 2) := dk_21 4 (dk_at dksL_law_7 17 rfl rfl)
theorem dL_law_419 : decode cL_law 419 = .ok (.iconst 1, 1) := dk_4 (dk_at dksL_law_7 19 rfl rfl)
theorem dL_law_420 : decode cL_law 420 = .ok (.iadd, 1) := dk_96 (dk_at dksL_law_7 20 rfl rfl)
theorem dL_law_421 : decode cL_law 421 = .ok (.iaload, 1) := dk_46 (dk_at dksL_law_7 21 rfl rfl)
theorem dL_law_422 : decode cL_law 422 = .ok (.aload_n 0, 1) := dk_42 (dk_at dksL_law_7 22 rfl rfl)
theorem dL_law_423 : decode cL_law 423 = .ok (.iload 4, 2) := dk_21 4 (dk_at dksL_law_8 0 rfl rfl)
theorem dL_law_425 : decode cL_law 425 = .ok (.iconst 2, 1) := dk_5 (dk_at dksL_law_8 2 rfl rfl)
theorem dL_law_426 : decode cL_law 426 = .ok (.iadd, 1) := dk_96 (dk_at dksL_law_8 3 rfl rfl)
theorem dL_law_427 : decode cL_law 427 = .ok (.iaload, 1) := dk_46 (dk_at dksL_law_8 4 rfl rfl)
theorem dL_law_428 : decode cL_law 428 = .ok (.invokevirtual 186, 3) := dk_182 0 186 (dk_at dksL_law_8 5 rfl rfl)
theorem dL_law_431 : decode cL_law 431 = .ok (.istore 6, 2) := dk_54 6 (dk_at dksL_law_8 8 rfl rfl)
theorem dL_law_433 : decode cL_law 433 = .ok (.aload_n 2, 1) := dk_44 (dk_at dksL_law_8 10 rfl rfl)
theorem dL_law_434 : decode cL_law 434 = .ok (.invokevirtual 180, 3) := dk_182 0 180 (dk_at dksL_law_8 11 rfl rfl)
theorem dL_law_437 : decode cL_law 437 = .ok (.iload 5, 2) := dk_21 5 (dk_at dksL_law_8 14 rfl rfl)
theorem dL_law_439 : decode cL_law 439 = .ok (.if_icmp .eq 5, 3) := dk_159 0 5 (dk_at dksL_law_8 16 rfl rfl)
theorem dL_law_442 : decode cL_law 442 = .ok (.iconst 0, 1) := dk_3 (dk_at dksL_law_8 19 rfl rfl)
theorem dL_law_443 : decode cL_law 443 = .ok (.ireturn, 1) := dk_172 (dk_at dksL_law_8 20 rfl rfl)
theorem dL_law_444 : decode cL_law 444 = .ok (.iload 5, 2) := dk_21 5 (dk_at dksL_law_8 21 rfl rfl)
theorem dL_law_446 : decode cL_law 446 = .ok (.ifCond .ne 15, 3) := dk_154 0 15 (dk_at dksL_law_9 0 rfl rfl)
theorem dL_law_449 : decode cL_law 449 = .ok (.aload_n 3, 1) := dk_45 (dk_at dksL_law_9 3 rfl rfl)
theorem dL_law_450 : decode cL_law 450 = .ok (.iconst 0, 1) := dk_3 (dk_at dksL_law_9 4 rfl rfl)
theorem dL_law_451 : decode cL_law 451 = .ok (.laload, 1) := dk_47 (dk_at dksL_law_9 5 rfl rfl)
theorem dL_law_452 : decode cL_law 452 = .ok (.iload 6, 2) := dk_21 6 (dk_at dksL_law_9 6 rfl rfl)
theorem dL_law_454 : decode cL_law 454 = .ok (.i2l, 1) := dk_133 (dk_at dksL_law_9 8 rfl rfl)
theorem dL_law_455 : decode cL_law 455 = .ok (.lcmp, 1) := dk_148 (dk_at dksL_law_9 9 rfl rfl)
theorem dL_law_456 : decode cL_law 456 = .ok (.ifCond .eq 5, 3) := dk_153 0 5 (dk_at dksL_law_9 10 rfl rfl)
theorem dL_law_459 : decode cL_law 459 = .ok (.iconst 0, 1) := dk_3 (dk_at dksL_law_9 13 rfl rfl)
theorem dL_law_460 : decode cL_law 460 = .ok (.ireturn, 1) := dk_172 (dk_at dksL_law_9 14 rfl rfl)
theorem dL_law_461 : decode cL_law 461 = .ok (.goto 3164, 3) := dk_167 12 92 (dk_at dksL_law_9 15 rfl rfl)
theorem dL_law_464 : decode cL_law 464 = .ok (.aload_n 1, 1) := dk_43 (dk_at dksL_law_9 18 rfl rfl)
theorem dL_law_465 : decode cL_law 465 = .ok (.aload_n 0, 1) := dk_42 (dk_at dksL_law_9 19 rfl rfl)
theorem dL_law_466 : decode cL_law 466 = .ok (.iload 4, 2) := dk_21 4 (dk_at dksL_law_9 20 rfl rfl)
theorem dL_law_468 : decode cL_law 468 = .ok (.iconst 1, 1) := dk_4 (dk_at dksL_law_9 22 rfl rfl)
theorem dL_law_469 : decode cL_law 469 = .ok (.iadd, 1) := dk_96 (dk_at dksL_law_9 23 rfl rfl)
theorem dL_law_470 : decode cL_law 470 = .ok (.iaload, 1) := dk_46 (dk_at dksL_law_10 0 rfl rfl)
theorem dL_law_471 : decode cL_law 471 = .ok (.aload_n 0, 1) := dk_42 (dk_at dksL_law_10 1 rfl rfl)
theorem dL_law_472 : decode cL_law 472 = .ok (.iload 4, 2) := dk_21 4 (dk_at dksL_law_10 2 rfl rfl)
theorem dL_law_474 : decode cL_law 474 = .ok (.iconst 2, 1) := dk_5 (dk_at dksL_law_10 4 rfl rfl)
theorem dL_law_475 : decode cL_law 475 = .ok (.iadd, 1) := dk_96 (dk_at dksL_law_10 5 rfl rfl)
theorem dL_law_476 : decode cL_law 476 = .ok (.iaload, 1) := dk_46 (dk_at dksL_law_10 6 rfl rfl)
theorem dL_law_477 : decode cL_law 477 = .ok (.aload_n 3, 1) := dk_45 (dk_at dksL_law_10 7 rfl rfl)
theorem dL_law_478 : decode cL_law 478 = .ok (.invokestatic 187, 3) := dk_184 0 187 (dk_at dksL_law_10 8 rfl rfl)
theorem dL_law_481 : decode cL_law 481 = .ok (.istore 5, 2) := dk_54 5 (dk_at dksL_law_10 11 rfl rfl)
theorem dL_law_483 : decode cL_law 483 = .ok (.aload_n 2, 1) := dk_44 (dk_at dksL_law_10 13 rfl rfl)
theorem dL_law_484 : decode cL_law 484 = .ok (.aload_n 0, 1) := dk_42 (dk_at dksL_law_10 14 rfl rfl)
theorem dL_law_485 : decode cL_law 485 = .ok (.iload 4, 2) := dk_21 4 (dk_at dksL_law_10 15 rfl rfl)
theorem dL_law_487 : decode cL_law 487 = .ok (.iconst 1, 1) := dk_4 (dk_at dksL_law_10 17 rfl rfl)
theorem dL_law_488 : decode cL_law 488 = .ok (.iadd, 1) := dk_96 (dk_at dksL_law_10 18 rfl rfl)
theorem dL_law_489 : decode cL_law 489 = .ok (.iaload, 1) := dk_46 (dk_at dksL_law_10 19 rfl rfl)
theorem dL_law_490 : decode cL_law 490 = .ok (.aload_n 0, 1) := dk_42 (dk_at dksL_law_10 20 rfl rfl)
theorem dL_law_491 : decode cL_law 491 = .ok (.iload 4, 2) := dk_21 4 (dk_at dksL_law_10 21 rfl rfl)
theorem dL_law_493 : decode cL_law 493 = .ok (.iconst 2, 1) := dk_5 (dk_at dksL_law_10 23 rfl rfl)
theorem dL_law_494 : decode cL_law 494 = .ok (.iadd, 1) := dk_96 (dk_at dksL_law_11 0 rfl rfl)
theorem dL_law_495 : decode cL_law 495 = .ok (.iaload, 1) := dk_46 (dk_at dksL_law_11 1 rfl rfl)
theorem dL_law_496 : decode cL_law 496 = .ok (.invokevirtual 189, 3) := dk_182 0 189 (dk_at dksL_law_11 2 rfl rfl)
theorem dL_law_499 : decode cL_law 499 = .ok (.istore 6, 2) := dk_54 6 (dk_at dksL_law_11 5 rfl rfl)
theorem dL_law_501 : decode cL_law 501 = .ok (.aload_n 2, 1) := dk_44 (dk_at dksL_law_11 7 rfl rfl)
theorem dL_law_502 : decode cL_law 502 = .ok (.invokevirtual 180, 3) := dk_182 0 180 (dk_at dksL_law_11 8 rfl rfl)
theorem dL_law_505 : decode cL_law 505 = .ok (.iload 5, 2) := dk_21 5 (dk_at dksL_law_11 11 rfl rfl)
theorem dL_law_507 : decode cL_law 507 = .ok (.if_icmp .eq 5, 3) := dk_159 0 5 (dk_at dksL_law_11 13 rfl rfl)
theorem dL_law_510 : decode cL_law 510 = .ok (.iconst 0, 1) := dk_3 (dk_at dksL_law_11 16 rfl rfl)
theorem dL_law_511 : decode cL_law 511 = .ok (.ireturn, 1) := dk_172 (dk_at dksL_law_11 17 rfl rfl)
theorem dL_law_512 : decode cL_law 512 = .ok (.iload 5, 2) := dk_21 5 (dk_at dksL_law_11 18 rfl rfl)
theorem dL_law_514 : decode cL_law 514 = .ok (.ifCond .ne 15, 3) := dk_154 0 15 (dk_at dksL_law_11 20 rfl rfl)
theorem dL_law_517 : decode cL_law 517 = .ok (.aload_n 3, 1) := dk_45 (dk_at dksL_law_11 23 rfl rfl)
theorem dL_law_518 : decode cL_law 518 = .ok (.iconst 0, 1) := dk_3 (dk_at dksL_law_12 0 rfl rfl)
theorem dL_law_519 : decode cL_law 519 = .ok (.laload, 1) := dk_47 (dk_at dksL_law_12 1 rfl rfl)
theorem dL_law_520 : decode cL_law 520 = .ok (.iload 6, 2) := dk_21 6 (dk_at dksL_law_12 2 rfl rfl)
theorem dL_law_522 : decode cL_law 522 = .ok (.i2l, 1) := dk_133 (dk_at dksL_law_12 4 rfl rfl)
theorem dL_law_523 : decode cL_law 523 = .ok (.lcmp, 1) := dk_148 (dk_at dksL_law_12 5 rfl rfl)
theorem dL_law_524 : decode cL_law 524 = .ok (.ifCond .eq 5, 3) := dk_153 0 5 (dk_at dksL_law_12 6 rfl rfl)
theorem dL_law_527 : decode cL_law 527 = .ok (.iconst 0, 1) := dk_3 (dk_at dksL_law_12 9 rfl rfl)
theorem dL_law_528 : decode cL_law 528 = .ok (.ireturn, 1) := dk_172 (dk_at dksL_law_12 10 rfl rfl)
theorem dL_law_529 : decode cL_law 529 = .ok (.goto 3096, 3) := dk_167 12 24 (dk_at dksL_law_12 11 rfl rfl)
theorem dL_law_532 : decode cL_law 532 = .ok (.aload_n 1, 1) := dk_43 (dk_at dksL_law_12 14 rfl rfl)
theorem dL_law_533 : decode cL_law 533 = .ok (.aload_n 0, 1) := dk_42 (dk_at dksL_law_12 15 rfl rfl)
theorem dL_law_534 : decode cL_law 534 = .ok (.iload 4, 2) := dk_21 4 (dk_at dksL_law_12 16 rfl rfl)
theorem dL_law_536 : decode cL_law 536 = .ok (.iconst 1, 1) := dk_4 (dk_at dksL_law_12 18 rfl rfl)
theorem dL_law_537 : decode cL_law 537 = .ok (.iadd, 1) := dk_96 (dk_at dksL_law_12 19 rfl rfl)
theorem dL_law_538 : decode cL_law 538 = .ok (.iaload, 1) := dk_46 (dk_at dksL_law_12 20 rfl rfl)
theorem dL_law_539 : decode cL_law 539 = .ok (.aload_n 3, 1) := dk_45 (dk_at dksL_law_12 21 rfl rfl)
theorem dL_law_540 : decode cL_law 540 = .ok (.invokestatic 190, 3) := dk_184 0 190 (dk_at dksL_law_13 0 rfl rfl)
theorem dL_law_543 : decode cL_law 543 = .ok (.istore 5, 2) := dk_54 5 (dk_at dksL_law_13 3 rfl rfl)
theorem dL_law_545 : decode cL_law 545 = .ok (.aload_n 2, 1) := dk_44 (dk_at dksL_law_13 5 rfl rfl)
theorem dL_law_546 : decode cL_law 546 = .ok (.aload_n 0, 1) := dk_42 (dk_at dksL_law_13 6 rfl rfl)
theorem dL_law_547 : decode cL_law 547 = .ok (.iload 4, 2) := dk_21 4 (dk_at dksL_law_13 7 rfl rfl)
theorem dL_law_549 : decode cL_law 549 = .ok (.iconst 1, 1) := dk_4 (dk_at dksL_law_13 9 rfl rfl)
theorem dL_law_550 : decode cL_law 550 = .ok (.iadd, 1) := dk_96 (dk_at dksL_law_13 10 rfl rfl)
theorem dL_law_551 : decode cL_law 551 = .ok (.iaload, 1) := dk_46 (dk_at dksL_law_13 11 rfl rfl)
theorem dL_law_552 : decode cL_law 552 = .ok (.invokevirtual 193, 3) := dk_182 0 193 (dk_at dksL_law_13 12 rfl rfl)
theorem dL_law_555 : decode cL_law 555 = .ok (.istore 6, 2) := dk_54 6 (dk_at dksL_law_13 15 rfl rfl)
theorem dL_law_557 : decode cL_law 557 = .ok (.aload_n 2, 1) := dk_44 (dk_at dksL_law_13 17 rfl rfl)
theorem dL_law_558 : decode cL_law 558 = .ok (.invokevirtual 180, 3) := dk_182 0 180 (dk_at dksL_law_13 18 rfl rfl)
theorem dL_law_561 : decode cL_law 561 = .ok (.iload 5, 2) := dk_21 5 (dk_at dksL_law_13 21 rfl rfl)
theorem dL_law_563 : decode cL_law 563 = .ok (.if_icmp .eq 5, 3) := dk_159 0 5 (dk_at dksL_law_14 0 rfl rfl)
theorem dL_law_566 : decode cL_law 566 = .ok (.iconst 0, 1) := dk_3 (dk_at dksL_law_14 3 rfl rfl)
theorem dL_law_567 : decode cL_law 567 = .ok (.ireturn, 1) := dk_172 (dk_at dksL_law_14 4 rfl rfl)
theorem dL_law_568 : decode cL_law 568 = .ok (.iload 5, 2) := dk_21 5 (dk_at dksL_law_14 5 rfl rfl)
theorem dL_law_570 : decode cL_law 570 = .ok (.ifCond .ne 15, 3) := dk_154 0 15 (dk_at dksL_law_14 7 rfl rfl)
theorem dL_law_573 : decode cL_law 573 = .ok (.aload_n 3, 1) := dk_45 (dk_at dksL_law_14 10 rfl rfl)
theorem dL_law_574 : decode cL_law 574 = .ok (.iconst 0, 1) := dk_3 (dk_at dksL_law_14 11 rfl rfl)
theorem dL_law_575 : decode cL_law 575 = .ok (.laload, 1) := dk_47 (dk_at dksL_law_14 12 rfl rfl)
theorem dL_law_576 : decode cL_law 576 = .ok (.iload 6, 2) := dk_21 6 (dk_at dksL_law_14 13 rfl rfl)
theorem dL_law_578 : decode cL_law 578 = .ok (.i2l, 1) := dk_133 (dk_at dksL_law_14 15 rfl rfl)
theorem dL_law_579 : decode cL_law 579 = .ok (.lcmp, 1) := dk_148 (dk_at dksL_law_14 16 rfl rfl)
theorem dL_law_580 : decode cL_law 580 = .ok (.ifCond .eq 5, 3) := dk_153 0 5 (dk_at dksL_law_14 17 rfl rfl)
theorem dL_law_583 : decode cL_law 583 = .ok (.iconst 0, 1) := dk_3 (dk_at dksL_law_14 20 rfl rfl)
theorem dL_law_584 : decode cL_law 584 = .ok (.ireturn, 1) := dk_172 (dk_at dksL_law_14 21 rfl rfl)
theorem dL_law_585 : decode cL_law 585 = .ok (.goto 3040, 3) := dk_167 11 224 (dk_at dksL_law_15 0 rfl rfl)
theorem dL_law_588 : decode cL_law 588 = .ok (.aload_n 1, 1) := dk_43 (dk_at dksL_law_15 3 rfl rfl)
theorem dL_law_589 : decode cL_law 589 = .ok (.aload_n 0, 1) := dk_42 (dk_at dksL_law_15 4 rfl rfl)
theorem dL_law_590 : decode cL_law 590 = .ok (.iload 4, 2) := dk_21 4 (dk_at dksL_law_15 5 rfl rfl)
theorem dL_law_592 : decode cL_law 592 = .ok (.iconst 1, 1) := dk_4 (dk_at dksL_law_15 7 rfl rfl)
theorem dL_law_593 : decode cL_law 593 = .ok (.iadd, 1) := dk_96 (dk_at dksL_law_15 8 rfl rfl)
theorem dL_law_594 : decode cL_law 594 = .ok (.iaload, 1) := dk_46 (dk_at dksL_law_15 9 rfl rfl)
theorem dL_law_595 : decode cL_law 595 = .ok (.aload_n 3, 1) := dk_45 (dk_at dksL_law_15 10 rfl rfl)
theorem dL_law_596 : decode cL_law 596 = .ok (.invokestatic 194, 3) := dk_184 0 194 (dk_at dksL_law_15 11 rfl rfl)
theorem dL_law_599 : decode cL_law 599 = .ok (.istore 5, 2) := dk_54 5 (dk_at dksL_law_15 14 rfl rfl)
theorem dL_law_601 : decode cL_law 601 = .ok (.aload_n 2, 1) := dk_44 (dk_at dksL_law_15 16 rfl rfl)
theorem dL_law_602 : decode cL_law 602 = .ok (.aload_n 0, 1) := dk_42 (dk_at dksL_law_15 17 rfl rfl)
theorem dL_law_603 : decode cL_law 603 = .ok (.iload 4, 2) := dk_21 4 (dk_at dksL_law_15 18 rfl rfl)
theorem dL_law_605 : decode cL_law 605 = .ok (.iconst 1, 1) := dk_4 (dk_at dksL_law_15 20 rfl rfl)
theorem dL_law_606 : decode cL_law 606 = .ok (.iadd, 1) := dk_96 (dk_at dksL_law_15 21 rfl rfl)
theorem dL_law_607 : decode cL_law 607 = .ok (.iaload, 1) := dk_46 (dk_at dksL_law_15 22 rfl rfl)
theorem dL_law_608 : decode cL_law 608 = .ok (.invokevirtual 196, 3) := dk_182 0 196 (dk_at dksL_law_16 0 rfl rfl)
theorem dL_law_611 : decode cL_law 611 = .ok (.istore 6, 2) := dk_54 6 (dk_at dksL_law_16 3 rfl rfl)
theorem dL_law_613 : decode cL_law 613 = .ok (.aload_n 2, 1) := dk_44 (dk_at dksL_law_16 5 rfl rfl)
theorem dL_law_614 : decode cL_law 614 = .ok (.invokevirtual 180, 3) := dk_182 0 180 (dk_at dksL_law_16 6 rfl rfl)
theorem dL_law_617 : decode cL_law 617 = .ok (.iload 5, 2) := dk_21 5 (dk_at dksL_law_16 9 rfl rfl)
theorem dL_law_619 : decode cL_law 619 = .ok (.if_icmp .eq 5, 3) := dk_159 0 5 (dk_at dksL_law_16 11 rfl rfl)
theorem dL_law_622 : decode cL_law 622 = .ok (.iconst 0, 1) := dk_3 (dk_at dksL_law_16 14 rfl rfl)
theorem dL_law_623 : decode cL_law 623 = .ok (.ireturn, 1) := dk_172 (dk_at dksL_law_16 15 rfl rfl)
theorem dL_law_624 : decode cL_law 624 = .ok (.iload 5, 2) := dk_21 5 (dk_at dksL_law_16 16 rfl rfl)
theorem dL_law_626 : decode cL_law 626 = .ok (.ifCond .ne 15, 3) := dk_154 0 15 (dk_at dksL_law_16 18 rfl rfl)
theorem dL_law_629 : decode cL_law 629 = .ok (.aload_n 3, 1) := dk_45 (dk_at dksL_law_16 21 rfl rfl)
theorem dL_law_630 : decode cL_law 630 = .ok (.iconst 0, 1) := dk_3 (dk_at dksL_law_16 22 rfl rfl)
theorem dL_law_631 : decode cL_law 631 = .ok (.laload, 1) := dk_47 (dk_at dksL_law_16 23 rfl rfl)
theorem dL_law_632 : decode cL_law 632 = .ok (.iload 6, 2) := dk_21 6 (dk_at dksL_law_17 0 rfl rfl)
theorem dL_law_634 : decode cL_law 634 = .ok (.i2l, 1) := dk_133 (dk_at dksL_law_17 2 rfl rfl)
theorem dL_law_635 : decode cL_law 635 = .ok (.lcmp, 1) := dk_148 (dk_at dksL_law_17 3 rfl rfl)
theorem dL_law_636 : decode cL_law 636 = .ok (.ifCond .eq 5, 3) := dk_153 0 5 (dk_at dksL_law_17 4 rfl rfl)
theorem dL_law_639 : decode cL_law 639 = .ok (.iconst 0, 1) := dk_3 (dk_at dksL_law_17 7 rfl rfl)
theorem dL_law_640 : decode cL_law 640 = .ok (.ireturn, 1) := dk_172 (dk_at dksL_law_17 8 rfl rfl)
theorem dL_law_641 : decode cL_law 641 = .ok (.goto 2984, 3) := dk_167 11 168 (dk_at dksL_law_17 9 rfl rfl)
theorem dL_law_644 : decode cL_law 644 = .ok (.aload_n 1, 1) := dk_43 (dk_at dksL_law_17 12 rfl rfl)
theorem dL_law_645 : decode cL_law 645 = .ok (.aload_n 0, 1) := dk_42 (dk_at dksL_law_17 13 rfl rfl)
theorem dL_law_646 : decode cL_law 646 = .ok (.iload 4, 2) := dk_21 4 (dk_at dksL_law_17 14 rfl rfl)
theorem dL_law_648 : decode cL_law 648 = .ok (.iconst 1, 1) := dk_4 (dk_at dksL_law_17 16 rfl rfl)
theorem dL_law_649 : decode cL_law 649 = .ok (.iadd, 1) := dk_96 (dk_at dksL_law_17 17 rfl rfl)
theorem dL_law_650 : decode cL_law 650 = .ok (.iaload, 1) := dk_46 (dk_at dksL_law_17 18 rfl rfl)
theorem dL_law_651 : decode cL_law 651 = .ok (.aload_n 0, 1) := dk_42 (dk_at dksL_law_17 19 rfl rfl)
theorem dL_law_652 : decode cL_law 652 = .ok (.iload 4, 2) := dk_21 4 (dk_at dksL_law_17 20 rfl rfl)
theorem dL_law_654 : decode cL_law 654 = .ok (.iconst 2, 1) := dk_5 (dk_at dksL_law_17 22 rfl rfl)
theorem dL_law_655 : decode cL_law 655 = .ok (.iadd, 1) := dk_96 (dk_at dksL_law_17 23 rfl rfl)
theorem dL_law_656 : decode cL_law 656 = .ok (.iaload, 1) := dk_46 (dk_at dksL_law_18 0 rfl rfl)
theorem dL_law_657 : decode cL_law 657 = .ok (.aload_n 3, 1) := dk_45 (dk_at dksL_law_18 1 rfl rfl)
theorem dL_law_658 : decode cL_law 658 = .ok (.invokestatic 197, 3) := dk_184 0 197 (dk_at dksL_law_18 2 rfl rfl)
theorem dL_law_661 : decode cL_law 661 = .ok (.istore 5, 2) := dk_54 5 (dk_at dksL_law_18 5 rfl rfl)
theorem dL_law_663 : decode cL_law 663 = .ok (.aload_n 2, 1) := dk_44 (dk_at dksL_law_18 7 rfl rfl)
theorem dL_law_664 : decode cL_law 664 = .ok (.aload_n 0, 1) := dk_42 (dk_at dksL_law_18 8 rfl rfl)
theorem dL_law_665 : decode cL_law 665 = .ok (.iload 4, 2) := dk_21 4 (dk_at dksL_law_18 9 rfl rfl)
theorem dL_law_667 : decode cL_law 667 = .ok (.iconst 1, 1) := dk_4 (dk_at dksL_law_18 11 rfl rfl)
theorem dL_law_668 : decode cL_law 668 = .ok (.iadd, 1) := dk_96 (dk_at dksL_law_18 12 rfl rfl)
theorem dL_law_669 : decode cL_law 669 = .ok (.iaload, 1) := dk_46 (dk_at dksL_law_18 13 rfl rfl)
theorem dL_law_670 : decode cL_law 670 = .ok (.aload_n 0, 1) := dk_42 (dk_at dksL_law_18 14 rfl rfl)
theorem dL_law_671 : decode cL_law 671 = .ok (.iload 4, 2) := dk_21 4 (dk_at dksL_law_18 15 rfl rfl)
theorem dL_law_673 : decode cL_law 673 = .ok (.iconst 2, 1) := dk_5 (dk_at dksL_law_18 17 rfl rfl)
theorem dL_law_674 : decode cL_law 674 = .ok (.iadd, 1) := dk_96 (dk_at dksL_law_18 18 rfl rfl)
theorem dL_law_675 : decode cL_law 675 = .ok (.iaload, 1) := dk_46 (dk_at dksL_law_18 19 rfl rfl)
theorem dL_law_676 : decode cL_law 676 = .ok (.invokevirtual 199, 3) := dk_182 0 199 (dk_at dksL_law_18 20 rfl rfl)
theorem dL_law_679 : decode cL_law 679 = .ok (.istore 6, 2) := dk_54 6 (dk_at dksL_law_19 0 rfl rfl)
theorem dL_law_681 : decode cL_law 681 = .ok (.aload_n 2, 1) := dk_44 (dk_at dksL_law_19 2 rfl rfl)
theorem dL_law_682 : decode cL_law 682 = .ok (.invokevirtual 180, 3) := dk_182 0 180 (dk_at dksL_law_19 3 rfl rfl)
theorem dL_law_685 : decode cL_law 685 = .ok (.iload 5, 2) := dk_21 5 (dk_at dksL_law_19 6 rfl rfl)
theorem dL_law_687 : decode cL_law 687 = .ok (.if_icmp .eq 5, 3) := dk_159 0 5 (dk_at dksL_law_19 8 rfl rfl)
theorem dL_law_690 : decode cL_law 690 = .ok (.iconst 0, 1) := dk_3 (dk_at dksL_law_19 11 rfl rfl)
theorem dL_law_691 : decode cL_law 691 = .ok (.ireturn, 1) := dk_172 (dk_at dksL_law_19 12 rfl rfl)
theorem dL_law_692 : decode cL_law 692 = .ok (.iload 5, 2) := dk_21 5 (dk_at dksL_law_19 13 rfl rfl)
theorem dL_law_694 : decode cL_law 694 = .ok (.ifCond .ne 15, 3) := dk_154 0 15 (dk_at dksL_law_19 15 rfl rfl)
theorem dL_law_697 : decode cL_law 697 = .ok (.aload_n 3, 1) := dk_45 (dk_at dksL_law_19 18 rfl rfl)
theorem dL_law_698 : decode cL_law 698 = .ok (.iconst 0, 1) := dk_3 (dk_at dksL_law_19 19 rfl rfl)
theorem dL_law_699 : decode cL_law 699 = .ok (.laload, 1) := dk_47 (dk_at dksL_law_19 20 rfl rfl)
theorem dL_law_700 : decode cL_law 700 = .ok (.iload 6, 2) := dk_21 6 (dk_at dksL_law_19 21 rfl rfl)
theorem dL_law_702 : decode cL_law 702 = .ok (.i2l, 1) := dk_133 (dk_at dksL_law_19 23 rfl rfl)
theorem dL_law_703 : decode cL_law 703 = .ok (.lcmp, 1) := dk_148 (dk_at dksL_law_20 0 rfl rfl)
theorem dL_law_704 : decode cL_law 704 = .ok (.ifCond .eq 5, 3) := dk_153 0 5 (dk_at dksL_law_20 1 rfl rfl)
theorem dL_law_707 : decode cL_law 707 = .ok (.iconst 0, 1) := dk_3 (dk_at dksL_law_20 4 rfl rfl)
theorem dL_law_708 : decode cL_law 708 = .ok (.ireturn, 1) := dk_172 (dk_at dksL_law_20 5 rfl rfl)
theorem dL_law_709 : decode cL_law 709 = .ok (.goto 2916, 3) := dk_167 11 100 (dk_at dksL_law_20 6 rfl rfl)
theorem dL_law_712 : decode cL_law 712 = .ok (.aload_n 1, 1) := dk_43 (dk_at dksL_law_20 9 rfl rfl)
theorem dL_law_713 : decode cL_law 713 = .ok (.aload_n 0, 1) := dk_42 (dk_at dksL_law_20 10 rfl rfl)
theorem dL_law_714 : decode cL_law 714 = .ok (.iload 4, 2) := dk_21 4 (dk_at dksL_law_20 11 rfl rfl)
theorem dL_law_716 : decode cL_law 716 = .ok (.iconst 1, 1) := dk_4 (dk_at dksL_law_20 13 rfl rfl)
theorem dL_law_717 : decode cL_law 717 = .ok (.iadd, 1) := dk_96 (dk_at dksL_law_20 14 rfl rfl)
theorem dL_law_718 : decode cL_law 718 = .ok (.iaload, 1) := dk_46 (dk_at dksL_law_20 15 rfl rfl)
theorem dL_law_719 : decode cL_law 719 = .ok (.aload_n 3, 1) := dk_45 (dk_at dksL_law_20 16 rfl rfl)
theorem dL_law_720 : decode cL_law 720 = .ok (.invokestatic 200, 3) := dk_184 0 200 (dk_at dksL_law_20 17 rfl rfl)
theorem dL_law_723 : decode cL_law 723 = .ok (.istore 5, 2) := dk_54 5 (dk_at dksL_law_20 20 rfl rfl)
theorem dL_law_725 : decode cL_law 725 = .ok (.aload_n 2, 1) := dk_44 (dk_at dksL_law_20 22 rfl rfl)
theorem dL_law_726 : decode cL_law 726 = .ok (.aload_n 0, 1) := dk_42 (dk_at dksL_law_20 23 rfl rfl)
theorem dL_law_727 : decode cL_law 727 = .ok (.iload 4, 2) := dk_21 4 (dk_at dksL_law_21 0 rfl rfl)
theorem dL_law_729 : decode cL_law 729 = .ok (.iconst 1, 1) := dk_4 (dk_at dksL_law_21 2 rfl rfl)
theorem dL_law_730 : decode cL_law 730 = .ok (.iadd, 1) := dk_96 (dk_at dksL_law_21 3 rfl rfl)
theorem dL_law_731 : decode cL_law 731 = .ok (.iaload, 1) := dk_46 (dk_at dksL_law_21 4 rfl rfl)
theorem dL_law_732 : decode cL_law 732 = .ok (.invokevirtual 202, 3) := dk_182 0 202 (dk_at dksL_law_21 5 rfl rfl)
theorem dL_law_735 : decode cL_law 735 = .ok (.istore 6, 2) := dk_54 6 (dk_at dksL_law_21 8 rfl rfl)
theorem dL_law_737 : decode cL_law 737 = .ok (.aload_n 2, 1) := dk_44 (dk_at dksL_law_21 10 rfl rfl)
theorem dL_law_738 : decode cL_law 738 = .ok (.invokevirtual 180, 3) := dk_182 0 180 (dk_at dksL_law_21 11 rfl rfl)
theorem dL_law_741 : decode cL_law 741 = .ok (.iload 5, 2) := dk_21 5 (dk_at dksL_law_21 14 rfl rfl)
theorem dL_law_743 : decode cL_law 743 = .ok (.if_icmp .eq 5, 3) := dk_159 0 5 (dk_at dksL_law_21 16 rfl rfl)
theorem dL_law_746 : decode cL_law 746 = .ok (.iconst 0, 1) := dk_3 (dk_at dksL_law_21 19 rfl rfl)
theorem dL_law_747 : decode cL_law 747 = .ok (.ireturn, 1) := dk_172 (dk_at dksL_law_21 20 rfl rfl)
theorem dL_law_748 : decode cL_law 748 = .ok (.iload 5, 2) := dk_21 5 (dk_at dksL_law_21 21 rfl rfl)
theorem dL_law_750 : decode cL_law 750 = .ok (.ifCond .ne 15, 3) := dk_154 0 15 (dk_at dksL_law_22 0 rfl rfl)
theorem dL_law_753 : decode cL_law 753 = .ok (.aload_n 3, 1) := dk_45 (dk_at dksL_law_22 3 rfl rfl)
theorem dL_law_754 : decode cL_law 754 = .ok (.iconst 0, 1) := dk_3 (dk_at dksL_law_22 4 rfl rfl)
theorem dL_law_755 : decode cL_law 755 = .ok (.laload, 1) := dk_47 (dk_at dksL_law_22 5 rfl rfl)
theorem dL_law_756 : decode cL_law 756 = .ok (.iload 6, 2) := dk_21 6 (dk_at dksL_law_22 6 rfl rfl)
theorem dL_law_758 : decode cL_law 758 = .ok (.i2l, 1) := dk_133 (dk_at dksL_law_22 8 rfl rfl)
theorem dL_law_759 : decode cL_law 759 = .ok (.lcmp, 1) := dk_148 (dk_at dksL_law_22 9 rfl rfl)
theorem dL_law_760 : decode cL_law 760 = .ok (.ifCond .eq 5, 3) := dk_153 0 5 (dk_at dksL_law_22 10 rfl rfl)
theorem dL_law_763 : decode cL_law 763 = .ok (.iconst 0, 1) := dk_3 (dk_at dksL_law_22 13 rfl rfl)
theorem dL_law_764 : decode cL_law 764 = .ok (.ireturn, 1) := dk_172 (dk_at dksL_law_22 14 rfl rfl)
theorem dL_law_765 : decode cL_law 765 = .ok (.goto 2860, 3) := dk_167 11 44 (dk_at dksL_law_22 15 rfl rfl)
theorem dL_law_768 : decode cL_law 768 = .ok (.aload_n 1, 1) := dk_43 (dk_at dksL_law_22 18 rfl rfl)
theorem dL_law_769 : decode cL_law 769 = .ok (.aload_n 0, 1) := dk_42 (dk_at dksL_law_22 19 rfl rfl)
theorem dL_law_770 : decode cL_law 770 = .ok (.iload 4, 2) := dk_21 4 (dk_at dksL_law_22 20 rfl rfl)
theorem dL_law_772 : decode cL_law 772 = .ok (.iconst 1, 1) := dk_4 (dk_at dksL_law_22 22 rfl rfl)
theorem dL_law_773 : decode cL_law 773 = .ok (.iadd, 1) := dk_96 (dk_at dksL_law_22 23 rfl rfl)
theorem dL_law_774 : decode cL_law 774 = .ok (.iaload, 1) := dk_46 (dk_at dksL_law_23 0 rfl rfl)
theorem dL_law_775 : decode cL_law 775 = .ok (.aload_n 0, 1) := dk_42 (dk_at dksL_law_23 1 rfl rfl)
theorem dL_law_776 : decode cL_law 776 = .ok (.iload 4, 2) := dk_21 4 (dk_at dksL_law_23 2 rfl rfl)
theorem dL_law_778 : decode cL_law 778 = .ok (.iconst 2, 1) := dk_5 (dk_at dksL_law_23 4 rfl rfl)
theorem dL_law_779 : decode cL_law 779 = .ok (.iadd, 1) := dk_96 (dk_at dksL_law_23 5 rfl rfl)
theorem dL_law_780 : decode cL_law 780 = .ok (.iaload, 1) := dk_46 (dk_at dksL_law_23 6 rfl rfl)
theorem dL_law_781 : decode cL_law 781 = .ok (.aload_n 3, 1) := dk_45 (dk_at dksL_law_23 7 rfl rfl)
theorem dL_law_782 : decode cL_law 782 = .ok (.invokestatic 203, 3) := dk_184 0 203 (dk_at dksL_law_23 8 rfl rfl)
theorem dL_law_785 : decode cL_law 785 = .ok (.istore 5, 2) := dk_54 5 (dk_at dksL_law_23 11 rfl rfl)
theorem dL_law_787 : decode cL_law 787 = .ok (.aload_n 2, 1) := dk_44 (dk_at dksL_law_23 13 rfl rfl)
theorem dL_law_788 : decode cL_law 788 = .ok (.aload_n 0, 1) := dk_42 (dk_at dksL_law_23 14 rfl rfl)
theorem dL_law_789 : decode cL_law 789 = .ok (.iload 4, 2) := dk_21 4 (dk_at dksL_law_23 15 rfl rfl)
theorem dL_law_791 : decode cL_law 791 = .ok (.iconst 1, 1) := dk_4 (dk_at dksL_law_23 17 rfl rfl)
theorem dL_law_792 : decode cL_law 792 = .ok (.iadd, 1) := dk_96 (dk_at dksL_law_23 18 rfl rfl)
theorem dL_law_793 : decode cL_law 793 = .ok (.iaload, 1) := dk_46 (dk_at dksL_law_23 19 rfl rfl)
theorem dL_law_794 : decode cL_law 794 = .ok (.aload_n 0, 1) := dk_42 (dk_at dksL_law_23 20 rfl rfl)
theorem dL_law_795 : decode cL_law 795 = .ok (.iload 4, 2) := dk_21 4 (dk_at dksL_law_23 21 rfl rfl)
theorem dL_law_797 : decode cL_law 797 = .ok (.iconst 2, 1) := dk_5 (dk_at dksL_law_23 23 rfl rfl)
theorem dL_law_798 : decode cL_law 798 = .ok (.iadd, 1) := dk_96 (dk_at dksL_law_24 0 rfl rfl)
theorem dL_law_799 : decode cL_law 799 = .ok (.iaload, 1) := dk_46 (dk_at dksL_law_24 1 rfl rfl)
theorem dL_law_800 : decode cL_law 800 = .ok (.invokevirtual 205, 3) := dk_182 0 205 (dk_at dksL_law_24 2 rfl rfl)
theorem dL_law_803 : decode cL_law 803 = .ok (.istore 6, 2) := dk_54 6 (dk_at dksL_law_24 5 rfl rfl)
theorem dL_law_805 : decode cL_law 805 = .ok (.aload_n 2, 1) := dk_44 (dk_at dksL_law_24 7 rfl rfl)
theorem dL_law_806 : decode cL_law 806 = .ok (.invokevirtual 180, 3) := dk_182 0 180 (dk_at dksL_law_24 8 rfl rfl)
theorem dL_law_809 : decode cL_law 809 = .ok (.iload 5, 2) := dk_21 5 (dk_at dksL_law_24 11 rfl rfl)
theorem dL_law_811 : decode cL_law 811 = .ok (.if_icmp .eq 5, 3) := dk_159 0 5 (dk_at dksL_law_24 13 rfl rfl)
theorem dL_law_814 : decode cL_law 814 = .ok (.iconst 0, 1) := dk_3 (dk_at dksL_law_24 16 rfl rfl)
theorem dL_law_815 : decode cL_law 815 = .ok (.ireturn, 1) := dk_172 (dk_at dksL_law_24 17 rfl rfl)
theorem dL_law_816 : decode cL_law 816 = .ok (.iload 5, 2) := dk_21 5 (dk_at dksL_law_24 18 rfl rfl)
theorem dL_law_818 : decode cL_law 818 = .ok (.ifCond .ne 15, 3) := dk_154 0 15 (dk_at dksL_law_24 20 rfl rfl)
theorem dL_law_821 : decode cL_law 821 = .ok (.aload_n 3, 1) := dk_45 (dk_at dksL_law_24 23 rfl rfl)
theorem dL_law_822 : decode cL_law 822 = .ok (.iconst 0, 1) := dk_3 (dk_at dksL_law_25 0 rfl rfl)
theorem dL_law_823 : decode cL_law 823 = .ok (.laload, 1) := dk_47 (dk_at dksL_law_25 1 rfl rfl)
theorem dL_law_824 : decode cL_law 824 = .ok (.iload 6, 2) := dk_21 6 (dk_at dksL_law_25 2 rfl rfl)
theorem dL_law_826 : decode cL_law 826 = .ok (.i2l, 1) := dk_133 (dk_at dksL_law_25 4 rfl rfl)
theorem dL_law_827 : decode cL_law 827 = .ok (.lcmp, 1) := dk_148 (dk_at dksL_law_25 5 rfl rfl)
theorem dL_law_828 : decode cL_law 828 = .ok (.ifCond .eq 5, 3) := dk_153 0 5 (dk_at dksL_law_25 6 rfl rfl)
theorem dL_law_831 : decode cL_law 831 = .ok (.iconst 0, 1) := dk_3 (dk_at dksL_law_25 9 rfl rfl)
theorem dL_law_832 : decode cL_law 832 = .ok (.ireturn, 1) := dk_172 (dk_at dksL_law_25 10 rfl rfl)
theorem dL_law_833 : decode cL_law 833 = .ok (.goto 2792, 3) := dk_167 10 232 (dk_at dksL_law_25 11 rfl rfl)
theorem dL_law_836 : decode cL_law 836 = .ok (.aload_n 1, 1) := dk_43 (dk_at dksL_law_25 14 rfl rfl)
theorem dL_law_837 : decode cL_law 837 = .ok (.aload_n 0, 1) := dk_42 (dk_at dksL_law_25 15 rfl rfl)
theorem dL_law_838 : decode cL_law 838 = .ok (.iload 4, 2) := dk_21 4 (dk_at dksL_law_25 16 rfl rfl)
theorem dL_law_840 : decode cL_law 840 = .ok (.iconst 1, 1) := dk_4 (dk_at dksL_law_25 18 rfl rfl)
theorem dL_law_841 : decode cL_law 841 = .ok (.iadd, 1) := dk_96 (dk_at dksL_law_25 19 rfl rfl)
theorem dL_law_842 : decode cL_law 842 = .ok (.iaload, 1) := dk_46 (dk_at dksL_law_25 20 rfl rfl)
theorem dL_law_843 : decode cL_law 843 = .ok (.aload_n 0, 1) := dk_42 (dk_at dksL_law_25 21 rfl rfl)
theorem dL_law_844 : decode cL_law 844 = .ok (.iload 4, 2) := dk_21 4 (dk_at dksL_law_25 22 rfl rfl)
theorem dL_law_846 : decode cL_law 846 = .ok (.iconst 2, 1) := dk_5 (dk_at dksL_law_26 0 rfl rfl)
theorem dL_law_847 : decode cL_law 847 = .ok (.iadd, 1) := dk_96 (dk_at dksL_law_26 1 rfl rfl)
theorem dL_law_848 : decode cL_law 848 = .ok (.iaload, 1) := dk_46 (dk_at dksL_law_26 2 rfl rfl)
theorem dL_law_849 : decode cL_law 849 = .ok (.aload_n 3, 1) := dk_45 (dk_at dksL_law_26 3 rfl rfl)
theorem dL_law_850 : decode cL_law 850 = .ok (.invokestatic 206, 3) := dk_184 0 206 (dk_at dksL_law_26 4 rfl rfl)
theorem dL_law_853 : decode cL_law 853 = .ok (.istore 5, 2) := dk_54 5 (dk_at dksL_law_26 7 rfl rfl)
theorem dL_law_855 : decode cL_law 855 = .ok (.aload_n 2, 1) := dk_44 (dk_at dksL_law_26 9 rfl rfl)
theorem dL_law_856 : decode cL_law 856 = .ok (.aload_n 0, 1) := dk_42 (dk_at dksL_law_26 10 rfl rfl)
theorem dL_law_857 : decode cL_law 857 = .ok (.iload 4, 2) := dk_21 4 (dk_at dksL_law_26 11 rfl rfl)
theorem dL_law_859 : decode cL_law 859 = .ok (.iconst 1, 1) := dk_4 (dk_at dksL_law_26 13 rfl rfl)
theorem dL_law_860 : decode cL_law 860 = .ok (.iadd, 1) := dk_96 (dk_at dksL_law_26 14 rfl rfl)
theorem dL_law_861 : decode cL_law 861 = .ok (.iaload, 1) := dk_46 (dk_at dksL_law_26 15 rfl rfl)
theorem dL_law_862 : decode cL_law 862 = .ok (.aload_n 0, 1) := dk_42 (dk_at dksL_law_26 16 rfl rfl)
theorem dL_law_863 : decode cL_law 863 = .ok (.iload 4, 2) := dk_21 4 (dk_at dksL_law_26 17 rfl rfl)
theorem dL_law_865 : decode cL_law 865 = .ok (.iconst 2, 1) := dk_5 (dk_at dksL_law_26 19 rfl rfl)
theorem dL_law_866 : decode cL_law 866 = .ok (.iadd, 1) := dk_96 (dk_at dksL_law_26 20 rfl rfl)
theorem dL_law_867 : decode cL_law 867 = .ok (.iaload, 1) := dk_46 (dk_at dksL_law_26 21 rfl rfl)
theorem dL_law_868 : decode cL_law 868 = .ok (.invokevirtual 208, 3) := dk_182 0 208 (dk_at dksL_law_27 0 rfl rfl)
theorem dL_law_871 : decode cL_law 871 = .ok (.istore 6, 2) := dk_54 6 (dk_at dksL_law_27 3 rfl rfl)
theorem dL_law_873 : decode cL_law 873 = .ok (.aload_n 2, 1) := dk_44 (dk_at dksL_law_27 5 rfl rfl)
theorem dL_law_874 : decode cL_law 874 = .ok (.invokevirtual 180, 3) := dk_182 0 180 (dk_at dksL_law_27 6 rfl rfl)
theorem dL_law_877 : decode cL_law 877 = .ok (.iload 5, 2) := dk_21 5 (dk_at dksL_law_27 9 rfl rfl)
theorem dL_law_879 : decode cL_law 879 = .ok (.if_icmp .eq 5, 3) := dk_159 0 5 (dk_at dksL_law_27 11 rfl rfl)
theorem dL_law_882 : decode cL_law 882 = .ok (.iconst 0, 1) := dk_3 (dk_at dksL_law_27 14 rfl rfl)
theorem dL_law_883 : decode cL_law 883 = .ok (.ireturn, 1) := dk_172 (dk_at dksL_law_27 15 rfl rfl)
theorem dL_law_884 : decode cL_law 884 = .ok (.iload 5, 2) := dk_21 5 (dk_at dksL_law_27 16 rfl rfl)
theorem dL_law_886 : decode cL_law 886 = .ok (.ifCond .ne 15, 3) := dk_154 0 15 (dk_at dksL_law_27 18 rfl rfl)
theorem dL_law_889 : decode cL_law 889 = .ok (.aload_n 3, 1) := dk_45 (dk_at dksL_law_27 21 rfl rfl)
theorem dL_law_890 : decode cL_law 890 = .ok (.iconst 0, 1) := dk_3 (dk_at dksL_law_27 22 rfl rfl)
theorem dL_law_891 : decode cL_law 891 = .ok (.laload, 1) := dk_47 (dk_at dksL_law_27 23 rfl rfl)
theorem dL_law_892 : decode cL_law 892 = .ok (.iload 6, 2) := dk_21 6 (dk_at dksL_law_28 0 rfl rfl)
theorem dL_law_894 : decode cL_law 894 = .ok (.i2l, 1) := dk_133 (dk_at dksL_law_28 2 rfl rfl)
theorem dL_law_895 : decode cL_law 895 = .ok (.lcmp, 1) := dk_148 (dk_at dksL_law_28 3 rfl rfl)
theorem dL_law_896 : decode cL_law 896 = .ok (.ifCond .eq 5, 3) := dk_153 0 5 (dk_at dksL_law_28 4 rfl rfl)
theorem dL_law_899 : decode cL_law 899 = .ok (.iconst 0, 1) := dk_3 (dk_at dksL_law_28 7 rfl rfl)
theorem dL_law_900 : decode cL_law 900 = .ok (.ireturn, 1) := dk_172 (dk_at dksL_law_28 8 rfl rfl)
theorem dL_law_901 : decode cL_law 901 = .ok (.goto 2724, 3) := dk_167 10 164 (dk_at dksL_law_28 9 rfl rfl)
theorem dL_law_904 : decode cL_law 904 = .ok (.aload_n 1, 1) := dk_43 (dk_at dksL_law_28 12 rfl rfl)
theorem dL_law_905 : decode cL_law 905 = .ok (.aload_n 0, 1) := dk_42 (dk_at dksL_law_28 13 rfl rfl)
theorem dL_law_906 : decode cL_law 906 = .ok (.iload 4, 2) := dk_21 4 (dk_at dksL_law_28 14 rfl rfl)
theorem dL_law_908 : decode cL_law 908 = .ok (.iconst 1, 1) := dk_4 (dk_at dksL_law_28 16 rfl rfl)
theorem dL_law_909 : decode cL_law 909 = .ok (.iadd, 1) := dk_96 (dk_at dksL_law_28 17 rfl rfl)
theorem dL_law_910 : decode cL_law 910 = .ok (.iaload, 1) := dk_46 (dk_at dksL_law_28 18 rfl rfl)
theorem dL_law_911 : decode cL_law 911 = .ok (.aload_n 3, 1) := dk_45 (dk_at dksL_law_28 19 rfl rfl)
theorem dL_law_912 : decode cL_law 912 = .ok (.invokestatic 209, 3) := dk_184 0 209 (dk_at dksL_law_28 20 rfl rfl)
theorem dL_law_915 : decode cL_law 915 = .ok (.istore 5, 2) := dk_54 5 (dk_at dksL_law_29 0 rfl rfl)
theorem dL_law_917 : decode cL_law 917 = .ok (.aload_n 2, 1) := dk_44 (dk_at dksL_law_29 2 rfl rfl)
theorem dL_law_918 : decode cL_law 918 = .ok (.aload_n 0, 1) := dk_42 (dk_at dksL_law_29 3 rfl rfl)
theorem dL_law_919 : decode cL_law 919 = .ok (.iload 4, 2) := dk_21 4 (dk_at dksL_law_29 4 rfl rfl)
theorem dL_law_921 : decode cL_law 921 = .ok (.iconst 1, 1) := dk_4 (dk_at dksL_law_29 6 rfl rfl)
theorem dL_law_922 : decode cL_law 922 = .ok (.iadd, 1) := dk_96 (dk_at dksL_law_29 7 rfl rfl)
theorem dL_law_923 : decode cL_law 923 = .ok (.iaload, 1) := dk_46 (dk_at dksL_law_29 8 rfl rfl)
theorem dL_law_924 : decode cL_law 924 = .ok (.invokevirtual 211, 3) := dk_182 0 211 (dk_at dksL_law_29 9 rfl rfl)
theorem dL_law_927 : decode cL_law 927 = .ok (.istore 6, 2) := dk_54 6 (dk_at dksL_law_29 12 rfl rfl)
theorem dL_law_929 : decode cL_law 929 = .ok (.aload_n 2, 1) := dk_44 (dk_at dksL_law_29 14 rfl rfl)
theorem dL_law_930 : decode cL_law 930 = .ok (.invokevirtual 180, 3) := dk_182 0 180 (dk_at dksL_law_29 15 rfl rfl)
theorem dL_law_933 : decode cL_law 933 = .ok (.iload 5, 2) := dk_21 5 (dk_at dksL_law_29 18 rfl rfl)
theorem dL_law_935 : decode cL_law 935 = .ok (.if_icmp .eq 5, 3) := dk_159 0 5 (dk_at dksL_law_29 20 rfl rfl)
theorem dL_law_938 : decode cL_law 938 = .ok (.iconst 0, 1) := dk_3 (dk_at dksL_law_29 23 rfl rfl)
theorem dL_law_939 : decode cL_law 939 = .ok (.ireturn, 1) := dk_172 (dk_at dksL_law_30 0 rfl rfl)
theorem dL_law_940 : decode cL_law 940 = .ok (.iload 5, 2) := dk_21 5 (dk_at dksL_law_30 1 rfl rfl)
theorem dL_law_942 : decode cL_law 942 = .ok (.ifCond .ne 15, 3) := dk_154 0 15 (dk_at dksL_law_30 3 rfl rfl)
theorem dL_law_945 : decode cL_law 945 = .ok (.aload_n 3, 1) := dk_45 (dk_at dksL_law_30 6 rfl rfl)
theorem dL_law_946 : decode cL_law 946 = .ok (.iconst 0, 1) := dk_3 (dk_at dksL_law_30 7 rfl rfl)
theorem dL_law_947 : decode cL_law 947 = .ok (.laload, 1) := dk_47 (dk_at dksL_law_30 8 rfl rfl)
theorem dL_law_948 : decode cL_law 948 = .ok (.iload 6, 2) := dk_21 6 (dk_at dksL_law_30 9 rfl rfl)
theorem dL_law_950 : decode cL_law 950 = .ok (.i2l, 1) := dk_133 (dk_at dksL_law_30 11 rfl rfl)
theorem dL_law_951 : decode cL_law 951 = .ok (.lcmp, 1) := dk_148 (dk_at dksL_law_30 12 rfl rfl)
theorem dL_law_952 : decode cL_law 952 = .ok (.ifCond .eq 5, 3) := dk_153 0 5 (dk_at dksL_law_30 13 rfl rfl)
theorem dL_law_955 : decode cL_law 955 = .ok (.iconst 0, 1) := dk_3 (dk_at dksL_law_30 16 rfl rfl)
theorem dL_law_956 : decode cL_law 956 = .ok (.ireturn, 1) := dk_172 (dk_at dksL_law_30 17 rfl rfl)
theorem dL_law_957 : decode cL_law 957 = .ok (.goto 2668, 3) := dk_167 10 108 (dk_at dksL_law_30 18 rfl rfl)
theorem dL_law_960 : decode cL_law 960 = .ok (.aload_n 1, 1) := dk_43 (dk_at dksL_law_30 21 rfl rfl)
theorem dL_law_961 : decode cL_law 961 = .ok (.aload_n 0, 1) := dk_42 (dk_at dksL_law_30 22 rfl rfl)
theorem dL_law_962 : decode cL_law 962 = .ok (.iload 4, 2) := dk_21 4 (dk_at dksL_law_31 0 rfl rfl)
theorem dL_law_964 : decode cL_law 964 = .ok (.iconst 1, 1) := dk_4 (dk_at dksL_law_31 2 rfl rfl)
theorem dL_law_965 : decode cL_law 965 = .ok (.iadd, 1) := dk_96 (dk_at dksL_law_31 3 rfl rfl)
theorem dL_law_966 : decode cL_law 966 = .ok (.iaload, 1) := dk_46 (dk_at dksL_law_31 4 rfl rfl)
theorem dL_law_967 : decode cL_law 967 = .ok (.aload_n 0, 1) := dk_42 (dk_at dksL_law_31 5 rfl rfl)
theorem dL_law_968 : decode cL_law 968 = .ok (.iload 4, 2) := dk_21 4 (dk_at dksL_law_31 6 rfl rfl)
theorem dL_law_970 : decode cL_law 970 = .ok (.iconst 2, 1) := dk_5 (dk_at dksL_law_31 8 rfl rfl)
theorem dL_law_971 : decode cL_law 971 = .ok (.iadd, 1) := dk_96 (dk_at dksL_law_31 9 rfl rfl)
theorem dL_law_972 : decode cL_law 972 = .ok (.iaload, 1) := dk_46 (dk_at dksL_law_31 10 rfl rfl)
theorem dL_law_973 : decode cL_law 973 = .ok (.aload_n 3, 1) := dk_45 (dk_at dksL_law_31 11 rfl rfl)
theorem dL_law_974 : decode cL_law 974 = .ok (.invokestatic 212, 3) := dk_184 0 212 (dk_at dksL_law_31 12 rfl rfl)
theorem dL_law_977 : decode cL_law 977 = .ok (.istore 5, 2) := dk_54 5 (dk_at dksL_law_31 15 rfl rfl)
theorem dL_law_979 : decode cL_law 979 = .ok (.aload_n 2, 1) := dk_44 (dk_at dksL_law_31 17 rfl rfl)
theorem dL_law_980 : decode cL_law 980 = .ok (.aload_n 0, 1) := dk_42 (dk_at dksL_law_31 18 rfl rfl)
theorem dL_law_981 : decode cL_law 981 = .ok (.iload 4, 2) := dk_21 4 (dk_at dksL_law_31 19 rfl rfl)
theorem dL_law_983 : decode cL_law 983 = .ok (.iconst 1, 1) := dk_4 (dk_at dksL_law_31 21 rfl rfl)
theorem dL_law_984 : decode cL_law 984 = .ok (.iadd, 1) := dk_96 (dk_at dksL_law_31 22 rfl rfl)
theorem dL_law_985 : decode cL_law 985 = .ok (.iaload, 1) := dk_46 (dk_at dksL_law_31 23 rfl rfl)
theorem dL_law_986 : decode cL_law 986 = .ok (.aload_n 0, 1) := dk_42 (dk_at dksL_law_32 0 rfl rfl)
theorem dL_law_987 : decode cL_law 987 = .ok (.iload 4, 2) := dk_21 4 (dk_at dksL_law_32 1 rfl rfl)
theorem dL_law_989 : decode cL_law 989 = .ok (.iconst 2, 1) := dk_5 (dk_at dksL_law_32 3 rfl rfl)
theorem dL_law_990 : decode cL_law 990 = .ok (.iadd, 1) := dk_96 (dk_at dksL_law_32 4 rfl rfl)
theorem dL_law_991 : decode cL_law 991 = .ok (.iaload, 1) := dk_46 (dk_at dksL_law_32 5 rfl rfl)
theorem dL_law_992 : decode cL_law 992 = .ok (.invokevirtual 214, 3) := dk_182 0 214 (dk_at dksL_law_32 6 rfl rfl)
theorem dL_law_995 : decode cL_law 995 = .ok (.istore 6, 2) := dk_54 6 (dk_at dksL_law_32 9 rfl rfl)
theorem dL_law_997 : decode cL_law 997 = .ok (.aload_n 2, 1) := dk_44 (dk_at dksL_law_32 11 rfl rfl)
theorem dL_law_998 : decode cL_law 998 = .ok (.invokevirtual 180, 3) := dk_182 0 180 (dk_at dksL_law_32 12 rfl rfl)
theorem dL_law_1001 : decode cL_law 1001 = .ok (.iload 5, 2) := dk_21 5 (dk_at dksL_law_32 15 rfl rfl)
theorem dL_law_1003 : decode cL_law 1003 = .ok (.if_icmp .eq 5, 3) := dk_159 0 5 (dk_at dksL_law_32 17 rfl rfl)
theorem dL_law_1006 : decode cL_law 1006 = .ok (.iconst 0, 1) := dk_3 (dk_at dksL_law_32 20 rfl rfl)
theorem dL_law_1007 : decode cL_law 1007 = .ok (.ireturn, 1) := dk_172 (dk_at dksL_law_32 21 rfl rfl)
theorem dL_law_1008 : decode cL_law 1008 = .ok (.iload 5, 2) := dk_21 5 (dk_at dksL_law_32 22 rfl rfl)
theorem dL_law_1010 : decode cL_law 1010 = .ok (.ifCond .ne 15, 3) := dk_154 0 15 (dk_at dksL_law_33 0 rfl rfl)
theorem dL_law_1013 : decode cL_law 1013 = .ok (.aload_n 3, 1) := dk_45 (dk_at dksL_law_33 3 rfl rfl)
theorem dL_law_1014 : decode cL_law 1014 = .ok (.iconst 0, 1) := dk_3 (dk_at dksL_law_33 4 rfl rfl)
theorem dL_law_1015 : decode cL_law 1015 = .ok (.laload, 1) := dk_47 (dk_at dksL_law_33 5 rfl rfl)
theorem dL_law_1016 : decode cL_law 1016 = .ok (.iload 6, 2) := dk_21 6 (dk_at dksL_law_33 6 rfl rfl)
theorem dL_law_1018 : decode cL_law 1018 = .ok (.i2l, 1) := dk_133 (dk_at dksL_law_33 8 rfl rfl)
theorem dL_law_1019 : decode cL_law 1019 = .ok (.lcmp, 1) := dk_148 (dk_at dksL_law_33 9 rfl rfl)
theorem dL_law_1020 : decode cL_law 1020 = .ok (.ifCond .eq 5, 3) := dk_153 0 5 (dk_at dksL_law_33 10 rfl rfl)
theorem dL_law_1023 : decode cL_law 1023 = .ok (.iconst 0, 1) := dk_3 (dk_at dksL_law_33 13 rfl rfl)
theorem dL_law_1024 : decode cL_law 1024 = .ok (.ireturn, 1) := dk_172 (dk_at dksL_law_33 14 rfl rfl)
theorem dL_law_1025 : decode cL_law 1025 = .ok (.goto 2600, 3) := dk_167 10 40 (dk_at dksL_law_33 15 rfl rfl)
theorem dL_law_1028 : decode cL_law 1028 = .ok (.aload_n 1, 1) := dk_43 (dk_at dksL_law_33 18 rfl rfl)
theorem dL_law_1029 : decode cL_law 1029 = .ok (.aload_n 0, 1) := dk_42 (dk_at dksL_law_33 19 rfl rfl)
theorem dL_law_1030 : decode cL_law 1030 = .ok (.iload 4, 2) := dk_21 4 (dk_at dksL_law_33 20 rfl rfl)
theorem dL_law_1032 : decode cL_law 1032 = .ok (.iconst 1, 1) := dk_4 (dk_at dksL_law_33 22 rfl rfl)
theorem dL_law_1033 : decode cL_law 1033 = .ok (.iadd, 1) := dk_96 (dk_at dksL_law_33 23 rfl rfl)
theorem dL_law_1034 : decode cL_law 1034 = .ok (.iaload, 1) := dk_46 (dk_at dksL_law_34 0 rfl rfl)
theorem dL_law_1035 : decode cL_law 1035 = .ok (.aload_n 3, 1) := dk_45 (dk_at dksL_law_34 1 rfl rfl)
theorem dL_law_1036 : decode cL_law 1036 = .ok (.invokestatic 215, 3) := dk_184 0 215 (dk_at dksL_law_34 2 rfl rfl)
theorem dL_law_1039 : decode cL_law 1039 = .ok (.istore 5, 2) := dk_54 5 (dk_at dksL_law_34 5 rfl rfl)
theorem dL_law_1041 : decode cL_law 1041 = .ok (.aload_n 2, 1) := dk_44 (dk_at dksL_law_34 7 rfl rfl)
theorem dL_law_1042 : decode cL_law 1042 = .ok (.aload_n 0, 1) := dk_42 (dk_at dksL_law_34 8 rfl rfl)
theorem dL_law_1043 : decode cL_law 1043 = .ok (.iload 4, 2) := dk_21 4 (dk_at dksL_law_34 9 rfl rfl)
theorem dL_law_1045 : decode cL_law 1045 = .ok (.iconst 1, 1) := dk_4 (dk_at dksL_law_34 11 rfl rfl)
theorem dL_law_1046 : decode cL_law 1046 = .ok (.iadd, 1) := dk_96 (dk_at dksL_law_34 12 rfl rfl)
theorem dL_law_1047 : decode cL_law 1047 = .ok (.iaload, 1) := dk_46 (dk_at dksL_law_34 13 rfl rfl)
theorem dL_law_1048 : decode cL_law 1048 = .ok (.invokevirtual 217, 3) := dk_182 0 217 (dk_at dksL_law_34 14 rfl rfl)
theorem dL_law_1051 : decode cL_law 1051 = .ok (.istore 6, 2) := dk_54 6 (dk_at dksL_law_34 17 rfl rfl)
theorem dL_law_1053 : decode cL_law 1053 = .ok (.aload_n 2, 1) := dk_44 (dk_at dksL_law_34 19 rfl rfl)
theorem dL_law_1054 : decode cL_law 1054 = .ok (.invokevirtual 180, 3) := dk_182 0 180 (dk_at dksL_law_34 20 rfl rfl)
theorem dL_law_1057 : decode cL_law 1057 = .ok (.iload 5, 2) := dk_21 5 (dk_at dksL_law_35 0 rfl rfl)
theorem dL_law_1059 : decode cL_law 1059 = .ok (.if_icmp .eq 5, 3) := dk_159 0 5 (dk_at dksL_law_35 2 rfl rfl)
theorem dL_law_1062 : decode cL_law 1062 = .ok (.iconst 0, 1) := dk_3 (dk_at dksL_law_35 5 rfl rfl)
theorem dL_law_1063 : decode cL_law 1063 = .ok (.ireturn, 1) := dk_172 (dk_at dksL_law_35 6 rfl rfl)
theorem dL_law_1064 : decode cL_law 1064 = .ok (.iload 5, 2) := dk_21 5 (dk_at dksL_law_35 7 rfl rfl)
theorem dL_law_1066 : decode cL_law 1066 = .ok (.ifCond .ne 15, 3) := dk_154 0 15 (dk_at dksL_law_35 9 rfl rfl)
theorem dL_law_1069 : decode cL_law 1069 = .ok (.aload_n 3, 1) := dk_45 (dk_at dksL_law_35 12 rfl rfl)
theorem dL_law_1070 : decode cL_law 1070 = .ok (.iconst 0, 1) := dk_3 (dk_at dksL_law_35 13 rfl rfl)
theorem dL_law_1071 : decode cL_law 1071 = .ok (.laload, 1) := dk_47 (dk_at dksL_law_35 14 rfl rfl)
theorem dL_law_1072 : decode cL_law 1072 = .ok (.iload 6, 2) := dk_21 6 (dk_at dksL_law_35 15 rfl rfl)
theorem dL_law_1074 : decode cL_law 1074 = .ok (.i2l, 1) := dk_133 (dk_at dksL_law_35 17 rfl rfl)
theorem dL_law_1075 : decode cL_law 1075 = .ok (.lcmp, 1) := dk_148 (dk_at dksL_law_35 18 rfl rfl)
theorem dL_law_1076 : decode cL_law 1076 = .ok (.ifCond .eq 5, 3) := dk_153 0 5 (dk_at dksL_law_35 19 rfl rfl)
theorem dL_law_1079 : decode cL_law 1079 = .ok (.iconst 0, 1) := dk_3 (dk_at dksL_law_35 22 rfl rfl)
theorem dL_law_1080 : decode cL_law 1080 = .ok (.ireturn, 1) := dk_172 (dk_at dksL_law_35 23 rfl rfl)
theorem dL_law_1081 : decode cL_law 1081 = .ok (.goto 2544, 3) := dk_167 9 240 (dk_at dksL_law_36 0 rfl rfl)
theorem dL_law_1084 : decode cL_law 1084 = .ok (.aload_n 1, 1) := dk_43 (dk_at dksL_law_36 3 rfl rfl)
theorem dL_law_1085 : decode cL_law 1085 = .ok (.aload_n 0, 1) := dk_42 (dk_at dksL_law_36 4 rfl rfl)
theorem dL_law_1086 : decode cL_law 1086 = .ok (.iload 4, 2) := dk_21 4 (dk_at dksL_law_36 5 rfl rfl)
theorem dL_law_1088 : decode cL_law 1088 = .ok (.iconst 1, 1) := dk_4 (dk_at dksL_law_36 7 rfl rfl)
theorem dL_law_1089 : decode cL_law 1089 = .ok (.iadd, 1) := dk_96 (dk_at dksL_law_36 8 rfl rfl)
theorem dL_law_1090 : decode cL_law 1090 = .ok (.iaload, 1) := dk_46 (dk_at dksL_law_36 9 rfl rfl)
theorem dL_law_1091 : decode cL_law 1091 = .ok (.aload_n 0, 1) := dk_42 (dk_at dksL_law_36 10 rfl rfl)
theorem dL_law_1092 : decode cL_law 1092 = .ok (.iload 4, 2) := dk_21 4 (dk_at dksL_law_36 11 rfl rfl)
theorem dL_law_1094 : decode cL_law 1094 = .ok (.iconst 2, 1) := dk_5 (dk_at dksL_law_36 13 rfl rfl)
theorem dL_law_1095 : decode cL_law 1095 = .ok (.iadd, 1) := dk_96 (dk_at dksL_law_36 14 rfl rfl)
theorem dL_law_1096 : decode cL_law 1096 = .ok (.iaload, 1) := dk_46 (dk_at dksL_law_36 15 rfl rfl)
theorem dL_law_1097 : decode cL_law 1097 = .ok (.aload_n 0, 1) := dk_42 (dk_at dksL_law_36 16 rfl rfl)
theorem dL_law_1098 : decode cL_law 1098 = .ok (.iload 4, 2) := dk_21 4 (dk_at dksL_law_36 17 rfl rfl)
theorem dL_law_1100 : decode cL_law 1100 = .ok (.iconst 3, 1) := dk_6 (dk_at dksL_law_36 19 rfl rfl)
theorem dL_law_1101 : decode cL_law 1101 = .ok (.iadd, 1) := dk_96 (dk_at dksL_law_36 20 rfl rfl)
theorem dL_law_1102 : decode cL_law 1102 = .ok (.iaload, 1) := dk_46 (dk_at dksL_law_36 21 rfl rfl)
theorem dL_law_1103 : decode cL_law 1103 = .ok (.aload_n 3, 1) := dk_45 (dk_at dksL_law_36 22 rfl rfl)
theorem dL_law_1104 : decode cL_law 1104 = .ok (.invokestatic 218, 3) := dk_184 0 218 (dk_at dksL_law_37 0 rfl rfl)
theorem dL_law_1107 : decode cL_law 1107 = .ok (.istore 5, 2) := dk_54 5 (dk_at dksL_law_37 3 rfl rfl)
theorem dL_law_1109 : decode cL_law 1109 = .ok (.aload_n 2, 1) := dk_44 (dk_at dksL_law_37 5 rfl rfl)
theorem dL_law_1110 : decode cL_law 1110 = .ok (.aload_n 0, 1) := dk_42 (dk_at dksL_law_37 6 rfl rfl)
theorem dL_law_1111 : decode cL_law 1111 = .ok (.iload 4, 2) := dk_21 4 (dk_at dksL_law_37 7 rfl rfl)
theorem dL_law_1113 : decode cL_law 1113 = .ok (.iconst 1, 1) := dk_4 (dk_at dksL_law_37 9 rfl rfl)
theorem dL_law_1114 : decode cL_law 1114 = .ok (.iadd, 1) := dk_96 (dk_at dksL_law_37 10 rfl rfl)
theorem dL_law_1115 : decode cL_law 1115 = .ok (.iaload, 1) := dk_46 (dk_at dksL_law_37 11 rfl rfl)
theorem dL_law_1116 : decode cL_law 1116 = .ok (.aload_n 0, 1) := dk_42 (dk_at dksL_law_37 12 rfl rfl)
theorem dL_law_1117 : decode cL_law 1117 = .ok (.iload 4, 2) := dk_21 4 (dk_at dksL_law_37 13 rfl rfl)
theorem dL_law_1119 : decode cL_law 1119 = .ok (.iconst 2, 1) := dk_5 (dk_at dksL_law_37 15 rfl rfl)
theorem dL_law_1120 : decode cL_law 1120 = .ok (.iadd, 1) := dk_96 (dk_at dksL_law_37 16 rfl rfl)
theorem dL_law_1121 : decode cL_law 1121 = .ok (.iaload, 1) := dk_46 (dk_at dksL_law_37 17 rfl rfl)
theorem dL_law_1122 : decode cL_law 1122 = .ok (.aload_n 0, 1) := dk_42 (dk_at dksL_law_37 18 rfl rfl)
theorem dL_law_1123 : decode cL_law 1123 = .ok (.iload 4, 2) := dk_21 4 (dk_at dksL_law_37 19 rfl rfl)
theorem dL_law_1125 : decode cL_law 1125 = .ok (.iconst 3, 1) := dk_6 (dk_at dksL_law_37 21 rfl rfl)
theorem dL_law_1126 : decode cL_law 1126 = .ok (.iadd, 1) := dk_96 (dk_at dksL_law_37 22 rfl rfl)
theorem dL_law_1127 : decode cL_law 1127 = .ok (.iaload, 1) := dk_46 (dk_at dksL_law_37 23 rfl rfl)
theorem dL_law_1128 : decode cL_law 1128 = .ok (.invokevirtual 221, 3) := dk_182 0 221 (dk_at dksL_law_38 0 rfl rfl)
theorem dL_law_1131 : decode cL_law 1131 = .ok (.istore 6, 2) := dk_54 6 (dk_at dksL_law_38 3 rfl rfl)
theorem dL_law_1133 : decode cL_law 1133 = .ok (.aload_n 2, 1) := dk_44 (dk_at dksL_law_38 5 rfl rfl)
theorem dL_law_1134 : decode cL_law 1134 = .ok (.invokevirtual 180, 3) := dk_182 0 180 (dk_at dksL_law_38 6 rfl rfl)
theorem dL_law_1137 : decode cL_law 1137 = .ok (.iload 5, 2) := dk_21 5 (dk_at dksL_law_38 9 rfl rfl)
theorem dL_law_1139 : decode cL_law 1139 = .ok (.if_icmp .eq 5, 3) := dk_159 0 5 (dk_at dksL_law_38 11 rfl rfl)
theorem dL_law_1142 : decode cL_law 1142 = .ok (.iconst 0, 1) := dk_3 (dk_at dksL_law_38 14 rfl rfl)
theorem dL_law_1143 : decode cL_law 1143 = .ok (.ireturn, 1) := dk_172 (dk_at dksL_law_38 15 rfl rfl)
theorem dL_law_1144 : decode cL_law 1144 = .ok (.iload 5, 2) := dk_21 5 (dk_at dksL_law_38 16 rfl rfl)
theorem dL_law_1146 : decode cL_law 1146 = .ok (.ifCond .ne 15, 3) := dk_154 0 15 (dk_at dksL_law_38 18 rfl rfl)
theorem dL_law_1149 : decode cL_law 1149 = .ok (.aload_n 3, 1) := dk_45 (dk_at dksL_law_38 21 rfl rfl)
theorem dL_law_1150 : decode cL_law 1150 = .ok (.iconst 0, 1) := dk_3 (dk_at dksL_law_38 22 rfl rfl)
theorem dL_law_1151 : decode cL_law 1151 = .ok (.laload, 1) := dk_47 (dk_at dksL_law_38 23 rfl rfl)
theorem dL_law_1152 : decode cL_law 1152 = .ok (.iload 6, 2) := dk_21 6 (dk_at dksL_law_39 0 rfl rfl)
theorem dL_law_1154 : decode cL_law 1154 = .ok (.i2l, 1) := dk_133 (dk_at dksL_law_39 2 rfl rfl)
theorem dL_law_1155 : decode cL_law 1155 = .ok (.lcmp, 1) := dk_148 (dk_at dksL_law_39 3 rfl rfl)
theorem dL_law_1156 : decode cL_law 1156 = .ok (.ifCond .eq 5, 3) := dk_153 0 5 (dk_at dksL_law_39 4 rfl rfl)
theorem dL_law_1159 : decode cL_law 1159 = .ok (.iconst 0, 1) := dk_3 (dk_at dksL_law_39 7 rfl rfl)
theorem dL_law_1160 : decode cL_law 1160 = .ok (.ireturn, 1) := dk_172 (dk_at dksL_law_39 8 rfl rfl)
theorem dL_law_1161 : decode cL_law 1161 = .ok (.goto 2464, 3) := dk_167 9 160 (dk_at dksL_law_39 9 rfl rfl)
theorem dL_law_1164 : decode cL_law 1164 = .ok (.aload_n 1, 1) := dk_43 (dk_at dksL_law_39 12 rfl rfl)
theorem dL_law_1165 : decode cL_law 1165 = .ok (.aload_n 0, 1) := dk_42 (dk_at dksL_law_39 13 rfl rfl)
theorem dL_law_1166 : decode cL_law 1166 = .ok (.iload 4, 2) := dk_21 4 (dk_at dksL_law_39 14 rfl rfl)
theorem dL_law_1168 : decode cL_law 1168 = .ok (.iconst 1, 1) := dk_4 (dk_at dksL_law_39 16 rfl rfl)
theorem dL_law_1169 : decode cL_law 1169 = .ok (.iadd, 1) := dk_96 (dk_at dksL_law_39 17 rfl rfl)
theorem dL_law_1170 : decode cL_law 1170 = .ok (.iaload, 1) := dk_46 (dk_at dksL_law_39 18 rfl rfl)
theorem dL_law_1171 : decode cL_law 1171 = .ok (.aload_n 0, 1) := dk_42 (dk_at dksL_law_39 19 rfl rfl)
theorem dL_law_1172 : decode cL_law 1172 = .ok (.iload 4, 2) := dk_21 4 (dk_at dksL_law_39 20 rfl rfl)
theorem dL_law_1174 : decode cL_law 1174 = .ok (.iconst 2, 1) := dk_5 (dk_at dksL_law_39 22 rfl rfl)
theorem dL_law_1175 : decode cL_law 1175 = .ok (.iadd, 1) := dk_96 (dk_at dksL_law_39 23 rfl rfl)
theorem dL_law_1176 : decode cL_law 1176 = .ok (.iaload, 1) := dk_46 (dk_at dksL_law_40 0 rfl rfl)
theorem dL_law_1177 : decode cL_law 1177 = .ok (.aload_n 0, 1) := dk_42 (dk_at dksL_law_40 1 rfl rfl)
theorem dL_law_1178 : decode cL_law 1178 = .ok (.iload 4, 2) := dk_21 4 (dk_at dksL_law_40 2 rfl rfl)
theorem dL_law_1180 : decode cL_law 1180 = .ok (.iconst 3, 1) := dk_6 (dk_at dksL_law_40 4 rfl rfl)
theorem dL_law_1181 : decode cL_law 1181 = .ok (.iadd, 1) := dk_96 (dk_at dksL_law_40 5 rfl rfl)
theorem dL_law_1182 : decode cL_law 1182 = .ok (.iaload, 1) := dk_46 (dk_at dksL_law_40 6 rfl rfl)
theorem dL_law_1183 : decode cL_law 1183 = .ok (.aload_n 3, 1) := dk_45 (dk_at dksL_law_40 7 rfl rfl)
theorem dL_law_1184 : decode cL_law 1184 = .ok (.invokestatic 222, 3) := dk_184 0 222 (dk_at dksL_law_40 8 rfl rfl)
theorem dL_law_1187 : decode cL_law 1187 = .ok (.istore 5, 2) := dk_54 5 (dk_at dksL_law_40 11 rfl rfl)
theorem dL_law_1189 : decode cL_law 1189 = .ok (.aload_n 2, 1) := dk_44 (dk_at dksL_law_40 13 rfl rfl)
theorem dL_law_1190 : decode cL_law 1190 = .ok (.aload_n 0, 1) := dk_42 (dk_at dksL_law_40 14 rfl rfl)
theorem dL_law_1191 : decode cL_law 1191 = .ok (.iload 4, 2) := dk_21 4 (dk_at dksL_law_40 15 rfl rfl)
theorem dL_law_1193 : decode cL_law 1193 = .ok (.iconst 1, 1) := dk_4 (dk_at dksL_law_40 17 rfl rfl)
theorem dL_law_1194 : decode cL_law 1194 = .ok (.iadd, 1) := dk_96 (dk_at dksL_law_40 18 rfl rfl)
theorem dL_law_1195 : decode cL_law 1195 = .ok (.iaload, 1) := dk_46 (dk_at dksL_law_40 19 rfl rfl)
theorem dL_law_1196 : decode cL_law 1196 = .ok (.aload_n 0, 1) := dk_42 (dk_at dksL_law_40 20 rfl rfl)
theorem dL_law_1197 : decode cL_law 1197 = .ok (.iload 4, 2) := dk_21 4 (dk_at dksL_law_40 21 rfl rfl)
theorem dL_law_1199 : decode cL_law 1199 = .ok (.iconst 2, 1) := dk_5 (dk_at dksL_law_40 23 rfl rfl)
theorem dL_law_1200 : decode cL_law 1200 = .ok (.iadd, 1) := dk_96 (dk_at dksL_law_41 0 rfl rfl)
theorem dL_law_1201 : decode cL_law 1201 = .ok (.iaload, 1) := dk_46 (dk_at dksL_law_41 1 rfl rfl)
theorem dL_law_1202 : decode cL_law 1202 = .ok (.aload_n 0, 1) := dk_42 (dk_at dksL_law_41 2 rfl rfl)
theorem dL_law_1203 : decode cL_law 1203 = .ok (.iload 4, 2) := dk_21 4 (dk_at dksL_law_41 3 rfl rfl)
theorem dL_law_1205 : decode cL_law 1205 = .ok (.iconst 3, 1) := dk_6 (dk_at dksL_law_41 5 rfl rfl)
theorem dL_law_1206 : decode cL_law 1206 = .ok (.iadd, 1) := dk_96 (dk_at dksL_law_41 6 rfl rfl)
theorem dL_law_1207 : decode cL_law 1207 = .ok (.iaload, 1) := dk_46 (dk_at dksL_law_41 7 rfl rfl)
theorem dL_law_1208 : decode cL_law 1208 = .ok (.invokevirtual 224, 3) := dk_182 0 224 (dk_at dksL_law_41 8 rfl rfl)
theorem dL_law_1211 : decode cL_law 1211 = .ok (.istore 6, 2) := dk_54 6 (dk_at dksL_law_41 11 rfl rfl)
theorem dL_law_1213 : decode cL_law 1213 = .ok (.aload_n 2, 1) := dk_44 (dk_at dksL_law_41 13 rfl rfl)
theorem dL_law_1214 : decode cL_law 1214 = .ok (.invokevirtual 180, 3) := dk_182 0 180 (dk_at dksL_law_41 14 rfl rfl)
theorem dL_law_1217 : decode cL_law 1217 = .ok (.iload 5, 2) := dk_21 5 (dk_at dksL_law_41 17 rfl rfl)
theorem dL_law_1219 : decode cL_law 1219 = .ok (.if_icmp .eq 5, 3) := dk_159 0 5 (dk_at dksL_law_41 19 rfl rfl)
theorem dL_law_1222 : decode cL_law 1222 = .ok (.iconst 0, 1) := dk_3 (dk_at dksL_law_41 22 rfl rfl)
theorem dL_law_1223 : decode cL_law 1223 = .ok (.ireturn, 1) := dk_172 (dk_at dksL_law_41 23 rfl rfl)
theorem dL_law_1224 : decode cL_law 1224 = .ok (.iload 5, 2) := dk_21 5 (dk_at dksL_law_42 0 rfl rfl)
theorem dL_law_1226 : decode cL_law 1226 = .ok (.ifCond .ne 15, 3) := dk_154 0 15 (dk_at dksL_law_42 2 rfl rfl)
theorem dL_law_1229 : decode cL_law 1229 = .ok (.aload_n 3, 1) := dk_45 (dk_at dksL_law_42 5 rfl rfl)
theorem dL_law_1230 : decode cL_law 1230 = .ok (.iconst 0, 1) := dk_3 (dk_at dksL_law_42 6 rfl rfl)
theorem dL_law_1231 : decode cL_law 1231 = .ok (.laload, 1) := dk_47 (dk_at dksL_law_42 7 rfl rfl)
theorem dL_law_1232 : decode cL_law 1232 = .ok (.iload 6, 2) := dk_21 6 (dk_at dksL_law_42 8 rfl rfl)
theorem dL_law_1234 : decode cL_law 1234 = .ok (.i2l, 1) := dk_133 (dk_at dksL_law_42 10 rfl rfl)
theorem dL_law_1235 : decode cL_law 1235 = .ok (.lcmp, 1) := dk_148 (dk_at dksL_law_42 11 rfl rfl)
theorem dL_law_1236 : decode cL_law 1236 = .ok (.ifCond .eq 5, 3) := dk_153 0 5 (dk_at dksL_law_42 12 rfl rfl)
theorem dL_law_1239 : decode cL_law 1239 = .ok (.iconst 0, 1) := dk_3 (dk_at dksL_law_42 15 rfl rfl)
theorem dL_law_1240 : decode cL_law 1240 = .ok (.ireturn, 1) := dk_172 (dk_at dksL_law_42 16 rfl rfl)
theorem dL_law_1241 : decode cL_law 1241 = .ok (.goto 2384, 3) := dk_167 9 80 (dk_at dksL_law_42 17 rfl rfl)
theorem dL_law_1244 : decode cL_law 1244 = .ok (.aload_n 1, 1) := dk_43 (dk_at dksL_law_42 20 rfl rfl)
theorem dL_law_1245 : decode cL_law 1245 = .ok (.aload_n 0, 1) := dk_42 (dk_at dksL_law_42 21 rfl rfl)
theorem dL_law_1246 : decode cL_law 1246 = .ok (.iload 4, 2) := dk_21 4 (dk_at dksL_law_42 22 rfl rfl)
theorem dL_law_1248 : decode cL_law 1248 = .ok (.iconst 1, 1) := dk_4 (dk_at dksL_law_43 0 rfl rfl)
theorem dL_law_1249 : decode cL_law 1249 = .ok (.iadd, 1) := dk_96 (dk_at dksL_law_43 1 rfl rfl)
theorem dL_law_1250 : decode cL_law 1250 = .ok (.iaload, 1) := dk_46 (dk_at dksL_law_43 2 rfl rfl)
theorem dL_law_1251 : decode cL_law 1251 = .ok (.aload_n 0, 1) := dk_42 (dk_at dksL_law_43 3 rfl rfl)
theorem dL_law_1252 : decode cL_law 1252 = .ok (.iload 4, 2) := dk_21 4 (dk_at dksL_law_43 4 rfl rfl)
theorem dL_law_1254 : decode cL_law 1254 = .ok (.iconst 2, 1) := dk_5 (dk_at dksL_law_43 6 rfl rfl)
theorem dL_law_1255 : decode cL_law 1255 = .ok (.iadd, 1) := dk_96 (dk_at dksL_law_43 7 rfl rfl)
theorem dL_law_1256 : decode cL_law 1256 = .ok (.iaload, 1) := dk_46 (dk_at dksL_law_43 8 rfl rfl)
theorem dL_law_1257 : decode cL_law 1257 = .ok (.aload_n 0, 1) := dk_42 (dk_at dksL_law_43 9 rfl rfl)
theorem dL_law_1258 : decode cL_law 1258 = .ok (.iload 4, 2) := dk_21 4 (dk_at dksL_law_43 10 rfl rfl)
theorem dL_law_1260 : decode cL_law 1260 = .ok (.iconst 3, 1) := dk_6 (dk_at dksL_law_43 12 rfl rfl)
theorem dL_law_1261 : decode cL_law 1261 = .ok (.iadd, 1) := dk_96 (dk_at dksL_law_43 13 rfl rfl)
theorem dL_law_1262 : decode cL_law 1262 = .ok (.iaload, 1) := dk_46 (dk_at dksL_law_43 14 rfl rfl)
theorem dL_law_1263 : decode cL_law 1263 = .ok (.aload_n 3, 1) := dk_45 (dk_at dksL_law_43 15 rfl rfl)
theorem dL_law_1264 : decode cL_law 1264 = .ok (.invokestatic 225, 3) := dk_184 0 225 (dk_at dksL_law_43 16 rfl rfl)
theorem dL_law_1267 : decode cL_law 1267 = .ok (.istore 5, 2) := dk_54 5 (dk_at dksL_law_43 19 rfl rfl)
theorem dL_law_1269 : decode cL_law 1269 = .ok (.aload_n 2, 1) := dk_44 (dk_at dksL_law_43 21 rfl rfl)
theorem dL_law_1270 : decode cL_law 1270 = .ok (.aload_n 0, 1) := dk_42 (dk_at dksL_law_43 22 rfl rfl)
theorem dL_law_1271 : decode cL_law 1271 = .ok (.iload 4, 2) := dk_21 4 (dk_at dksL_law_44 0 rfl rfl)
theorem dL_law_1273 : decode cL_law 1273 = .ok (.iconst 1, 1) := dk_4 (dk_at dksL_law_44 2 rfl rfl)
theorem dL_law_1274 : decode cL_law 1274 = .ok (.iadd, 1) := dk_96 (dk_at dksL_law_44 3 rfl rfl)
theorem dL_law_1275 : decode cL_law 1275 = .ok (.iaload, 1) := dk_46 (dk_at dksL_law_44 4 rfl rfl)
theorem dL_law_1276 : decode cL_law 1276 = .ok (.aload_n 0, 1) := dk_42 (dk_at dksL_law_44 5 rfl rfl)
theorem dL_law_1277 : decode cL_law 1277 = .ok (.iload 4, 2) := dk_21 4 (dk_at dksL_law_44 6 rfl rfl)
theorem dL_law_1279 : decode cL_law 1279 = .ok (.iconst 2, 1) := dk_5 (dk_at dksL_law_44 8 rfl rfl)
theorem dL_law_1280 : decode cL_law 1280 = .ok (.iadd, 1) := dk_96 (dk_at dksL_law_44 9 rfl rfl)
theorem dL_law_1281 : decode cL_law 1281 = .ok (.iaload, 1) := dk_46 (dk_at dksL_law_44 10 rfl rfl)
theorem dL_law_1282 : decode cL_law 1282 = .ok (.aload_n 0, 1) := dk_42 (dk_at dksL_law_44 11 rfl rfl)
theorem dL_law_1283 : decode cL_law 1283 = .ok (.iload 4, 2) := dk_21 4 (dk_at dksL_law_44 12 rfl rfl)
theorem dL_law_1285 : decode cL_law 1285 = .ok (.iconst 3, 1) := dk_6 (dk_at dksL_law_44 14 rfl rfl)
theorem dL_law_1286 : decode cL_law 1286 = .ok (.iadd, 1) := dk_96 (dk_at dksL_law_44 15 rfl rfl)
theorem dL_law_1287 : decode cL_law 1287 = .ok (.iaload, 1) := dk_46 (dk_at dksL_law_44 16 rfl rfl)
theorem dL_law_1288 : decode cL_law 1288 = .ok (.invokevirtual 227, 3) := dk_182 0 227 (dk_at dksL_law_44 17 rfl rfl)
theorem dL_law_1291 : decode cL_law 1291 = .ok (.istore 6, 2) := dk_54 6 (dk_at dksL_law_44 20 rfl rfl)
theorem dL_law_1293 : decode cL_law 1293 = .ok (.aload_n 2, 1) := dk_44 (dk_at dksL_law_44 22 rfl rfl)
theorem dL_law_1294 : decode cL_law 1294 = .ok (.invokevirtual 180, 3) := dk_182 0 180 (dk_at dksL_law_45 0 rfl rfl)
theorem dL_law_1297 : decode cL_law 1297 = .ok (.iload 5, 2) := dk_21 5 (dk_at dksL_law_45 3 rfl rfl)
theorem dL_law_1299 : decode cL_law 1299 = .ok (.if_icmp .eq 5, 3) := dk_159 0 5 (dk_at dksL_law_45 5 rfl rfl)
theorem dL_law_1302 : decode cL_law 1302 = .ok (.iconst 0, 1) := dk_3 (dk_at dksL_law_45 8 rfl rfl)
theorem dL_law_1303 : decode cL_law 1303 = .ok (.ireturn, 1) := dk_172 (dk_at dksL_law_45 9 rfl rfl)
theorem dL_law_1304 : decode cL_law 1304 = .ok (.iload 5, 2) := dk_21 5 (dk_at dksL_law_45 10 rfl rfl)
theorem dL_law_1306 : decode cL_law 1306 = .ok (.ifCond .ne 15, 3) := dk_154 0 15 (dk_at dksL_law_45 12 rfl rfl)
theorem dL_law_1309 : decode cL_law 1309 = .ok (.aload_n 3, 1) := dk_45 (dk_at dksL_law_45 15 rfl rfl)
theorem dL_law_1310 : decode cL_law 1310 = .ok (.iconst 0, 1) := dk_3 (dk_at dksL_law_45 16 rfl rfl)
theorem dL_law_1311 : decode cL_law 1311 = .ok (.laload, 1) := dk_47 (dk_at dksL_law_45 17 rfl rfl)
theorem dL_law_1312 : decode cL_law 1312 = .ok (.iload 6, 2) := dk_21 6 (dk_at dksL_law_45 18 rfl rfl)
theorem dL_law_1314 : decode cL_law 1314 = .ok (.i2l, 1) := dk_133 (dk_at dksL_law_45 20 rfl rfl)
theorem dL_law_1315 : decode cL_law 1315 = .ok (.lcmp, 1) := dk_148 (dk_at dksL_law_45 21 rfl rfl)
theorem dL_law_1316 : decode cL_law 1316 = .ok (.ifCond .eq 5, 3) := dk_153 0 5 (dk_at dksL_law_46 0 rfl rfl)
theorem dL_law_1319 : decode cL_law 1319 = .ok (.iconst 0, 1) := dk_3 (dk_at dksL_law_46 3 rfl rfl)
theorem dL_law_1320 : decode cL_law 1320 = .ok (.ireturn, 1) := dk_172 (dk_at dksL_law_46 4 rfl rfl)
theorem dL_law_1321 : decode cL_law 1321 = .ok (.goto 2304, 3) := dk_167 9 0 (dk_at dksL_law_46 5 rfl rfl)
theorem dL_law_1324 : decode cL_law 1324 = .ok (.aload_n 1, 1) := dk_43 (dk_at dksL_law_46 8 rfl rfl)
theorem dL_law_1325 : decode cL_law 1325 = .ok (.aload_n 0, 1) := dk_42 (dk_at dksL_law_46 9 rfl rfl)
theorem dL_law_1326 : decode cL_law 1326 = .ok (.iload 4, 2) := dk_21 4 (dk_at dksL_law_46 10 rfl rfl)
theorem dL_law_1328 : decode cL_law 1328 = .ok (.iconst 1, 1) := dk_4 (dk_at dksL_law_46 12 rfl rfl)
theorem dL_law_1329 : decode cL_law 1329 = .ok (.iadd, 1) := dk_96 (dk_at dksL_law_46 13 rfl rfl)
theorem dL_law_1330 : decode cL_law 1330 = .ok (.iaload, 1) := dk_46 (dk_at dksL_law_46 14 rfl rfl)
theorem dL_law_1331 : decode cL_law 1331 = .ok (.aload_n 0, 1) := dk_42 (dk_at dksL_law_46 15 rfl rfl)
theorem dL_law_1332 : decode cL_law 1332 = .ok (.iload 4, 2) := dk_21 4 (dk_at dksL_law_46 16 rfl rfl)
theorem dL_law_1334 : decode cL_law 1334 = .ok (.iconst 2, 1) := dk_5 (dk_at dksL_law_46 18 rfl rfl)
theorem dL_law_1335 : decode cL_law 1335 = .ok (.iadd, 1) := dk_96 (dk_at dksL_law_46 19 rfl rfl)
theorem dL_law_1336 : decode cL_law 1336 = .ok (.iaload, 1) := dk_46 (dk_at dksL_law_46 20 rfl rfl)
theorem dL_law_1337 : decode cL_law 1337 = .ok (.aload_n 3, 1) := dk_45 (dk_at dksL_law_46 21 rfl rfl)
theorem dL_law_1338 : decode cL_law 1338 = .ok (.invokestatic 228, 3) := dk_184 0 228 (dk_at dksL_law_47 0 rfl rfl)
theorem dL_law_1341 : decode cL_law 1341 = .ok (.istore 5, 2) := dk_54 5 (dk_at dksL_law_47 3 rfl rfl)
theorem dL_law_1343 : decode cL_law 1343 = .ok (.aload_n 2, 1) := dk_44 (dk_at dksL_law_47 5 rfl rfl)
theorem dL_law_1344 : decode cL_law 1344 = .ok (.aload_n 0, 1) := dk_42 (dk_at dksL_law_47 6 rfl rfl)
theorem dL_law_1345 : decode cL_law 1345 = .ok (.iload 4, 2) := dk_21 4 (dk_at dksL_law_47 7 rfl rfl)
theorem dL_law_1347 : decode cL_law 1347 = .ok (.iconst 1, 1) := dk_4 (dk_at dksL_law_47 9 rfl rfl)
theorem dL_law_1348 : decode cL_law 1348 = .ok (.iadd, 1) := dk_96 (dk_at dksL_law_47 10 rfl rfl)
theorem dL_law_1349 : decode cL_law 1349 = .ok (.iaload, 1) := dk_46 (dk_at dksL_law_47 11 rfl rfl)
theorem dL_law_1350 : decode cL_law 1350 = .ok (.aload_n 0, 1) := dk_42 (dk_at dksL_law_47 12 rfl rfl)
theorem dL_law_1351 : decode cL_law 1351 = .ok (.iload 4, 2) := dk_21 4 (dk_at dksL_law_47 13 rfl rfl)
theorem dL_law_1353 : decode cL_law 1353 = .ok (.iconst 2, 1) := dk_5 (dk_at dksL_law_47 15 rfl rfl)
theorem dL_law_1354 : decode cL_law 1354 = .ok (.iadd, 1) := dk_96 (dk_at dksL_law_47 16 rfl rfl)
theorem dL_law_1355 : decode cL_law 1355 = .ok (.iaload, 1) := dk_46 (dk_at dksL_law_47 17 rfl rfl)
theorem dL_law_1356 : decode cL_law 1356 = .ok (.invokevirtual 230, 3) := dk_182 0 230 (dk_at dksL_law_47 18 rfl rfl)
theorem dL_law_1359 : decode cL_law 1359 = .ok (.istore 6, 2) := dk_54 6 (dk_at dksL_law_47 21 rfl rfl)
theorem dL_law_1361 : decode cL_law 1361 = .ok (.aload_n 2, 1) := dk_44 (dk_at dksL_law_47 23 rfl rfl)
theorem dL_law_1362 : decode cL_law 1362 = .ok (.invokevirtual 180, 3) := dk_182 0 180 (dk_at dksL_law_48 0 rfl rfl)
theorem dL_law_1365 : decode cL_law 1365 = .ok (.iload 5, 2) := dk_21 5 (dk_at dksL_law_48 3 rfl rfl)
theorem dL_law_1367 : decode cL_law 1367 = .ok (.if_icmp .eq 5, 3) := dk_159 0 5 (dk_at dksL_law_48 5 rfl rfl)
theorem dL_law_1370 : decode cL_law 1370 = .ok (.iconst 0, 1) := dk_3 (dk_at dksL_law_48 8 rfl rfl)
theorem dL_law_1371 : decode cL_law 1371 = .ok (.ireturn, 1) := dk_172 (dk_at dksL_law_48 9 rfl rfl)
theorem dL_law_1372 : decode cL_law 1372 = .ok (.iload 5, 2) := dk_21 5 (dk_at dksL_law_48 10 rfl rfl)
theorem dL_law_1374 : decode cL_law 1374 = .ok (.ifCond .ne 15, 3) := dk_154 0 15 (dk_at dksL_law_48 12 rfl rfl)
theorem dL_law_1377 : decode cL_law 1377 = .ok (.aload_n 3, 1) := dk_45 (dk_at dksL_law_48 15 rfl rfl)
theorem dL_law_1378 : decode cL_law 1378 = .ok (.iconst 0, 1) := dk_3 (dk_at dksL_law_48 16 rfl rfl)
theorem dL_law_1379 : decode cL_law 1379 = .ok (.laload, 1) := dk_47 (dk_at dksL_law_48 17 rfl rfl)
theorem dL_law_1380 : decode cL_law 1380 = .ok (.iload 6, 2) := dk_21 6 (dk_at dksL_law_48 18 rfl rfl)
theorem dL_law_1382 : decode cL_law 1382 = .ok (.i2l, 1) := dk_133 (dk_at dksL_law_48 20 rfl rfl)
theorem dL_law_1383 : decode cL_law 1383 = .ok (.lcmp, 1) := dk_148 (dk_at dksL_law_48 21 rfl rfl)
theorem dL_law_1384 : decode cL_law 1384 = .ok (.ifCond .eq 5, 3) := dk_153 0 5 (dk_at dksL_law_49 0 rfl rfl)
theorem dL_law_1387 : decode cL_law 1387 = .ok (.iconst 0, 1) := dk_3 (dk_at dksL_law_49 3 rfl rfl)
theorem dL_law_1388 : decode cL_law 1388 = .ok (.ireturn, 1) := dk_172 (dk_at dksL_law_49 4 rfl rfl)
theorem dL_law_1389 : decode cL_law 1389 = .ok (.goto 2236, 3) := dk_167 8 188 (dk_at dksL_law_49 5 rfl rfl)
theorem dL_law_1392 : decode cL_law 1392 = .ok (.aload_n 1, 1) := dk_43 (dk_at dksL_law_49 8 rfl rfl)
theorem dL_law_1393 : decode cL_law 1393 = .ok (.aload_n 0, 1) := dk_42 (dk_at dksL_law_49 9 rfl rfl)
theorem dL_law_1394 : decode cL_law 1394 = .ok (.iload 4, 2) := dk_21 4 (dk_at dksL_law_49 10 rfl rfl)
theorem dL_law_1396 : decode cL_law 1396 = .ok (.iconst 1, 1) := dk_4 (dk_at dksL_law_49 12 rfl rfl)
theorem dL_law_1397 : decode cL_law 1397 = .ok (.iadd, 1) := dk_96 (dk_at dksL_law_49 13 rfl rfl)
theorem dL_law_1398 : decode cL_law 1398 = .ok (.iaload, 1) := dk_46 (dk_at dksL_law_49 14 rfl rfl)
theorem dL_law_1399 : decode cL_law 1399 = .ok (.aload_n 3, 1) := dk_45 (dk_at dksL_law_49 15 rfl rfl)
theorem dL_law_1400 : decode cL_law 1400 = .ok (.invokestatic 231, 3) := dk_184 0 231 (dk_at dksL_law_49 16 rfl rfl)
theorem dL_law_1403 : decode cL_law 1403 = .ok (.istore 5, 2) := dk_54 5 (dk_at dksL_law_49 19 rfl rfl)
theorem dL_law_1405 : decode cL_law 1405 = .ok (.aload_n 2, 1) := dk_44 (dk_at dksL_law_49 21 rfl rfl)
theorem dL_law_1406 : decode cL_law 1406 = .ok (.aload_n 0, 1) := dk_42 (dk_at dksL_law_49 22 rfl rfl)
theorem dL_law_1407 : decode cL_law 1407 = .ok (.iload 4, 2) := dk_21 4 (dk_at dksL_law_50 0 rfl rfl)
theorem dL_law_1409 : decode cL_law 1409 = .ok (.iconst 1, 1) := dk_4 (dk_at dksL_law_50 2 rfl rfl)
theorem dL_law_1410 : decode cL_law 1410 = .ok (.iadd, 1) := dk_96 (dk_at dksL_law_50 3 rfl rfl)
theorem dL_law_1411 : decode cL_law 1411 = .ok (.iaload, 1) := dk_46 (dk_at dksL_law_50 4 rfl rfl)
theorem dL_law_1412 : decode cL_law 1412 = .ok (.invokevirtual 233, 3) := dk_182 0 233 (dk_at dksL_law_50 5 rfl rfl)
theorem dL_law_1415 : decode cL_law 1415 = .ok (.istore 6, 2) := dk_54 6 (dk_at dksL_law_50 8 rfl rfl)
theorem dL_law_1417 : decode cL_law 1417 = .ok (.aload_n 2, 1) := dk_44 (dk_at dksL_law_50 10 rfl rfl)
theorem dL_law_1418 : decode cL_law 1418 = .ok (.invokevirtual 180, 3) := dk_182 0 180 (dk_at dksL_law_50 11 rfl rfl)
theorem dL_law_1421 : decode cL_law 1421 = .ok (.iload 5, 2) := dk_21 5 (dk_at dksL_law_50 14 rfl rfl)
theorem dL_law_1423 : decode cL_law 1423 = .ok (.if_icmp .eq 5, 3) := dk_159 0 5 (dk_at dksL_law_50 16 rfl rfl)
theorem dL_law_1426 : decode cL_law 1426 = .ok (.iconst 0, 1) := dk_3 (dk_at dksL_law_50 19 rfl rfl)
theorem dL_law_1427 : decode cL_law 1427 = .ok (.ireturn, 1) := dk_172 (dk_at dksL_law_50 20 rfl rfl)
theorem dL_law_1428 : decode cL_law 1428 = .ok (.iload 5, 2) := dk_21 5 (dk_at dksL_law_50 21 rfl rfl)
theorem dL_law_1430 : decode cL_law 1430 = .ok (.ifCond .ne 15, 3) := dk_154 0 15 (dk_at dksL_law_51 0 rfl rfl)
theorem dL_law_1433 : decode cL_law 1433 = .ok (.aload_n 3, 1) := dk_45 (dk_at dksL_law_51 3 rfl rfl)
theorem dL_law_1434 : decode cL_law 1434 = .ok (.iconst 0, 1) := dk_3 (dk_at dksL_law_51 4 rfl rfl)
theorem dL_law_1435 : decode cL_law 1435 = .ok (.laload, 1) := dk_47 (dk_at dksL_law_51 5 rfl rfl)
theorem dL_law_1436 : decode cL_law 1436 = .ok (.iload 6, 2) := dk_21 6 (dk_at dksL_law_51 6 rfl rfl)
theorem dL_law_1438 : decode cL_law 1438 = .ok (.i2l, 1) := dk_133 (dk_at dksL_law_51 8 rfl rfl)
theorem dL_law_1439 : decode cL_law 1439 = .ok (.lcmp, 1) := dk_148 (dk_at dksL_law_51 9 rfl rfl)
theorem dL_law_1440 : decode cL_law 1440 = .ok (.ifCond .eq 5, 3) := dk_153 0 5 (dk_at dksL_law_51 10 rfl rfl)
theorem dL_law_1443 : decode cL_law 1443 = .ok (.iconst 0, 1) := dk_3 (dk_at dksL_law_51 13 rfl rfl)
theorem dL_law_1444 : decode cL_law 1444 = .ok (.ireturn, 1) := dk_172 (dk_at dksL_law_51 14 rfl rfl)
theorem dL_law_1445 : decode cL_law 1445 = .ok (.goto 2180, 3) := dk_167 8 132 (dk_at dksL_law_51 15 rfl rfl)
theorem dL_law_1448 : decode cL_law 1448 = .ok (.aload_n 1, 1) := dk_43 (dk_at dksL_law_51 18 rfl rfl)
theorem dL_law_1449 : decode cL_law 1449 = .ok (.aload_n 0, 1) := dk_42 (dk_at dksL_law_51 19 rfl rfl)
theorem dL_law_1450 : decode cL_law 1450 = .ok (.iload 4, 2) := dk_21 4 (dk_at dksL_law_51 20 rfl rfl)
theorem dL_law_1452 : decode cL_law 1452 = .ok (.iconst 1, 1) := dk_4 (dk_at dksL_law_51 22 rfl rfl)
theorem dL_law_1453 : decode cL_law 1453 = .ok (.iadd, 1) := dk_96 (dk_at dksL_law_51 23 rfl rfl)
theorem dL_law_1454 : decode cL_law 1454 = .ok (.iaload, 1) := dk_46 (dk_at dksL_law_52 0 rfl rfl)
theorem dL_law_1455 : decode cL_law 1455 = .ok (.aload_n 3, 1) := dk_45 (dk_at dksL_law_52 1 rfl rfl)
theorem dL_law_1456 : decode cL_law 1456 = .ok (.invokestatic 234, 3) := dk_184 0 234 (dk_at dksL_law_52 2 rfl rfl)
theorem dL_law_1459 : decode cL_law 1459 = .ok (.istore 5, 2) := dk_54 5 (dk_at dksL_law_52 5 rfl rfl)
theorem dL_law_1461 : decode cL_law 1461 = .ok (.aload_n 2, 1) := dk_44 (dk_at dksL_law_52 7 rfl rfl)
theorem dL_law_1462 : decode cL_law 1462 = .ok (.aload_n 0, 1) := dk_42 (dk_at dksL_law_52 8 rfl rfl)
theorem dL_law_1463 : decode cL_law 1463 = .ok (.iload 4, 2) := dk_21 4 (dk_at dksL_law_52 9 rfl rfl)
theorem dL_law_1465 : decode cL_law 1465 = .ok (.iconst 1, 1) := dk_4 (dk_at dksL_law_52 11 rfl rfl)
theorem dL_law_1466 : decode cL_law 1466 = .ok (.iadd, 1) := dk_96 (dk_at dksL_law_52 12 rfl rfl)
theorem dL_law_1467 : decode cL_law 1467 = .ok (.iaload, 1) := dk_46 (dk_at dksL_law_52 13 rfl rfl)
theorem dL_law_1468 : decode cL_law 1468 = .ok (.invokevirtual 236, 3) := dk_182 0 236 (dk_at dksL_law_52 14 rfl rfl)
theorem dL_law_1471 : decode cL_law 1471 = .ok (.istore 6, 2) := dk_54 6 (dk_at dksL_law_52 17 rfl rfl)
theorem dL_law_1473 : decode cL_law 1473 = .ok (.aload_n 2, 1) := dk_44 (dk_at dksL_law_52 19 rfl rfl)
theorem dL_law_1474 : decode cL_law 1474 = .ok (.invokevirtual 180, 3) := dk_182 0 180 (dk_at dksL_law_52 20 rfl rfl)
theorem dL_law_1477 : decode cL_law 1477 = .ok (.iload 5, 2) := dk_21 5 (dk_at dksL_law_53 0 rfl rfl)
theorem dL_law_1479 : decode cL_law 1479 = .ok (.if_icmp .eq 5, 3) := dk_159 0 5 (dk_at dksL_law_53 2 rfl rfl)
theorem dL_law_1482 : decode cL_law 1482 = .ok (.iconst 0, 1) := dk_3 (dk_at dksL_law_53 5 rfl rfl)
theorem dL_law_1483 : decode cL_law 1483 = .ok (.ireturn, 1) := dk_172 (dk_at dksL_law_53 6 rfl rfl)
theorem dL_law_1484 : decode cL_law 1484 = .ok (.iload 5, 2) := dk_21 5 (dk_at dksL_law_53 7 rfl rfl)
theorem dL_law_1486 : decode cL_law 1486 = .ok (.ifCond .ne 15, 3) := dk_154 0 15 (dk_at dksL_law_53 9 rfl rfl)
theorem dL_law_1489 : decode cL_law 1489 = .ok (.aload_n 3, 1) := dk_45 (dk_at dksL_law_53 12 rfl rfl)
theorem dL_law_1490 : decode cL_law 1490 = .ok (.iconst 0, 1) := dk_3 (dk_at dksL_law_53 13 rfl rfl)
theorem dL_law_1491 : decode cL_law 1491 = .ok (.laload, 1) := dk_47 (dk_at dksL_law_53 14 rfl rfl)
theorem dL_law_1492 : decode cL_law 1492 = .ok (.iload 6, 2) := dk_21 6 (dk_at dksL_law_53 15 rfl rfl)
theorem dL_law_1494 : decode cL_law 1494 = .ok (.i2l, 1) := dk_133 (dk_at dksL_law_53 17 rfl rfl)
theorem dL_law_1495 : decode cL_law 1495 = .ok (.lcmp, 1) := dk_148 (dk_at dksL_law_53 18 rfl rfl)
theorem dL_law_1496 : decode cL_law 1496 = .ok (.ifCond .eq 5, 3) := dk_153 0 5 (dk_at dksL_law_53 19 rfl rfl)
theorem dL_law_1499 : decode cL_law 1499 = .ok (.iconst 0, 1) := dk_3 (dk_at dksL_law_53 22 rfl rfl)
theorem dL_law_1500 : decode cL_law 1500 = .ok (.ireturn, 1) := dk_172 (dk_at dksL_law_53 23 rfl rfl)
theorem dL_law_1501 : decode cL_law 1501 = .ok (.goto 2124, 3) := dk_167 8 76 (dk_at dksL_law_54 0 rfl rfl)
theorem dL_law_1504 : decode cL_law 1504 = .ok (.aload_n 1, 1) := dk_43 (dk_at dksL_law_54 3 rfl rfl)
theorem dL_law_1505 : decode cL_law 1505 = .ok (.aload_n 0, 1) := dk_42 (dk_at dksL_law_54 4 rfl rfl)
theorem dL_law_1506 : decode cL_law 1506 = .ok (.iload 4, 2) := dk_21 4 (dk_at dksL_law_54 5 rfl rfl)
theorem dL_law_1508 : decode cL_law 1508 = .ok (.iconst 1, 1) := dk_4 (dk_at dksL_law_54 7 rfl rfl)
theorem dL_law_1509 : decode cL_law 1509 = .ok (.iadd, 1) := dk_96 (dk_at dksL_law_54 8 rfl rfl)
theorem dL_law_1510 : decode cL_law 1510 = .ok (.iaload, 1) := dk_46 (dk_at dksL_law_54 9 rfl rfl)
theorem dL_law_1511 : decode cL_law 1511 = .ok (.aload_n 3, 1) := dk_45 (dk_at dksL_law_54 10 rfl rfl)
theorem dL_law_1512 : decode cL_law 1512 = .ok (.invokestatic 237, 3) := dk_184 0 237 (dk_at dksL_law_54 11 rfl rfl)
theorem dL_law_1515 : decode cL_law 1515 = .ok (.istore 5, 2) := dk_54 5 (dk_at dksL_law_54 14 rfl rfl)
theorem dL_law_1517 : decode cL_law 1517 = .ok (.aload_n 2, 1) := dk_44 (dk_at dksL_law_54 16 rfl rfl)
theorem dL_law_1518 : decode cL_law 1518 = .ok (.aload_n 0, 1) := dk_42 (dk_at dksL_law_54 17 rfl rfl)
theorem dL_law_1519 : decode cL_law 1519 = .ok (.iload 4, 2) := dk_21 4 (dk_at dksL_law_54 18 rfl rfl)
theorem dL_law_1521 : decode cL_law 1521 = .ok (.iconst 1, 1) := dk_4 (dk_at dksL_law_54 20 rfl rfl)
theorem dL_law_1522 : decode cL_law 1522 = .ok (.iadd, 1) := dk_96 (dk_at dksL_law_54 21 rfl rfl)
theorem dL_law_1523 : decode cL_law 1523 = .ok (.iaload, 1) := dk_46 (dk_at dksL_law_54 22 rfl rfl)
theorem dL_law_1524 : decode cL_law 1524 = .ok (.invokevirtual 239, 3) := dk_182 0 239 (dk_at dksL_law_55 0 rfl rfl)
theorem dL_law_1527 : decode cL_law 1527 = .ok (.istore 6, 2) := dk_54 6 (dk_at dksL_law_55 3 rfl rfl)
theorem dL_law_1529 : decode cL_law 1529 = .ok (.aload_n 2, 1) := dk_44 (dk_at dksL_law_55 5 rfl rfl)
theorem dL_law_1530 : decode cL_law 1530 = .ok (.invokevirtual 180, 3) := dk_182 0 180 (dk_at dksL_law_55 6 rfl rfl)
theorem dL_law_1533 : decode cL_law 1533 = .ok (.iload 5, 2) := dk_21 5 (dk_at dksL_law_55 9 rfl rfl)
theorem dL_law_1535 : decode cL_law 1535 = .ok (.if_icmp .eq 5, 3) := dk_159 0 5 (dk_at dksL_law_55 11 rfl rfl)
theorem dL_law_1538 : decode cL_law 1538 = .ok (.iconst 0, 1) := dk_3 (dk_at dksL_law_55 14 rfl rfl)
theorem dL_law_1539 : decode cL_law 1539 = .ok (.ireturn, 1) := dk_172 (dk_at dksL_law_55 15 rfl rfl)
theorem dL_law_1540 : decode cL_law 1540 = .ok (.iload 5, 2) := dk_21 5 (dk_at dksL_law_55 16 rfl rfl)
theorem dL_law_1542 : decode cL_law 1542 = .ok (.ifCond .ne 15, 3) := dk_154 0 15 (dk_at dksL_law_55 18 rfl rfl)
theorem dL_law_1545 : decode cL_law 1545 = .ok (.aload_n 3, 1) := dk_45 (dk_at dksL_law_55 21 rfl rfl)
theorem dL_law_1546 : decode cL_law 1546 = .ok (.iconst 0, 1) := dk_3 (dk_at dksL_law_55 22 rfl rfl)
theorem dL_law_1547 : decode cL_law 1547 = .ok (.laload, 1) := dk_47 (dk_at dksL_law_55 23 rfl rfl)
theorem dL_law_1548 : decode cL_law 1548 = .ok (.iload 6, 2) := dk_21 6 (dk_at dksL_law_56 0 rfl rfl)
theorem dL_law_1550 : decode cL_law 1550 = .ok (.i2l, 1) := dk_133 (dk_at dksL_law_56 2 rfl rfl)
theorem dL_law_1551 : decode cL_law 1551 = .ok (.lcmp, 1) := dk_148 (dk_at dksL_law_56 3 rfl rfl)
theorem dL_law_1552 : decode cL_law 1552 = .ok (.ifCond .eq 5, 3) := dk_153 0 5 (dk_at dksL_law_56 4 rfl rfl)
theorem dL_law_1555 : decode cL_law 1555 = .ok (.iconst 0, 1) := dk_3 (dk_at dksL_law_56 7 rfl rfl)
theorem dL_law_1556 : decode cL_law 1556 = .ok (.ireturn, 1) := dk_172 (dk_at dksL_law_56 8 rfl rfl)
theorem dL_law_1557 : decode cL_law 1557 = .ok (.goto 2068, 3) := dk_167 8 20 (dk_at dksL_law_56 9 rfl rfl)
theorem dL_law_1560 : decode cL_law 1560 = .ok (.aload_n 1, 1) := dk_43 (dk_at dksL_law_56 12 rfl rfl)
theorem dL_law_1561 : decode cL_law 1561 = .ok (.aload_n 0, 1) := dk_42 (dk_at dksL_law_56 13 rfl rfl)
theorem dL_law_1562 : decode cL_law 1562 = .ok (.iload 4, 2) := dk_21 4 (dk_at dksL_law_56 14 rfl rfl)
theorem dL_law_1564 : decode cL_law 1564 = .ok (.iconst 1, 1) := dk_4 (dk_at dksL_law_56 16 rfl rfl)
theorem dL_law_1565 : decode cL_law 1565 = .ok (.iadd, 1) := dk_96 (dk_at dksL_law_56 17 rfl rfl)
theorem dL_law_1566 : decode cL_law 1566 = .ok (.iaload, 1) := dk_46 (dk_at dksL_law_56 18 rfl rfl)
theorem dL_law_1567 : decode cL_law 1567 = .ok (.aload_n 0, 1) := dk_42 (dk_at dksL_law_56 19 rfl rfl)
theorem dL_law_1568 : decode cL_law 1568 = .ok (.iload 4, 2) := dk_21 4 (dk_at dksL_law_56 20 rfl rfl)
theorem dL_law_1570 : decode cL_law 1570 = .ok (.iconst 2, 1) := dk_5 (dk_at dksL_law_56 22 rfl rfl)
theorem dL_law_1571 : decode cL_law 1571 = .ok (.iadd, 1) := dk_96 (dk_at dksL_law_56 23 rfl rfl)
theorem dL_law_1572 : decode cL_law 1572 = .ok (.iaload, 1) := dk_46 (dk_at dksL_law_57 0 rfl rfl)
theorem dL_law_1573 : decode cL_law 1573 = .ok (.aload_n 3, 1) := dk_45 (dk_at dksL_law_57 1 rfl rfl)
theorem dL_law_1574 : decode cL_law 1574 = .ok (.invokestatic 240, 3) := dk_184 0 240 (dk_at dksL_law_57 2 rfl rfl)
theorem dL_law_1577 : decode cL_law 1577 = .ok (.istore 5, 2) := dk_54 5 (dk_at dksL_law_57 5 rfl rfl)
theorem dL_law_1579 : decode cL_law 1579 = .ok (.aload_n 2, 1) := dk_44 (dk_at dksL_law_57 7 rfl rfl)
theorem dL_law_1580 : decode cL_law 1580 = .ok (.aload_n 0, 1) := dk_42 (dk_at dksL_law_57 8 rfl rfl)
theorem dL_law_1581 : decode cL_law 1581 = .ok (.iload 4, 2) := dk_21 4 (dk_at dksL_law_57 9 rfl rfl)
theorem dL_law_1583 : decode cL_law 1583 = .ok (.iconst 1, 1) := dk_4 (dk_at dksL_law_57 11 rfl rfl)
theorem dL_law_1584 : decode cL_law 1584 = .ok (.iadd, 1) := dk_96 (dk_at dksL_law_57 12 rfl rfl)
theorem dL_law_1585 : decode cL_law 1585 = .ok (.iaload, 1) := dk_46 (dk_at dksL_law_57 13 rfl rfl)
theorem dL_law_1586 : decode cL_law 1586 = .ok (.aload_n 0, 1) := dk_42 (dk_at dksL_law_57 14 rfl rfl)
theorem dL_law_1587 : decode cL_law 1587 = .ok (.iload 4, 2) := dk_21 4 (dk_at dksL_law_57 15 rfl rfl)
theorem dL_law_1589 : decode cL_law 1589 = .ok (.iconst 2, 1) := dk_5 (dk_at dksL_law_57 17 rfl rfl)
theorem dL_law_1590 : decode cL_law 1590 = .ok (.iadd, 1) := dk_96 (dk_at dksL_law_57 18 rfl rfl)
theorem dL_law_1591 : decode cL_law 1591 = .ok (.iaload, 1) := dk_46 (dk_at dksL_law_57 19 rfl rfl)
theorem dL_law_1592 : decode cL_law 1592 = .ok (.invokevirtual 242, 3) := dk_182 0 242 (dk_at dksL_law_57 20 rfl rfl)
theorem dL_law_1595 : decode cL_law 1595 = .ok (.istore 6, 2) := dk_54 6 (dk_at dksL_law_58 0 rfl rfl)
theorem dL_law_1597 : decode cL_law 1597 = .ok (.aload_n 2, 1) := dk_44 (dk_at dksL_law_58 2 rfl rfl)
theorem dL_law_1598 : decode cL_law 1598 = .ok (.invokevirtual 180, 3) := dk_182 0 180 (dk_at dksL_law_58 3 rfl rfl)
theorem dL_law_1601 : decode cL_law 1601 = .ok (.iload 5, 2) := dk_21 5 (dk_at dksL_law_58 6 rfl rfl)
theorem dL_law_1603 : decode cL_law 1603 = .ok (.if_icmp .eq 5, 3) := dk_159 0 5 (dk_at dksL_law_58 8 rfl rfl)
theorem dL_law_1606 : decode cL_law 1606 = .ok (.iconst 0, 1) := dk_3 (dk_at dksL_law_58 11 rfl rfl)
theorem dL_law_1607 : decode cL_law 1607 = .ok (.ireturn, 1) := dk_172 (dk_at dksL_law_58 12 rfl rfl)
theorem dL_law_1608 : decode cL_law 1608 = .ok (.iload 5, 2) := dk_21 5 (dk_at dksL_law_58 13 rfl rfl)
theorem dL_law_1610 : decode cL_law 1610 = .ok (.ifCond .ne 15, 3) := dk_154 0 15 (dk_at dksL_law_58 15 rfl rfl)
theorem dL_law_1613 : decode cL_law 1613 = .ok (.aload_n 3, 1) := dk_45 (dk_at dksL_law_58 18 rfl rfl)
theorem dL_law_1614 : decode cL_law 1614 = .ok (.iconst 0, 1) := dk_3 (dk_at dksL_law_58 19 rfl rfl)
theorem dL_law_1615 : decode cL_law 1615 = .ok (.laload, 1) := dk_47 (dk_at dksL_law_58 20 rfl rfl)
theorem dL_law_1616 : decode cL_law 1616 = .ok (.iload 6, 2) := dk_21 6 (dk_at dksL_law_58 21 rfl rfl)
theorem dL_law_1618 : decode cL_law 1618 = .ok (.i2l, 1) := dk_133 (dk_at dksL_law_58 23 rfl rfl)
theorem dL_law_1619 : decode cL_law 1619 = .ok (.lcmp, 1) := dk_148 (dk_at dksL_law_59 0 rfl rfl)
theorem dL_law_1620 : decode cL_law 1620 = .ok (.ifCond .eq 5, 3) := dk_153 0 5 (dk_at dksL_law_59 1 rfl rfl)
theorem dL_law_1623 : decode cL_law 1623 = .ok (.iconst 0, 1) := dk_3 (dk_at dksL_law_59 4 rfl rfl)
theorem dL_law_1624 : decode cL_law 1624 = .ok (.ireturn, 1) := dk_172 (dk_at dksL_law_59 5 rfl rfl)
theorem dL_law_1625 : decode cL_law 1625 = .ok (.goto 2000, 3) := dk_167 7 208 (dk_at dksL_law_59 6 rfl rfl)
theorem dL_law_1628 : decode cL_law 1628 = .ok (.aload_n 1, 1) := dk_43 (dk_at dksL_law_59 9 rfl rfl)
theorem dL_law_1629 : decode cL_law 1629 = .ok (.aload_n 0, 1) := dk_42 (dk_at dksL_law_59 10 rfl rfl)
theorem dL_law_1630 : decode cL_law 1630 = .ok (.iload 4, 2) := dk_21 4 (dk_at dksL_law_59 11 rfl rfl)
theorem dL_law_1632 : decode cL_law 1632 = .ok (.iconst 1, 1) := dk_4 (dk_at dksL_law_59 13 rfl rfl)
theorem dL_law_1633 : decode cL_law 1633 = .ok (.iadd, 1) := dk_96 (dk_at dksL_law_59 14 rfl rfl)
theorem dL_law_1634 : decode cL_law 1634 = .ok (.iaload, 1) := dk_46 (dk_at dksL_law_59 15 rfl rfl)
theorem dL_law_1635 : decode cL_law 1635 = .ok (.aload_n 0, 1) := dk_42 (dk_at dksL_law_59 16 rfl rfl)
theorem dL_law_1636 : decode cL_law 1636 = .ok (.iload 4, 2) := dk_21 4 (dk_at dksL_law_59 17 rfl rfl)
theorem dL_law_1638 : decode cL_law 1638 = .ok (.iconst 2, 1) := dk_5 (dk_at dksL_law_59 19 rfl rfl)
theorem dL_law_1639 : decode cL_law 1639 = .ok (.iadd, 1) := dk_96 (dk_at dksL_law_59 20 rfl rfl)
theorem dL_law_1640 : decode cL_law 1640 = .ok (.iaload, 1) := dk_46 (dk_at dksL_law_59 21 rfl rfl)
theorem dL_law_1641 : decode cL_law 1641 = .ok (.aload_n 0, 1) := dk_42 (dk_at dksL_law_59 22 rfl rfl)
theorem dL_law_1642 : decode cL_law 1642 = .ok (.iload 4, 2) := dk_21 4 (dk_at dksL_law_60 0 rfl rfl)
theorem dL_law_1644 : decode cL_law 1644 = .ok (.iconst 3, 1) := dk_6 (dk_at dksL_law_60 2 rfl rfl)
theorem dL_law_1645 : decode cL_law 1645 = .ok (.iadd, 1) := dk_96 (dk_at dksL_law_60 3 rfl rfl)
theorem dL_law_1646 : decode cL_law 1646 = .ok (.iaload, 1) := dk_46 (dk_at dksL_law_60 4 rfl rfl)
theorem dL_law_1647 : decode cL_law 1647 = .ok (.aload_n 3, 1) := dk_45 (dk_at dksL_law_60 5 rfl rfl)
theorem dL_law_1648 : decode cL_law 1648 = .ok (.invokestatic 243, 3) := dk_184 0 243 (dk_at dksL_law_60 6 rfl rfl)
theorem dL_law_1651 : decode cL_law 1651 = .ok (.istore 5, 2) := dk_54 5 (dk_at dksL_law_60 9 rfl rfl)
theorem dL_law_1653 : decode cL_law 1653 = .ok (.aload_n 2, 1) := dk_44 (dk_at dksL_law_60 11 rfl rfl)
theorem dL_law_1654 : decode cL_law 1654 = .ok (.aload_n 0, 1) := dk_42 (dk_at dksL_law_60 12 rfl rfl)
theorem dL_law_1655 : decode cL_law 1655 = .ok (.iload 4, 2) := dk_21 4 (dk_at dksL_law_60 13 rfl rfl)
theorem dL_law_1657 : decode cL_law 1657 = .ok (.iconst 1, 1) := dk_4 (dk_at dksL_law_60 15 rfl rfl)
theorem dL_law_1658 : decode cL_law 1658 = .ok (.iadd, 1) := dk_96 (dk_at dksL_law_60 16 rfl rfl)
theorem dL_law_1659 : decode cL_law 1659 = .ok (.iaload, 1) := dk_46 (dk_at dksL_law_60 17 rfl rfl)
theorem dL_law_1660 : decode cL_law 1660 = .ok (.aload_n 0, 1) := dk_42 (dk_at dksL_law_60 18 rfl rfl)
theorem dL_law_1661 : decode cL_law 1661 = .ok (.iload 4, 2) := dk_21 4 (dk_at dksL_law_60 19 rfl rfl)
theorem dL_law_1663 : decode cL_law 1663 = .ok (.iconst 2, 1) := dk_5 (dk_at dksL_law_60 21 rfl rfl)
theorem dL_law_1664 : decode cL_law 1664 = .ok (.iadd, 1) := dk_96 (dk_at dksL_law_60 22 rfl rfl)
theorem dL_law_1665 : decode cL_law 1665 = .ok (.iaload, 1) := dk_46 (dk_at dksL_law_60 23 rfl rfl)
theorem dL_law_1666 : decode cL_law 1666 = .ok (.aload_n 0, 1) := dk_42 (dk_at dksL_law_61 0 rfl rfl)
theorem dL_law_1667 : decode cL_law 1667 = .ok (.iload 4, 2) := dk_21 4 (dk_at dksL_law_61 1 rfl rfl)
theorem dL_law_1669 : decode cL_law 1669 = .ok (.iconst 3, 1) := dk_6 (dk_at dksL_law_61 3 rfl rfl)
theorem dL_law_1670 : decode cL_law 1670 = .ok (.iadd, 1) := dk_96 (dk_at dksL_law_61 4 rfl rfl)
theorem dL_law_1671 : decode cL_law 1671 = .ok (.iaload, 1) := dk_46 (dk_at dksL_law_61 5 rfl rfl)
theorem dL_law_1672 : decode cL_law 1672 = .ok (.invokevirtual 245, 3) := dk_182 0 245 (dk_at dksL_law_61 6 rfl rfl)
theorem dL_law_1675 : decode cL_law 1675 = .ok (.istore 6, 2) := dk_54 6 (dk_at dksL_law_61 9 rfl rfl)
theorem dL_law_1677 : decode cL_law 1677 = .ok (.aload_n 2, 1) := dk_44 (dk_at dksL_law_61 11 rfl rfl)
theorem dL_law_1678 : decode cL_law 1678 = .ok (.invokevirtual 180, 3) := dk_182 0 180 (dk_at dksL_law_61 12 rfl rfl)
theorem dL_law_1681 : decode cL_law 1681 = .ok (.iload 5, 2) := dk_21 5 (dk_at dksL_law_61 15 rfl rfl)
theorem dL_law_1683 : decode cL_law 1683 = .ok (.if_icmp .eq 5, 3) := dk_159 0 5 (dk_at dksL_law_61 17 rfl rfl)
theorem dL_law_1686 : decode cL_law 1686 = .ok (.iconst 0, 1) := dk_3 (dk_at dksL_law_61 20 rfl rfl)
theorem dL_law_1687 : decode cL_law 1687 = .ok (.ireturn, 1) := dk_172 (dk_at dksL_law_61 21 rfl rfl)
theorem dL_law_1688 : decode cL_law 1688 = .ok (.iload 5, 2) := dk_21 5 (dk_at dksL_law_61 22 rfl rfl)
theorem dL_law_1690 : decode cL_law 1690 = .ok (.ifCond .ne 15, 3) := dk_154 0 15 (dk_at dksL_law_62 0 rfl rfl)
theorem dL_law_1693 : decode cL_law 1693 = .ok (.aload_n 3, 1) := dk_45 (dk_at dksL_law_62 3 rfl rfl)
theorem dL_law_1694 : decode cL_law 1694 = .ok (.iconst 0, 1) := dk_3 (dk_at dksL_law_62 4 rfl rfl)
theorem dL_law_1695 : decode cL_law 1695 = .ok (.laload, 1) := dk_47 (dk_at dksL_law_62 5 rfl rfl)
theorem dL_law_1696 : decode cL_law 1696 = .ok (.iload 6, 2) := dk_21 6 (dk_at dksL_law_62 6 rfl rfl)
theorem dL_law_1698 : decode cL_law 1698 = .ok (.i2l, 1) := dk_133 (dk_at dksL_law_62 8 rfl rfl)
theorem dL_law_1699 : decode cL_law 1699 = .ok (.lcmp, 1) := dk_148 (dk_at dksL_law_62 9 rfl rfl)
theorem dL_law_1700 : decode cL_law 1700 = .ok (.ifCond .eq 5, 3) := dk_153 0 5 (dk_at dksL_law_62 10 rfl rfl)
theorem dL_law_1703 : decode cL_law 1703 = .ok (.iconst 0, 1) := dk_3 (dk_at dksL_law_62 13 rfl rfl)
theorem dL_law_1704 : decode cL_law 1704 = .ok (.ireturn, 1) := dk_172 (dk_at dksL_law_62 14 rfl rfl)
theorem dL_law_1705 : decode cL_law 1705 = .ok (.goto 1920, 3) := dk_167 7 128 (dk_at dksL_law_62 15 rfl rfl)
theorem dL_law_1708 : decode cL_law 1708 = .ok (.aload_n 1, 1) := dk_43 (dk_at dksL_law_62 18 rfl rfl)
theorem dL_law_1709 : decode cL_law 1709 = .ok (.invokevirtual 246, 3) := dk_182 0 246 (dk_at dksL_law_62 19 rfl rfl)
theorem dL_law_1712 : decode cL_law 1712 = .ok (.aload_n 2, 1) := dk_44 (dk_at dksL_law_62 22 rfl rfl)
theorem dL_law_1713 : decode cL_law 1713 = .ok (.invokevirtual 249, 3) := dk_182 0 249 (dk_at dksL_law_63 0 rfl rfl)
theorem dL_law_1716 : decode cL_law 1716 = .ok (.if_icmp .eq 1909, 3) := dk_159 7 117 (dk_at dksL_law_63 3 rfl rfl)
theorem dL_law_1719 : decode cL_law 1719 = .ok (.iconst 0, 1) := dk_3 (dk_at dksL_law_63 6 rfl rfl)
theorem dL_law_1720 : decode cL_law 1720 = .ok (.ireturn, 1) := dk_172 (dk_at dksL_law_63 7 rfl rfl)
theorem dL_law_1721 : decode cL_law 1721 = .ok (.aload_n 1, 1) := dk_43 (dk_at dksL_law_63 8 rfl rfl)
theorem dL_law_1722 : decode cL_law 1722 = .ok (.aload_n 0, 1) := dk_42 (dk_at dksL_law_63 9 rfl rfl)
theorem dL_law_1723 : decode cL_law 1723 = .ok (.iload 4, 2) := dk_21 4 (dk_at dksL_law_63 10 rfl rfl)
theorem dL_law_1725 : decode cL_law 1725 = .ok (.iconst 1, 1) := dk_4 (dk_at dksL_law_63 12 rfl rfl)
theorem dL_law_1726 : decode cL_law 1726 = .ok (.iadd, 1) := dk_96 (dk_at dksL_law_63 13 rfl rfl)
theorem dL_law_1727 : decode cL_law 1727 = .ok (.iaload, 1) := dk_46 (dk_at dksL_law_63 14 rfl rfl)
theorem dL_law_1728 : decode cL_law 1728 = .ok (.aload_n 3, 1) := dk_45 (dk_at dksL_law_63 15 rfl rfl)
theorem dL_law_1729 : decode cL_law 1729 = .ok (.invokestatic 250, 3) := dk_184 0 250 (dk_at dksL_law_63 16 rfl rfl)
theorem dL_law_1732 : decode cL_law 1732 = .ok (.istore 5, 2) := dk_54 5 (dk_at dksL_law_63 19 rfl rfl)
theorem dL_law_1734 : decode cL_law 1734 = .ok (.aload_n 2, 1) := dk_44 (dk_at dksL_law_63 21 rfl rfl)
theorem dL_law_1735 : decode cL_law 1735 = .ok (.aload_n 0, 1) := dk_42 (dk_at dksL_law_63 22 rfl rfl)
theorem dL_law_1736 : decode cL_law 1736 = .ok (.iload 4, 2) := dk_21 4 (dk_at dksL_law_64 0 rfl rfl)
theorem dL_law_1738 : decode cL_law 1738 = .ok (.iconst 1, 1) := dk_4 (dk_at dksL_law_64 2 rfl rfl)
theorem dL_law_1739 : decode cL_law 1739 = .ok (.iadd, 1) := dk_96 (dk_at dksL_law_64 3 rfl rfl)
theorem dL_law_1740 : decode cL_law 1740 = .ok (.iaload, 1) := dk_46 (dk_at dksL_law_64 4 rfl rfl)
theorem dL_law_1741 : decode cL_law 1741 = .ok (.invokevirtual 252, 3) := dk_182 0 252 (dk_at dksL_law_64 5 rfl rfl)
theorem dL_law_1744 : decode cL_law 1744 = .ok (.istore 6, 2) := dk_54 6 (dk_at dksL_law_64 8 rfl rfl)
theorem dL_law_1746 : decode cL_law 1746 = .ok (.aload_n 2, 1) := dk_44 (dk_at dksL_law_64 10 rfl rfl)
theorem dL_law_1747 : decode cL_law 1747 = .ok (.invokevirtual 180, 3) := dk_182 0 180 (dk_at dksL_law_64 11 rfl rfl)
theorem dL_law_1750 : decode cL_law 1750 = .ok (.iload 5, 2) := dk_21 5 (dk_at dksL_law_64 14 rfl rfl)
theorem dL_law_1752 : decode cL_law 1752 = .ok (.if_icmp .eq 5, 3) := dk_159 0 5 (dk_at dksL_law_64 16 rfl rfl)
theorem dL_law_1755 : decode cL_law 1755 = .ok (.iconst 0, 1) := dk_3 (dk_at dksL_law_64 19 rfl rfl)
theorem dL_law_1756 : decode cL_law 1756 = .ok (.ireturn, 1) := dk_172 (dk_at dksL_law_64 20 rfl rfl)
theorem dL_law_1757 : decode cL_law 1757 = .ok (.iload 5, 2) := dk_21 5 (dk_at dksL_law_64 21 rfl rfl)
theorem dL_law_1759 : decode cL_law 1759 = .ok (.ifCond .ne 15, 3) := dk_154 0 15 (dk_at dksL_law_65 0 rfl rfl)
theorem dL_law_1762 : decode cL_law 1762 = .ok (.aload_n 3, 1) := dk_45 (dk_at dksL_law_65 3 rfl rfl)
theorem dL_law_1763 : decode cL_law 1763 = .ok (.iconst 0, 1) := dk_3 (dk_at dksL_law_65 4 rfl rfl)
theorem dL_law_1764 : decode cL_law 1764 = .ok (.laload, 1) := dk_47 (dk_at dksL_law_65 5 rfl rfl)
theorem dL_law_1765 : decode cL_law 1765 = .ok (.iload 6, 2) := dk_21 6 (dk_at dksL_law_65 6 rfl rfl)
theorem dL_law_1767 : decode cL_law 1767 = .ok (.i2l, 1) := dk_133 (dk_at dksL_law_65 8 rfl rfl)
theorem dL_law_1768 : decode cL_law 1768 = .ok (.lcmp, 1) := dk_148 (dk_at dksL_law_65 9 rfl rfl)
theorem dL_law_1769 : decode cL_law 1769 = .ok (.ifCond .eq 5, 3) := dk_153 0 5 (dk_at dksL_law_65 10 rfl rfl)
theorem dL_law_1772 : decode cL_law 1772 = .ok (.iconst 0, 1) := dk_3 (dk_at dksL_law_65 13 rfl rfl)
theorem dL_law_1773 : decode cL_law 1773 = .ok (.ireturn, 1) := dk_172 (dk_at dksL_law_65 14 rfl rfl)
theorem dL_law_1774 : decode cL_law 1774 = .ok (.goto 1851, 3) := dk_167 7 59 (dk_at dksL_law_65 15 rfl rfl)
theorem dL_law_1777 : decode cL_law 1777 = .ok (.aload_n 1, 1) := dk_43 (dk_at dksL_law_65 18 rfl rfl)
theorem dL_law_1778 : decode cL_law 1778 = .ok (.aload_n 0, 1) := dk_42 (dk_at dksL_law_65 19 rfl rfl)
theorem dL_law_1779 : decode cL_law 1779 = .ok (.iload 4, 2) := dk_21 4 (dk_at dksL_law_65 20 rfl rfl)
theorem dL_law_1781 : decode cL_law 1781 = .ok (.iconst 1, 1) := dk_4 (dk_at dksL_law_65 22 rfl rfl)
theorem dL_law_1782 : decode cL_law 1782 = .ok (.iadd, 1) := dk_96 (dk_at dksL_law_65 23 rfl rfl)
theorem dL_law_1783 : decode cL_law 1783 = .ok (.iaload, 1) := dk_46 (dk_at dksL_law_66 0 rfl rfl)
theorem dL_law_1784 : decode cL_law 1784 = .ok (.aload_n 3, 1) := dk_45 (dk_at dksL_law_66 1 rfl rfl)
theorem dL_law_1785 : decode cL_law 1785 = .ok (.invokestatic 253, 3) := dk_184 0 253 (dk_at dksL_law_66 2 rfl rfl)
theorem dL_law_1788 : decode cL_law 1788 = .ok (.istore 5, 2) := dk_54 5 (dk_at dksL_law_66 5 rfl rfl)
theorem dL_law_1790 : decode cL_law 1790 = .ok (.aload_n 2, 1) := dk_44 (dk_at dksL_law_66 7 rfl rfl)
theorem dL_law_1791 : decode cL_law 1791 = .ok (.aload_n 0, 1) := dk_42 (dk_at dksL_law_66 8 rfl rfl)
theorem dL_law_1792 : decode cL_law 1792 = .ok (.iload 4, 2) := dk_21 4 (dk_at dksL_law_66 9 rfl rfl)
theorem dL_law_1794 : decode cL_law 1794 = .ok (.iconst 1, 1) := dk_4 (dk_at dksL_law_66 11 rfl rfl)
theorem dL_law_1795 : decode cL_law 1795 = .ok (.iadd, 1) := dk_96 (dk_at dksL_law_66 12 rfl rfl)
theorem dL_law_1796 : decode cL_law 1796 = .ok (.iaload, 1) := dk_46 (dk_at dksL_law_66 13 rfl rfl)
theorem dL_law_1797 : decode cL_law 1797 = .ok (.invokevirtual 255, 3) := dk_182 0 255 (dk_at dksL_law_66 14 rfl rfl)
theorem dL_law_1800 : decode cL_law 1800 = .ok (.istore 6, 2) := dk_54 6 (dk_at dksL_law_66 17 rfl rfl)
theorem dL_law_1802 : decode cL_law 1802 = .ok (.aload_n 2, 1) := dk_44 (dk_at dksL_law_66 19 rfl rfl)
theorem dL_law_1803 : decode cL_law 1803 = .ok (.invokevirtual 180, 3) := dk_182 0 180 (dk_at dksL_law_66 20 rfl rfl)
theorem dL_law_1806 : decode cL_law 1806 = .ok (.iload 5, 2) := dk_21 5 (dk_at dksL_law_67 0 rfl rfl)
theorem dL_law_1808 : decode cL_law 1808 = .ok (.if_icmp .eq 5, 3) := dk_159 0 5 (dk_at dksL_law_67 2 rfl rfl)
theorem dL_law_1811 : decode cL_law 1811 = .ok (.iconst 0, 1) := dk_3 (dk_at dksL_law_67 5 rfl rfl)
theorem dL_law_1812 : decode cL_law 1812 = .ok (.ireturn, 1) := dk_172 (dk_at dksL_law_67 6 rfl rfl)
theorem dL_law_1813 : decode cL_law 1813 = .ok (.iload 5, 2) := dk_21 5 (dk_at dksL_law_67 7 rfl rfl)
theorem dL_law_1815 : decode cL_law 1815 = .ok (.ifCond .ne 15, 3) := dk_154 0 15 (dk_at dksL_law_67 9 rfl rfl)
theorem dL_law_1818 : decode cL_law 1818 = .ok (.aload_n 3, 1) := dk_45 (dk_at dksL_law_67 12 rfl rfl)
theorem dL_law_1819 : decode cL_law 1819 = .ok (.iconst 0, 1) := dk_3 (dk_at dksL_law_67 13 rfl rfl)
theorem dL_law_1820 : decode cL_law 1820 = .ok (.laload, 1) := dk_47 (dk_at dksL_law_67 14 rfl rfl)
theorem dL_law_1821 : decode cL_law 1821 = .ok (.iload 6, 2) := dk_21 6 (dk_at dksL_law_67 15 rfl rfl)
theorem dL_law_1823 : decode cL_law 1823 = .ok (.i2l, 1) := dk_133 (dk_at dksL_law_67 17 rfl rfl)
theorem dL_law_1824 : decode cL_law 1824 = .ok (.lcmp, 1) := dk_148 (dk_at dksL_law_67 18 rfl rfl)
theorem dL_law_1825 : decode cL_law 1825 = .ok (.ifCond .eq 5, 3) := dk_153 0 5 (dk_at dksL_law_67 19 rfl rfl)
theorem dL_law_1828 : decode cL_law 1828 = .ok (.iconst 0, 1) := dk_3 (dk_at dksL_law_67 22 rfl rfl)
theorem dL_law_1829 : decode cL_law 1829 = .ok (.ireturn, 1) := dk_172 (dk_at dksL_law_67 23 rfl rfl)
theorem dL_law_1830 : decode cL_law 1830 = .ok (.goto 1795, 3) := dk_167 7 3 (dk_at dksL_law_68 0 rfl rfl)
theorem dL_law_1833 : decode cL_law 1833 = .ok (.aload_n 1, 1) := dk_43 (dk_at dksL_law_68 3 rfl rfl)
theorem dL_law_1834 : decode cL_law 1834 = .ok (.aload_n 0, 1) := dk_42 (dk_at dksL_law_68 4 rfl rfl)
theorem dL_law_1835 : decode cL_law 1835 = .ok (.iload 4, 2) := dk_21 4 (dk_at dksL_law_68 5 rfl rfl)
theorem dL_law_1837 : decode cL_law 1837 = .ok (.iconst 1, 1) := dk_4 (dk_at dksL_law_68 7 rfl rfl)
theorem dL_law_1838 : decode cL_law 1838 = .ok (.iadd, 1) := dk_96 (dk_at dksL_law_68 8 rfl rfl)
theorem dL_law_1839 : decode cL_law 1839 = .ok (.iaload, 1) := dk_46 (dk_at dksL_law_68 9 rfl rfl)
theorem dL_law_1840 : decode cL_law 1840 = .ok (.aload_n 3, 1) := dk_45 (dk_at dksL_law_68 10 rfl rfl)
theorem dL_law_1841 : decode cL_law 1841 = .ok (.invokestatic 256, 3) := dk_184 1 0 (dk_at dksL_law_68 11 rfl rfl)
theorem dL_law_1844 : decode cL_law 1844 = .ok (.istore 5, 2) := dk_54 5 (dk_at dksL_law_68 14 rfl rfl)
theorem dL_law_1846 : decode cL_law 1846 = .ok (.aload_n 2, 1) := dk_44 (dk_at dksL_law_68 16 rfl rfl)
theorem dL_law_1847 : decode cL_law 1847 = .ok (.aload_n 0, 1) := dk_42 (dk_at dksL_law_68 17 rfl rfl)
theorem dL_law_1848 : decode cL_law 1848 = .ok (.iload 4, 2) := dk_21 4 (dk_at dksL_law_68 18 rfl rfl)
theorem dL_law_1850 : decode cL_law 1850 = .ok (.iconst 1, 1) := dk_4 (dk_at dksL_law_68 20 rfl rfl)
theorem dL_law_1851 : decode cL_law 1851 = .ok (.iadd, 1) := dk_96 (dk_at dksL_law_68 21 rfl rfl)
theorem dL_law_1852 : decode cL_law 1852 = .ok (.iaload, 1) := dk_46 (dk_at dksL_law_68 22 rfl rfl)
theorem dL_law_1853 : decode cL_law 1853 = .ok (.invokevirtual 258, 3) := dk_182 1 2 (dk_at dksL_law_69 0 rfl rfl)
theorem dL_law_1856 : decode cL_law 1856 = .ok (.istore 6, 2) := dk_54 6 (dk_at dksL_law_69 3 rfl rfl)
theorem dL_law_1858 : decode cL_law 1858 = .ok (.aload_n 2, 1) := dk_44 (dk_at dksL_law_69 5 rfl rfl)
theorem dL_law_1859 : decode cL_law 1859 = .ok (.invokevirtual 180, 3) := dk_182 0 180 (dk_at dksL_law_69 6 rfl rfl)
theorem dL_law_1862 : decode cL_law 1862 = .ok (.iload 5, 2) := dk_21 5 (dk_at dksL_law_69 9 rfl rfl)
theorem dL_law_1864 : decode cL_law 1864 = .ok (.if_icmp .eq 5, 3) := dk_159 0 5 (dk_at dksL_law_69 11 rfl rfl)
theorem dL_law_1867 : decode cL_law 1867 = .ok (.iconst 0, 1) := dk_3 (dk_at dksL_law_69 14 rfl rfl)
theorem dL_law_1868 : decode cL_law 1868 = .ok (.ireturn, 1) := dk_172 (dk_at dksL_law_69 15 rfl rfl)
theorem dL_law_1869 : decode cL_law 1869 = .ok (.iload 5, 2) := dk_21 5 (dk_at dksL_law_69 16 rfl rfl)
theorem dL_law_1871 : decode cL_law 1871 = .ok (.ifCond .ne 15, 3) := dk_154 0 15 (dk_at dksL_law_69 18 rfl rfl)
theorem dL_law_1874 : decode cL_law 1874 = .ok (.aload_n 3, 1) := dk_45 (dk_at dksL_law_69 21 rfl rfl)
theorem dL_law_1875 : decode cL_law 1875 = .ok (.iconst 0, 1) := dk_3 (dk_at dksL_law_69 22 rfl rfl)
theorem dL_law_1876 : decode cL_law 1876 = .ok (.laload, 1) := dk_47 (dk_at dksL_law_69 23 rfl rfl)
theorem dL_law_1877 : decode cL_law 1877 = .ok (.iload 6, 2) := dk_21 6 (dk_at dksL_law_70 0 rfl rfl)
theorem dL_law_1879 : decode cL_law 1879 = .ok (.i2l, 1) := dk_133 (dk_at dksL_law_70 2 rfl rfl)
theorem dL_law_1880 : decode cL_law 1880 = .ok (.lcmp, 1) := dk_148 (dk_at dksL_law_70 3 rfl rfl)
theorem dL_law_1881 : decode cL_law 1881 = .ok (.ifCond .eq 5, 3) := dk_153 0 5 (dk_at dksL_law_70 4 rfl rfl)
theorem dL_law_1884 : decode cL_law 1884 = .ok (.iconst 0, 1) := dk_3 (dk_at dksL_law_70 7 rfl rfl)
theorem dL_law_1885 : decode cL_law 1885 = .ok (.ireturn, 1) := dk_172 (dk_at dksL_law_70 8 rfl rfl)
theorem dL_law_1886 : decode cL_law 1886 = .ok (.goto 1739, 3) := dk_167 6 203 (dk_at dksL_law_70 9 rfl rfl)
theorem dL_law_1889 : decode cL_law 1889 = .ok (.aload_n 1, 1) := dk_43 (dk_at dksL_law_70 12 rfl rfl)
theorem dL_law_1890 : decode cL_law 1890 = .ok (.aload_n 0, 1) := dk_42 (dk_at dksL_law_70 13 rfl rfl)
theorem dL_law_1891 : decode cL_law 1891 = .ok (.iload 4, 2) := dk_21 4 (dk_at dksL_law_70 14 rfl rfl)
theorem dL_law_1893 : decode cL_law 1893 = .ok (.iconst 1, 1) := dk_4 (dk_at dksL_law_70 16 rfl rfl)
theorem dL_law_1894 : decode cL_law 1894 = .ok (.iadd, 1) := dk_96 (dk_at dksL_law_70 17 rfl rfl)
theorem dL_law_1895 : decode cL_law 1895 = .ok (.iaload, 1) := dk_46 (dk_at dksL_law_70 18 rfl rfl)
theorem dL_law_1896 : decode cL_law 1896 = .ok (.aload_n 3, 1) := dk_45 (dk_at dksL_law_70 19 rfl rfl)
theorem dL_law_1897 : decode cL_law 1897 = .ok (.invokestatic 259, 3) := dk_184 1 3 (dk_at dksL_law_70 20 rfl rfl)
theorem dL_law_1900 : decode cL_law 1900 = .ok (.istore 5, 2) := dk_54 5 (dk_at dksL_law_71 0 rfl rfl)
theorem dL_law_1902 : decode cL_law 1902 = .ok (.aload_n 2, 1) := dk_44 (dk_at dksL_law_71 2 rfl rfl)
theorem dL_law_1903 : decode cL_law 1903 = .ok (.aload_n 0, 1) := dk_42 (dk_at dksL_law_71 3 rfl rfl)
theorem dL_law_1904 : decode cL_law 1904 = .ok (.iload 4, 2) := dk_21 4 (dk_at dksL_law_71 4 rfl rfl)
theorem dL_law_1906 : decode cL_law 1906 = .ok (.iconst 1, 1) := dk_4 (dk_at dksL_law_71 6 rfl rfl)
theorem dL_law_1907 : decode cL_law 1907 = .ok (.iadd, 1) := dk_96 (dk_at dksL_law_71 7 rfl rfl)
theorem dL_law_1908 : decode cL_law 1908 = .ok (.iaload, 1) := dk_46 (dk_at dksL_law_71 8 rfl rfl)
theorem dL_law_1909 : decode cL_law 1909 = .ok (.invokevirtual 261, 3) := dk_182 1 5 (dk_at dksL_law_71 9 rfl rfl)
theorem dL_law_1912 : decode cL_law 1912 = .ok (.istore 6, 2) := dk_54 6 (dk_at dksL_law_71 12 rfl rfl)
theorem dL_law_1914 : decode cL_law 1914 = .ok (.aload_n 2, 1) := dk_44 (dk_at dksL_law_71 14 rfl rfl)
theorem dL_law_1915 : decode cL_law 1915 = .ok (.invokevirtual 180, 3) := dk_182 0 180 (dk_at dksL_law_71 15 rfl rfl)
theorem dL_law_1918 : decode cL_law 1918 = .ok (.iload 5, 2) := dk_21 5 (dk_at dksL_law_71 18 rfl rfl)
theorem dL_law_1920 : decode cL_law 1920 = .ok (.if_icmp .eq 5, 3) := dk_159 0 5 (dk_at dksL_law_71 20 rfl rfl)
theorem dL_law_1923 : decode cL_law 1923 = .ok (.iconst 0, 1) := dk_3 (dk_at dksL_law_71 23 rfl rfl)
theorem dL_law_1924 : decode cL_law 1924 = .ok (.ireturn, 1) := dk_172 (dk_at dksL_law_72 0 rfl rfl)
theorem dL_law_1925 : decode cL_law 1925 = .ok (.iload 5, 2) := dk_21 5 (dk_at dksL_law_72 1 rfl rfl)
theorem dL_law_1927 : decode cL_law 1927 = .ok (.ifCond .ne 15, 3) := dk_154 0 15 (dk_at dksL_law_72 3 rfl rfl)
theorem dL_law_1930 : decode cL_law 1930 = .ok (.aload_n 3, 1) := dk_45 (dk_at dksL_law_72 6 rfl rfl)
theorem dL_law_1931 : decode cL_law 1931 = .ok (.iconst 0, 1) := dk_3 (dk_at dksL_law_72 7 rfl rfl)
theorem dL_law_1932 : decode cL_law 1932 = .ok (.laload, 1) := dk_47 (dk_at dksL_law_72 8 rfl rfl)
theorem dL_law_1933 : decode cL_law 1933 = .ok (.iload 6, 2) := dk_21 6 (dk_at dksL_law_72 9 rfl rfl)
theorem dL_law_1935 : decode cL_law 1935 = .ok (.i2l, 1) := dk_133 (dk_at dksL_law_72 11 rfl rfl)
theorem dL_law_1936 : decode cL_law 1936 = .ok (.lcmp, 1) := dk_148 (dk_at dksL_law_72 12 rfl rfl)
theorem dL_law_1937 : decode cL_law 1937 = .ok (.ifCond .eq 5, 3) := dk_153 0 5 (dk_at dksL_law_72 13 rfl rfl)
theorem dL_law_1940 : decode cL_law 1940 = .ok (.iconst 0, 1) := dk_3 (dk_at dksL_law_72 16 rfl rfl)
theorem dL_law_1941 : decode cL_law 1941 = .ok (.ireturn, 1) := dk_172 (dk_at dksL_law_72 17 rfl rfl)
theorem dL_law_1942 : decode cL_law 1942 = .ok (.goto 1683, 3) := dk_167 6 147 (dk_at dksL_law_72 18 rfl rfl)
theorem dL_law_1945 : decode cL_law 1945 = .ok (.aload_n 1, 1) := dk_43 (dk_at dksL_law_72 21 rfl rfl)
theorem dL_law_1946 : decode cL_law 1946 = .ok (.aload_n 0, 1) := dk_42 (dk_at dksL_law_72 22 rfl rfl)
theorem dL_law_1947 : decode cL_law 1947 = .ok (.iload 4, 2) := dk_21 4 (dk_at dksL_law_73 0 rfl rfl)
theorem dL_law_1949 : decode cL_law 1949 = .ok (.iconst 1, 1) := dk_4 (dk_at dksL_law_73 2 rfl rfl)
theorem dL_law_1950 : decode cL_law 1950 = .ok (.iadd, 1) := dk_96 (dk_at dksL_law_73 3 rfl rfl)
theorem dL_law_1951 : decode cL_law 1951 = .ok (.iaload, 1) := dk_46 (dk_at dksL_law_73 4 rfl rfl)
theorem dL_law_1952 : decode cL_law 1952 = .ok (.aload_n 3, 1) := dk_45 (dk_at dksL_law_73 5 rfl rfl)
theorem dL_law_1953 : decode cL_law 1953 = .ok (.invokestatic 262, 3) := dk_184 1 6 (dk_at dksL_law_73 6 rfl rfl)
theorem dL_law_1956 : decode cL_law 1956 = .ok (.istore 5, 2) := dk_54 5 (dk_at dksL_law_73 9 rfl rfl)
theorem dL_law_1958 : decode cL_law 1958 = .ok (.aload_n 2, 1) := dk_44 (dk_at dksL_law_73 11 rfl rfl)
theorem dL_law_1959 : decode cL_law 1959 = .ok (.aload_n 0, 1) := dk_42 (dk_at dksL_law_73 12 rfl rfl)
theorem dL_law_1960 : decode cL_law 1960 = .ok (.iload 4, 2) := dk_21 4 (dk_at dksL_law_73 13 rfl rfl)
theorem dL_law_1962 : decode cL_law 1962 = .ok (.iconst 1, 1) := dk_4 (dk_at dksL_law_73 15 rfl rfl)
theorem dL_law_1963 : decode cL_law 1963 = .ok (.iadd, 1) := dk_96 (dk_at dksL_law_73 16 rfl rfl)
theorem dL_law_1964 : decode cL_law 1964 = .ok (.iaload, 1) := dk_46 (dk_at dksL_law_73 17 rfl rfl)
theorem dL_law_1965 : decode cL_law 1965 = .ok (.invokevirtual 264, 3) := dk_182 1 8 (dk_at dksL_law_73 18 rfl rfl)
theorem dL_law_1968 : decode cL_law 1968 = .ok (.istore 6, 2) := dk_54 6 (dk_at dksL_law_73 21 rfl rfl)
theorem dL_law_1970 : decode cL_law 1970 = .ok (.aload_n 2, 1) := dk_44 (dk_at dksL_law_73 23 rfl rfl)
theorem dL_law_1971 : decode cL_law 1971 = .ok (.invokevirtual 180, 3) := dk_182 0 180 (dk_at dksL_law_74 0 rfl rfl)
theorem dL_law_1974 : decode cL_law 1974 = .ok (.iload 5, 2) := dk_21 5 (dk_at dksL_law_74 3 rfl rfl)
theorem dL_law_1976 : decode cL_law 1976 = .ok (.if_icmp .eq 5, 3) := dk_159 0 5 (dk_at dksL_law_74 5 rfl rfl)
theorem dL_law_1979 : decode cL_law 1979 = .ok (.iconst 0, 1) := dk_3 (dk_at dksL_law_74 8 rfl rfl)
theorem dL_law_1980 : decode cL_law 1980 = .ok (.ireturn, 1) := dk_172 (dk_at dksL_law_74 9 rfl rfl)
theorem dL_law_1981 : decode cL_law 1981 = .ok (.iload 5, 2) := dk_21 5 (dk_at dksL_law_74 10 rfl rfl)
theorem dL_law_1983 : decode cL_law 1983 = .ok (.ifCond .ne 15, 3) := dk_154 0 15 (dk_at dksL_law_74 12 rfl rfl)
theorem dL_law_1986 : decode cL_law 1986 = .ok (.aload_n 3, 1) := dk_45 (dk_at dksL_law_74 15 rfl rfl)
theorem dL_law_1987 : decode cL_law 1987 = .ok (.iconst 0, 1) := dk_3 (dk_at dksL_law_74 16 rfl rfl)
theorem dL_law_1988 : decode cL_law 1988 = .ok (.laload, 1) := dk_47 (dk_at dksL_law_74 17 rfl rfl)
theorem dL_law_1989 : decode cL_law 1989 = .ok (.iload 6, 2) := dk_21 6 (dk_at dksL_law_74 18 rfl rfl)
theorem dL_law_1991 : decode cL_law 1991 = .ok (.i2l, 1) := dk_133 (dk_at dksL_law_74 20 rfl rfl)
theorem dL_law_1992 : decode cL_law 1992 = .ok (.lcmp, 1) := dk_148 (dk_at dksL_law_74 21 rfl rfl)
theorem dL_law_1993 : decode cL_law 1993 = .ok (.ifCond .eq 5, 3) := dk_153 0 5 (dk_at dksL_law_75 0 rfl rfl)
theorem dL_law_1996 : decode cL_law 1996 = .ok (.iconst 0, 1) := dk_3 (dk_at dksL_law_75 3 rfl rfl)
theorem dL_law_1997 : decode cL_law 1997 = .ok (.ireturn, 1) := dk_172 (dk_at dksL_law_75 4 rfl rfl)
theorem dL_law_1998 : decode cL_law 1998 = .ok (.goto 1627, 3) := dk_167 6 91 (dk_at dksL_law_75 5 rfl rfl)
theorem dL_law_2001 : decode cL_law 2001 = .ok (.aload_n 1, 1) := dk_43 (dk_at dksL_law_75 8 rfl rfl)
theorem dL_law_2002 : decode cL_law 2002 = .ok (.aload_n 0, 1) := dk_42 (dk_at dksL_law_75 9 rfl rfl)
theorem dL_law_2003 : decode cL_law 2003 = .ok (.iload 4, 2) := dk_21 4 (dk_at dksL_law_75 10 rfl rfl)
theorem dL_law_2005 : decode cL_law 2005 = .ok (.iconst 1, 1) := dk_4 (dk_at dksL_law_75 12 rfl rfl)
theorem dL_law_2006 : decode cL_law 2006 = .ok (.iadd, 1) := dk_96 (dk_at dksL_law_75 13 rfl rfl)
theorem dL_law_2007 : decode cL_law 2007 = .ok (.iaload, 1) := dk_46 (dk_at dksL_law_75 14 rfl rfl)
theorem dL_law_2008 : decode cL_law 2008 = .ok (.aload_n 3, 1) := dk_45 (dk_at dksL_law_75 15 rfl rfl)
theorem dL_law_2009 : decode cL_law 2009 = .ok (.invokestatic 265, 3) := dk_184 1 9 (dk_at dksL_law_75 16 rfl rfl)
theorem dL_law_2012 : decode cL_law 2012 = .ok (.istore 5, 2) := dk_54 5 (dk_at dksL_law_75 19 rfl rfl)
theorem dL_law_2014 : decode cL_law 2014 = .ok (.aload_n 2, 1) := dk_44 (dk_at dksL_law_75 21 rfl rfl)
theorem dL_law_2015 : decode cL_law 2015 = .ok (.aload_n 0, 1) := dk_42 (dk_at dksL_law_75 22 rfl rfl)
theorem dL_law_2016 : decode cL_law 2016 = .ok (.iload 4, 2) := dk_21 4 (dk_at dksL_law_76 0 rfl rfl)
theorem dL_law_2018 : decode cL_law 2018 = .ok (.iconst 1, 1) := dk_4 (dk_at dksL_law_76 2 rfl rfl)
theorem dL_law_2019 : decode cL_law 2019 = .ok (.iadd, 1) := dk_96 (dk_at dksL_law_76 3 rfl rfl)
theorem dL_law_2020 : decode cL_law 2020 = .ok (.iaload, 1) := dk_46 (dk_at dksL_law_76 4 rfl rfl)
theorem dL_law_2021 : decode cL_law 2021 = .ok (.invokevirtual 267, 3) := dk_182 1 11 (dk_at dksL_law_76 5 rfl rfl)
theorem dL_law_2024 : decode cL_law 2024 = .ok (.istore 6, 2) := dk_54 6 (dk_at dksL_law_76 8 rfl rfl)
theorem dL_law_2026 : decode cL_law 2026 = .ok (.aload_n 2, 1) := dk_44 (dk_at dksL_law_76 10 rfl rfl)
theorem dL_law_2027 : decode cL_law 2027 = .ok (.invokevirtual 180, 3) := dk_182 0 180 (dk_at dksL_law_76 11 rfl rfl)
theorem dL_law_2030 : decode cL_law 2030 = .ok (.iload 5, 2) := dk_21 5 (dk_at dksL_law_76 14 rfl rfl)
theorem dL_law_2032 : decode cL_law 2032 = .ok (.if_icmp .eq 5, 3) := dk_159 0 5 (dk_at dksL_law_76 16 rfl rfl)
theorem dL_law_2035 : decode cL_law 2035 = .ok (.iconst 0, 1) := dk_3 (dk_at dksL_law_76 19 rfl rfl)
theorem dL_law_2036 : decode cL_law 2036 = .ok (.ireturn, 1) := dk_172 (dk_at dksL_law_76 20 rfl rfl)
theorem dL_law_2037 : decode cL_law 2037 = .ok (.iload 5, 2) := dk_21 5 (dk_at dksL_law_76 21 rfl rfl)
theorem dL_law_2039 : decode cL_law 2039 = .ok (.ifCond .ne 15, 3) := dk_154 0 15 (dk_at dksL_law_77 0 rfl rfl)
theorem dL_law_2042 : decode cL_law 2042 = .ok (.aload_n 3, 1) := dk_45 (dk_at dksL_law_77 3 rfl rfl)
theorem dL_law_2043 : decode cL_law 2043 = .ok (.iconst 0, 1) := dk_3 (dk_at dksL_law_77 4 rfl rfl)
theorem dL_law_2044 : decode cL_law 2044 = .ok (.laload, 1) := dk_47 (dk_at dksL_law_77 5 rfl rfl)
theorem dL_law_2045 : decode cL_law 2045 = .ok (.iload 6, 2) := dk_21 6 (dk_at dksL_law_77 6 rfl rfl)
theorem dL_law_2047 : decode cL_law 2047 = .ok (.i2l, 1) := dk_133 (dk_at dksL_law_77 8 rfl rfl)
theorem dL_law_2048 : decode cL_law 2048 = .ok (.lcmp, 1) := dk_148 (dk_at dksL_law_77 9 rfl rfl)
theorem dL_law_2049 : decode cL_law 2049 = .ok (.ifCond .eq 5, 3) := dk_153 0 5 (dk_at dksL_law_77 10 rfl rfl)
theorem dL_law_2052 : decode cL_law 2052 = .ok (.iconst 0, 1) := dk_3 (dk_at dksL_law_77 13 rfl rfl)
theorem dL_law_2053 : decode cL_law 2053 = .ok (.ireturn, 1) := dk_172 (dk_at dksL_law_77 14 rfl rfl)
theorem dL_law_2054 : decode cL_law 2054 = .ok (.goto 1571, 3) := dk_167 6 35 (dk_at dksL_law_77 15 rfl rfl)
theorem dL_law_2057 : decode cL_law 2057 = .ok (.aload_n 1, 1) := dk_43 (dk_at dksL_law_77 18 rfl rfl)
theorem dL_law_2058 : decode cL_law 2058 = .ok (.aload_n 0, 1) := dk_42 (dk_at dksL_law_77 19 rfl rfl)
theorem dL_law_2059 : decode cL_law 2059 = .ok (.iload 4, 2) := dk_21 4 (dk_at dksL_law_77 20 rfl rfl)
theorem dL_law_2061 : decode cL_law 2061 = .ok (.iconst 1, 1) := dk_4 (dk_at dksL_law_77 22 rfl rfl)
theorem dL_law_2062 : decode cL_law 2062 = .ok (.iadd, 1) := dk_96 (dk_at dksL_law_77 23 rfl rfl)
theorem dL_law_2063 : decode cL_law 2063 = .ok (.iaload, 1) := dk_46 (dk_at dksL_law_78 0 rfl rfl)
theorem dL_law_2064 : decode cL_law 2064 = .ok (.aload_n 3, 1) := dk_45 (dk_at dksL_law_78 1 rfl rfl)
theorem dL_law_2065 : decode cL_law 2065 = .ok (.invokestatic 268, 3) := dk_184 1 12 (dk_at dksL_law_78 2 rfl rfl)
theorem dL_law_2068 : decode cL_law 2068 = .ok (.istore 5, 2) := dk_54 5 (dk_at dksL_law_78 5 rfl rfl)
theorem dL_law_2070 : decode cL_law 2070 = .ok (.aload_n 2, 1) := dk_44 (dk_at dksL_law_78 7 rfl rfl)
theorem dL_law_2071 : decode cL_law 2071 = .ok (.aload_n 0, 1) := dk_42 (dk_at dksL_law_78 8 rfl rfl)
theorem dL_law_2072 : decode cL_law 2072 = .ok (.iload 4, 2) := dk_21 4 (dk_at dksL_law_78 9 rfl rfl)
theorem dL_law_2074 : decode cL_law 2074 = .ok (.iconst 1, 1) := dk_4 (dk_at dksL_law_78 11 rfl rfl)
theorem dL_law_2075 : decode cL_law 2075 = .ok (.iadd, 1) := dk_96 (dk_at dksL_law_78 12 rfl rfl)
theorem dL_law_2076 : decode cL_law 2076 = .ok (.iaload, 1) := dk_46 (dk_at dksL_law_78 13 rfl rfl)
theorem dL_law_2077 : decode cL_law 2077 = .ok (.invokevirtual 270, 3) := dk_182 1 14 (dk_at dksL_law_78 14 rfl rfl)
theorem dL_law_2080 : decode cL_law 2080 = .ok (.istore 6, 2) := dk_54 6 (dk_at dksL_law_78 17 rfl rfl)
theorem dL_law_2082 : decode cL_law 2082 = .ok (.aload_n 2, 1) := dk_44 (dk_at dksL_law_78 19 rfl rfl)
theorem dL_law_2083 : decode cL_law 2083 = .ok (.invokevirtual 180, 3) := dk_182 0 180 (dk_at dksL_law_78 20 rfl rfl)
theorem dL_law_2086 : decode cL_law 2086 = .ok (.iload 5, 2) := dk_21 5 (dk_at dksL_law_79 0 rfl rfl)
theorem dL_law_2088 : decode cL_law 2088 = .ok (.if_icmp .eq 5, 3) := dk_159 0 5 (dk_at dksL_law_79 2 rfl rfl)
theorem dL_law_2091 : decode cL_law 2091 = .ok (.iconst 0, 1) := dk_3 (dk_at dksL_law_79 5 rfl rfl)
theorem dL_law_2092 : decode cL_law 2092 = .ok (.ireturn, 1) := dk_172 (dk_at dksL_law_79 6 rfl rfl)
theorem dL_law_2093 : decode cL_law 2093 = .ok (.iload 5, 2) := dk_21 5 (dk_at dksL_law_79 7 rfl rfl)
theorem dL_law_2095 : decode cL_law 2095 = .ok (.ifCond .ne 15, 3) := dk_154 0 15 (dk_at dksL_law_79 9 rfl rfl)
theorem dL_law_2098 : decode cL_law 2098 = .ok (.aload_n 3, 1) := dk_45 (dk_at dksL_law_79 12 rfl rfl)
theorem dL_law_2099 : decode cL_law 2099 = .ok (.iconst 0, 1) := dk_3 (dk_at dksL_law_79 13 rfl rfl)
theorem dL_law_2100 : decode cL_law 2100 = .ok (.laload, 1) := dk_47 (dk_at dksL_law_79 14 rfl rfl)
theorem dL_law_2101 : decode cL_law 2101 = .ok (.iload 6, 2) := dk_21 6 (dk_at dksL_law_79 15 rfl rfl)
theorem dL_law_2103 : decode cL_law 2103 = .ok (.i2l, 1) := dk_133 (dk_at dksL_law_79 17 rfl rfl)
theorem dL_law_2104 : decode cL_law 2104 = .ok (.lcmp, 1) := dk_148 (dk_at dksL_law_79 18 rfl rfl)
theorem dL_law_2105 : decode cL_law 2105 = .ok (.ifCond .eq 5, 3) := dk_153 0 5 (dk_at dksL_law_79 19 rfl rfl)
theorem dL_law_2108 : decode cL_law 2108 = .ok (.iconst 0, 1) := dk_3 (dk_at dksL_law_79 22 rfl rfl)
theorem dL_law_2109 : decode cL_law 2109 = .ok (.ireturn, 1) := dk_172 (dk_at dksL_law_79 23 rfl rfl)
theorem dL_law_2110 : decode cL_law 2110 = .ok (.goto 1515, 3) := dk_167 5 235 (dk_at dksL_law_80 0 rfl rfl)
theorem dL_law_2113 : decode cL_law 2113 = .ok (.aload_n 1, 1) := dk_43 (dk_at dksL_law_80 3 rfl rfl)
theorem dL_law_2114 : decode cL_law 2114 = .ok (.invokevirtual 271, 3) := dk_182 1 15 (dk_at dksL_law_80 4 rfl rfl)
theorem dL_law_2117 : decode cL_law 2117 = .ok (.aload_n 2, 1) := dk_44 (dk_at dksL_law_80 7 rfl rfl)
theorem dL_law_2118 : decode cL_law 2118 = .ok (.invokevirtual 274, 3) := dk_182 1 18 (dk_at dksL_law_80 8 rfl rfl)
theorem dL_law_2121 : decode cL_law 2121 = .ok (.if_icmp .eq 1504, 3) := dk_159 5 224 (dk_at dksL_law_80 11 rfl rfl)
theorem dL_law_2124 : decode cL_law 2124 = .ok (.iconst 0, 1) := dk_3 (dk_at dksL_law_80 14 rfl rfl)
theorem dL_law_2125 : decode cL_law 2125 = .ok (.ireturn, 1) := dk_172 (dk_at dksL_law_80 15 rfl rfl)
theorem dL_law_2126 : decode cL_law 2126 = .ok (.aload_n 1, 1) := dk_43 (dk_at dksL_law_80 16 rfl rfl)
theorem dL_law_2127 : decode cL_law 2127 = .ok (.aload_n 0, 1) := dk_42 (dk_at dksL_law_80 17 rfl rfl)
theorem dL_law_2128 : decode cL_law 2128 = .ok (.iload 4, 2) := dk_21 4 (dk_at dksL_law_80 18 rfl rfl)
theorem dL_law_2130 : decode cL_law 2130 = .ok (.iconst 1, 1) := dk_4 (dk_at dksL_law_80 20 rfl rfl)
theorem dL_law_2131 : decode cL_law 2131 = .ok (.iadd, 1) := dk_96 (dk_at dksL_law_80 21 rfl rfl)
theorem dL_law_2132 : decode cL_law 2132 = .ok (.iaload, 1) := dk_46 (dk_at dksL_law_80 22 rfl rfl)
theorem dL_law_2133 : decode cL_law 2133 = .ok (.aload_n 0, 1) := dk_42 (dk_at dksL_law_80 23 rfl rfl)
theorem dL_law_2134 : decode cL_law 2134 = .ok (.iload 4, 2) := dk_21 4 (dk_at dksL_law_81 0 rfl rfl)
theorem dL_law_2136 : decode cL_law 2136 = .ok (.iconst 2, 1) := dk_5 (dk_at dksL_law_81 2 rfl rfl)
theorem dL_law_2137 : decode cL_law 2137 = .ok (.iadd, 1) := dk_96 (dk_at dksL_law_81 3 rfl rfl)
theorem dL_law_2138 : decode cL_law 2138 = .ok (.iaload, 1) := dk_46 (dk_at dksL_law_81 4 rfl rfl)
theorem dL_law_2139 : decode cL_law 2139 = .ok (.aload_n 3, 1) := dk_45 (dk_at dksL_law_81 5 rfl rfl)
theorem dL_law_2140 : decode cL_law 2140 = .ok (.invokestatic 275, 3) := dk_184 1 19 (dk_at dksL_law_81 6 rfl rfl)
theorem dL_law_2143 : decode cL_law 2143 = .ok (.istore 5, 2) := dk_54 5 (dk_at dksL_law_81 9 rfl rfl)
theorem dL_law_2145 : decode cL_law 2145 = .ok (.aload_n 2, 1) := dk_44 (dk_at dksL_law_81 11 rfl rfl)
theorem dL_law_2146 : decode cL_law 2146 = .ok (.aload_n 0, 1) := dk_42 (dk_at dksL_law_81 12 rfl rfl)
theorem dL_law_2147 : decode cL_law 2147 = .ok (.iload 4, 2) := dk_21 4 (dk_at dksL_law_81 13 rfl rfl)
theorem dL_law_2149 : decode cL_law 2149 = .ok (.iconst 1, 1) := dk_4 (dk_at dksL_law_81 15 rfl rfl)
theorem dL_law_2150 : decode cL_law 2150 = .ok (.iadd, 1) := dk_96 (dk_at dksL_law_81 16 rfl rfl)
theorem dL_law_2151 : decode cL_law 2151 = .ok (.iaload, 1) := dk_46 (dk_at dksL_law_81 17 rfl rfl)
theorem dL_law_2152 : decode cL_law 2152 = .ok (.aload_n 0, 1) := dk_42 (dk_at dksL_law_81 18 rfl rfl)
theorem dL_law_2153 : decode cL_law 2153 = .ok (.iload 4, 2) := dk_21 4 (dk_at dksL_law_81 19 rfl rfl)
theorem dL_law_2155 : decode cL_law 2155 = .ok (.iconst 2, 1) := dk_5 (dk_at dksL_law_81 21 rfl rfl)
theorem dL_law_2156 : decode cL_law 2156 = .ok (.iadd, 1) := dk_96 (dk_at dksL_law_81 22 rfl rfl)
theorem dL_law_2157 : decode cL_law 2157 = .ok (.iaload, 1) := dk_46 (dk_at dksL_law_81 23 rfl rfl)
theorem dL_law_2158 : decode cL_law 2158 = .ok (.invokevirtual 277, 3) := dk_182 1 21 (dk_at dksL_law_82 0 rfl rfl)
theorem dL_law_2161 : decode cL_law 2161 = .ok (.istore 6, 2) := dk_54 6 (dk_at dksL_law_82 3 rfl rfl)
theorem dL_law_2163 : decode cL_law 2163 = .ok (.aload_n 2, 1) := dk_44 (dk_at dksL_law_82 5 rfl rfl)
theorem dL_law_2164 : decode cL_law 2164 = .ok (.invokevirtual 180, 3) := dk_182 0 180 (dk_at dksL_law_82 6 rfl rfl)
theorem dL_law_2167 : decode cL_law 2167 = .ok (.iload 5, 2) := dk_21 5 (dk_at dksL_law_82 9 rfl rfl)
theorem dL_law_2169 : decode cL_law 2169 = .ok (.if_icmp .eq 5, 3) := dk_159 0 5 (dk_at dksL_law_82 11 rfl rfl)
theorem dL_law_2172 : decode cL_law 2172 = .ok (.iconst 0, 1) := dk_3 (dk_at dksL_law_82 14 rfl rfl)
theorem dL_law_2173 : decode cL_law 2173 = .ok (.ireturn, 1) := dk_172 (dk_at dksL_law_82 15 rfl rfl)
theorem dL_law_2174 : decode cL_law 2174 = .ok (.iload 5, 2) := dk_21 5 (dk_at dksL_law_82 16 rfl rfl)
theorem dL_law_2176 : decode cL_law 2176 = .ok (.ifCond .ne 15, 3) := dk_154 0 15 (dk_at dksL_law_82 18 rfl rfl)
theorem dL_law_2179 : decode cL_law 2179 = .ok (.aload_n 3, 1) := dk_45 (dk_at dksL_law_82 21 rfl rfl)
theorem dL_law_2180 : decode cL_law 2180 = .ok (.iconst 0, 1) := dk_3 (dk_at dksL_law_82 22 rfl rfl)
theorem dL_law_2181 : decode cL_law 2181 = .ok (.laload, 1) := dk_47 (dk_at dksL_law_82 23 rfl rfl)
theorem dL_law_2182 : decode cL_law 2182 = .ok (.iload 6, 2) := dk_21 6 (dk_at dksL_law_83 0 rfl rfl)
theorem dL_law_2184 : decode cL_law 2184 = .ok (.i2l, 1) := dk_133 (dk_at dksL_law_83 2 rfl rfl)
theorem dL_law_2185 : decode cL_law 2185 = .ok (.lcmp, 1) := dk_148 (dk_at dksL_law_83 3 rfl rfl)
theorem dL_law_2186 : decode cL_law 2186 = .ok (.ifCond .eq 5, 3) := dk_153 0 5 (dk_at dksL_law_83 4 rfl rfl)
theorem dL_law_2189 : decode cL_law 2189 = .ok (.iconst 0, 1) := dk_3 (dk_at dksL_law_83 7 rfl rfl)
theorem dL_law_2190 : decode cL_law 2190 = .ok (.ireturn, 1) := dk_172 (dk_at dksL_law_83 8 rfl rfl)
theorem dL_law_2191 : decode cL_law 2191 = .ok (.goto 1434, 3) := dk_167 5 154 (dk_at dksL_law_83 9 rfl rfl)
theorem dL_law_2194 : decode cL_law 2194 = .ok (.aload_n 1, 1) := dk_43 (dk_at dksL_law_83 12 rfl rfl)
theorem dL_law_2195 : decode cL_law 2195 = .ok (.aload_n 0, 1) := dk_42 (dk_at dksL_law_83 13 rfl rfl)
theorem dL_law_2196 : decode cL_law 2196 = .ok (.iload 4, 2) := dk_21 4 (dk_at dksL_law_83 14 rfl rfl)
theorem dL_law_2198 : decode cL_law 2198 = .ok (.iconst 1, 1) := dk_4 (dk_at dksL_law_83 16 rfl rfl)
theorem dL_law_2199 : decode cL_law 2199 = .ok (.iadd, 1) := dk_96 (dk_at dksL_law_83 17 rfl rfl)
theorem dL_law_2200 : decode cL_law 2200 = .ok (.iaload, 1) := dk_46 (dk_at dksL_law_83 18 rfl rfl)
theorem dL_law_2201 : decode cL_law 2201 = .ok (.aload_n 3, 1) := dk_45 (dk_at dksL_law_83 19 rfl rfl)
theorem dL_law_2202 : decode cL_law 2202 = .ok (.invokestatic 278, 3) := dk_184 1 22 (dk_at dksL_law_83 20 rfl rfl)
theorem dL_law_2205 : decode cL_law 2205 = .ok (.istore 5, 2) := dk_54 5 (dk_at dksL_law_84 0 rfl rfl)
theorem dL_law_2207 : decode cL_law 2207 = .ok (.aload_n 2, 1) := dk_44 (dk_at dksL_law_84 2 rfl rfl)
theorem dL_law_2208 : decode cL_law 2208 = .ok (.aload_n 0, 1) := dk_42 (dk_at dksL_law_84 3 rfl rfl)
theorem dL_law_2209 : decode cL_law 2209 = .ok (.iload 4, 2) := dk_21 4 (dk_at dksL_law_84 4 rfl rfl)
theorem dL_law_2211 : decode cL_law 2211 = .ok (.iconst 1, 1) := dk_4 (dk_at dksL_law_84 6 rfl rfl)
theorem dL_law_2212 : decode cL_law 2212 = .ok (.iadd, 1) := dk_96 (dk_at dksL_law_84 7 rfl rfl)
theorem dL_law_2213 : decode cL_law 2213 = .ok (.iaload, 1) := dk_46 (dk_at dksL_law_84 8 rfl rfl)
theorem dL_law_2214 : decode cL_law 2214 = .ok (.invokevirtual 280, 3) := dk_182 1 24 (dk_at dksL_law_84 9 rfl rfl)
theorem dL_law_2217 : decode cL_law 2217 = .ok (.istore 6, 2) := dk_54 6 (dk_at dksL_law_84 12 rfl rfl)
theorem dL_law_2219 : decode cL_law 2219 = .ok (.aload_n 2, 1) := dk_44 (dk_at dksL_law_84 14 rfl rfl)
theorem dL_law_2220 : decode cL_law 2220 = .ok (.invokevirtual 180, 3) := dk_182 0 180 (dk_at dksL_law_84 15 rfl rfl)
theorem dL_law_2223 : decode cL_law 2223 = .ok (.iload 5, 2) := dk_21 5 (dk_at dksL_law_84 18 rfl rfl)
theorem dL_law_2225 : decode cL_law 2225 = .ok (.if_icmp .eq 5, 3) := dk_159 0 5 (dk_at dksL_law_84 20 rfl rfl)
theorem dL_law_2228 : decode cL_law 2228 = .ok (.iconst 0, 1) := dk_3 (dk_at dksL_law_84 23 rfl rfl)
theorem dL_law_2229 : decode cL_law 2229 = .ok (.ireturn, 1) := dk_172 (dk_at dksL_law_85 0 rfl rfl)
theorem dL_law_2230 : decode cL_law 2230 = .ok (.iload 5, 2) := dk_21 5 (dk_at dksL_law_85 1 rfl rfl)
theorem dL_law_2232 : decode cL_law 2232 = .ok (.ifCond .ne 15, 3) := dk_154 0 15 (dk_at dksL_law_85 3 rfl rfl)
theorem dL_law_2235 : decode cL_law 2235 = .ok (.aload_n 3, 1) := dk_45 (dk_at dksL_law_85 6 rfl rfl)
theorem dL_law_2236 : decode cL_law 2236 = .ok (.iconst 0, 1) := dk_3 (dk_at dksL_law_85 7 rfl rfl)
theorem dL_law_2237 : decode cL_law 2237 = .ok (.laload, 1) := dk_47 (dk_at dksL_law_85 8 rfl rfl)
theorem dL_law_2238 : decode cL_law 2238 = .ok (.iload 6, 2) := dk_21 6 (dk_at dksL_law_85 9 rfl rfl)
theorem dL_law_2240 : decode cL_law 2240 = .ok (.i2l, 1) := dk_133 (dk_at dksL_law_85 11 rfl rfl)
theorem dL_law_2241 : decode cL_law 2241 = .ok (.lcmp, 1) := dk_148 (dk_at dksL_law_85 12 rfl rfl)
theorem dL_law_2242 : decode cL_law 2242 = .ok (.ifCond .eq 5, 3) := dk_153 0 5 (dk_at dksL_law_85 13 rfl rfl)
theorem dL_law_2245 : decode cL_law 2245 = .ok (.iconst 0, 1) := dk_3 (dk_at dksL_law_85 16 rfl rfl)
theorem dL_law_2246 : decode cL_law 2246 = .ok (.ireturn, 1) := dk_172 (dk_at dksL_law_85 17 rfl rfl)
theorem dL_law_2247 : decode cL_law 2247 = .ok (.goto 1378, 3) := dk_167 5 98 (dk_at dksL_law_85 18 rfl rfl)
theorem dL_law_2250 : decode cL_law 2250 = .ok (.aload_n 1, 1) := dk_43 (dk_at dksL_law_85 21 rfl rfl)
theorem dL_law_2251 : decode cL_law 2251 = .ok (.aload_n 0, 1) := dk_42 (dk_at dksL_law_85 22 rfl rfl)
theorem dL_law_2252 : decode cL_law 2252 = .ok (.iload 4, 2) := dk_21 4 (dk_at dksL_law_86 0 rfl rfl)
theorem dL_law_2254 : decode cL_law 2254 = .ok (.iconst 1, 1) := dk_4 (dk_at dksL_law_86 2 rfl rfl)
theorem dL_law_2255 : decode cL_law 2255 = .ok (.iadd, 1) := dk_96 (dk_at dksL_law_86 3 rfl rfl)
theorem dL_law_2256 : decode cL_law 2256 = .ok (.iaload, 1) := dk_46 (dk_at dksL_law_86 4 rfl rfl)
theorem dL_law_2257 : decode cL_law 2257 = .ok (.aload_n 3, 1) := dk_45 (dk_at dksL_law_86 5 rfl rfl)
theorem dL_law_2258 : decode cL_law 2258 = .ok (.invokestatic 281, 3) := dk_184 1 25 (dk_at dksL_law_86 6 rfl rfl)
theorem dL_law_2261 : decode cL_law 2261 = .ok (.istore 5, 2) := dk_54 5 (dk_at dksL_law_86 9 rfl rfl)
theorem dL_law_2263 : decode cL_law 2263 = .ok (.aload_n 2, 1) := dk_44 (dk_at dksL_law_86 11 rfl rfl)
theorem dL_law_2264 : decode cL_law 2264 = .ok (.aload_n 0, 1) := dk_42 (dk_at dksL_law_86 12 rfl rfl)
theorem dL_law_2265 : decode cL_law 2265 = .ok (.iload 4, 2) := dk_21 4 (dk_at dksL_law_86 13 rfl rfl)
theorem dL_law_2267 : decode cL_law 2267 = .ok (.iconst 1, 1) := dk_4 (dk_at dksL_law_86 15 rfl rfl)
theorem dL_law_2268 : decode cL_law 2268 = .ok (.iadd, 1) := dk_96 (dk_at dksL_law_86 16 rfl rfl)
theorem dL_law_2269 : decode cL_law 2269 = .ok (.iaload, 1) := dk_46 (dk_at dksL_law_86 17 rfl rfl)
theorem dL_law_2270 : decode cL_law 2270 = .ok (.invokevirtual 283, 3) := dk_182 1 27 (dk_at dksL_law_86 18 rfl rfl)
theorem dL_law_2273 : decode cL_law 2273 = .ok (.istore 6, 2) := dk_54 6 (dk_at dksL_law_86 21 rfl rfl)
theorem dL_law_2275 : decode cL_law 2275 = .ok (.aload_n 2, 1) := dk_44 (dk_at dksL_law_86 23 rfl rfl)
theorem dL_law_2276 : decode cL_law 2276 = .ok (.invokevirtual 180, 3) := dk_182 0 180 (dk_at dksL_law_87 0 rfl rfl)
theorem dL_law_2279 : decode cL_law 2279 = .ok (.iload 5, 2) := dk_21 5 (dk_at dksL_law_87 3 rfl rfl)
theorem dL_law_2281 : decode cL_law 2281 = .ok (.if_icmp .eq 5, 3) := dk_159 0 5 (dk_at dksL_law_87 5 rfl rfl)
theorem dL_law_2284 : decode cL_law 2284 = .ok (.iconst 0, 1) := dk_3 (dk_at dksL_law_87 8 rfl rfl)
theorem dL_law_2285 : decode cL_law 2285 = .ok (.ireturn, 1) := dk_172 (dk_at dksL_law_87 9 rfl rfl)
theorem dL_law_2286 : decode cL_law 2286 = .ok (.iload 5, 2) := dk_21 5 (dk_at dksL_law_87 10 rfl rfl)
theorem dL_law_2288 : decode cL_law 2288 = .ok (.ifCond .ne 15, 3) := dk_154 0 15 (dk_at dksL_law_87 12 rfl rfl)
theorem dL_law_2291 : decode cL_law 2291 = .ok (.aload_n 3, 1) := dk_45 (dk_at dksL_law_87 15 rfl rfl)
theorem dL_law_2292 : decode cL_law 2292 = .ok (.iconst 0, 1) := dk_3 (dk_at dksL_law_87 16 rfl rfl)
theorem dL_law_2293 : decode cL_law 2293 = .ok (.laload, 1) := dk_47 (dk_at dksL_law_87 17 rfl rfl)
theorem dL_law_2294 : decode cL_law 2294 = .ok (.iload 6, 2) := dk_21 6 (dk_at dksL_law_87 18 rfl rfl)
theorem dL_law_2296 : decode cL_law 2296 = .ok (.i2l, 1) := dk_133 (dk_at dksL_law_87 20 rfl rfl)
theorem dL_law_2297 : decode cL_law 2297 = .ok (.lcmp, 1) := dk_148 (dk_at dksL_law_87 21 rfl rfl)
theorem dL_law_2298 : decode cL_law 2298 = .ok (.ifCond .eq 5, 3) := dk_153 0 5 (dk_at dksL_law_88 0 rfl rfl)
theorem dL_law_2301 : decode cL_law 2301 = .ok (.iconst 0, 1) := dk_3 (dk_at dksL_law_88 3 rfl rfl)
theorem dL_law_2302 : decode cL_law 2302 = .ok (.ireturn, 1) := dk_172 (dk_at dksL_law_88 4 rfl rfl)
theorem dL_law_2303 : decode cL_law 2303 = .ok (.goto 1322, 3) := dk_167 5 42 (dk_at dksL_law_88 5 rfl rfl)
theorem dL_law_2306 : decode cL_law 2306 = .ok (.aload_n 1, 1) := dk_43 (dk_at dksL_law_88 8 rfl rfl)
theorem dL_law_2307 : decode cL_law 2307 = .ok (.aload_n 0, 1) := dk_42 (dk_at dksL_law_88 9 rfl rfl)
theorem dL_law_2308 : decode cL_law 2308 = .ok (.iload 4, 2) := dk_21 4 (dk_at dksL_law_88 10 rfl rfl)
theorem dL_law_2310 : decode cL_law 2310 = .ok (.iconst 1, 1) := dk_4 (dk_at dksL_law_88 12 rfl rfl)
theorem dL_law_2311 : decode cL_law 2311 = .ok (.iadd, 1) := dk_96 (dk_at dksL_law_88 13 rfl rfl)
theorem dL_law_2312 : decode cL_law 2312 = .ok (.iaload, 1) := dk_46 (dk_at dksL_law_88 14 rfl rfl)
theorem dL_law_2313 : decode cL_law 2313 = .ok (.aload_n 3, 1) := dk_45 (dk_at dksL_law_88 15 rfl rfl)
theorem dL_law_2314 : decode cL_law 2314 = .ok (.invokestatic 284, 3) := dk_184 1 28 (dk_at dksL_law_88 16 rfl rfl)
theorem dL_law_2317 : decode cL_law 2317 = .ok (.istore 5, 2) := dk_54 5 (dk_at dksL_law_88 19 rfl rfl)
theorem dL_law_2319 : decode cL_law 2319 = .ok (.aload_n 2, 1) := dk_44 (dk_at dksL_law_88 21 rfl rfl)
theorem dL_law_2320 : decode cL_law 2320 = .ok (.aload_n 0, 1) := dk_42 (dk_at dksL_law_88 22 rfl rfl)
theorem dL_law_2321 : decode cL_law 2321 = .ok (.iload 4, 2) := dk_21 4 (dk_at dksL_law_89 0 rfl rfl)
theorem dL_law_2323 : decode cL_law 2323 = .ok (.iconst 1, 1) := dk_4 (dk_at dksL_law_89 2 rfl rfl)
theorem dL_law_2324 : decode cL_law 2324 = .ok (.iadd, 1) := dk_96 (dk_at dksL_law_89 3 rfl rfl)
theorem dL_law_2325 : decode cL_law 2325 = .ok (.iaload, 1) := dk_46 (dk_at dksL_law_89 4 rfl rfl)
theorem dL_law_2326 : decode cL_law 2326 = .ok (.invokevirtual 286, 3) := dk_182 1 30 (dk_at dksL_law_89 5 rfl rfl)
theorem dL_law_2329 : decode cL_law 2329 = .ok (.istore 6, 2) := dk_54 6 (dk_at dksL_law_89 8 rfl rfl)
theorem dL_law_2331 : decode cL_law 2331 = .ok (.aload_n 2, 1) := dk_44 (dk_at dksL_law_89 10 rfl rfl)
theorem dL_law_2332 : decode cL_law 2332 = .ok (.invokevirtual 180, 3) := dk_182 0 180 (dk_at dksL_law_89 11 rfl rfl)
theorem dL_law_2335 : decode cL_law 2335 = .ok (.iload 5, 2) := dk_21 5 (dk_at dksL_law_89 14 rfl rfl)
theorem dL_law_2337 : decode cL_law 2337 = .ok (.if_icmp .eq 5, 3) := dk_159 0 5 (dk_at dksL_law_89 16 rfl rfl)
theorem dL_law_2340 : decode cL_law 2340 = .ok (.iconst 0, 1) := dk_3 (dk_at dksL_law_89 19 rfl rfl)
theorem dL_law_2341 : decode cL_law 2341 = .ok (.ireturn, 1) := dk_172 (dk_at dksL_law_89 20 rfl rfl)
theorem dL_law_2342 : decode cL_law 2342 = .ok (.iload 5, 2) := dk_21 5 (dk_at dksL_law_89 21 rfl rfl)
theorem dL_law_2344 : decode cL_law 2344 = .ok (.ifCond .ne 15, 3) := dk_154 0 15 (dk_at dksL_law_90 0 rfl rfl)
theorem dL_law_2347 : decode cL_law 2347 = .ok (.aload_n 3, 1) := dk_45 (dk_at dksL_law_90 3 rfl rfl)
theorem dL_law_2348 : decode cL_law 2348 = .ok (.iconst 0, 1) := dk_3 (dk_at dksL_law_90 4 rfl rfl)
theorem dL_law_2349 : decode cL_law 2349 = .ok (.laload, 1) := dk_47 (dk_at dksL_law_90 5 rfl rfl)
theorem dL_law_2350 : decode cL_law 2350 = .ok (.iload 6, 2) := dk_21 6 (dk_at dksL_law_90 6 rfl rfl)
theorem dL_law_2352 : decode cL_law 2352 = .ok (.i2l, 1) := dk_133 (dk_at dksL_law_90 8 rfl rfl)
theorem dL_law_2353 : decode cL_law 2353 = .ok (.lcmp, 1) := dk_148 (dk_at dksL_law_90 9 rfl rfl)
theorem dL_law_2354 : decode cL_law 2354 = .ok (.ifCond .eq 5, 3) := dk_153 0 5 (dk_at dksL_law_90 10 rfl rfl)
theorem dL_law_2357 : decode cL_law 2357 = .ok (.iconst 0, 1) := dk_3 (dk_at dksL_law_90 13 rfl rfl)
theorem dL_law_2358 : decode cL_law 2358 = .ok (.ireturn, 1) := dk_172 (dk_at dksL_law_90 14 rfl rfl)
theorem dL_law_2359 : decode cL_law 2359 = .ok (.goto 1266, 3) := dk_167 4 242 (dk_at dksL_law_90 15 rfl rfl)
theorem dL_law_2362 : decode cL_law 2362 = .ok (.aload_n 1, 1) := dk_43 (dk_at dksL_law_90 18 rfl rfl)
theorem dL_law_2363 : decode cL_law 2363 = .ok (.aload_n 0, 1) := dk_42 (dk_at dksL_law_90 19 rfl rfl)
theorem dL_law_2364 : decode cL_law 2364 = .ok (.iload 4, 2) := dk_21 4 (dk_at dksL_law_90 20 rfl rfl)
theorem dL_law_2366 : decode cL_law 2366 = .ok (.iconst 1, 1) := dk_4 (dk_at dksL_law_90 22 rfl rfl)
theorem dL_law_2367 : decode cL_law 2367 = .ok (.iadd, 1) := dk_96 (dk_at dksL_law_90 23 rfl rfl)
theorem dL_law_2368 : decode cL_law 2368 = .ok (.iaload, 1) := dk_46 (dk_at dksL_law_91 0 rfl rfl)
theorem dL_law_2369 : decode cL_law 2369 = .ok (.aload_n 0, 1) := dk_42 (dk_at dksL_law_91 1 rfl rfl)
theorem dL_law_2370 : decode cL_law 2370 = .ok (.iload 4, 2) := dk_21 4 (dk_at dksL_law_91 2 rfl rfl)
theorem dL_law_2372 : decode cL_law 2372 = .ok (.iconst 2, 1) := dk_5 (dk_at dksL_law_91 4 rfl rfl)
theorem dL_law_2373 : decode cL_law 2373 = .ok (.iadd, 1) := dk_96 (dk_at dksL_law_91 5 rfl rfl)
theorem dL_law_2374 : decode cL_law 2374 = .ok (.iaload, 1) := dk_46 (dk_at dksL_law_91 6 rfl rfl)
theorem dL_law_2375 : decode cL_law 2375 = .ok (.aload_n 3, 1) := dk_45 (dk_at dksL_law_91 7 rfl rfl)
theorem dL_law_2376 : decode cL_law 2376 = .ok (.invokestatic 287, 3) := dk_184 1 31 (dk_at dksL_law_91 8 rfl rfl)
theorem dL_law_2379 : decode cL_law 2379 = .ok (.istore 5, 2) := dk_54 5 (dk_at dksL_law_91 11 rfl rfl)
theorem dL_law_2381 : decode cL_law 2381 = .ok (.aload_n 2, 1) := dk_44 (dk_at dksL_law_91 13 rfl rfl)
theorem dL_law_2382 : decode cL_law 2382 = .ok (.aload_n 0, 1) := dk_42 (dk_at dksL_law_91 14 rfl rfl)
theorem dL_law_2383 : decode cL_law 2383 = .ok (.iload 4, 2) := dk_21 4 (dk_at dksL_law_91 15 rfl rfl)
theorem dL_law_2385 : decode cL_law 2385 = .ok (.iconst 1, 1) := dk_4 (dk_at dksL_law_91 17 rfl rfl)
theorem dL_law_2386 : decode cL_law 2386 = .ok (.iadd, 1) := dk_96 (dk_at dksL_law_91 18 rfl rfl)
theorem dL_law_2387 : decode cL_law 2387 = .ok (.iaload, 1) := dk_46 (dk_at dksL_law_91 19 rfl rfl)
theorem dL_law_2388 : decode cL_law 2388 = .ok (.aload_n 0, 1) := dk_42 (dk_at dksL_law_91 20 rfl rfl)
theorem dL_law_2389 : decode cL_law 2389 = .ok (.iload 4, 2) := dk_21 4 (dk_at dksL_law_91 21 rfl rfl)
theorem dL_law_2391 : decode cL_law 2391 = .ok (.iconst 2, 1) := dk_5 (dk_at dksL_law_91 23 rfl rfl)
theorem dL_law_2392 : decode cL_law 2392 = .ok (.iadd, 1) := dk_96 (dk_at dksL_law_92 0 rfl rfl)
theorem dL_law_2393 : decode cL_law 2393 = .ok (.iaload, 1) := dk_46 (dk_at dksL_law_92 1 rfl rfl)
theorem dL_law_2394 : decode cL_law 2394 = .ok (.invokevirtual 289, 3) := dk_182 1 33 (dk_at dksL_law_92 2 rfl rfl)
theorem dL_law_2397 : decode cL_law 2397 = .ok (.istore 6, 2) := dk_54 6 (dk_at dksL_law_92 5 rfl rfl)
theorem dL_law_2399 : decode cL_law 2399 = .ok (.aload_n 2, 1) := dk_44 (dk_at dksL_law_92 7 rfl rfl)
theorem dL_law_2400 : decode cL_law 2400 = .ok (.invokevirtual 180, 3) := dk_182 0 180 (dk_at dksL_law_92 8 rfl rfl)
theorem dL_law_2403 : decode cL_law 2403 = .ok (.iload 5, 2) := dk_21 5 (dk_at dksL_law_92 11 rfl rfl)
theorem dL_law_2405 : decode cL_law 2405 = .ok (.if_icmp .eq 5, 3) := dk_159 0 5 (dk_at dksL_law_92 13 rfl rfl)
theorem dL_law_2408 : decode cL_law 2408 = .ok (.iconst 0, 1) := dk_3 (dk_at dksL_law_92 16 rfl rfl)
theorem dL_law_2409 : decode cL_law 2409 = .ok (.ireturn, 1) := dk_172 (dk_at dksL_law_92 17 rfl rfl)
theorem dL_law_2410 : decode cL_law 2410 = .ok (.iload 5, 2) := dk_21 5 (dk_at dksL_law_92 18 rfl rfl)
theorem dL_law_2412 : decode cL_law 2412 = .ok (.ifCond .ne 15, 3) := dk_154 0 15 (dk_at dksL_law_92 20 rfl rfl)
theorem dL_law_2415 : decode cL_law 2415 = .ok (.aload_n 3, 1) := dk_45 (dk_at dksL_law_92 23 rfl rfl)
theorem dL_law_2416 : decode cL_law 2416 = .ok (.iconst 0, 1) := dk_3 (dk_at dksL_law_93 0 rfl rfl)
theorem dL_law_2417 : decode cL_law 2417 = .ok (.laload, 1) := dk_47 (dk_at dksL_law_93 1 rfl rfl)
theorem dL_law_2418 : decode cL_law 2418 = .ok (.iload 6, 2) := dk_21 6 (dk_at dksL_law_93 2 rfl rfl)
theorem dL_law_2420 : decode cL_law 2420 = .ok (.i2l, 1) := dk_133 (dk_at dksL_law_93 4 rfl rfl)
theorem dL_law_2421 : decode cL_law 2421 = .ok (.lcmp, 1) := dk_148 (dk_at dksL_law_93 5 rfl rfl)
theorem dL_law_2422 : decode cL_law 2422 = .ok (.ifCond .eq 5, 3) := dk_153 0 5 (dk_at dksL_law_93 6 rfl rfl)
theorem dL_law_2425 : decode cL_law 2425 = .ok (.iconst 0, 1) := dk_3 (dk_at dksL_law_93 9 rfl rfl)
theorem dL_law_2426 : decode cL_law 2426 = .ok (.ireturn, 1) := dk_172 (dk_at dksL_law_93 10 rfl rfl)
theorem dL_law_2427 : decode cL_law 2427 = .ok (.goto 1198, 3) := dk_167 4 174 (dk_at dksL_law_93 11 rfl rfl)
theorem dL_law_2430 : decode cL_law 2430 = .ok (.aload_n 1, 1) := dk_43 (dk_at dksL_law_93 14 rfl rfl)
theorem dL_law_2431 : decode cL_law 2431 = .ok (.aload_n 0, 1) := dk_42 (dk_at dksL_law_93 15 rfl rfl)
theorem dL_law_2432 : decode cL_law 2432 = .ok (.iload 4, 2) := dk_21 4 (dk_at dksL_law_93 16 rfl rfl)
theorem dL_law_2434 : decode cL_law 2434 = .ok (.iconst 1, 1) := dk_4 (dk_at dksL_law_93 18 rfl rfl)
theorem dL_law_2435 : decode cL_law 2435 = .ok (.iadd, 1) := dk_96 (dk_at dksL_law_93 19 rfl rfl)
theorem dL_law_2436 : decode cL_law 2436 = .ok (.iaload, 1) := dk_46 (dk_at dksL_law_93 20 rfl rfl)
theorem dL_law_2437 : decode cL_law 2437 = .ok (.aload_n 3, 1) := dk_45 (dk_at dksL_law_93 21 rfl rfl)
theorem dL_law_2438 : decode cL_law 2438 = .ok (.invokestatic 290, 3) := dk_184 1 34 (dk_at dksL_law_94 0 rfl rfl)
theorem dL_law_2441 : decode cL_law 2441 = .ok (.istore 5, 2) := dk_54 5 (dk_at dksL_law_94 3 rfl rfl)
theorem dL_law_2443 : decode cL_law 2443 = .ok (.aload_n 2, 1) := dk_44 (dk_at dksL_law_94 5 rfl rfl)
theorem dL_law_2444 : decode cL_law 2444 = .ok (.aload_n 0, 1) := dk_42 (dk_at dksL_law_94 6 rfl rfl)
theorem dL_law_2445 : decode cL_law 2445 = .ok (.iload 4, 2) := dk_21 4 (dk_at dksL_law_94 7 rfl rfl)
theorem dL_law_2447 : decode cL_law 2447 = .ok (.iconst 1, 1) := dk_4 (dk_at dksL_law_94 9 rfl rfl)
theorem dL_law_2448 : decode cL_law 2448 = .ok (.iadd, 1) := dk_96 (dk_at dksL_law_94 10 rfl rfl)
theorem dL_law_2449 : decode cL_law 2449 = .ok (.iaload, 1) := dk_46 (dk_at dksL_law_94 11 rfl rfl)
theorem dL_law_2450 : decode cL_law 2450 = .ok (.invokevirtual 292, 3) := dk_182 1 36 (dk_at dksL_law_94 12 rfl rfl)
theorem dL_law_2453 : decode cL_law 2453 = .ok (.istore 6, 2) := dk_54 6 (dk_at dksL_law_94 15 rfl rfl)
theorem dL_law_2455 : decode cL_law 2455 = .ok (.aload_n 2, 1) := dk_44 (dk_at dksL_law_94 17 rfl rfl)
theorem dL_law_2456 : decode cL_law 2456 = .ok (.invokevirtual 180, 3) := dk_182 0 180 (dk_at dksL_law_94 18 rfl rfl)
theorem dL_law_2459 : decode cL_law 2459 = .ok (.iload 5, 2) := dk_21 5 (dk_at dksL_law_94 21 rfl rfl)
theorem dL_law_2461 : decode cL_law 2461 = .ok (.if_icmp .eq 5, 3) := dk_159 0 5 (dk_at dksL_law_95 0 rfl rfl)
theorem dL_law_2464 : decode cL_law 2464 = .ok (.iconst 0, 1) := dk_3 (dk_at dksL_law_95 3 rfl rfl)
theorem dL_law_2465 : decode cL_law 2465 = .ok (.ireturn, 1) := dk_172 (dk_at dksL_law_95 4 rfl rfl)
theorem dL_law_2466 : decode cL_law 2466 = .ok (.iload 5, 2) := dk_21 5 (dk_at dksL_law_95 5 rfl rfl)
theorem dL_law_2468 : decode cL_law 2468 = .ok (.ifCond .ne 15, 3) := dk_154 0 15 (dk_at dksL_law_95 7 rfl rfl)
theorem dL_law_2471 : decode cL_law 2471 = .ok (.aload_n 3, 1) := dk_45 (dk_at dksL_law_95 10 rfl rfl)
theorem dL_law_2472 : decode cL_law 2472 = .ok (.iconst 0, 1) := dk_3 (dk_at dksL_law_95 11 rfl rfl)
theorem dL_law_2473 : decode cL_law 2473 = .ok (.laload, 1) := dk_47 (dk_at dksL_law_95 12 rfl rfl)
theorem dL_law_2474 : decode cL_law 2474 = .ok (.iload 6, 2) := dk_21 6 (dk_at dksL_law_95 13 rfl rfl)
theorem dL_law_2476 : decode cL_law 2476 = .ok (.i2l, 1) := dk_133 (dk_at dksL_law_95 15 rfl rfl)
theorem dL_law_2477 : decode cL_law 2477 = .ok (.lcmp, 1) := dk_148 (dk_at dksL_law_95 16 rfl rfl)
theorem dL_law_2478 : decode cL_law 2478 = .ok (.ifCond .eq 5, 3) := dk_153 0 5 (dk_at dksL_law_95 17 rfl rfl)
theorem dL_law_2481 : decode cL_law 2481 = .ok (.iconst 0, 1) := dk_3 (dk_at dksL_law_95 20 rfl rfl)
theorem dL_law_2482 : decode cL_law 2482 = .ok (.ireturn, 1) := dk_172 (dk_at dksL_law_95 21 rfl rfl)
theorem dL_law_2483 : decode cL_law 2483 = .ok (.goto 1142, 3) := dk_167 4 118 (dk_at dksL_law_96 0 rfl rfl)
theorem dL_law_2486 : decode cL_law 2486 = .ok (.aload_n 1, 1) := dk_43 (dk_at dksL_law_96 3 rfl rfl)
theorem dL_law_2487 : decode cL_law 2487 = .ok (.aload_n 0, 1) := dk_42 (dk_at dksL_law_96 4 rfl rfl)
theorem dL_law_2488 : decode cL_law 2488 = .ok (.iload 4, 2) := dk_21 4 (dk_at dksL_law_96 5 rfl rfl)
theorem dL_law_2490 : decode cL_law 2490 = .ok (.iconst 1, 1) := dk_4 (dk_at dksL_law_96 7 rfl rfl)
theorem dL_law_2491 : decode cL_law 2491 = .ok (.iadd, 1) := dk_96 (dk_at dksL_law_96 8 rfl rfl)
theorem dL_law_2492 : decode cL_law 2492 = .ok (.iaload, 1) := dk_46 (dk_at dksL_law_96 9 rfl rfl)
theorem dL_law_2493 : decode cL_law 2493 = .ok (.aload_n 3, 1) := dk_45 (dk_at dksL_law_96 10 rfl rfl)
theorem dL_law_2494 : decode cL_law 2494 = .ok (.invokestatic 293, 3) := dk_184 1 37 (dk_at dksL_law_96 11 rfl rfl)
theorem dL_law_2497 : decode cL_law 2497 = .ok (.istore 5, 2) := dk_54 5 (dk_at dksL_law_96 14 rfl rfl)
theorem dL_law_2499 : decode cL_law 2499 = .ok (.aload_n 2, 1) := dk_44 (dk_at dksL_law_96 16 rfl rfl)
theorem dL_law_2500 : decode cL_law 2500 = .ok (.aload_n 0, 1) := dk_42 (dk_at dksL_law_96 17 rfl rfl)
theorem dL_law_2501 : decode cL_law 2501 = .ok (.iload 4, 2) := dk_21 4 (dk_at dksL_law_96 18 rfl rfl)
theorem dL_law_2503 : decode cL_law 2503 = .ok (.iconst 1, 1) := dk_4 (dk_at dksL_law_96 20 rfl rfl)
theorem dL_law_2504 : decode cL_law 2504 = .ok (.iadd, 1) := dk_96 (dk_at dksL_law_96 21 rfl rfl)
theorem dL_law_2505 : decode cL_law 2505 = .ok (.iaload, 1) := dk_46 (dk_at dksL_law_96 22 rfl rfl)
theorem dL_law_2506 : decode cL_law 2506 = .ok (.invokevirtual 295, 3) := dk_182 1 39 (dk_at dksL_law_97 0 rfl rfl)
theorem dL_law_2509 : decode cL_law 2509 = .ok (.istore 6, 2) := dk_54 6 (dk_at dksL_law_97 3 rfl rfl)
theorem dL_law_2511 : decode cL_law 2511 = .ok (.aload_n 2, 1) := dk_44 (dk_at dksL_law_97 5 rfl rfl)
theorem dL_law_2512 : decode cL_law 2512 = .ok (.invokevirtual 180, 3) := dk_182 0 180 (dk_at dksL_law_97 6 rfl rfl)
theorem dL_law_2515 : decode cL_law 2515 = .ok (.iload 5, 2) := dk_21 5 (dk_at dksL_law_97 9 rfl rfl)
theorem dL_law_2517 : decode cL_law 2517 = .ok (.if_icmp .eq 5, 3) := dk_159 0 5 (dk_at dksL_law_97 11 rfl rfl)
theorem dL_law_2520 : decode cL_law 2520 = .ok (.iconst 0, 1) := dk_3 (dk_at dksL_law_97 14 rfl rfl)
theorem dL_law_2521 : decode cL_law 2521 = .ok (.ireturn, 1) := dk_172 (dk_at dksL_law_97 15 rfl rfl)
theorem dL_law_2522 : decode cL_law 2522 = .ok (.iload 5, 2) := dk_21 5 (dk_at dksL_law_97 16 rfl rfl)
theorem dL_law_2524 : decode cL_law 2524 = .ok (.ifCond .ne 15, 3) := dk_154 0 15 (dk_at dksL_law_97 18 rfl rfl)
theorem dL_law_2527 : decode cL_law 2527 = .ok (.aload_n 3, 1) := dk_45 (dk_at dksL_law_97 21 rfl rfl)
theorem dL_law_2528 : decode cL_law 2528 = .ok (.iconst 0, 1) := dk_3 (dk_at dksL_law_97 22 rfl rfl)
theorem dL_law_2529 : decode cL_law 2529 = .ok (.laload, 1) := dk_47 (dk_at dksL_law_97 23 rfl rfl)
theorem dL_law_2530 : decode cL_law 2530 = .ok (.iload 6, 2) := dk_21 6 (dk_at dksL_law_98 0 rfl rfl)
theorem dL_law_2532 : decode cL_law 2532 = .ok (.i2l, 1) := dk_133 (dk_at dksL_law_98 2 rfl rfl)
theorem dL_law_2533 : decode cL_law 2533 = .ok (.lcmp, 1) := dk_148 (dk_at dksL_law_98 3 rfl rfl)
theorem dL_law_2534 : decode cL_law 2534 = .ok (.ifCond .eq 5, 3) := dk_153 0 5 (dk_at dksL_law_98 4 rfl rfl)
theorem dL_law_2537 : decode cL_law 2537 = .ok (.iconst 0, 1) := dk_3 (dk_at dksL_law_98 7 rfl rfl)
theorem dL_law_2538 : decode cL_law 2538 = .ok (.ireturn, 1) := dk_172 (dk_at dksL_law_98 8 rfl rfl)
theorem dL_law_2539 : decode cL_law 2539 = .ok (.goto 1086, 3) := dk_167 4 62 (dk_at dksL_law_98 9 rfl rfl)
theorem dL_law_2542 : decode cL_law 2542 = .ok (.aload_n 1, 1) := dk_43 (dk_at dksL_law_98 12 rfl rfl)
theorem dL_law_2543 : decode cL_law 2543 = .ok (.aload_n 0, 1) := dk_42 (dk_at dksL_law_98 13 rfl rfl)
theorem dL_law_2544 : decode cL_law 2544 = .ok (.iload 4, 2) := dk_21 4 (dk_at dksL_law_98 14 rfl rfl)
theorem dL_law_2546 : decode cL_law 2546 = .ok (.iconst 1, 1) := dk_4 (dk_at dksL_law_98 16 rfl rfl)
theorem dL_law_2547 : decode cL_law 2547 = .ok (.iadd, 1) := dk_96 (dk_at dksL_law_98 17 rfl rfl)
theorem dL_law_2548 : decode cL_law 2548 = .ok (.iaload, 1) := dk_46 (dk_at dksL_law_98 18 rfl rfl)
theorem dL_law_2549 : decode cL_law 2549 = .ok (.aload_n 0, 1) := dk_42 (dk_at dksL_law_98 19 rfl rfl)
theorem dL_law_2550 : decode cL_law 2550 = .ok (.iload 4, 2) := dk_21 4 (dk_at dksL_law_98 20 rfl rfl)
theorem dL_law_2552 : decode cL_law 2552 = .ok (.iconst 2, 1) := dk_5 (dk_at dksL_law_98 22 rfl rfl)
theorem dL_law_2553 : decode cL_law 2553 = .ok (.iadd, 1) := dk_96 (dk_at dksL_law_98 23 rfl rfl)
theorem dL_law_2554 : decode cL_law 2554 = .ok (.iaload, 1) := dk_46 (dk_at dksL_law_99 0 rfl rfl)
theorem dL_law_2555 : decode cL_law 2555 = .ok (.aload_n 3, 1) := dk_45 (dk_at dksL_law_99 1 rfl rfl)
theorem dL_law_2556 : decode cL_law 2556 = .ok (.invokestatic 296, 3) := dk_184 1 40 (dk_at dksL_law_99 2 rfl rfl)
theorem dL_law_2559 : decode cL_law 2559 = .ok (.istore 5, 2) := dk_54 5 (dk_at dksL_law_99 5 rfl rfl)
theorem dL_law_2561 : decode cL_law 2561 = .ok (.aload_n 2, 1) := dk_44 (dk_at dksL_law_99 7 rfl rfl)
theorem dL_law_2562 : decode cL_law 2562 = .ok (.aload_n 0, 1) := dk_42 (dk_at dksL_law_99 8 rfl rfl)
theorem dL_law_2563 : decode cL_law 2563 = .ok (.iload 4, 2) := dk_21 4 (dk_at dksL_law_99 9 rfl rfl)
theorem dL_law_2565 : decode cL_law 2565 = .ok (.iconst 1, 1) := dk_4 (dk_at dksL_law_99 11 rfl rfl)
theorem dL_law_2566 : decode cL_law 2566 = .ok (.iadd, 1) := dk_96 (dk_at dksL_law_99 12 rfl rfl)
theorem dL_law_2567 : decode cL_law 2567 = .ok (.iaload, 1) := dk_46 (dk_at dksL_law_99 13 rfl rfl)
theorem dL_law_2568 : decode cL_law 2568 = .ok (.aload_n 0, 1) := dk_42 (dk_at dksL_law_99 14 rfl rfl)
theorem dL_law_2569 : decode cL_law 2569 = .ok (.iload 4, 2) := dk_21 4 (dk_at dksL_law_99 15 rfl rfl)
theorem dL_law_2571 : decode cL_law 2571 = .ok (.iconst 2, 1) := dk_5 (dk_at dksL_law_99 17 rfl rfl)
theorem dL_law_2572 : decode cL_law 2572 = .ok (.iadd, 1) := dk_96 (dk_at dksL_law_99 18 rfl rfl)
theorem dL_law_2573 : decode cL_law 2573 = .ok (.iaload, 1) := dk_46 (dk_at dksL_law_99 19 rfl rfl)
theorem dL_law_2574 : decode cL_law 2574 = .ok (.invokevirtual 298, 3) := dk_182 1 42 (dk_at dksL_law_99 20 rfl rfl)
theorem dL_law_2577 : decode cL_law 2577 = .ok (.istore 6, 2) := dk_54 6 (dk_at dksL_law_100 0 rfl rfl)
theorem dL_law_2579 : decode cL_law 2579 = .ok (.aload_n 2, 1) := dk_44 (dk_at dksL_law_100 2 rfl rfl)
theorem dL_law_2580 : decode cL_law 2580 = .ok (.invokevirtual 180, 3) := dk_182 0 180 (dk_at dksL_law_100 3 rfl rfl)
theorem dL_law_2583 : decode cL_law 2583 = .ok (.iload 5, 2) := dk_21 5 (dk_at dksL_law_100 6 rfl rfl)
theorem dL_law_2585 : decode cL_law 2585 = .ok (.if_icmp .eq 5, 3) := dk_159 0 5 (dk_at dksL_law_100 8 rfl rfl)
theorem dL_law_2588 : decode cL_law 2588 = .ok (.iconst 0, 1) := dk_3 (dk_at dksL_law_100 11 rfl rfl)
theorem dL_law_2589 : decode cL_law 2589 = .ok (.ireturn, 1) := dk_172 (dk_at dksL_law_100 12 rfl rfl)
theorem dL_law_2590 : decode cL_law 2590 = .ok (.iload 5, 2) := dk_21 5 (dk_at dksL_law_100 13 rfl rfl)
theorem dL_law_2592 : decode cL_law 2592 = .ok (.ifCond .ne 15, 3) := dk_154 0 15 (dk_at dksL_law_100 15 rfl rfl)
theorem dL_law_2595 : decode cL_law 2595 = .ok (.aload_n 3, 1) := dk_45 (dk_at dksL_law_100 18 rfl rfl)
theorem dL_law_2596 : decode cL_law 2596 = .ok (.iconst 0, 1) := dk_3 (dk_at dksL_law_100 19 rfl rfl)
theorem dL_law_2597 : decode cL_law 2597 = .ok (.laload, 1) := dk_47 (dk_at dksL_law_100 20 rfl rfl)
theorem dL_law_2598 : decode cL_law 2598 = .ok (.iload 6, 2) := dk_21 6 (dk_at dksL_law_100 21 rfl rfl)
theorem dL_law_2600 : decode cL_law 2600 = .ok (.i2l, 1) := dk_133 (dk_at dksL_law_100 23 rfl rfl)
theorem dL_law_2601 : decode cL_law 2601 = .ok (.lcmp, 1) := dk_148 (dk_at dksL_law_101 0 rfl rfl)
theorem dL_law_2602 : decode cL_law 2602 = .ok (.ifCond .eq 5, 3) := dk_153 0 5 (dk_at dksL_law_101 1 rfl rfl)
theorem dL_law_2605 : decode cL_law 2605 = .ok (.iconst 0, 1) := dk_3 (dk_at dksL_law_101 4 rfl rfl)
theorem dL_law_2606 : decode cL_law 2606 = .ok (.ireturn, 1) := dk_172 (dk_at dksL_law_101 5 rfl rfl)
theorem dL_law_2607 : decode cL_law 2607 = .ok (.goto 1018, 3) := dk_167 3 250 (dk_at dksL_law_101 6 rfl rfl)
theorem dL_law_2610 : decode cL_law 2610 = .ok (.aload_n 1, 1) := dk_43 (dk_at dksL_law_101 9 rfl rfl)
theorem dL_law_2611 : decode cL_law 2611 = .ok (.aload_n 0, 1) := dk_42 (dk_at dksL_law_101 10 rfl rfl)
theorem dL_law_2612 : decode cL_law 2612 = .ok (.iload 4, 2) := dk_21 4 (dk_at dksL_law_101 11 rfl rfl)
theorem dL_law_2614 : decode cL_law 2614 = .ok (.iconst 1, 1) := dk_4 (dk_at dksL_law_101 13 rfl rfl)
theorem dL_law_2615 : decode cL_law 2615 = .ok (.iadd, 1) := dk_96 (dk_at dksL_law_101 14 rfl rfl)
theorem dL_law_2616 : decode cL_law 2616 = .ok (.iaload, 1) := dk_46 (dk_at dksL_law_101 15 rfl rfl)
theorem dL_law_2617 : decode cL_law 2617 = .ok (.aload_n 0, 1) := dk_42 (dk_at dksL_law_101 16 rfl rfl)
theorem dL_law_2618 : decode cL_law 2618 = .ok (.iload 4, 2) := dk_21 4 (dk_at dksL_law_101 17 rfl rfl)
theorem dL_law_2620 : decode cL_law 2620 = .ok (.iconst 2, 1) := dk_5 (dk_at dksL_law_101 19 rfl rfl)
theorem dL_law_2621 : decode cL_law 2621 = .ok (.iadd, 1) := dk_96 (dk_at dksL_law_101 20 rfl rfl)
theorem dL_law_2622 : decode cL_law 2622 = .ok (.iaload, 1) := dk_46 (dk_at dksL_law_101 21 rfl rfl)
theorem dL_law_2623 : decode cL_law 2623 = .ok (.aload_n 0, 1) := dk_42 (dk_at dksL_law_101 22 rfl rfl)
theorem dL_law_2624 : decode cL_law 2624 = .ok (.iload 4, 2) := dk_21 4 (dk_at dksL_law_102 0 rfl rfl)
theorem dL_law_2626 : decode cL_law 2626 = .ok (.iconst 3, 1) := dk_6 (dk_at dksL_law_102 2 rfl rfl)
theorem dL_law_2627 : decode cL_law 2627 = .ok (.iadd, 1) := dk_96 (dk_at dksL_law_102 3 rfl rfl)
theorem dL_law_2628 : decode cL_law 2628 = .ok (.iaload, 1) := dk_46 (dk_at dksL_law_102 4 rfl rfl)
theorem dL_law_2629 : decode cL_law 2629 = .ok (.aload_n 3, 1) := dk_45 (dk_at dksL_law_102 5 rfl rfl)
theorem dL_law_2630 : decode cL_law 2630 = .ok (.invokestatic 299, 3) := dk_184 1 43 (dk_at dksL_law_102 6 rfl rfl)
theorem dL_law_2633 : decode cL_law 2633 = .ok (.istore 5, 2) := dk_54 5 (dk_at dksL_law_102 9 rfl rfl)
theorem dL_law_2635 : decode cL_law 2635 = .ok (.aload_n 2, 1) := dk_44 (dk_at dksL_law_102 11 rfl rfl)
theorem dL_law_2636 : decode cL_law 2636 = .ok (.aload_n 0, 1) := dk_42 (dk_at dksL_law_102 12 rfl rfl)
theorem dL_law_2637 : decode cL_law 2637 = .ok (.iload 4, 2) := dk_21 4 (dk_at dksL_law_102 13 rfl rfl)
theorem dL_law_2639 : decode cL_law 2639 = .ok (.iconst 1, 1) := dk_4 (dk_at dksL_law_102 15 rfl rfl)
theorem dL_law_2640 : decode cL_law 2640 = .ok (.iadd, 1) := dk_96 (dk_at dksL_law_102 16 rfl rfl)
theorem dL_law_2641 : decode cL_law 2641 = .ok (.iaload, 1) := dk_46 (dk_at dksL_law_102 17 rfl rfl)
theorem dL_law_2642 : decode cL_law 2642 = .ok (.aload_n 0, 1) := dk_42 (dk_at dksL_law_102 18 rfl rfl)
theorem dL_law_2643 : decode cL_law 2643 = .ok (.iload 4, 2) := dk_21 4 (dk_at dksL_law_102 19 rfl rfl)
theorem dL_law_2645 : decode cL_law 2645 = .ok (.iconst 2, 1) := dk_5 (dk_at dksL_law_102 21 rfl rfl)
theorem dL_law_2646 : decode cL_law 2646 = .ok (.iadd, 1) := dk_96 (dk_at dksL_law_102 22 rfl rfl)
theorem dL_law_2647 : decode cL_law 2647 = .ok (.iaload, 1) := dk_46 (dk_at dksL_law_102 23 rfl rfl)
theorem dL_law_2648 : decode cL_law 2648 = .ok (.aload_n 0, 1) := dk_42 (dk_at dksL_law_103 0 rfl rfl)
theorem dL_law_2649 : decode cL_law 2649 = .ok (.iload 4, 2) := dk_21 4 (dk_at dksL_law_103 1 rfl rfl)
theorem dL_law_2651 : decode cL_law 2651 = .ok (.iconst 3, 1) := dk_6 (dk_at dksL_law_103 3 rfl rfl)
theorem dL_law_2652 : decode cL_law 2652 = .ok (.iadd, 1) := dk_96 (dk_at dksL_law_103 4 rfl rfl)
theorem dL_law_2653 : decode cL_law 2653 = .ok (.iaload, 1) := dk_46 (dk_at dksL_law_103 5 rfl rfl)
theorem dL_law_2654 : decode cL_law 2654 = .ok (.invokevirtual 301, 3) := dk_182 1 45 (dk_at dksL_law_103 6 rfl rfl)
theorem dL_law_2657 : decode cL_law 2657 = .ok (.istore 6, 2) := dk_54 6 (dk_at dksL_law_103 9 rfl rfl)
theorem dL_law_2659 : decode cL_law 2659 = .ok (.aload_n 2, 1) := dk_44 (dk_at dksL_law_103 11 rfl rfl)
theorem dL_law_2660 : decode cL_law 2660 = .ok (.invokevirtual 180, 3) := dk_182 0 180 (dk_at dksL_law_103 12 rfl rfl)
theorem dL_law_2663 : decode cL_law 2663 = .ok (.iload 5, 2) := dk_21 5 (dk_at dksL_law_103 15 rfl rfl)
theorem dL_law_2665 : decode cL_law 2665 = .ok (.if_icmp .eq 5, 3) := dk_159 0 5 (dk_at dksL_law_103 17 rfl rfl)
theorem dL_law_2668 : decode cL_law 2668 = .ok (.iconst 0, 1) := dk_3 (dk_at dksL_law_103 20 rfl rfl)
theorem dL_law_2669 : decode cL_law 2669 = .ok (.ireturn, 1) := dk_172 (dk_at dksL_law_103 21 rfl rfl)
theorem dL_law_2670 : decode cL_law 2670 = .ok (.iload 5, 2) := dk_21 5 (dk_at dksL_law_103 22 rfl rfl)
theorem dL_law_2672 : decode cL_law 2672 = .ok (.ifCond .ne 15, 3) := dk_154 0 15 (dk_at dksL_law_104 0 rfl rfl)
theorem dL_law_2675 : decode cL_law 2675 = .ok (.aload_n 3, 1) := dk_45 (dk_at dksL_law_104 3 rfl rfl)
theorem dL_law_2676 : decode cL_law 2676 = .ok (.iconst 0, 1) := dk_3 (dk_at dksL_law_104 4 rfl rfl)
theorem dL_law_2677 : decode cL_law 2677 = .ok (.laload, 1) := dk_47 (dk_at dksL_law_104 5 rfl rfl)
theorem dL_law_2678 : decode cL_law 2678 = .ok (.iload 6, 2) := dk_21 6 (dk_at dksL_law_104 6 rfl rfl)
theorem dL_law_2680 : decode cL_law 2680 = .ok (.i2l, 1) := dk_133 (dk_at dksL_law_104 8 rfl rfl)
theorem dL_law_2681 : decode cL_law 2681 = .ok (.lcmp, 1) := dk_148 (dk_at dksL_law_104 9 rfl rfl)
theorem dL_law_2682 : decode cL_law 2682 = .ok (.ifCond .eq 5, 3) := dk_153 0 5 (dk_at dksL_law_104 10 rfl rfl)
theorem dL_law_2685 : decode cL_law 2685 = .ok (.iconst 0, 1) := dk_3 (dk_at dksL_law_104 13 rfl rfl)
theorem dL_law_2686 : decode cL_law 2686 = .ok (.ireturn, 1) := dk_172 (dk_at dksL_law_104 14 rfl rfl)
theorem dL_law_2687 : decode cL_law 2687 = .ok (.goto 938, 3) := dk_167 3 170 (dk_at dksL_law_104 15 rfl rfl)
theorem dL_law_2690 : decode cL_law 2690 = .ok (.aload_n 1, 1) := dk_43 (dk_at dksL_law_104 18 rfl rfl)
theorem dL_law_2691 : decode cL_law 2691 = .ok (.aload_n 0, 1) := dk_42 (dk_at dksL_law_104 19 rfl rfl)
theorem dL_law_2692 : decode cL_law 2692 = .ok (.iload 4, 2) := dk_21 4 (dk_at dksL_law_104 20 rfl rfl)
theorem dL_law_2694 : decode cL_law 2694 = .ok (.iconst 1, 1) := dk_4 (dk_at dksL_law_104 22 rfl rfl)
theorem dL_law_2695 : decode cL_law 2695 = .ok (.iadd, 1) := dk_96 (dk_at dksL_law_104 23 rfl rfl)
theorem dL_law_2696 : decode cL_law 2696 = .ok (.iaload, 1) := dk_46 (dk_at dksL_law_105 0 rfl rfl)
theorem dL_law_2697 : decode cL_law 2697 = .ok (.aload_n 0, 1) := dk_42 (dk_at dksL_law_105 1 rfl rfl)
theorem dL_law_2698 : decode cL_law 2698 = .ok (.iload 4, 2) := dk_21 4 (dk_at dksL_law_105 2 rfl rfl)
theorem dL_law_2700 : decode cL_law 2700 = .ok (.iconst 2, 1) := dk_5 (dk_at dksL_law_105 4 rfl rfl)
theorem dL_law_2701 : decode cL_law 2701 = .ok (.iadd, 1) := dk_96 (dk_at dksL_law_105 5 rfl rfl)
theorem dL_law_2702 : decode cL_law 2702 = .ok (.iaload, 1) := dk_46 (dk_at dksL_law_105 6 rfl rfl)
theorem dL_law_2703 : decode cL_law 2703 = .ok (.aload_n 3, 1) := dk_45 (dk_at dksL_law_105 7 rfl rfl)
theorem dL_law_2704 : decode cL_law 2704 = .ok (.invokestatic 302, 3) := dk_184 1 46 (dk_at dksL_law_105 8 rfl rfl)
theorem dL_law_2707 : decode cL_law 2707 = .ok (.istore 5, 2) := dk_54 5 (dk_at dksL_law_105 11 rfl rfl)
theorem dL_law_2709 : decode cL_law 2709 = .ok (.aload_n 2, 1) := dk_44 (dk_at dksL_law_105 13 rfl rfl)
theorem dL_law_2710 : decode cL_law 2710 = .ok (.aload_n 0, 1) := dk_42 (dk_at dksL_law_105 14 rfl rfl)
theorem dL_law_2711 : decode cL_law 2711 = .ok (.iload 4, 2) := dk_21 4 (dk_at dksL_law_105 15 rfl rfl)
theorem dL_law_2713 : decode cL_law 2713 = .ok (.iconst 1, 1) := dk_4 (dk_at dksL_law_105 17 rfl rfl)
theorem dL_law_2714 : decode cL_law 2714 = .ok (.iadd, 1) := dk_96 (dk_at dksL_law_105 18 rfl rfl)
theorem dL_law_2715 : decode cL_law 2715 = .ok (.iaload, 1) := dk_46 (dk_at dksL_law_105 19 rfl rfl)
theorem dL_law_2716 : decode cL_law 2716 = .ok (.aload_n 0, 1) := dk_42 (dk_at dksL_law_105 20 rfl rfl)
theorem dL_law_2717 : decode cL_law 2717 = .ok (.iload 4, 2) := dk_21 4 (dk_at dksL_law_105 21 rfl rfl)
theorem dL_law_2719 : decode cL_law 2719 = .ok (.iconst 2, 1) := dk_5 (dk_at dksL_law_105 23 rfl rfl)
theorem dL_law_2720 : decode cL_law 2720 = .ok (.iadd, 1) := dk_96 (dk_at dksL_law_106 0 rfl rfl)
theorem dL_law_2721 : decode cL_law 2721 = .ok (.iaload, 1) := dk_46 (dk_at dksL_law_106 1 rfl rfl)
theorem dL_law_2722 : decode cL_law 2722 = .ok (.invokevirtual 304, 3) := dk_182 1 48 (dk_at dksL_law_106 2 rfl rfl)
theorem dL_law_2725 : decode cL_law 2725 = .ok (.istore 6, 2) := dk_54 6 (dk_at dksL_law_106 5 rfl rfl)
theorem dL_law_2727 : decode cL_law 2727 = .ok (.aload_n 2, 1) := dk_44 (dk_at dksL_law_106 7 rfl rfl)
theorem dL_law_2728 : decode cL_law 2728 = .ok (.invokevirtual 180, 3) := dk_182 0 180 (dk_at dksL_law_106 8 rfl rfl)
theorem dL_law_2731 : decode cL_law 2731 = .ok (.iload 5, 2) := dk_21 5 (dk_at dksL_law_106 11 rfl rfl)
theorem dL_law_2733 : decode cL_law 2733 = .ok (.if_icmp .eq 5, 3) := dk_159 0 5 (dk_at dksL_law_106 13 rfl rfl)
theorem dL_law_2736 : decode cL_law 2736 = .ok (.iconst 0, 1) := dk_3 (dk_at dksL_law_106 16 rfl rfl)
theorem dL_law_2737 : decode cL_law 2737 = .ok (.ireturn, 1) := dk_172 (dk_at dksL_law_106 17 rfl rfl)
theorem dL_law_2738 : decode cL_law 2738 = .ok (.iload 5, 2) := dk_21 5 (dk_at dksL_law_106 18 rfl rfl)
theorem dL_law_2740 : decode cL_law 2740 = .ok (.ifCond .ne 15, 3) := dk_154 0 15 (dk_at dksL_law_106 20 rfl rfl)
theorem dL_law_2743 : decode cL_law 2743 = .ok (.aload_n 3, 1) := dk_45 (dk_at dksL_law_106 23 rfl rfl)
theorem dL_law_2744 : decode cL_law 2744 = .ok (.iconst 0, 1) := dk_3 (dk_at dksL_law_107 0 rfl rfl)
theorem dL_law_2745 : decode cL_law 2745 = .ok (.laload, 1) := dk_47 (dk_at dksL_law_107 1 rfl rfl)
theorem dL_law_2746 : decode cL_law 2746 = .ok (.iload 6, 2) := dk_21 6 (dk_at dksL_law_107 2 rfl rfl)
theorem dL_law_2748 : decode cL_law 2748 = .ok (.i2l, 1) := dk_133 (dk_at dksL_law_107 4 rfl rfl)
theorem dL_law_2749 : decode cL_law 2749 = .ok (.lcmp, 1) := dk_148 (dk_at dksL_law_107 5 rfl rfl)
theorem dL_law_2750 : decode cL_law 2750 = .ok (.ifCond .eq 5, 3) := dk_153 0 5 (dk_at dksL_law_107 6 rfl rfl)
theorem dL_law_2753 : decode cL_law 2753 = .ok (.iconst 0, 1) := dk_3 (dk_at dksL_law_107 9 rfl rfl)
theorem dL_law_2754 : decode cL_law 2754 = .ok (.ireturn, 1) := dk_172 (dk_at dksL_law_107 10 rfl rfl)
theorem dL_law_2755 : decode cL_law 2755 = .ok (.goto 870, 3) := dk_167 3 102 (dk_at dksL_law_107 11 rfl rfl)
theorem dL_law_2758 : decode cL_law 2758 = .ok (.aload_n 1, 1) := dk_43 (dk_at dksL_law_107 14 rfl rfl)
theorem dL_law_2759 : decode cL_law 2759 = .ok (.aload_n 0, 1) := dk_42 (dk_at dksL_law_107 15 rfl rfl)
theorem dL_law_2760 : decode cL_law 2760 = .ok (.iload 4, 2) := dk_21 4 (dk_at dksL_law_107 16 rfl rfl)
theorem dL_law_2762 : decode cL_law 2762 = .ok (.iconst 1, 1) := dk_4 (dk_at dksL_law_107 18 rfl rfl)
theorem dL_law_2763 : decode cL_law 2763 = .ok (.iadd, 1) := dk_96 (dk_at dksL_law_107 19 rfl rfl)
theorem dL_law_2764 : decode cL_law 2764 = .ok (.iaload, 1) := dk_46 (dk_at dksL_law_107 20 rfl rfl)
theorem dL_law_2765 : decode cL_law 2765 = .ok (.aload_n 0, 1) := dk_42 (dk_at dksL_law_107 21 rfl rfl)
theorem dL_law_2766 : decode cL_law 2766 = .ok (.iload 4, 2) := dk_21 4 (dk_at dksL_law_107 22 rfl rfl)
theorem dL_law_2768 : decode cL_law 2768 = .ok (.iconst 2, 1) := dk_5 (dk_at dksL_law_108 0 rfl rfl)
theorem dL_law_2769 : decode cL_law 2769 = .ok (.iadd, 1) := dk_96 (dk_at dksL_law_108 1 rfl rfl)
theorem dL_law_2770 : decode cL_law 2770 = .ok (.iaload, 1) := dk_46 (dk_at dksL_law_108 2 rfl rfl)
theorem dL_law_2771 : decode cL_law 2771 = .ok (.aload_n 3, 1) := dk_45 (dk_at dksL_law_108 3 rfl rfl)
theorem dL_law_2772 : decode cL_law 2772 = .ok (.invokestatic 305, 3) := dk_184 1 49 (dk_at dksL_law_108 4 rfl rfl)
theorem dL_law_2775 : decode cL_law 2775 = .ok (.istore 5, 2) := dk_54 5 (dk_at dksL_law_108 7 rfl rfl)
theorem dL_law_2777 : decode cL_law 2777 = .ok (.aload_n 2, 1) := dk_44 (dk_at dksL_law_108 9 rfl rfl)
theorem dL_law_2778 : decode cL_law 2778 = .ok (.aload_n 0, 1) := dk_42 (dk_at dksL_law_108 10 rfl rfl)
theorem dL_law_2779 : decode cL_law 2779 = .ok (.iload 4, 2) := dk_21 4 (dk_at dksL_law_108 11 rfl rfl)
theorem dL_law_2781 : decode cL_law 2781 = .ok (.iconst 1, 1) := dk_4 (dk_at dksL_law_108 13 rfl rfl)
theorem dL_law_2782 : decode cL_law 2782 = .ok (.iadd, 1) := dk_96 (dk_at dksL_law_108 14 rfl rfl)
theorem dL_law_2783 : decode cL_law 2783 = .ok (.iaload, 1) := dk_46 (dk_at dksL_law_108 15 rfl rfl)
theorem dL_law_2784 : decode cL_law 2784 = .ok (.aload_n 0, 1) := dk_42 (dk_at dksL_law_108 16 rfl rfl)
theorem dL_law_2785 : decode cL_law 2785 = .ok (.iload 4, 2) := dk_21 4 (dk_at dksL_law_108 17 rfl rfl)
theorem dL_law_2787 : decode cL_law 2787 = .ok (.iconst 2, 1) := dk_5 (dk_at dksL_law_108 19 rfl rfl)
theorem dL_law_2788 : decode cL_law 2788 = .ok (.iadd, 1) := dk_96 (dk_at dksL_law_108 20 rfl rfl)
theorem dL_law_2789 : decode cL_law 2789 = .ok (.iaload, 1) := dk_46 (dk_at dksL_law_108 21 rfl rfl)
theorem dL_law_2790 : decode cL_law 2790 = .ok (.invokevirtual 307, 3) := dk_182 1 51 (dk_at dksL_law_109 0 rfl rfl)
theorem dL_law_2793 : decode cL_law 2793 = .ok (.istore 6, 2) := dk_54 6 (dk_at dksL_law_109 3 rfl rfl)
theorem dL_law_2795 : decode cL_law 2795 = .ok (.aload_n 2, 1) := dk_44 (dk_at dksL_law_109 5 rfl rfl)
theorem dL_law_2796 : decode cL_law 2796 = .ok (.invokevirtual 180, 3) := dk_182 0 180 (dk_at dksL_law_109 6 rfl rfl)
theorem dL_law_2799 : decode cL_law 2799 = .ok (.iload 5, 2) := dk_21 5 (dk_at dksL_law_109 9 rfl rfl)
theorem dL_law_2801 : decode cL_law 2801 = .ok (.if_icmp .eq 5, 3) := dk_159 0 5 (dk_at dksL_law_109 11 rfl rfl)
theorem dL_law_2804 : decode cL_law 2804 = .ok (.iconst 0, 1) := dk_3 (dk_at dksL_law_109 14 rfl rfl)
theorem dL_law_2805 : decode cL_law 2805 = .ok (.ireturn, 1) := dk_172 (dk_at dksL_law_109 15 rfl rfl)
theorem dL_law_2806 : decode cL_law 2806 = .ok (.iload 5, 2) := dk_21 5 (dk_at dksL_law_109 16 rfl rfl)
theorem dL_law_2808 : decode cL_law 2808 = .ok (.ifCond .ne 15, 3) := dk_154 0 15 (dk_at dksL_law_109 18 rfl rfl)
theorem dL_law_2811 : decode cL_law 2811 = .ok (.aload_n 3, 1) := dk_45 (dk_at dksL_law_109 21 rfl rfl)
theorem dL_law_2812 : decode cL_law 2812 = .ok (.iconst 0, 1) := dk_3 (dk_at dksL_law_109 22 rfl rfl)
theorem dL_law_2813 : decode cL_law 2813 = .ok (.laload, 1) := dk_47 (dk_at dksL_law_109 23 rfl rfl)
theorem dL_law_2814 : decode cL_law 2814 = .ok (.iload 6, 2) := dk_21 6 (dk_at dksL_law_110 0 rfl rfl)
theorem dL_law_2816 : decode cL_law 2816 = .ok (.i2l, 1) := dk_133 (dk_at dksL_law_110 2 rfl rfl)
theorem dL_law_2817 : decode cL_law 2817 = .ok (.lcmp, 1) := dk_148 (dk_at dksL_law_110 3 rfl rfl)
theorem dL_law_2818 : decode cL_law 2818 = .ok (.ifCond .eq 5, 3) := dk_153 0 5 (dk_at dksL_law_110 4 rfl rfl)
theorem dL_law_2821 : decode cL_law 2821 = .ok (.iconst 0, 1) := dk_3 (dk_at dksL_law_110 7 rfl rfl)
theorem dL_law_2822 : decode cL_law 2822 = .ok (.ireturn, 1) := dk_172 (dk_at dksL_law_110 8 rfl rfl)
theorem dL_law_2823 : decode cL_law 2823 = .ok (.goto 802, 3) := dk_167 3 34 (dk_at dksL_law_110 9 rfl rfl)
theorem dL_law_2826 : decode cL_law 2826 = .ok (.aload_n 1, 1) := dk_43 (dk_at dksL_law_110 12 rfl rfl)
theorem dL_law_2827 : decode cL_law 2827 = .ok (.invokevirtual 308, 3) := dk_182 1 52 (dk_at dksL_law_110 13 rfl rfl)
theorem dL_law_2830 : decode cL_law 2830 = .ok (.aload_n 2, 1) := dk_44 (dk_at dksL_law_110 16 rfl rfl)
theorem dL_law_2831 : decode cL_law 2831 = .ok (.invokevirtual 311, 3) := dk_182 1 55 (dk_at dksL_law_110 17 rfl rfl)
theorem dL_law_2834 : decode cL_law 2834 = .ok (.if_icmp .eq 791, 3) := dk_159 3 23 (dk_at dksL_law_110 20 rfl rfl)
theorem dL_law_2837 : decode cL_law 2837 = .ok (.iconst 0, 1) := dk_3 (dk_at dksL_law_110 23 rfl rfl)
theorem dL_law_2838 : decode cL_law 2838 = .ok (.ireturn, 1) := dk_172 (dk_at dksL_law_111 0 rfl rfl)
theorem dL_law_2839 : decode cL_law 2839 = .ok (.aload_n 1, 1) := dk_43 (dk_at dksL_law_111 1 rfl rfl)
theorem dL_law_2840 : decode cL_law 2840 = .ok (.aload_n 0, 1) := dk_42 (dk_at dksL_law_111 2 rfl rfl)
theorem dL_law_2841 : decode cL_law 2841 = .ok (.iload 4, 2) := dk_21 4 (dk_at dksL_law_111 3 rfl rfl)
theorem dL_law_2843 : decode cL_law 2843 = .ok (.iconst 1, 1) := dk_4 (dk_at dksL_law_111 5 rfl rfl)
theorem dL_law_2844 : decode cL_law 2844 = .ok (.iadd, 1) := dk_96 (dk_at dksL_law_111 6 rfl rfl)
theorem dL_law_2845 : decode cL_law 2845 = .ok (.iaload, 1) := dk_46 (dk_at dksL_law_111 7 rfl rfl)
theorem dL_law_2846 : decode cL_law 2846 = .ok (.aload_n 3, 1) := dk_45 (dk_at dksL_law_111 8 rfl rfl)
theorem dL_law_2847 : decode cL_law 2847 = .ok (.invokestatic 312, 3) := dk_184 1 56 (dk_at dksL_law_111 9 rfl rfl)
theorem dL_law_2850 : decode cL_law 2850 = .ok (.istore 5, 2) := dk_54 5 (dk_at dksL_law_111 12 rfl rfl)
theorem dL_law_2852 : decode cL_law 2852 = .ok (.aload_n 2, 1) := dk_44 (dk_at dksL_law_111 14 rfl rfl)
theorem dL_law_2853 : decode cL_law 2853 = .ok (.aload_n 0, 1) := dk_42 (dk_at dksL_law_111 15 rfl rfl)
theorem dL_law_2854 : decode cL_law 2854 = .ok (.iload 4, 2) := dk_21 4 (dk_at dksL_law_111 16 rfl rfl)
theorem dL_law_2856 : decode cL_law 2856 = .ok (.iconst 1, 1) := dk_4 (dk_at dksL_law_111 18 rfl rfl)
theorem dL_law_2857 : decode cL_law 2857 = .ok (.iadd, 1) := dk_96 (dk_at dksL_law_111 19 rfl rfl)
theorem dL_law_2858 : decode cL_law 2858 = .ok (.iaload, 1) := dk_46 (dk_at dksL_law_111 20 rfl rfl)
theorem dL_law_2859 : decode cL_law 2859 = .ok (.invokevirtual 314, 3) := dk_182 1 58 (dk_at dksL_law_111 21 rfl rfl)
theorem dL_law_2862 : decode cL_law 2862 = .ok (.istore 6, 2) := dk_54 6 (dk_at dksL_law_112 0 rfl rfl)
theorem dL_law_2864 : decode cL_law 2864 = .ok (.aload_n 2, 1) := dk_44 (dk_at dksL_law_112 2 rfl rfl)
theorem dL_law_2865 : decode cL_law 2865 = .ok (.invokevirtual 180, 3) := dk_182 0 180 (dk_at dksL_law_112 3 rfl rfl)
theorem dL_law_2868 : decode cL_law 2868 = .ok (.iload 5, 2) := dk_21 5 (dk_at dksL_law_112 6 rfl rfl)
theorem dL_law_2870 : decode cL_law 2870 = .ok (.if_icmp .eq 5, 3) := dk_159 0 5 (dk_at dksL_law_112 8 rfl rfl)
theorem dL_law_2873 : decode cL_law 2873 = .ok (.iconst 0, 1) := dk_3 (dk_at dksL_law_112 11 rfl rfl)
theorem dL_law_2874 : decode cL_law 2874 = .ok (.ireturn, 1) := dk_172 (dk_at dksL_law_112 12 rfl rfl)
theorem dL_law_2875 : decode cL_law 2875 = .ok (.iload 5, 2) := dk_21 5 (dk_at dksL_law_112 13 rfl rfl)
theorem dL_law_2877 : decode cL_law 2877 = .ok (.ifCond .ne 15, 3) := dk_154 0 15 (dk_at dksL_law_112 15 rfl rfl)
theorem dL_law_2880 : decode cL_law 2880 = .ok (.aload_n 3, 1) := dk_45 (dk_at dksL_law_112 18 rfl rfl)
theorem dL_law_2881 : decode cL_law 2881 = .ok (.iconst 0, 1) := dk_3 (dk_at dksL_law_112 19 rfl rfl)
theorem dL_law_2882 : decode cL_law 2882 = .ok (.laload, 1) := dk_47 (dk_at dksL_law_112 20 rfl rfl)
theorem dL_law_2883 : decode cL_law 2883 = .ok (.iload 6, 2) := dk_21 6 (dk_at dksL_law_112 21 rfl rfl)
theorem dL_law_2885 : decode cL_law 2885 = .ok (.i2l, 1) := dk_133 (dk_at dksL_law_112 23 rfl rfl)
theorem dL_law_2886 : decode cL_law 2886 = .ok (.lcmp, 1) := dk_148 (dk_at dksL_law_113 0 rfl rfl)
theorem dL_law_2887 : decode cL_law 2887 = .ok (.ifCond .eq 5, 3) := dk_153 0 5 (dk_at dksL_law_113 1 rfl rfl)
theorem dL_law_2890 : decode cL_law 2890 = .ok (.iconst 0, 1) := dk_3 (dk_at dksL_law_113 4 rfl rfl)
theorem dL_law_2891 : decode cL_law 2891 = .ok (.ireturn, 1) := dk_172 (dk_at dksL_law_113 5 rfl rfl)
theorem dL_law_2892 : decode cL_law 2892 = .ok (.goto 733, 3) := dk_167 2 221 (dk_at dksL_law_113 6 rfl rfl)
theorem dL_law_2895 : decode cL_law 2895 = .ok (.aload_n 1, 1) := dk_43 (dk_at dksL_law_113 9 rfl rfl)
theorem dL_law_2896 : decode cL_law 2896 = .ok (.aload_n 0, 1) := dk_42 (dk_at dksL_law_113 10 rfl rfl)
theorem dL_law_2897 : decode cL_law 2897 = .ok (.iload 4, 2) := dk_21 4 (dk_at dksL_law_113 11 rfl rfl)
theorem dL_law_2899 : decode cL_law 2899 = .ok (.iconst 1, 1) := dk_4 (dk_at dksL_law_113 13 rfl rfl)
theorem dL_law_2900 : decode cL_law 2900 = .ok (.iadd, 1) := dk_96 (dk_at dksL_law_113 14 rfl rfl)
theorem dL_law_2901 : decode cL_law 2901 = .ok (.iaload, 1) := dk_46 (dk_at dksL_law_113 15 rfl rfl)
theorem dL_law_2902 : decode cL_law 2902 = .ok (.aload_n 3, 1) := dk_45 (dk_at dksL_law_113 16 rfl rfl)
theorem dL_law_2903 : decode cL_law 2903 = .ok (.invokestatic 315, 3) := dk_184 1 59 (dk_at dksL_law_113 17 rfl rfl)
theorem dL_law_2906 : decode cL_law 2906 = .ok (.istore 5, 2) := dk_54 5 (dk_at dksL_law_113 20 rfl rfl)
theorem dL_law_2908 : decode cL_law 2908 = .ok (.aload_n 2, 1) := dk_44 (dk_at dksL_law_113 22 rfl rfl)
theorem dL_law_2909 : decode cL_law 2909 = .ok (.aload_n 0, 1) := dk_42 (dk_at dksL_law_113 23 rfl rfl)
theorem dL_law_2910 : decode cL_law 2910 = .ok (.iload 4, 2) := dk_21 4 (dk_at dksL_law_114 0 rfl rfl)
theorem dL_law_2912 : decode cL_law 2912 = .ok (.iconst 1, 1) := dk_4 (dk_at dksL_law_114 2 rfl rfl)
theorem dL_law_2913 : decode cL_law 2913 = .ok (.iadd, 1) := dk_96 (dk_at dksL_law_114 3 rfl rfl)
theorem dL_law_2914 : decode cL_law 2914 = .ok (.iaload, 1) := dk_46 (dk_at dksL_law_114 4 rfl rfl)
theorem dL_law_2915 : decode cL_law 2915 = .ok (.invokevirtual 317, 3) := dk_182 1 61 (dk_at dksL_law_114 5 rfl rfl)
theorem dL_law_2918 : decode cL_law 2918 = .ok (.istore 6, 2) := dk_54 6 (dk_at dksL_law_114 8 rfl rfl)
theorem dL_law_2920 : decode cL_law 2920 = .ok (.aload_n 2, 1) := dk_44 (dk_at dksL_law_114 10 rfl rfl)
theorem dL_law_2921 : decode cL_law 2921 = .ok (.invokevirtual 180, 3) := dk_182 0 180 (dk_at dksL_law_114 11 rfl rfl)
theorem dL_law_2924 : decode cL_law 2924 = .ok (.iload 5, 2) := dk_21 5 (dk_at dksL_law_114 14 rfl rfl)
theorem dL_law_2926 : decode cL_law 2926 = .ok (.if_icmp .eq 5, 3) := dk_159 0 5 (dk_at dksL_law_114 16 rfl rfl)
theorem dL_law_2929 : decode cL_law 2929 = .ok (.iconst 0, 1) := dk_3 (dk_at dksL_law_114 19 rfl rfl)
theorem dL_law_2930 : decode cL_law 2930 = .ok (.ireturn, 1) := dk_172 (dk_at dksL_law_114 20 rfl rfl)
theorem dL_law_2931 : decode cL_law 2931 = .ok (.iload 5, 2) := dk_21 5 (dk_at dksL_law_114 21 rfl rfl)
theorem dL_law_2933 : decode cL_law 2933 = .ok (.ifCond .ne 15, 3) := dk_154 0 15 (dk_at dksL_law_115 0 rfl rfl)
theorem dL_law_2936 : decode cL_law 2936 = .ok (.aload_n 3, 1) := dk_45 (dk_at dksL_law_115 3 rfl rfl)
theorem dL_law_2937 : decode cL_law 2937 = .ok (.iconst 0, 1) := dk_3 (dk_at dksL_law_115 4 rfl rfl)
theorem dL_law_2938 : decode cL_law 2938 = .ok (.laload, 1) := dk_47 (dk_at dksL_law_115 5 rfl rfl)
theorem dL_law_2939 : decode cL_law 2939 = .ok (.iload 6, 2) := dk_21 6 (dk_at dksL_law_115 6 rfl rfl)
theorem dL_law_2941 : decode cL_law 2941 = .ok (.i2l, 1) := dk_133 (dk_at dksL_law_115 8 rfl rfl)
theorem dL_law_2942 : decode cL_law 2942 = .ok (.lcmp, 1) := dk_148 (dk_at dksL_law_115 9 rfl rfl)
theorem dL_law_2943 : decode cL_law 2943 = .ok (.ifCond .eq 5, 3) := dk_153 0 5 (dk_at dksL_law_115 10 rfl rfl)
theorem dL_law_2946 : decode cL_law 2946 = .ok (.iconst 0, 1) := dk_3 (dk_at dksL_law_115 13 rfl rfl)
theorem dL_law_2947 : decode cL_law 2947 = .ok (.ireturn, 1) := dk_172 (dk_at dksL_law_115 14 rfl rfl)
theorem dL_law_2948 : decode cL_law 2948 = .ok (.goto 677, 3) := dk_167 2 165 (dk_at dksL_law_115 15 rfl rfl)
theorem dL_law_2951 : decode cL_law 2951 = .ok (.aload_n 1, 1) := dk_43 (dk_at dksL_law_115 18 rfl rfl)
theorem dL_law_2952 : decode cL_law 2952 = .ok (.aload_n 0, 1) := dk_42 (dk_at dksL_law_115 19 rfl rfl)
theorem dL_law_2953 : decode cL_law 2953 = .ok (.iload 4, 2) := dk_21 4 (dk_at dksL_law_115 20 rfl rfl)
theorem dL_law_2955 : decode cL_law 2955 = .ok (.iconst 1, 1) := dk_4 (dk_at dksL_law_115 22 rfl rfl)
theorem dL_law_2956 : decode cL_law 2956 = .ok (.iadd, 1) := dk_96 (dk_at dksL_law_115 23 rfl rfl)
theorem dL_law_2957 : decode cL_law 2957 = .ok (.iaload, 1) := dk_46 (dk_at dksL_law_116 0 rfl rfl)
theorem dL_law_2958 : decode cL_law 2958 = .ok (.aload_n 0, 1) := dk_42 (dk_at dksL_law_116 1 rfl rfl)
theorem dL_law_2959 : decode cL_law 2959 = .ok (.iload 4, 2) := dk_21 4 (dk_at dksL_law_116 2 rfl rfl)
theorem dL_law_2961 : decode cL_law 2961 = .ok (.iconst 2, 1) := dk_5 (dk_at dksL_law_116 4 rfl rfl)
theorem dL_law_2962 : decode cL_law 2962 = .ok (.iadd, 1) := dk_96 (dk_at dksL_law_116 5 rfl rfl)
theorem dL_law_2963 : decode cL_law 2963 = .ok (.iaload, 1) := dk_46 (dk_at dksL_law_116 6 rfl rfl)
theorem dL_law_2964 : decode cL_law 2964 = .ok (.aload_n 0, 1) := dk_42 (dk_at dksL_law_116 7 rfl rfl)
theorem dL_law_2965 : decode cL_law 2965 = .ok (.iload 4, 2) := dk_21 4 (dk_at dksL_law_116 8 rfl rfl)
theorem dL_law_2967 : decode cL_law 2967 = .ok (.iconst 3, 1) := dk_6 (dk_at dksL_law_116 10 rfl rfl)
theorem dL_law_2968 : decode cL_law 2968 = .ok (.iadd, 1) := dk_96 (dk_at dksL_law_116 11 rfl rfl)
theorem dL_law_2969 : decode cL_law 2969 = .ok (.iaload, 1) := dk_46 (dk_at dksL_law_116 12 rfl rfl)
theorem dL_law_2970 : decode cL_law 2970 = .ok (.aload_n 3, 1) := dk_45 (dk_at dksL_law_116 13 rfl rfl)
theorem dL_law_2971 : decode cL_law 2971 = .ok (.invokestatic 318, 3) := dk_184 1 62 (dk_at dksL_law_116 14 rfl rfl)
theorem dL_law_2974 : decode cL_law 2974 = .ok (.istore 5, 2) := dk_54 5 (dk_at dksL_law_116 17 rfl rfl)
theorem dL_law_2976 : decode cL_law 2976 = .ok (.aload_n 2, 1) := dk_44 (dk_at dksL_law_116 19 rfl rfl)
theorem dL_law_2977 : decode cL_law 2977 = .ok (.aload_n 0, 1) := dk_42 (dk_at dksL_law_116 20 rfl rfl)
theorem dL_law_2978 : decode cL_law 2978 = .ok (.iload 4, 2) := dk_21 4 (dk_at dksL_law_116 21 rfl rfl)
theorem dL_law_2980 : decode cL_law 2980 = .ok (.iconst 1, 1) := dk_4 (dk_at dksL_law_116 23 rfl rfl)
theorem dL_law_2981 : decode cL_law 2981 = .ok (.iadd, 1) := dk_96 (dk_at dksL_law_117 0 rfl rfl)
theorem dL_law_2982 : decode cL_law 2982 = .ok (.iaload, 1) := dk_46 (dk_at dksL_law_117 1 rfl rfl)
theorem dL_law_2983 : decode cL_law 2983 = .ok (.aload_n 0, 1) := dk_42 (dk_at dksL_law_117 2 rfl rfl)
theorem dL_law_2984 : decode cL_law 2984 = .ok (.iload 4, 2) := dk_21 4 (dk_at dksL_law_117 3 rfl rfl)
theorem dL_law_2986 : decode cL_law 2986 = .ok (.iconst 2, 1) := dk_5 (dk_at dksL_law_117 5 rfl rfl)
theorem dL_law_2987 : decode cL_law 2987 = .ok (.iadd, 1) := dk_96 (dk_at dksL_law_117 6 rfl rfl)
theorem dL_law_2988 : decode cL_law 2988 = .ok (.iaload, 1) := dk_46 (dk_at dksL_law_117 7 rfl rfl)
theorem dL_law_2989 : decode cL_law 2989 = .ok (.aload_n 0, 1) := dk_42 (dk_at dksL_law_117 8 rfl rfl)
theorem dL_law_2990 : decode cL_law 2990 = .ok (.iload 4, 2) := dk_21 4 (dk_at dksL_law_117 9 rfl rfl)
theorem dL_law_2992 : decode cL_law 2992 = .ok (.iconst 3, 1) := dk_6 (dk_at dksL_law_117 11 rfl rfl)
theorem dL_law_2993 : decode cL_law 2993 = .ok (.iadd, 1) := dk_96 (dk_at dksL_law_117 12 rfl rfl)
theorem dL_law_2994 : decode cL_law 2994 = .ok (.iaload, 1) := dk_46 (dk_at dksL_law_117 13 rfl rfl)
theorem dL_law_2995 : decode cL_law 2995 = .ok (.invokevirtual 320, 3) := dk_182 1 64 (dk_at dksL_law_117 14 rfl rfl)
theorem dL_law_2998 : decode cL_law 2998 = .ok (.istore 6, 2) := dk_54 6 (dk_at dksL_law_117 17 rfl rfl)
theorem dL_law_3000 : decode cL_law 3000 = .ok (.aload_n 2, 1) := dk_44 (dk_at dksL_law_117 19 rfl rfl)
theorem dL_law_3001 : decode cL_law 3001 = .ok (.invokevirtual 180, 3) := dk_182 0 180 (dk_at dksL_law_117 20 rfl rfl)
theorem dL_law_3004 : decode cL_law 3004 = .ok (.iload 5, 2) := dk_21 5 (dk_at dksL_law_118 0 rfl rfl)
theorem dL_law_3006 : decode cL_law 3006 = .ok (.if_icmp .eq 5, 3) := dk_159 0 5 (dk_at dksL_law_118 2 rfl rfl)
theorem dL_law_3009 : decode cL_law 3009 = .ok (.iconst 0, 1) := dk_3 (dk_at dksL_law_118 5 rfl rfl)
theorem dL_law_3010 : decode cL_law 3010 = .ok (.ireturn, 1) := dk_172 (dk_at dksL_law_118 6 rfl rfl)
theorem dL_law_3011 : decode cL_law 3011 = .ok (.iload 5, 2) := dk_21 5 (dk_at dksL_law_118 7 rfl rfl)
theorem dL_law_3013 : decode cL_law 3013 = .ok (.ifCond .ne 15, 3) := dk_154 0 15 (dk_at dksL_law_118 9 rfl rfl)
theorem dL_law_3016 : decode cL_law 3016 = .ok (.aload_n 3, 1) := dk_45 (dk_at dksL_law_118 12 rfl rfl)
theorem dL_law_3017 : decode cL_law 3017 = .ok (.iconst 0, 1) := dk_3 (dk_at dksL_law_118 13 rfl rfl)
theorem dL_law_3018 : decode cL_law 3018 = .ok (.laload, 1) := dk_47 (dk_at dksL_law_118 14 rfl rfl)
theorem dL_law_3019 : decode cL_law 3019 = .ok (.iload 6, 2) := dk_21 6 (dk_at dksL_law_118 15 rfl rfl)
theorem dL_law_3021 : decode cL_law 3021 = .ok (.i2l, 1) := dk_133 (dk_at dksL_law_118 17 rfl rfl)
theorem dL_law_3022 : decode cL_law 3022 = .ok (.lcmp, 1) := dk_148 (dk_at dksL_law_118 18 rfl rfl)
theorem dL_law_3023 : decode cL_law 3023 = .ok (.ifCond .eq 5, 3) := dk_153 0 5 (dk_at dksL_law_118 19 rfl rfl)
theorem dL_law_3026 : decode cL_law 3026 = .ok (.iconst 0, 1) := dk_3 (dk_at dksL_law_118 22 rfl rfl)
theorem dL_law_3027 : decode cL_law 3027 = .ok (.ireturn, 1) := dk_172 (dk_at dksL_law_118 23 rfl rfl)
theorem dL_law_3028 : decode cL_law 3028 = .ok (.goto 597, 3) := dk_167 2 85 (dk_at dksL_law_119 0 rfl rfl)
theorem dL_law_3031 : decode cL_law 3031 = .ok (.aload_n 1, 1) := dk_43 (dk_at dksL_law_119 3 rfl rfl)
theorem dL_law_3032 : decode cL_law 3032 = .ok (.aload_n 0, 1) := dk_42 (dk_at dksL_law_119 4 rfl rfl)
theorem dL_law_3033 : decode cL_law 3033 = .ok (.iload 4, 2) := dk_21 4 (dk_at dksL_law_119 5 rfl rfl)
theorem dL_law_3035 : decode cL_law 3035 = .ok (.iconst 1, 1) := dk_4 (dk_at dksL_law_119 7 rfl rfl)
theorem dL_law_3036 : decode cL_law 3036 = .ok (.iadd, 1) := dk_96 (dk_at dksL_law_119 8 rfl rfl)
theorem dL_law_3037 : decode cL_law 3037 = .ok (.iaload, 1) := dk_46 (dk_at dksL_law_119 9 rfl rfl)
theorem dL_law_3038 : decode cL_law 3038 = .ok (.aload_n 0, 1) := dk_42 (dk_at dksL_law_119 10 rfl rfl)
theorem dL_law_3039 : decode cL_law 3039 = .ok (.iload 4, 2) := dk_21 4 (dk_at dksL_law_119 11 rfl rfl)
theorem dL_law_3041 : decode cL_law 3041 = .ok (.iconst 2, 1) := dk_5 (dk_at dksL_law_119 13 rfl rfl)
theorem dL_law_3042 : decode cL_law 3042 = .ok (.iadd, 1) := dk_96 (dk_at dksL_law_119 14 rfl rfl)
theorem dL_law_3043 : decode cL_law 3043 = .ok (.iaload, 1) := dk_46 (dk_at dksL_law_119 15 rfl rfl)
theorem dL_law_3044 : decode cL_law 3044 = .ok (.aload_n 0, 1) := dk_42 (dk_at dksL_law_119 16 rfl rfl)
theorem dL_law_3045 : decode cL_law 3045 = .ok (.iload 4, 2) := dk_21 4 (dk_at dksL_law_119 17 rfl rfl)
theorem dL_law_3047 : decode cL_law 3047 = .ok (.iconst 3, 1) := dk_6 (dk_at dksL_law_119 19 rfl rfl)
theorem dL_law_3048 : decode cL_law 3048 = .ok (.iadd, 1) := dk_96 (dk_at dksL_law_119 20 rfl rfl)
theorem dL_law_3049 : decode cL_law 3049 = .ok (.iaload, 1) := dk_46 (dk_at dksL_law_119 21 rfl rfl)
theorem dL_law_3050 : decode cL_law 3050 = .ok (.aload_n 3, 1) := dk_45 (dk_at dksL_law_119 22 rfl rfl)
theorem dL_law_3051 : decode cL_law 3051 = .ok (.invokestatic 321, 3) := dk_184 1 65 (dk_at dksL_law_120 0 rfl rfl)
theorem dL_law_3054 : decode cL_law 3054 = .ok (.istore 5, 2) := dk_54 5 (dk_at dksL_law_120 3 rfl rfl)
theorem dL_law_3056 : decode cL_law 3056 = .ok (.aload_n 2, 1) := dk_44 (dk_at dksL_law_120 5 rfl rfl)
theorem dL_law_3057 : decode cL_law 3057 = .ok (.aload_n 0, 1) := dk_42 (dk_at dksL_law_120 6 rfl rfl)
theorem dL_law_3058 : decode cL_law 3058 = .ok (.iload 4, 2) := dk_21 4 (dk_at dksL_law_120 7 rfl rfl)
theorem dL_law_3060 : decode cL_law 3060 = .ok (.iconst 1, 1) := dk_4 (dk_at dksL_law_120 9 rfl rfl)
theorem dL_law_3061 : decode cL_law 3061 = .ok (.iadd, 1) := dk_96 (dk_at dksL_law_120 10 rfl rfl)
theorem dL_law_3062 : decode cL_law 3062 = .ok (.iaload, 1) := dk_46 (dk_at dksL_law_120 11 rfl rfl)
theorem dL_law_3063 : decode cL_law 3063 = .ok (.aload_n 0, 1) := dk_42 (dk_at dksL_law_120 12 rfl rfl)
theorem dL_law_3064 : decode cL_law 3064 = .ok (.iload 4, 2) := dk_21 4 (dk_at dksL_law_120 13 rfl rfl)
theorem dL_law_3066 : decode cL_law 3066 = .ok (.iconst 2, 1) := dk_5 (dk_at dksL_law_120 15 rfl rfl)
theorem dL_law_3067 : decode cL_law 3067 = .ok (.iadd, 1) := dk_96 (dk_at dksL_law_120 16 rfl rfl)
theorem dL_law_3068 : decode cL_law 3068 = .ok (.iaload, 1) := dk_46 (dk_at dksL_law_120 17 rfl rfl)
theorem dL_law_3069 : decode cL_law 3069 = .ok (.aload_n 0, 1) := dk_42 (dk_at dksL_law_120 18 rfl rfl)
theorem dL_law_3070 : decode cL_law 3070 = .ok (.iload 4, 2) := dk_21 4 (dk_at dksL_law_120 19 rfl rfl)
theorem dL_law_3072 : decode cL_law 3072 = .ok (.iconst 3, 1) := dk_6 (dk_at dksL_law_120 21 rfl rfl)
theorem dL_law_3073 : decode cL_law 3073 = .ok (.iadd, 1) := dk_96 (dk_at dksL_law_120 22 rfl rfl)
theorem dL_law_3074 : decode cL_law 3074 = .ok (.iaload, 1) := dk_46 (dk_at dksL_law_120 23 rfl rfl)
theorem dL_law_3075 : decode cL_law 3075 = .ok (.invokevirtual 323, 3) := dk_182 1 67 (dk_at dksL_law_121 0 rfl rfl)
theorem dL_law_3078 : decode cL_law 3078 = .ok (.istore 6, 2) := dk_54 6 (dk_at dksL_law_121 3 rfl rfl)
theorem dL_law_3080 : decode cL_law 3080 = .ok (.aload_n 2, 1) := dk_44 (dk_at dksL_law_121 5 rfl rfl)
theorem dL_law_3081 : decode cL_law 3081 = .ok (.invokevirtual 180, 3) := dk_182 0 180 (dk_at dksL_law_121 6 rfl rfl)
theorem dL_law_3084 : decode cL_law 3084 = .ok (.iload 5, 2) := dk_21 5 (dk_at dksL_law_121 9 rfl rfl)
theorem dL_law_3086 : decode cL_law 3086 = .ok (.if_icmp .eq 5, 3) := dk_159 0 5 (dk_at dksL_law_121 11 rfl rfl)
theorem dL_law_3089 : decode cL_law 3089 = .ok (.iconst 0, 1) := dk_3 (dk_at dksL_law_121 14 rfl rfl)
theorem dL_law_3090 : decode cL_law 3090 = .ok (.ireturn, 1) := dk_172 (dk_at dksL_law_121 15 rfl rfl)
theorem dL_law_3091 : decode cL_law 3091 = .ok (.iload 5, 2) := dk_21 5 (dk_at dksL_law_121 16 rfl rfl)
theorem dL_law_3093 : decode cL_law 3093 = .ok (.ifCond .ne 15, 3) := dk_154 0 15 (dk_at dksL_law_121 18 rfl rfl)
theorem dL_law_3096 : decode cL_law 3096 = .ok (.aload_n 3, 1) := dk_45 (dk_at dksL_law_121 21 rfl rfl)
theorem dL_law_3097 : decode cL_law 3097 = .ok (.iconst 0, 1) := dk_3 (dk_at dksL_law_121 22 rfl rfl)
theorem dL_law_3098 : decode cL_law 3098 = .ok (.laload, 1) := dk_47 (dk_at dksL_law_121 23 rfl rfl)
theorem dL_law_3099 : decode cL_law 3099 = .ok (.iload 6, 2) := dk_21 6 (dk_at dksL_law_122 0 rfl rfl)
theorem dL_law_3101 : decode cL_law 3101 = .ok (.i2l, 1) := dk_133 (dk_at dksL_law_122 2 rfl rfl)
theorem dL_law_3102 : decode cL_law 3102 = .ok (.lcmp, 1) := dk_148 (dk_at dksL_law_122 3 rfl rfl)
theorem dL_law_3103 : decode cL_law 3103 = .ok (.ifCond .eq 5, 3) := dk_153 0 5 (dk_at dksL_law_122 4 rfl rfl)
theorem dL_law_3106 : decode cL_law 3106 = .ok (.iconst 0, 1) := dk_3 (dk_at dksL_law_122 7 rfl rfl)
theorem dL_law_3107 : decode cL_law 3107 = .ok (.ireturn, 1) := dk_172 (dk_at dksL_law_122 8 rfl rfl)
theorem dL_law_3108 : decode cL_law 3108 = .ok (.goto 517, 3) := dk_167 2 5 (dk_at dksL_law_122 9 rfl rfl)
theorem dL_law_3111 : decode cL_law 3111 = .ok (.aload_n 1, 1) := dk_43 (dk_at dksL_law_122 12 rfl rfl)
theorem dL_law_3112 : decode cL_law 3112 = .ok (.invokevirtual 324, 3) := dk_182 1 68 (dk_at dksL_law_122 13 rfl rfl)
theorem dL_law_3115 : decode cL_law 3115 = .ok (.aload_n 2, 1) := dk_44 (dk_at dksL_law_122 16 rfl rfl)
theorem dL_law_3116 : decode cL_law 3116 = .ok (.invokevirtual 327, 3) := dk_182 1 71 (dk_at dksL_law_122 17 rfl rfl)
theorem dL_law_3119 : decode cL_law 3119 = .ok (.if_icmp .eq 506, 3) := dk_159 1 250 (dk_at dksL_law_122 20 rfl rfl)
theorem dL_law_3122 : decode cL_law 3122 = .ok (.iconst 0, 1) := dk_3 (dk_at dksL_law_122 23 rfl rfl)
theorem dL_law_3123 : decode cL_law 3123 = .ok (.ireturn, 1) := dk_172 (dk_at dksL_law_123 0 rfl rfl)
theorem dL_law_3124 : decode cL_law 3124 = .ok (.aload_n 1, 1) := dk_43 (dk_at dksL_law_123 1 rfl rfl)
theorem dL_law_3125 : decode cL_law 3125 = .ok (.aload_n 0, 1) := dk_42 (dk_at dksL_law_123 2 rfl rfl)
theorem dL_law_3126 : decode cL_law 3126 = .ok (.iload 4, 2) := dk_21 4 (dk_at dksL_law_123 3 rfl rfl)
theorem dL_law_3128 : decode cL_law 3128 = .ok (.iconst 1, 1) := dk_4 (dk_at dksL_law_123 5 rfl rfl)
theorem dL_law_3129 : decode cL_law 3129 = .ok (.iadd, 1) := dk_96 (dk_at dksL_law_123 6 rfl rfl)
theorem dL_law_3130 : decode cL_law 3130 = .ok (.iaload, 1) := dk_46 (dk_at dksL_law_123 7 rfl rfl)
theorem dL_law_3131 : decode cL_law 3131 = .ok (.aload_n 3, 1) := dk_45 (dk_at dksL_law_123 8 rfl rfl)
theorem dL_law_3132 : decode cL_law 3132 = .ok (.invokestatic 328, 3) := dk_184 1 72 (dk_at dksL_law_123 9 rfl rfl)
theorem dL_law_3135 : decode cL_law 3135 = .ok (.istore 5, 2) := dk_54 5 (dk_at dksL_law_123 12 rfl rfl)
theorem dL_law_3137 : decode cL_law 3137 = .ok (.aload_n 2, 1) := dk_44 (dk_at dksL_law_123 14 rfl rfl)
theorem dL_law_3138 : decode cL_law 3138 = .ok (.aload_n 0, 1) := dk_42 (dk_at dksL_law_123 15 rfl rfl)
theorem dL_law_3139 : decode cL_law 3139 = .ok (.iload 4, 2) := dk_21 4 (dk_at dksL_law_123 16 rfl rfl)
theorem dL_law_3141 : decode cL_law 3141 = .ok (.iconst 1, 1) := dk_4 (dk_at dksL_law_123 18 rfl rfl)
theorem dL_law_3142 : decode cL_law 3142 = .ok (.iadd, 1) := dk_96 (dk_at dksL_law_123 19 rfl rfl)
theorem dL_law_3143 : decode cL_law 3143 = .ok (.iaload, 1) := dk_46 (dk_at dksL_law_123 20 rfl rfl)
theorem dL_law_3144 : decode cL_law 3144 = .ok (.invokevirtual 330, 3) := dk_182 1 74 (dk_at dksL_law_123 21 rfl rfl)
theorem dL_law_3147 : decode cL_law 3147 = .ok (.istore 6, 2) := dk_54 6 (dk_at dksL_law_124 0 rfl rfl)
theorem dL_law_3149 : decode cL_law 3149 = .ok (.aload_n 2, 1) := dk_44 (dk_at dksL_law_124 2 rfl rfl)
theorem dL_law_3150 : decode cL_law 3150 = .ok (.invokevirtual 180, 3) := dk_182 0 180 (dk_at dksL_law_124 3 rfl rfl)
theorem dL_law_3153 : decode cL_law 3153 = .ok (.iload 5, 2) := dk_21 5 (dk_at dksL_law_124 6 rfl rfl)
theorem dL_law_3155 : decode cL_law 3155 = .ok (.if_icmp .eq 5, 3) := dk_159 0 5 (dk_at dksL_law_124 8 rfl rfl)
theorem dL_law_3158 : decode cL_law 3158 = .ok (.iconst 0, 1) := dk_3 (dk_at dksL_law_124 11 rfl rfl)
theorem dL_law_3159 : decode cL_law 3159 = .ok (.ireturn, 1) := dk_172 (dk_at dksL_law_124 12 rfl rfl)
theorem dL_law_3160 : decode cL_law 3160 = .ok (.iload 5, 2) := dk_21 5 (dk_at dksL_law_124 13 rfl rfl)
theorem dL_law_3162 : decode cL_law 3162 = .ok (.ifCond .ne 15, 3) := dk_154 0 15 (dk_at dksL_law_124 15 rfl rfl)
theorem dL_law_3165 : decode cL_law 3165 = .ok (.aload_n 3, 1) := dk_45 (dk_at dksL_law_124 18 rfl rfl)
theorem dL_law_3166 : decode cL_law 3166 = .ok (.iconst 0, 1) := dk_3 (dk_at dksL_law_124 19 rfl rfl)
theorem dL_law_3167 : decode cL_law 3167 = .ok (.laload, 1) := dk_47 (dk_at dksL_law_124 20 rfl rfl)
theorem dL_law_3168 : decode cL_law 3168 = .ok (.iload 6, 2) := dk_21 6 (dk_at dksL_law_124 21 rfl rfl)
theorem dL_law_3170 : decode cL_law 3170 = .ok (.i2l, 1) := dk_133 (dk_at dksL_law_124 23 rfl rfl)
theorem dL_law_3171 : decode cL_law 3171 = .ok (.lcmp, 1) := dk_148 (dk_at dksL_law_125 0 rfl rfl)
theorem dL_law_3172 : decode cL_law 3172 = .ok (.ifCond .eq 5, 3) := dk_153 0 5 (dk_at dksL_law_125 1 rfl rfl)
theorem dL_law_3175 : decode cL_law 3175 = .ok (.iconst 0, 1) := dk_3 (dk_at dksL_law_125 4 rfl rfl)
theorem dL_law_3176 : decode cL_law 3176 = .ok (.ireturn, 1) := dk_172 (dk_at dksL_law_125 5 rfl rfl)
theorem dL_law_3177 : decode cL_law 3177 = .ok (.goto 448, 3) := dk_167 1 192 (dk_at dksL_law_125 6 rfl rfl)
theorem dL_law_3180 : decode cL_law 3180 = .ok (.aload_n 1, 1) := dk_43 (dk_at dksL_law_125 9 rfl rfl)
theorem dL_law_3181 : decode cL_law 3181 = .ok (.aload_n 0, 1) := dk_42 (dk_at dksL_law_125 10 rfl rfl)
theorem dL_law_3182 : decode cL_law 3182 = .ok (.iload 4, 2) := dk_21 4 (dk_at dksL_law_125 11 rfl rfl)
theorem dL_law_3184 : decode cL_law 3184 = .ok (.iconst 1, 1) := dk_4 (dk_at dksL_law_125 13 rfl rfl)
theorem dL_law_3185 : decode cL_law 3185 = .ok (.iadd, 1) := dk_96 (dk_at dksL_law_125 14 rfl rfl)
theorem dL_law_3186 : decode cL_law 3186 = .ok (.iaload, 1) := dk_46 (dk_at dksL_law_125 15 rfl rfl)
theorem dL_law_3187 : decode cL_law 3187 = .ok (.aload_n 3, 1) := dk_45 (dk_at dksL_law_125 16 rfl rfl)
theorem dL_law_3188 : decode cL_law 3188 = .ok (.invokestatic 331, 3) := dk_184 1 75 (dk_at dksL_law_125 17 rfl rfl)
theorem dL_law_3191 : decode cL_law 3191 = .ok (.istore 5, 2) := dk_54 5 (dk_at dksL_law_125 20 rfl rfl)
theorem dL_law_3193 : decode cL_law 3193 = .ok (.aload_n 2, 1) := dk_44 (dk_at dksL_law_125 22 rfl rfl)
theorem dL_law_3194 : decode cL_law 3194 = .ok (.aload_n 0, 1) := dk_42 (dk_at dksL_law_125 23 rfl rfl)
theorem dL_law_3195 : decode cL_law 3195 = .ok (.iload 4, 2) := dk_21 4 (dk_at dksL_law_126 0 rfl rfl)
theorem dL_law_3197 : decode cL_law 3197 = .ok (.iconst 1, 1) := dk_4 (dk_at dksL_law_126 2 rfl rfl)
theorem dL_law_3198 : decode cL_law 3198 = .ok (.iadd, 1) := dk_96 (dk_at dksL_law_126 3 rfl rfl)
theorem dL_law_3199 : decode cL_law 3199 = .ok (.iaload, 1) := dk_46 (dk_at dksL_law_126 4 rfl rfl)
theorem dL_law_3200 : decode cL_law 3200 = .ok (.invokevirtual 333, 3) := dk_182 1 77 (dk_at dksL_law_126 5 rfl rfl)
theorem dL_law_3203 : decode cL_law 3203 = .ok (.istore 6, 2) := dk_54 6 (dk_at dksL_law_126 8 rfl rfl)
theorem dL_law_3205 : decode cL_law 3205 = .ok (.aload_n 2, 1) := dk_44 (dk_at dksL_law_126 10 rfl rfl)
theorem dL_law_3206 : decode cL_law 3206 = .ok (.invokevirtual 180, 3) := dk_182 0 180 (dk_at dksL_law_126 11 rfl rfl)
theorem dL_law_3209 : decode cL_law 3209 = .ok (.iload 5, 2) := dk_21 5 (dk_at dksL_law_126 14 rfl rfl)
theorem dL_law_3211 : decode cL_law 3211 = .ok (.if_icmp .eq 5, 3) := dk_159 0 5 (dk_at dksL_law_126 16 rfl rfl)
theorem dL_law_3214 : decode cL_law 3214 = .ok (.iconst 0, 1) := dk_3 (dk_at dksL_law_126 19 rfl rfl)
theorem dL_law_3215 : decode cL_law 3215 = .ok (.ireturn, 1) := dk_172 (dk_at dksL_law_126 20 rfl rfl)
theorem dL_law_3216 : decode cL_law 3216 = .ok (.iload 5, 2) := dk_21 5 (dk_at dksL_law_126 21 rfl rfl)
theorem dL_law_3218 : decode cL_law 3218 = .ok (.ifCond .ne 15, 3) := dk_154 0 15 (dk_at dksL_law_127 0 rfl rfl)
theorem dL_law_3221 : decode cL_law 3221 = .ok (.aload_n 3, 1) := dk_45 (dk_at dksL_law_127 3 rfl rfl)
theorem dL_law_3222 : decode cL_law 3222 = .ok (.iconst 0, 1) := dk_3 (dk_at dksL_law_127 4 rfl rfl)
theorem dL_law_3223 : decode cL_law 3223 = .ok (.laload, 1) := dk_47 (dk_at dksL_law_127 5 rfl rfl)
theorem dL_law_3224 : decode cL_law 3224 = .ok (.iload 6, 2) := dk_21 6 (dk_at dksL_law_127 6 rfl rfl)
theorem dL_law_3226 : decode cL_law 3226 = .ok (.i2l, 1) := dk_133 (dk_at dksL_law_127 8 rfl rfl)
theorem dL_law_3227 : decode cL_law 3227 = .ok (.lcmp, 1) := dk_148 (dk_at dksL_law_127 9 rfl rfl)
theorem dL_law_3228 : decode cL_law 3228 = .ok (.ifCond .eq 5, 3) := dk_153 0 5 (dk_at dksL_law_127 10 rfl rfl)
theorem dL_law_3231 : decode cL_law 3231 = .ok (.iconst 0, 1) := dk_3 (dk_at dksL_law_127 13 rfl rfl)
theorem dL_law_3232 : decode cL_law 3232 = .ok (.ireturn, 1) := dk_172 (dk_at dksL_law_127 14 rfl rfl)
theorem dL_law_3233 : decode cL_law 3233 = .ok (.goto 392, 3) := dk_167 1 136 (dk_at dksL_law_127 15 rfl rfl)
theorem dL_law_3236 : decode cL_law 3236 = .ok (.aload_n 1, 1) := dk_43 (dk_at dksL_law_127 18 rfl rfl)
theorem dL_law_3237 : decode cL_law 3237 = .ok (.invokevirtual 334, 3) := dk_182 1 78 (dk_at dksL_law_127 19 rfl rfl)
theorem dL_law_3240 : decode cL_law 3240 = .ok (.aload_n 2, 1) := dk_44 (dk_at dksL_law_127 22 rfl rfl)
theorem dL_law_3241 : decode cL_law 3241 = .ok (.invokevirtual 337, 3) := dk_182 1 81 (dk_at dksL_law_128 0 rfl rfl)
theorem dL_law_3244 : decode cL_law 3244 = .ok (.if_icmp .eq 381, 3) := dk_159 1 125 (dk_at dksL_law_128 3 rfl rfl)
theorem dL_law_3247 : decode cL_law 3247 = .ok (.iconst 0, 1) := dk_3 (dk_at dksL_law_128 6 rfl rfl)
theorem dL_law_3248 : decode cL_law 3248 = .ok (.ireturn, 1) := dk_172 (dk_at dksL_law_128 7 rfl rfl)
theorem dL_law_3249 : decode cL_law 3249 = .ok (.aload_n 1, 1) := dk_43 (dk_at dksL_law_128 8 rfl rfl)
theorem dL_law_3250 : decode cL_law 3250 = .ok (.invokevirtual 338, 3) := dk_182 1 82 (dk_at dksL_law_128 9 rfl rfl)
theorem dL_law_3253 : decode cL_law 3253 = .ok (.aload_n 2, 1) := dk_44 (dk_at dksL_law_128 12 rfl rfl)
theorem dL_law_3254 : decode cL_law 3254 = .ok (.invokevirtual 341, 3) := dk_182 1 85 (dk_at dksL_law_128 13 rfl rfl)
theorem dL_law_3257 : decode cL_law 3257 = .ok (.if_icmp .eq 368, 3) := dk_159 1 112 (dk_at dksL_law_128 16 rfl rfl)
theorem dL_law_3260 : decode cL_law 3260 = .ok (.iconst 0, 1) := dk_3 (dk_at dksL_law_128 19 rfl rfl)
theorem dL_law_3261 : decode cL_law 3261 = .ok (.ireturn, 1) := dk_172 (dk_at dksL_law_128 20 rfl rfl)
theorem dL_law_3262 : decode cL_law 3262 = .ok (.aload_n 1, 1) := dk_43 (dk_at dksL_law_128 21 rfl rfl)
theorem dL_law_3263 : decode cL_law 3263 = .ok (.invokevirtual 342, 3) := dk_182 1 86 (dk_at dksL_law_129 0 rfl rfl)
theorem dL_law_3266 : decode cL_law 3266 = .ok (.aload_n 2, 1) := dk_44 (dk_at dksL_law_129 3 rfl rfl)
theorem dL_law_3267 : decode cL_law 3267 = .ok (.invokevirtual 345, 3) := dk_182 1 89 (dk_at dksL_law_129 4 rfl rfl)
theorem dL_law_3270 : decode cL_law 3270 = .ok (.if_icmp .eq 355, 3) := dk_159 1 99 (dk_at dksL_law_129 7 rfl rfl)
theorem dL_law_3273 : decode cL_law 3273 = .ok (.iconst 0, 1) := dk_3 (dk_at dksL_law_129 10 rfl rfl)
theorem dL_law_3274 : decode cL_law 3274 = .ok (.ireturn, 1) := dk_172 (dk_at dksL_law_129 11 rfl rfl)
theorem dL_law_3275 : decode cL_law 3275 = .ok (.aload_n 1, 1) := dk_43 (dk_at dksL_law_129 12 rfl rfl)
theorem dL_law_3276 : decode cL_law 3276 = .ok (.invokevirtual 346, 3) := dk_182 1 90 (dk_at dksL_law_129 13 rfl rfl)
theorem dL_law_3279 : decode cL_law 3279 = .ok (.aload_n 2, 1) := dk_44 (dk_at dksL_law_129 16 rfl rfl)
theorem dL_law_3280 : decode cL_law 3280 = .ok (.invokevirtual 349, 3) := dk_182 1 93 (dk_at dksL_law_129 17 rfl rfl)
theorem dL_law_3283 : decode cL_law 3283 = .ok (.if_icmp .eq 342, 3) := dk_159 1 86 (dk_at dksL_law_129 20 rfl rfl)
theorem dL_law_3286 : decode cL_law 3286 = .ok (.iconst 0, 1) := dk_3 (dk_at dksL_law_129 23 rfl rfl)
theorem dL_law_3287 : decode cL_law 3287 = .ok (.ireturn, 1) := dk_172 (dk_at dksL_law_130 0 rfl rfl)
theorem dL_law_3288 : decode cL_law 3288 = .ok (.aload_n 1, 1) := dk_43 (dk_at dksL_law_130 1 rfl rfl)
theorem dL_law_3289 : decode cL_law 3289 = .ok (.invokevirtual 350, 3) := dk_182 1 94 (dk_at dksL_law_130 2 rfl rfl)
theorem dL_law_3292 : decode cL_law 3292 = .ok (.dstore 5, 2) := dk_57 5 (dk_at dksL_law_130 5 rfl rfl)
theorem dL_law_3294 : decode cL_law 3294 = .ok (.aload_n 2, 1) := dk_44 (dk_at dksL_law_130 7 rfl rfl)
theorem dL_law_3295 : decode cL_law 3295 = .ok (.invokevirtual 354, 3) := dk_182 1 98 (dk_at dksL_law_130 8 rfl rfl)
theorem dL_law_3298 : decode cL_law 3298 = .ok (.dstore 7, 2) := dk_57 7 (dk_at dksL_law_130 11 rfl rfl)
theorem dL_law_3300 : decode cL_law 3300 = .ok (.dload 5, 2) := dk_24 5 (dk_at dksL_law_130 13 rfl rfl)
theorem dL_law_3302 : decode cL_law 3302 = .ok (.dload 7, 2) := dk_24 7 (dk_at dksL_law_130 15 rfl rfl)
theorem dL_law_3304 : decode cL_law 3304 = .ok (.dcmp .l, 1) := dk_151 (dk_at dksL_law_130 17 rfl rfl)
theorem dL_law_3305 : decode cL_law 3305 = .ok (.ifCond .eq 21, 3) := dk_153 0 21 (dk_at dksL_law_130 18 rfl rfl)
theorem dL_law_3308 : decode cL_law 3308 = .ok (.dload 5, 2) := dk_24 5 (dk_at dksL_law_130 21 rfl rfl)
theorem dL_law_3310 : decode cL_law 3310 = .ok (.dload 5, 2) := dk_24 5 (dk_at dksL_law_131 0 rfl rfl)
theorem dL_law_3312 : decode cL_law 3312 = .ok (.dcmp .l, 1) := dk_151 (dk_at dksL_law_131 2 rfl rfl)
theorem dL_law_3313 : decode cL_law 3313 = .ok (.ifCond .eq 11, 3) := dk_153 0 11 (dk_at dksL_law_131 3 rfl rfl)
theorem dL_law_3316 : decode cL_law 3316 = .ok (.dload 7, 2) := dk_24 7 (dk_at dksL_law_131 6 rfl rfl)
theorem dL_law_3318 : decode cL_law 3318 = .ok (.dload 7, 2) := dk_24 7 (dk_at dksL_law_131 8 rfl rfl)
theorem dL_law_3320 : decode cL_law 3320 = .ok (.dcmp .l, 1) := dk_151 (dk_at dksL_law_131 10 rfl rfl)
theorem dL_law_3321 : decode cL_law 3321 = .ok (.ifCond .ne 5, 3) := dk_154 0 5 (dk_at dksL_law_131 11 rfl rfl)
theorem dL_law_3324 : decode cL_law 3324 = .ok (.iconst 0, 1) := dk_3 (dk_at dksL_law_131 14 rfl rfl)
theorem dL_law_3325 : decode cL_law 3325 = .ok (.ireturn, 1) := dk_172 (dk_at dksL_law_131 15 rfl rfl)
theorem dL_law_3326 : decode cL_law 3326 = .ok (.goto 299, 3) := dk_167 1 43 (dk_at dksL_law_131 16 rfl rfl)
theorem dL_law_3329 : decode cL_law 3329 = .ok (.aload_n 1, 1) := dk_43 (dk_at dksL_law_131 19 rfl rfl)
theorem dL_law_3330 : decode cL_law 3330 = .ok (.invokevirtual 355, 3) := dk_182 1 99 (dk_at dksL_law_131 20 rfl rfl)
theorem dL_law_3333 : decode cL_law 3333 = .ok (.aload_n 2, 1) := dk_44 (dk_at dksL_law_131 23 rfl rfl)
theorem dL_law_3334 : decode cL_law 3334 = .ok (.invokevirtual 358, 3) := dk_182 1 102 (dk_at dksL_law_132 0 rfl rfl)
theorem dL_law_3337 : decode cL_law 3337 = .ok (.if_icmp .eq 288, 3) := dk_159 1 32 (dk_at dksL_law_132 3 rfl rfl)
theorem dL_law_3340 : decode cL_law 3340 = .ok (.iconst 0, 1) := dk_3 (dk_at dksL_law_132 6 rfl rfl)
theorem dL_law_3341 : decode cL_law 3341 = .ok (.ireturn, 1) := dk_172 (dk_at dksL_law_132 7 rfl rfl)
theorem dL_law_3342 : decode cL_law 3342 = .ok (.aload_n 1, 1) := dk_43 (dk_at dksL_law_132 8 rfl rfl)
theorem dL_law_3343 : decode cL_law 3343 = .ok (.aload_n 0, 1) := dk_42 (dk_at dksL_law_132 9 rfl rfl)
theorem dL_law_3344 : decode cL_law 3344 = .ok (.iload 4, 2) := dk_21 4 (dk_at dksL_law_132 10 rfl rfl)
theorem dL_law_3346 : decode cL_law 3346 = .ok (.iconst 1, 1) := dk_4 (dk_at dksL_law_132 12 rfl rfl)
theorem dL_law_3347 : decode cL_law 3347 = .ok (.iadd, 1) := dk_96 (dk_at dksL_law_132 13 rfl rfl)
theorem dL_law_3348 : decode cL_law 3348 = .ok (.iaload, 1) := dk_46 (dk_at dksL_law_132 14 rfl rfl)
theorem dL_law_3349 : decode cL_law 3349 = .ok (.aload_n 3, 1) := dk_45 (dk_at dksL_law_132 15 rfl rfl)
theorem dL_law_3350 : decode cL_law 3350 = .ok (.invokestatic 359, 3) := dk_184 1 103 (dk_at dksL_law_132 16 rfl rfl)
theorem dL_law_3353 : decode cL_law 3353 = .ok (.istore 5, 2) := dk_54 5 (dk_at dksL_law_132 19 rfl rfl)
theorem dL_law_3355 : decode cL_law 3355 = .ok (.aload_n 2, 1) := dk_44 (dk_at dksL_law_132 21 rfl rfl)
theorem dL_law_3356 : decode cL_law 3356 = .ok (.aload_n 0, 1) := dk_42 (dk_at dksL_law_132 22 rfl rfl)
theorem dL_law_3357 : decode cL_law 3357 = .ok (.iload 4, 2) := dk_21 4 (dk_at dksL_law_133 0 rfl rfl)
theorem dL_law_3359 : decode cL_law 3359 = .ok (.iconst 1, 1) := dk_4 (dk_at dksL_law_133 2 rfl rfl)
theorem dL_law_3360 : decode cL_law 3360 = .ok (.iadd, 1) := dk_96 (dk_at dksL_law_133 3 rfl rfl)
theorem dL_law_3361 : decode cL_law 3361 = .ok (.iaload, 1) := dk_46 (dk_at dksL_law_133 4 rfl rfl)
theorem dL_law_3362 : decode cL_law 3362 = .ok (.invokevirtual 361, 3) := dk_182 1 105 (dk_at dksL_law_133 5 rfl rfl)
theorem dL_law_3365 : decode cL_law 3365 = .ok (.istore 6, 2) := dk_54 6 (dk_at dksL_law_133 8 rfl rfl)
theorem dL_law_3367 : decode cL_law 3367 = .ok (.aload_n 2, 1) := dk_44 (dk_at dksL_law_133 10 rfl rfl)
theorem dL_law_3368 : decode cL_law 3368 = .ok (.invokevirtual 180, 3) := dk_182 0 180 (dk_at dksL_law_133 11 rfl rfl)
theorem dL_law_3371 : decode cL_law 3371 = .ok (.iload 5, 2) := dk_21 5 (dk_at dksL_law_133 14 rfl rfl)
theorem dL_law_3373 : decode cL_law 3373 = .ok (.if_icmp .eq 5, 3) := dk_159 0 5 (dk_at dksL_law_133 16 rfl rfl)
theorem dL_law_3376 : decode cL_law 3376 = .ok (.iconst 0, 1) := dk_3 (dk_at dksL_law_133 19 rfl rfl)
theorem dL_law_3377 : decode cL_law 3377 = .ok (.ireturn, 1) := dk_172 (dk_at dksL_law_133 20 rfl rfl)
theorem dL_law_3378 : decode cL_law 3378 = .ok (.iload 5, 2) := dk_21 5 (dk_at dksL_law_133 21 rfl rfl)
theorem dL_law_3380 : decode cL_law 3380 = .ok (.ifCond .ne 15, 3) := dk_154 0 15 (dk_at dksL_law_134 0 rfl rfl)
theorem dL_law_3383 : decode cL_law 3383 = .ok (.aload_n 3, 1) := dk_45 (dk_at dksL_law_134 3 rfl rfl)
theorem dL_law_3384 : decode cL_law 3384 = .ok (.iconst 0, 1) := dk_3 (dk_at dksL_law_134 4 rfl rfl)
theorem dL_law_3385 : decode cL_law 3385 = .ok (.laload, 1) := dk_47 (dk_at dksL_law_134 5 rfl rfl)
theorem dL_law_3386 : decode cL_law 3386 = .ok (.iload 6, 2) := dk_21 6 (dk_at dksL_law_134 6 rfl rfl)
theorem dL_law_3388 : decode cL_law 3388 = .ok (.i2l, 1) := dk_133 (dk_at dksL_law_134 8 rfl rfl)
theorem dL_law_3389 : decode cL_law 3389 = .ok (.lcmp, 1) := dk_148 (dk_at dksL_law_134 9 rfl rfl)
theorem dL_law_3390 : decode cL_law 3390 = .ok (.ifCond .eq 5, 3) := dk_153 0 5 (dk_at dksL_law_134 10 rfl rfl)
theorem dL_law_3393 : decode cL_law 3393 = .ok (.iconst 0, 1) := dk_3 (dk_at dksL_law_134 13 rfl rfl)
theorem dL_law_3394 : decode cL_law 3394 = .ok (.ireturn, 1) := dk_172 (dk_at dksL_law_134 14 rfl rfl)
theorem dL_law_3395 : decode cL_law 3395 = .ok (.goto 230, 3) := dk_167 0 230 (dk_at dksL_law_134 15 rfl rfl)
theorem dL_law_3398 : decode cL_law 3398 = .ok (.aload_n 1, 1) := dk_43 (dk_at dksL_law_134 18 rfl rfl)
theorem dL_law_3399 : decode cL_law 3399 = .ok (.aload_n 0, 1) := dk_42 (dk_at dksL_law_134 19 rfl rfl)
theorem dL_law_3400 : decode cL_law 3400 = .ok (.iload 4, 2) := dk_21 4 (dk_at dksL_law_134 20 rfl rfl)
theorem dL_law_3402 : decode cL_law 3402 = .ok (.iconst 1, 1) := dk_4 (dk_at dksL_law_134 22 rfl rfl)
theorem dL_law_3403 : decode cL_law 3403 = .ok (.iadd, 1) := dk_96 (dk_at dksL_law_134 23 rfl rfl)
theorem dL_law_3404 : decode cL_law 3404 = .ok (.iaload, 1) := dk_46 (dk_at dksL_law_135 0 rfl rfl)
theorem dL_law_3405 : decode cL_law 3405 = .ok (.aload_n 3, 1) := dk_45 (dk_at dksL_law_135 1 rfl rfl)
theorem dL_law_3406 : decode cL_law 3406 = .ok (.invokestatic 362, 3) := dk_184 1 106 (dk_at dksL_law_135 2 rfl rfl)
theorem dL_law_3409 : decode cL_law 3409 = .ok (.istore 5, 2) := dk_54 5 (dk_at dksL_law_135 5 rfl rfl)
theorem dL_law_3411 : decode cL_law 3411 = .ok (.aload_n 2, 1) := dk_44 (dk_at dksL_law_135 7 rfl rfl)
theorem dL_law_3412 : decode cL_law 3412 = .ok (.aload_n 0, 1) := dk_42 (dk_at dksL_law_135 8 rfl rfl)
theorem dL_law_3413 : decode cL_law 3413 = .ok (.iload 4, 2) := dk_21 4 (dk_at dksL_law_135 9 rfl rfl)
theorem dL_law_3415 : decode cL_law 3415 = .ok (.iconst 1, 1) := dk_4 (dk_at dksL_law_135 11 rfl rfl)
theorem dL_law_3416 : decode cL_law 3416 = .ok (.iadd, 1) := dk_96 (dk_at dksL_law_135 12 rfl rfl)
theorem dL_law_3417 : decode cL_law 3417 = .ok (.iaload, 1) := dk_46 (dk_at dksL_law_135 13 rfl rfl)
theorem dL_law_3418 : decode cL_law 3418 = .ok (.invokevirtual 364, 3) := dk_182 1 108 (dk_at dksL_law_135 14 rfl rfl)
theorem dL_law_3421 : decode cL_law 3421 = .ok (.istore 6, 2) := dk_54 6 (dk_at dksL_law_135 17 rfl rfl)
theorem dL_law_3423 : decode cL_law 3423 = .ok (.aload_n 2, 1) := dk_44 (dk_at dksL_law_135 19 rfl rfl)
theorem dL_law_3424 : decode cL_law 3424 = .ok (.invokevirtual 180, 3) := dk_182 0 180 (dk_at dksL_law_135 20 rfl rfl)
theorem dL_law_3427 : decode cL_law 3427 = .ok (.iload 5, 2) := dk_21 5 (dk_at dksL_law_136 0 rfl rfl)
theorem dL_law_3429 : decode cL_law 3429 = .ok (.if_icmp .eq 5, 3) := dk_159 0 5 (dk_at dksL_law_136 2 rfl rfl)
theorem dL_law_3432 : decode cL_law 3432 = .ok (.iconst 0, 1) := dk_3 (dk_at dksL_law_136 5 rfl rfl)
theorem dL_law_3433 : decode cL_law 3433 = .ok (.ireturn, 1) := dk_172 (dk_at dksL_law_136 6 rfl rfl)
theorem dL_law_3434 : decode cL_law 3434 = .ok (.iload 5, 2) := dk_21 5 (dk_at dksL_law_136 7 rfl rfl)
theorem dL_law_3436 : decode cL_law 3436 = .ok (.ifCond .ne 15, 3) := dk_154 0 15 (dk_at dksL_law_136 9 rfl rfl)
theorem dL_law_3439 : decode cL_law 3439 = .ok (.aload_n 3, 1) := dk_45 (dk_at dksL_law_136 12 rfl rfl)
theorem dL_law_3440 : decode cL_law 3440 = .ok (.iconst 0, 1) := dk_3 (dk_at dksL_law_136 13 rfl rfl)
theorem dL_law_3441 : decode cL_law 3441 = .ok (.laload, 1) := dk_47 (dk_at dksL_law_136 14 rfl rfl)
theorem dL_law_3442 : decode cL_law 3442 = .ok (.iload 6, 2) := dk_21 6 (dk_at dksL_law_136 15 rfl rfl)
theorem dL_law_3444 : decode cL_law 3444 = .ok (.i2l, 1) := dk_133 (dk_at dksL_law_136 17 rfl rfl)
theorem dL_law_3445 : decode cL_law 3445 = .ok (.lcmp, 1) := dk_148 (dk_at dksL_law_136 18 rfl rfl)
theorem dL_law_3446 : decode cL_law 3446 = .ok (.ifCond .eq 5, 3) := dk_153 0 5 (dk_at dksL_law_136 19 rfl rfl)
theorem dL_law_3449 : decode cL_law 3449 = .ok (.iconst 0, 1) := dk_3 (dk_at dksL_law_136 22 rfl rfl)
theorem dL_law_3450 : decode cL_law 3450 = .ok (.ireturn, 1) := dk_172 (dk_at dksL_law_136 23 rfl rfl)
theorem dL_law_3451 : decode cL_law 3451 = .ok (.goto 174, 3) := dk_167 0 174 (dk_at dksL_law_137 0 rfl rfl)
theorem dL_law_3454 : decode cL_law 3454 = .ok (.aload_n 1, 1) := dk_43 (dk_at dksL_law_137 3 rfl rfl)
theorem dL_law_3455 : decode cL_law 3455 = .ok (.invokevirtual 365, 3) := dk_182 1 109 (dk_at dksL_law_137 4 rfl rfl)
theorem dL_law_3458 : decode cL_law 3458 = .ok (.aload_n 2, 1) := dk_44 (dk_at dksL_law_137 7 rfl rfl)
theorem dL_law_3459 : decode cL_law 3459 = .ok (.invokevirtual 368, 3) := dk_182 1 112 (dk_at dksL_law_137 8 rfl rfl)
theorem dL_law_3462 : decode cL_law 3462 = .ok (.if_icmp .eq 163, 3) := dk_159 0 163 (dk_at dksL_law_137 11 rfl rfl)
theorem dL_law_3465 : decode cL_law 3465 = .ok (.iconst 0, 1) := dk_3 (dk_at dksL_law_137 14 rfl rfl)
theorem dL_law_3466 : decode cL_law 3466 = .ok (.ireturn, 1) := dk_172 (dk_at dksL_law_137 15 rfl rfl)
theorem dL_law_3467 : decode cL_law 3467 = .ok (.aload_n 1, 1) := dk_43 (dk_at dksL_law_137 16 rfl rfl)
theorem dL_law_3468 : decode cL_law 3468 = .ok (.invokevirtual 369, 3) := dk_182 1 113 (dk_at dksL_law_137 17 rfl rfl)
theorem dL_law_3471 : decode cL_law 3471 = .ok (.aload_n 2, 1) := dk_44 (dk_at dksL_law_137 20 rfl rfl)
theorem dL_law_3472 : decode cL_law 3472 = .ok (.invokevirtual 372, 3) := dk_182 1 116 (dk_at dksL_law_137 21 rfl rfl)
theorem dL_law_3475 : decode cL_law 3475 = .ok (.if_icmp .eq 150, 3) := dk_159 0 150 (dk_at dksL_law_138 0 rfl rfl)
theorem dL_law_3478 : decode cL_law 3478 = .ok (.iconst 0, 1) := dk_3 (dk_at dksL_law_138 3 rfl rfl)
theorem dL_law_3479 : decode cL_law 3479 = .ok (.ireturn, 1) := dk_172 (dk_at dksL_law_138 4 rfl rfl)
theorem dL_law_3480 : decode cL_law 3480 = .ok (.aload_n 1, 1) := dk_43 (dk_at dksL_law_138 5 rfl rfl)
theorem dL_law_3481 : decode cL_law 3481 = .ok (.aload_n 3, 1) := dk_45 (dk_at dksL_law_138 6 rfl rfl)
theorem dL_law_3482 : decode cL_law 3482 = .ok (.invokestatic 373, 3) := dk_184 1 117 (dk_at dksL_law_138 7 rfl rfl)
theorem dL_law_3485 : decode cL_law 3485 = .ok (.istore 5, 2) := dk_54 5 (dk_at dksL_law_138 10 rfl rfl)
theorem dL_law_3487 : decode cL_law 3487 = .ok (.aload_n 2, 1) := dk_44 (dk_at dksL_law_138 12 rfl rfl)
theorem dL_law_3488 : decode cL_law 3488 = .ok (.invokevirtual 376, 3) := dk_182 1 120 (dk_at dksL_law_138 13 rfl rfl)
theorem dL_law_3491 : decode cL_law 3491 = .ok (.istore 6, 2) := dk_54 6 (dk_at dksL_law_138 16 rfl rfl)
theorem dL_law_3493 : decode cL_law 3493 = .ok (.aload_n 2, 1) := dk_44 (dk_at dksL_law_138 18 rfl rfl)
theorem dL_law_3494 : decode cL_law 3494 = .ok (.invokevirtual 180, 3) := dk_182 0 180 (dk_at dksL_law_138 19 rfl rfl)
theorem dL_law_3497 : decode cL_law 3497 = .ok (.iload 5, 2) := dk_21 5 (dk_at dksL_law_138 22 rfl rfl)
theorem dL_law_3499 : decode cL_law 3499 = .ok (.if_icmp .eq 5, 3) := dk_159 0 5 (dk_at dksL_law_139 0 rfl rfl)
theorem dL_law_3502 : decode cL_law 3502 = .ok (.iconst 0, 1) := dk_3 (dk_at dksL_law_139 3 rfl rfl)
theorem dL_law_3503 : decode cL_law 3503 = .ok (.ireturn, 1) := dk_172 (dk_at dksL_law_139 4 rfl rfl)
theorem dL_law_3504 : decode cL_law 3504 = .ok (.iload 5, 2) := dk_21 5 (dk_at dksL_law_139 5 rfl rfl)
theorem dL_law_3506 : decode cL_law 3506 = .ok (.ifCond .ne 15, 3) := dk_154 0 15 (dk_at dksL_law_139 7 rfl rfl)
theorem dL_law_3509 : decode cL_law 3509 = .ok (.aload_n 3, 1) := dk_45 (dk_at dksL_law_139 10 rfl rfl)
theorem dL_law_3510 : decode cL_law 3510 = .ok (.iconst 0, 1) := dk_3 (dk_at dksL_law_139 11 rfl rfl)
theorem dL_law_3511 : decode cL_law 3511 = .ok (.laload, 1) := dk_47 (dk_at dksL_law_139 12 rfl rfl)
theorem dL_law_3512 : decode cL_law 3512 = .ok (.iload 6, 2) := dk_21 6 (dk_at dksL_law_139 13 rfl rfl)
theorem dL_law_3514 : decode cL_law 3514 = .ok (.i2l, 1) := dk_133 (dk_at dksL_law_139 15 rfl rfl)
theorem dL_law_3515 : decode cL_law 3515 = .ok (.lcmp, 1) := dk_148 (dk_at dksL_law_139 16 rfl rfl)
theorem dL_law_3516 : decode cL_law 3516 = .ok (.ifCond .eq 5, 3) := dk_153 0 5 (dk_at dksL_law_139 17 rfl rfl)
theorem dL_law_3519 : decode cL_law 3519 = .ok (.iconst 0, 1) := dk_3 (dk_at dksL_law_139 20 rfl rfl)
theorem dL_law_3520 : decode cL_law 3520 = .ok (.ireturn, 1) := dk_172 (dk_at dksL_law_139 21 rfl rfl)
theorem dL_law_3521 : decode cL_law 3521 = .ok (.goto 104, 3) := dk_167 0 104 (dk_at dksL_law_140 0 rfl rfl)
theorem dL_law_3524 : decode cL_law 3524 = .ok (.aload_n 1, 1) := dk_43 (dk_at dksL_law_140 3 rfl rfl)
theorem dL_law_3525 : decode cL_law 3525 = .ok (.aload_n 3, 1) := dk_45 (dk_at dksL_law_140 4 rfl rfl)
theorem dL_law_3526 : decode cL_law 3526 = .ok (.invokestatic 377, 3) := dk_184 1 121 (dk_at dksL_law_140 5 rfl rfl)
theorem dL_law_3529 : decode cL_law 3529 = .ok (.istore 5, 2) := dk_54 5 (dk_at dksL_law_140 8 rfl rfl)
theorem dL_law_3531 : decode cL_law 3531 = .ok (.aload_n 2, 1) := dk_44 (dk_at dksL_law_140 10 rfl rfl)
theorem dL_law_3532 : decode cL_law 3532 = .ok (.invokevirtual 379, 3) := dk_182 1 123 (dk_at dksL_law_140 11 rfl rfl)
theorem dL_law_3535 : decode cL_law 3535 = .ok (.istore 6, 2) := dk_54 6 (dk_at dksL_law_140 14 rfl rfl)
theorem dL_law_3537 : decode cL_law 3537 = .ok (.aload_n 2, 1) := dk_44 (dk_at dksL_law_140 16 rfl rfl)
theorem dL_law_3538 : decode cL_law 3538 = .ok (.invokevirtual 180, 3) := dk_182 0 180 (dk_at dksL_law_140 17 rfl rfl)
theorem dL_law_3541 : decode cL_law 3541 = .ok (.iload 5, 2) := dk_21 5 (dk_at dksL_law_140 20 rfl rfl)
theorem dL_law_3543 : decode cL_law 3543 = .ok (.if_icmp .eq 5, 3) := dk_159 0 5 (dk_at dksL_law_141 0 rfl rfl)
theorem dL_law_3546 : decode cL_law 3546 = .ok (.iconst 0, 1) := dk_3 (dk_at dksL_law_141 3 rfl rfl)
theorem dL_law_3547 : decode cL_law 3547 = .ok (.ireturn, 1) := dk_172 (dk_at dksL_law_141 4 rfl rfl)
theorem dL_law_3548 : decode cL_law 3548 = .ok (.iload 5, 2) := dk_21 5 (dk_at dksL_law_141 5 rfl rfl)
theorem dL_law_3550 : decode cL_law 3550 = .ok (.ifCond .ne 15, 3) := dk_154 0 15 (dk_at dksL_law_141 7 rfl rfl)
theorem dL_law_3553 : decode cL_law 3553 = .ok (.aload_n 3, 1) := dk_45 (dk_at dksL_law_141 10 rfl rfl)
theorem dL_law_3554 : decode cL_law 3554 = .ok (.iconst 0, 1) := dk_3 (dk_at dksL_law_141 11 rfl rfl)
theorem dL_law_3555 : decode cL_law 3555 = .ok (.laload, 1) := dk_47 (dk_at dksL_law_141 12 rfl rfl)
theorem dL_law_3556 : decode cL_law 3556 = .ok (.iload 6, 2) := dk_21 6 (dk_at dksL_law_141 13 rfl rfl)
theorem dL_law_3558 : decode cL_law 3558 = .ok (.i2l, 1) := dk_133 (dk_at dksL_law_141 15 rfl rfl)
theorem dL_law_3559 : decode cL_law 3559 = .ok (.lcmp, 1) := dk_148 (dk_at dksL_law_141 16 rfl rfl)
theorem dL_law_3560 : decode cL_law 3560 = .ok (.ifCond .eq 5, 3) := dk_153 0 5 (dk_at dksL_law_141 17 rfl rfl)
theorem dL_law_3563 : decode cL_law 3563 = .ok (.iconst 0, 1) := dk_3 (dk_at dksL_law_141 20 rfl rfl)
theorem dL_law_3564 : decode cL_law 3564 = .ok (.ireturn, 1) := dk_172 (dk_at dksL_law_141 21 rfl rfl)
theorem dL_law_3565 : decode cL_law 3565 = .ok (.goto 60, 3) := dk_167 0 60 (dk_at dksL_law_142 0 rfl rfl)
theorem dL_law_3568 : decode cL_law 3568 = .ok (.aload_n 1, 1) := dk_43 (dk_at dksL_law_142 3 rfl rfl)
theorem dL_law_3569 : decode cL_law 3569 = .ok (.invokevirtual 380, 3) := dk_182 1 124 (dk_at dksL_law_142 4 rfl rfl)
theorem dL_law_3572 : decode cL_law 3572 = .ok (.aload_n 2, 1) := dk_44 (dk_at dksL_law_142 7 rfl rfl)
theorem dL_law_3573 : decode cL_law 3573 = .ok (.invokevirtual 383, 3) := dk_182 1 127 (dk_at dksL_law_142 8 rfl rfl)
theorem dL_law_3576 : decode cL_law 3576 = .ok (.if_icmp .eq 49, 3) := dk_159 0 49 (dk_at dksL_law_142 11 rfl rfl)
theorem dL_law_3579 : decode cL_law 3579 = .ok (.iconst 0, 1) := dk_3 (dk_at dksL_law_142 14 rfl rfl)
theorem dL_law_3580 : decode cL_law 3580 = .ok (.ireturn, 1) := dk_172 (dk_at dksL_law_142 15 rfl rfl)
theorem dL_law_3581 : decode cL_law 3581 = .ok (.aload_n 1, 1) := dk_43 (dk_at dksL_law_142 16 rfl rfl)
theorem dL_law_3582 : decode cL_law 3582 = .ok (.aload_n 3, 1) := dk_45 (dk_at dksL_law_142 17 rfl rfl)
theorem dL_law_3583 : decode cL_law 3583 = .ok (.invokestatic 384, 3) := dk_184 1 128 (dk_at dksL_law_142 18 rfl rfl)
theorem dL_law_3586 : decode cL_law 3586 = .ok (.istore 5, 2) := dk_54 5 (dk_at dksL_law_142 21 rfl rfl)
theorem dL_law_3588 : decode cL_law 3588 = .ok (.aload_n 2, 1) := dk_44 (dk_at dksL_law_142 23 rfl rfl)
theorem dL_law_3589 : decode cL_law 3589 = .ok (.invokevirtual 386, 3) := dk_182 1 130 (dk_at dksL_law_143 0 rfl rfl)
theorem dL_law_3592 : decode cL_law 3592 = .ok (.istore 6, 2) := dk_54 6 (dk_at dksL_law_143 3 rfl rfl)
theorem dL_law_3594 : decode cL_law 3594 = .ok (.aload_n 2, 1) := dk_44 (dk_at dksL_law_143 5 rfl rfl)
theorem dL_law_3595 : decode cL_law 3595 = .ok (.invokevirtual 180, 3) := dk_182 0 180 (dk_at dksL_law_143 6 rfl rfl)
theorem dL_law_3598 : decode cL_law 3598 = .ok (.iload 5, 2) := dk_21 5 (dk_at dksL_law_143 9 rfl rfl)
theorem dL_law_3600 : decode cL_law 3600 = .ok (.if_icmp .eq 5, 3) := dk_159 0 5 (dk_at dksL_law_143 11 rfl rfl)
theorem dL_law_3603 : decode cL_law 3603 = .ok (.iconst 0, 1) := dk_3 (dk_at dksL_law_143 14 rfl rfl)
theorem dL_law_3604 : decode cL_law 3604 = .ok (.ireturn, 1) := dk_172 (dk_at dksL_law_143 15 rfl rfl)
theorem dL_law_3605 : decode cL_law 3605 = .ok (.iload 5, 2) := dk_21 5 (dk_at dksL_law_143 16 rfl rfl)
theorem dL_law_3607 : decode cL_law 3607 = .ok (.ifCond .ne 15, 3) := dk_154 0 15 (dk_at dksL_law_143 18 rfl rfl)
theorem dL_law_3610 : decode cL_law 3610 = .ok (.aload_n 3, 1) := dk_45 (dk_at dksL_law_143 21 rfl rfl)
theorem dL_law_3611 : decode cL_law 3611 = .ok (.iconst 0, 1) := dk_3 (dk_at dksL_law_143 22 rfl rfl)
theorem dL_law_3612 : decode cL_law 3612 = .ok (.laload, 1) := dk_47 (dk_at dksL_law_143 23 rfl rfl)
theorem dL_law_3613 : decode cL_law 3613 = .ok (.iload 6, 2) := dk_21 6 (dk_at dksL_law_144 0 rfl rfl)
theorem dL_law_3615 : decode cL_law 3615 = .ok (.i2l, 1) := dk_133 (dk_at dksL_law_144 2 rfl rfl)
theorem dL_law_3616 : decode cL_law 3616 = .ok (.lcmp, 1) := dk_148 (dk_at dksL_law_144 3 rfl rfl)
theorem dL_law_3617 : decode cL_law 3617 = .ok (.ifCond .eq 5, 3) := dk_153 0 5 (dk_at dksL_law_144 4 rfl rfl)
theorem dL_law_3620 : decode cL_law 3620 = .ok (.iconst 0, 1) := dk_3 (dk_at dksL_law_144 7 rfl rfl)
theorem dL_law_3621 : decode cL_law 3621 = .ok (.ireturn, 1) := dk_172 (dk_at dksL_law_144 8 rfl rfl)
theorem dL_law_3622 : decode cL_law 3622 = .ok (.goto 3, 3) := dk_167 0 3 (dk_at dksL_law_144 9 rfl rfl)
theorem dL_law_3625 : decode cL_law 3625 = .ok (.iinc 4 5, 3) := dk_132 4 5 (dk_at dksL_law_144 12 rfl rfl)
theorem dL_law_3628 : decode cL_law 3628 = .ok (.goto (-3605), 3) := dk_167 241 235 (dk_at dksL_law_144 15 rfl rfl)
theorem dL_law_3631 : decode cL_law 3631 = .ok (.iconst 1, 1) := dk_4 (dk_at dksL_law_144 18 rfl rfl)
theorem dL_law_3632 : decode cL_law 3632 = .ok (.ireturn, 1) := dk_172 (dk_at dksL_law_144 19 rfl rfl)
