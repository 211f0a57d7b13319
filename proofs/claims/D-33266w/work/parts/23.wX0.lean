set_option maxRecDepth 100000
set_option maxRecDepth 100000
def dkwX0_addBox_0 : List UInt8 := [43, 3, 42, 182, 0, 7, 133, 80, 167, 0, 6, 77, 4, 172, 3, 172]
abbrev dktX0_addBox_0 : List UInt8 := dkwX0_addBox_0 ++ []
theorem dksX0_addBox_0 : cX0_addBox.data.toList.drop 0 = dktX0_addBox_0 := by decide +kernel
theorem dX0_addBox_0 : decode cX0_addBox 0 = .ok (.aload_n 1, 1) := dk_43 (dk_at dksX0_addBox_0 0 rfl rfl)
theorem dX0_addBox_1 : decode cX0_addBox 1 = .ok (.iconst 0, 1) := dk_3 (dk_at dksX0_addBox_0 1 rfl rfl)
theorem dX0_addBox_2 : decode cX0_addBox 2 = .ok (.aload_n 0, 1) := dk_42 (dk_at dksX0_addBox_0 2 rfl rfl)
theorem dX0_addBox_3 : decode cX0_addBox 3 = .ok (.invokevirtual 7, 3) := dk_182 0 7 (dk_at dksX0_addBox_0 3 rfl rfl)
theorem dX0_addBox_6 : decode cX0_addBox 6 = .ok (.i2l, 1) := dk_133 (dk_at dksX0_addBox_0 6 rfl rfl)
theorem dX0_addBox_7 : decode cX0_addBox 7 = .ok (.lastore, 1) := dk_80 (dk_at dksX0_addBox_0 7 rfl rfl)
theorem dX0_addBox_8 : decode cX0_addBox 8 = .ok (.goto 6, 3) := dk_167 0 6 (dk_at dksX0_addBox_0 8 rfl rfl)
theorem dX0_addBox_11 : decode cX0_addBox 11 = .ok (.astore_n 2, 1) := dk_77 (dk_at dksX0_addBox_0 11 rfl rfl)
theorem dX0_addBox_12 : decode cX0_addBox 12 = .ok (.iconst 1, 1) := dk_4 (dk_at dksX0_addBox_0 12 rfl rfl)
theorem dX0_addBox_13 : decode cX0_addBox 13 = .ok (.ireturn, 1) := dk_172 (dk_at dksX0_addBox_0 13 rfl rfl)
theorem dX0_addBox_14 : decode cX0_addBox 14 = .ok (.iconst 0, 1) := dk_3 (dk_at dksX0_addBox_0 14 rfl rfl)
theorem dX0_addBox_15 : decode cX0_addBox 15 = .ok (.ireturn, 1) := dk_172 (dk_at dksX0_addBox_0 15 rfl rfl)
def dkwX0_addArrow_0 : List UInt8 := [45, 3, 42, 27, 28, 182, 0, 15, 133, 80, 167, 0, 11, 58, 4, 4, 172, 58, 4, 5, 172, 3, 172]
abbrev dktX0_addArrow_0 : List UInt8 := dkwX0_addArrow_0 ++ []
theorem dksX0_addArrow_0 : cX0_addArrow.data.toList.drop 0 = dktX0_addArrow_0 := by decide +kernel
theorem dX0_addArrow_0 : decode cX0_addArrow 0 = .ok (.aload_n 3, 1) := dk_45 (dk_at dksX0_addArrow_0 0 rfl rfl)
theorem dX0_addArrow_1 : decode cX0_addArrow 1 = .ok (.iconst 0, 1) := dk_3 (dk_at dksX0_addArrow_0 1 rfl rfl)
theorem dX0_addArrow_2 : decode cX0_addArrow 2 = .ok (.aload_n 0, 1) := dk_42 (dk_at dksX0_addArrow_0 2 rfl rfl)
theorem dX0_addArrow_3 : decode cX0_addArrow 3 = .ok (.iload_n 1, 1) := dk_27 (dk_at dksX0_addArrow_0 3 rfl rfl)
theorem dX0_addArrow_4 : decode cX0_addArrow 4 = .ok (.iload_n 2, 1) := dk_28 (dk_at dksX0_addArrow_0 4 rfl rfl)
theorem dX0_addArrow_5 : decode cX0_addArrow 5 = .ok (.invokevirtual 15, 3) := dk_182 0 15 (dk_at dksX0_addArrow_0 5 rfl rfl)
theorem dX0_addArrow_8 : decode cX0_addArrow 8 = .ok (.i2l, 1) := dk_133 (dk_at dksX0_addArrow_0 8 rfl rfl)
theorem dX0_addArrow_9 : decode cX0_addArrow 9 = .ok (.lastore, 1) := dk_80 (dk_at dksX0_addArrow_0 9 rfl rfl)
theorem dX0_addArrow_10 : decode cX0_addArrow 10 = .ok (.goto 11, 3) := dk_167 0 11 (dk_at dksX0_addArrow_0 10 rfl rfl)
theorem dX0_addArrow_13 : decode cX0_addArrow 13 = .ok (.astore 4, 2) := dk_58 4 (dk_at dksX0_addArrow_0 13 rfl rfl)
theorem dX0_addArrow_15 : decode cX0_addArrow 15 = .ok (.iconst 1, 1) := dk_4 (dk_at dksX0_addArrow_0 15 rfl rfl)
theorem dX0_addArrow_16 : decode cX0_addArrow 16 = .ok (.ireturn, 1) := dk_172 (dk_at dksX0_addArrow_0 16 rfl rfl)
theorem dX0_addArrow_17 : decode cX0_addArrow 17 = .ok (.astore 4, 2) := dk_58 4 (dk_at dksX0_addArrow_0 17 rfl rfl)
theorem dX0_addArrow_19 : decode cX0_addArrow 19 = .ok (.iconst 2, 1) := dk_5 (dk_at dksX0_addArrow_0 19 rfl rfl)
theorem dX0_addArrow_20 : decode cX0_addArrow 20 = .ok (.ireturn, 1) := dk_172 (dk_at dksX0_addArrow_0 20 rfl rfl)
theorem dX0_addArrow_21 : decode cX0_addArrow 21 = .ok (.iconst 0, 1) := dk_3 (dk_at dksX0_addArrow_0 21 rfl rfl)
theorem dX0_addArrow_22 : decode cX0_addArrow 22 = .ok (.ireturn, 1) := dk_172 (dk_at dksX0_addArrow_0 22 rfl rfl)
def dkwX0_addChain_1 : List UInt8 := [172]
abbrev dktX0_addChain_1 : List UInt8 := dkwX0_addChain_1 ++ []
def dkwX0_addChain_0 : List UInt8 := [25, 4, 3, 42, 27, 28, 29, 182, 0, 21, 133, 80, 167, 0, 11, 58, 5, 4, 172, 58, 5, 5, 172, 3]
abbrev dktX0_addChain_0 : List UInt8 := dkwX0_addChain_0 ++ dktX0_addChain_1
theorem dksX0_addChain_0 : cX0_addChain.data.toList.drop 0 = dktX0_addChain_0 := by decide +kernel
theorem dksX0_addChain_1 : cX0_addChain.data.toList.drop 24 = dktX0_addChain_1 := dk_seg dksX0_addChain_0 24 rfl rfl
theorem dX0_addChain_0 : decode cX0_addChain 0 = .ok (.aload 4, 2) := dk_25 4 (dk_at dksX0_addChain_0 0 rfl rfl)
theorem dX0_addChain_2 : decode cX0_addChain 2 = .ok (.iconst 0, 1) := dk_3 (dk_at dksX0_addChain_0 2 rfl rfl)
theorem dX0_addChain_3 : decode cX0_addChain 3 = .ok (.aload_n 0, 1) := dk_42 (dk_at dksX0_addChain_0 3 rfl rfl)
theorem dX0_addChain_4 : decode cX0_addChain 4 = .ok (.iload_n 1, 1) := dk_27 (dk_at dksX0_addChain_0 4 rfl rfl)
theorem dX0_addChain_5 : decode cX0_addChain 5 = .ok (.iload_n 2, 1) := dk_28 (dk_at dksX0_addChain_0 5 rfl rfl)
theorem dX0_addChain_6 : decode cX0_addChain 6 = .ok (.iload_n 3, 1) := dk_29 (dk_at dksX0_addChain_0 6 rfl rfl)
theorem dX0_addChain_7 : decode cX0_addChain 7 = .ok (.invokevirtual 21, 3) := dk_182 0 21 (dk_at dksX0_addChain_0 7 rfl rfl)
theorem dX0_addChain_10 : decode cX0_addChain 10 = .ok (.i2l, 1) := dk_133 (dk_at dksX0_addChain_0 10 rfl rfl)
theorem dX0_addChain_11 : decode cX0_addChain 11 = .ok (.lastore, 1) := dk_80 (dk_at dksX0_addChain_0 11 rfl rfl)
theorem dX0_addChain_12 : decode cX0_addChain 12 = .ok (.goto 11, 3) := dk_167 0 11 (dk_at dksX0_addChain_0 12 rfl rfl)
theorem dX0_addChain_15 : decode cX0_addChain 15 = .ok (.astore 5, 2) := dk_58 5 (dk_at dksX0_addChain_0 15 rfl rfl)
theorem dX0_addChain_17 : decode cX0_addChain 17 = .ok (.iconst 1, 1) := dk_4 (dk_at dksX0_addChain_0 17 rfl rfl)
theorem dX0_addChain_18 : decode cX0_addChain 18 = .ok (.ireturn, 1) := dk_172 (dk_at dksX0_addChain_0 18 rfl rfl)
theorem dX0_addChain_19 : decode cX0_addChain 19 = .ok (.astore 5, 2) := dk_58 5 (dk_at dksX0_addChain_0 19 rfl rfl)
theorem dX0_addChain_21 : decode cX0_addChain 21 = .ok (.iconst 2, 1) := dk_5 (dk_at dksX0_addChain_0 21 rfl rfl)
theorem dX0_addChain_22 : decode cX0_addChain 22 = .ok (.ireturn, 1) := dk_172 (dk_at dksX0_addChain_0 22 rfl rfl)
theorem dX0_addChain_23 : decode cX0_addChain 23 = .ok (.iconst 0, 1) := dk_3 (dk_at dksX0_addChain_0 23 rfl rfl)
theorem dX0_addChain_24 : decode cX0_addChain 24 = .ok (.ireturn, 1) := dk_172 (dk_at dksX0_addChain_1 0 rfl rfl)
def dkwX0_removeArrow_0 : List UInt8 := [44, 3, 42, 27, 182, 0, 25, 133, 80, 167, 0, 6, 78, 4, 172, 3, 172]
abbrev dktX0_removeArrow_0 : List UInt8 := dkwX0_removeArrow_0 ++ []
theorem dksX0_removeArrow_0 : cX0_removeArrow.data.toList.drop 0 = dktX0_removeArrow_0 := by decide +kernel
theorem dX0_removeArrow_0 : decode cX0_removeArrow 0 = .ok (.aload_n 2, 1) := dk_44 (dk_at dksX0_removeArrow_0 0 rfl rfl)
theorem dX0_removeArrow_1 : decode cX0_removeArrow 1 = .ok (.iconst 0, 1) := dk_3 (dk_at dksX0_removeArrow_0 1 rfl rfl)
theorem dX0_removeArrow_2 : decode cX0_removeArrow 2 = .ok (.aload_n 0, 1) := dk_42 (dk_at dksX0_removeArrow_0 2 rfl rfl)
theorem dX0_removeArrow_3 : decode cX0_removeArrow 3 = .ok (.iload_n 1, 1) := dk_27 (dk_at dksX0_removeArrow_0 3 rfl rfl)
theorem dX0_removeArrow_4 : decode cX0_removeArrow 4 = .ok (.invokevirtual 25, 3) := dk_182 0 25 (dk_at dksX0_removeArrow_0 4 rfl rfl)
theorem dX0_removeArrow_7 : decode cX0_removeArrow 7 = .ok (.i2l, 1) := dk_133 (dk_at dksX0_removeArrow_0 7 rfl rfl)
theorem dX0_removeArrow_8 : decode cX0_removeArrow 8 = .ok (.lastore, 1) := dk_80 (dk_at dksX0_removeArrow_0 8 rfl rfl)
theorem dX0_removeArrow_9 : decode cX0_removeArrow 9 = .ok (.goto 6, 3) := dk_167 0 6 (dk_at dksX0_removeArrow_0 9 rfl rfl)
theorem dX0_removeArrow_12 : decode cX0_removeArrow 12 = .ok (.astore_n 3, 1) := dk_78 (dk_at dksX0_removeArrow_0 12 rfl rfl)
theorem dX0_removeArrow_13 : decode cX0_removeArrow 13 = .ok (.iconst 1, 1) := dk_4 (dk_at dksX0_removeArrow_0 13 rfl rfl)
theorem dX0_removeArrow_14 : decode cX0_removeArrow 14 = .ok (.ireturn, 1) := dk_172 (dk_at dksX0_removeArrow_0 14 rfl rfl)
theorem dX0_removeArrow_15 : decode cX0_removeArrow 15 = .ok (.iconst 0, 1) := dk_3 (dk_at dksX0_removeArrow_0 15 rfl rfl)
theorem dX0_removeArrow_16 : decode cX0_removeArrow 16 = .ok (.ireturn, 1) := dk_172 (dk_at dksX0_removeArrow_0 16 rfl rfl)
def dkwX0_holdDown_0 : List UInt8 := [45, 3, 42, 27, 28, 182, 0, 29, 133, 80, 167, 0, 7, 58, 4, 4, 172, 3, 172]
abbrev dktX0_holdDown_0 : List UInt8 := dkwX0_holdDown_0 ++ []
theorem dksX0_holdDown_0 : cX0_holdDown.data.toList.drop 0 = dktX0_holdDown_0 := by decide +kernel
theorem dX0_holdDown_0 : decode cX0_holdDown 0 = .ok (.aload_n 3, 1) := dk_45 (dk_at dksX0_holdDown_0 0 rfl rfl)
theorem dX0_holdDown_1 : decode cX0_holdDown 1 = .ok (.iconst 0, 1) := dk_3 (dk_at dksX0_holdDown_0 1 rfl rfl)
theorem dX0_holdDown_2 : decode cX0_holdDown 2 = .ok (.aload_n 0, 1) := dk_42 (dk_at dksX0_holdDown_0 2 rfl rfl)
theorem dX0_holdDown_3 : decode cX0_holdDown 3 = .ok (.iload_n 1, 1) := dk_27 (dk_at dksX0_holdDown_0 3 rfl rfl)
theorem dX0_holdDown_4 : decode cX0_holdDown 4 = .ok (.iload_n 2, 1) := dk_28 (dk_at dksX0_holdDown_0 4 rfl rfl)
theorem dX0_holdDown_5 : decode cX0_holdDown 5 = .ok (.invokevirtual 29, 3) := dk_182 0 29 (dk_at dksX0_holdDown_0 5 rfl rfl)
theorem dX0_holdDown_8 : decode cX0_holdDown 8 = .ok (.i2l, 1) := dk_133 (dk_at dksX0_holdDown_0 8 rfl rfl)
theorem dX0_holdDown_9 : decode cX0_holdDown 9 = .ok (.lastore, 1) := dk_80 (dk_at dksX0_holdDown_0 9 rfl rfl)
theorem dX0_holdDown_10 : decode cX0_holdDown 10 = .ok (.goto 7, 3) := dk_167 0 7 (dk_at dksX0_holdDown_0 10 rfl rfl)
theorem dX0_holdDown_13 : decode cX0_holdDown 13 = .ok (.astore 4, 2) := dk_58 4 (dk_at dksX0_holdDown_0 13 rfl rfl)
theorem dX0_holdDown_15 : decode cX0_holdDown 15 = .ok (.iconst 1, 1) := dk_4 (dk_at dksX0_holdDown_0 15 rfl rfl)
theorem dX0_holdDown_16 : decode cX0_holdDown 16 = .ok (.ireturn, 1) := dk_172 (dk_at dksX0_holdDown_0 16 rfl rfl)
theorem dX0_holdDown_17 : decode cX0_holdDown 17 = .ok (.iconst 0, 1) := dk_3 (dk_at dksX0_holdDown_0 17 rfl rfl)
theorem dX0_holdDown_18 : decode cX0_holdDown 18 = .ok (.ireturn, 1) := dk_172 (dk_at dksX0_holdDown_0 18 rfl rfl)
def dkwX0_exchange_0 : List UInt8 := [25, 4, 3, 42, 27, 28, 29, 182, 0, 32, 133, 80, 167, 0, 7, 58, 5, 4, 172, 3, 172]
abbrev dktX0_exchange_0 : List UInt8 := dkwX0_exchange_0 ++ []
theorem dksX0_exchange_0 : cX0_exchange.data.toList.drop 0 = dktX0_exchange_0 := by decide +kernel
theorem dX0_exchange_0 : decode cX0_exchange 0 = .ok (.aload 4, 2) := dk_25 4 (dk_at dksX0_exchange_0 0 rfl rfl)
theorem dX0_exchange_2 : decode cX0_exchange 2 = .ok (.iconst 0, 1) := dk_3 (dk_at dksX0_exchange_0 2 rfl rfl)
theorem dX0_exchange_3 : decode cX0_exchange 3 = .ok (.aload_n 0, 1) := dk_42 (dk_at dksX0_exchange_0 3 rfl rfl)
theorem dX0_exchange_4 : decode cX0_exchange 4 = .ok (.iload_n 1, 1) := dk_27 (dk_at dksX0_exchange_0 4 rfl rfl)
theorem dX0_exchange_5 : decode cX0_exchange 5 = .ok (.iload_n 2, 1) := dk_28 (dk_at dksX0_exchange_0 5 rfl rfl)
theorem dX0_exchange_6 : decode cX0_exchange 6 = .ok (.iload_n 3, 1) := dk_29 (dk_at dksX0_exchange_0 6 rfl rfl)
theorem dX0_exchange_7 : decode cX0_exchange 7 = .ok (.invokevirtual 32, 3) := dk_182 0 32 (dk_at dksX0_exchange_0 7 rfl rfl)
theorem dX0_exchange_10 : decode cX0_exchange 10 = .ok (.i2l, 1) := dk_133 (dk_at dksX0_exchange_0 10 rfl rfl)
theorem dX0_exchange_11 : decode cX0_exchange 11 = .ok (.lastore, 1) := dk_80 (dk_at dksX0_exchange_0 11 rfl rfl)
theorem dX0_exchange_12 : decode cX0_exchange 12 = .ok (.goto 7, 3) := dk_167 0 7 (dk_at dksX0_exchange_0 12 rfl rfl)
theorem dX0_exchange_15 : decode cX0_exchange 15 = .ok (.astore 5, 2) := dk_58 5 (dk_at dksX0_exchange_0 15 rfl rfl)
theorem dX0_exchange_17 : decode cX0_exchange 17 = .ok (.iconst 1, 1) := dk_4 (dk_at dksX0_exchange_0 17 rfl rfl)
theorem dX0_exchange_18 : decode cX0_exchange 18 = .ok (.ireturn, 1) := dk_172 (dk_at dksX0_exchange_0 18 rfl rfl)
theorem dX0_exchange_19 : decode cX0_exchange 19 = .ok (.iconst 0, 1) := dk_3 (dk_at dksX0_exchange_0 19 rfl rfl)
theorem dX0_exchange_20 : decode cX0_exchange 20 = .ok (.ireturn, 1) := dk_172 (dk_at dksX0_exchange_0 20 rfl rfl)
def dkwX0_fromOf_0 : List UInt8 := [44, 3, 42, 27, 182, 0, 35, 133, 80, 167, 0, 6, 78, 4, 172, 3, 172]
abbrev dktX0_fromOf_0 : List UInt8 := dkwX0_fromOf_0 ++ []
theorem dksX0_fromOf_0 : cX0_fromOf.data.toList.drop 0 = dktX0_fromOf_0 := by decide +kernel
theorem dX0_fromOf_0 : decode cX0_fromOf 0 = .ok (.aload_n 2, 1) := dk_44 (dk_at dksX0_fromOf_0 0 rfl rfl)
theorem dX0_fromOf_1 : decode cX0_fromOf 1 = .ok (.iconst 0, 1) := dk_3 (dk_at dksX0_fromOf_0 1 rfl rfl)
theorem dX0_fromOf_2 : decode cX0_fromOf 2 = .ok (.aload_n 0, 1) := dk_42 (dk_at dksX0_fromOf_0 2 rfl rfl)
theorem dX0_fromOf_3 : decode cX0_fromOf 3 = .ok (.iload_n 1, 1) := dk_27 (dk_at dksX0_fromOf_0 3 rfl rfl)
theorem dX0_fromOf_4 : decode cX0_fromOf 4 = .ok (.invokevirtual 35, 3) := dk_182 0 35 (dk_at dksX0_fromOf_0 4 rfl rfl)
theorem dX0_fromOf_7 : decode cX0_fromOf 7 = .ok (.i2l, 1) := dk_133 (dk_at dksX0_fromOf_0 7 rfl rfl)
theorem dX0_fromOf_8 : decode cX0_fromOf 8 = .ok (.lastore, 1) := dk_80 (dk_at dksX0_fromOf_0 8 rfl rfl)
theorem dX0_fromOf_9 : decode cX0_fromOf 9 = .ok (.goto 6, 3) := dk_167 0 6 (dk_at dksX0_fromOf_0 9 rfl rfl)
theorem dX0_fromOf_12 : decode cX0_fromOf 12 = .ok (.astore_n 3, 1) := dk_78 (dk_at dksX0_fromOf_0 12 rfl rfl)
theorem dX0_fromOf_13 : decode cX0_fromOf 13 = .ok (.iconst 1, 1) := dk_4 (dk_at dksX0_fromOf_0 13 rfl rfl)
theorem dX0_fromOf_14 : decode cX0_fromOf 14 = .ok (.ireturn, 1) := dk_172 (dk_at dksX0_fromOf_0 14 rfl rfl)
theorem dX0_fromOf_15 : decode cX0_fromOf 15 = .ok (.iconst 0, 1) := dk_3 (dk_at dksX0_fromOf_0 15 rfl rfl)
theorem dX0_fromOf_16 : decode cX0_fromOf 16 = .ok (.ireturn, 1) := dk_172 (dk_at dksX0_fromOf_0 16 rfl rfl)
def dkwX0_toOf_0 : List UInt8 := [44, 3, 42, 27, 182, 0, 38, 133, 80, 167, 0, 6, 78, 4, 172, 3, 172]
abbrev dktX0_toOf_0 : List UInt8 := dkwX0_toOf_0 ++ []
theorem dksX0_toOf_0 : cX0_toOf.data.toList.drop 0 = dktX0_toOf_0 := by decide +kernel
theorem dX0_toOf_0 : decode cX0_toOf 0 = .ok (.aload_n 2, 1) := dk_44 (dk_at dksX0_toOf_0 0 rfl rfl)
theorem dX0_toOf_1 : decode cX0_toOf 1 = .ok (.iconst 0, 1) := dk_3 (dk_at dksX0_toOf_0 1 rfl rfl)
theorem dX0_toOf_2 : decode cX0_toOf 2 = .ok (.aload_n 0, 1) := dk_42 (dk_at dksX0_toOf_0 2 rfl rfl)
theorem dX0_toOf_3 : decode cX0_toOf 3 = .ok (.iload_n 1, 1) := dk_27 (dk_at dksX0_toOf_0 3 rfl rfl)
theorem dX0_toOf_4 : decode cX0_toOf 4 = .ok (.invokevirtual 38, 3) := dk_182 0 38 (dk_at dksX0_toOf_0 4 rfl rfl)
theorem dX0_toOf_7 : decode cX0_toOf 7 = .ok (.i2l, 1) := dk_133 (dk_at dksX0_toOf_0 7 rfl rfl)
theorem dX0_toOf_8 : decode cX0_toOf 8 = .ok (.lastore, 1) := dk_80 (dk_at dksX0_toOf_0 8 rfl rfl)
theorem dX0_toOf_9 : decode cX0_toOf 9 = .ok (.goto 6, 3) := dk_167 0 6 (dk_at dksX0_toOf_0 9 rfl rfl)
theorem dX0_toOf_12 : decode cX0_toOf 12 = .ok (.astore_n 3, 1) := dk_78 (dk_at dksX0_toOf_0 12 rfl rfl)
theorem dX0_toOf_13 : decode cX0_toOf 13 = .ok (.iconst 1, 1) := dk_4 (dk_at dksX0_toOf_0 13 rfl rfl)
theorem dX0_toOf_14 : decode cX0_toOf 14 = .ok (.ireturn, 1) := dk_172 (dk_at dksX0_toOf_0 14 rfl rfl)
theorem dX0_toOf_15 : decode cX0_toOf 15 = .ok (.iconst 0, 1) := dk_3 (dk_at dksX0_toOf_0 15 rfl rfl)
theorem dX0_toOf_16 : decode cX0_toOf 16 = .ok (.ireturn, 1) := dk_172 (dk_at dksX0_toOf_0 16 rfl rfl)
def dkwX0_whyRefused_0 : List UInt8 := [45, 3, 42, 27, 28, 182, 0, 41, 133, 80, 167, 0, 7, 58, 4, 4, 172, 3, 172]
abbrev dktX0_whyRefused_0 : List UInt8 := dkwX0_whyRefused_0 ++ []
theorem dksX0_whyRefused_0 : cX0_whyRefused.data.toList.drop 0 = dktX0_whyRefused_0 := by decide +kernel
theorem dX0_whyRefused_0 : decode cX0_whyRefused 0 = .ok (.aload_n 3, 1) := dk_45 (dk_at dksX0_whyRefused_0 0 rfl rfl)
theorem dX0_whyRefused_1 : decode cX0_whyRefused 1 = .ok (.iconst 0, 1) := dk_3 (dk_at dksX0_whyRefused_0 1 rfl rfl)
theorem dX0_whyRefused_2 : decode cX0_whyRefused 2 = .ok (.aload_n 0, 1) := dk_42 (dk_at dksX0_whyRefused_0 2 rfl rfl)
theorem dX0_whyRefused_3 : decode cX0_whyRefused 3 = .ok (.iload_n 1, 1) := dk_27 (dk_at dksX0_whyRefused_0 3 rfl rfl)
theorem dX0_whyRefused_4 : decode cX0_whyRefused 4 = .ok (.iload_n 2, 1) := dk_28 (dk_at dksX0_whyRefused_0 4 rfl rfl)
theorem dX0_whyRefused_5 : decode cX0_whyRefused 5 = .ok (.invokevirtual 41, 3) := dk_182 0 41 (dk_at dksX0_whyRefused_0 5 rfl rfl)
theorem dX0_whyRefused_8 : decode cX0_whyRefused 8 = .ok (.i2l, 1) := dk_133 (dk_at dksX0_whyRefused_0 8 rfl rfl)
theorem dX0_whyRefused_9 : decode cX0_whyRefused 9 = .ok (.lastore, 1) := dk_80 (dk_at dksX0_whyRefused_0 9 rfl rfl)
theorem dX0_whyRefused_10 : decode cX0_whyRefused 10 = .ok (.goto 7, 3) := dk_167 0 7 (dk_at dksX0_whyRefused_0 10 rfl rfl)
theorem dX0_whyRefused_13 : decode cX0_whyRefused 13 = .ok (.astore 4, 2) := dk_58 4 (dk_at dksX0_whyRefused_0 13 rfl rfl)
theorem dX0_whyRefused_15 : decode cX0_whyRefused 15 = .ok (.iconst 1, 1) := dk_4 (dk_at dksX0_whyRefused_0 15 rfl rfl)
theorem dX0_whyRefused_16 : decode cX0_whyRefused 16 = .ok (.ireturn, 1) := dk_172 (dk_at dksX0_whyRefused_0 16 rfl rfl)
theorem dX0_whyRefused_17 : decode cX0_whyRefused 17 = .ok (.iconst 0, 1) := dk_3 (dk_at dksX0_whyRefused_0 17 rfl rfl)
theorem dX0_whyRefused_18 : decode cX0_whyRefused 18 = .ok (.ireturn, 1) := dk_172 (dk_at dksX0_whyRefused_0 18 rfl rfl)
def dkwX0_whyNoChain_0 : List UInt8 := [25, 4, 3, 42, 27, 28, 29, 182, 0, 44, 133, 80, 167, 0, 7, 58, 5, 4, 172, 3, 172]
abbrev dktX0_whyNoChain_0 : List UInt8 := dkwX0_whyNoChain_0 ++ []
theorem dksX0_whyNoChain_0 : cX0_whyNoChain.data.toList.drop 0 = dktX0_whyNoChain_0 := by decide +kernel
theorem dX0_whyNoChain_0 : decode cX0_whyNoChain 0 = .ok (.aload 4, 2) := dk_25 4 (dk_at dksX0_whyNoChain_0 0 rfl rfl)
theorem dX0_whyNoChain_2 : decode cX0_whyNoChain 2 = .ok (.iconst 0, 1) := dk_3 (dk_at dksX0_whyNoChain_0 2 rfl rfl)
theorem dX0_whyNoChain_3 : decode cX0_whyNoChain 3 = .ok (.aload_n 0, 1) := dk_42 (dk_at dksX0_whyNoChain_0 3 rfl rfl)
theorem dX0_whyNoChain_4 : decode cX0_whyNoChain 4 = .ok (.iload_n 1, 1) := dk_27 (dk_at dksX0_whyNoChain_0 4 rfl rfl)
theorem dX0_whyNoChain_5 : decode cX0_whyNoChain 5 = .ok (.iload_n 2, 1) := dk_28 (dk_at dksX0_whyNoChain_0 5 rfl rfl)
theorem dX0_whyNoChain_6 : decode cX0_whyNoChain 6 = .ok (.iload_n 3, 1) := dk_29 (dk_at dksX0_whyNoChain_0 6 rfl rfl)
theorem dX0_whyNoChain_7 : decode cX0_whyNoChain 7 = .ok (.invokevirtual 44, 3) := dk_182 0 44 (dk_at dksX0_whyNoChain_0 7 rfl rfl)
theorem dX0_whyNoChain_10 : decode cX0_whyNoChain 10 = .ok (.i2l, 1) := dk_133 (dk_at dksX0_whyNoChain_0 10 rfl rfl)
theorem dX0_whyNoChain_11 : decode cX0_whyNoChain 11 = .ok (.lastore, 1) := dk_80 (dk_at dksX0_whyNoChain_0 11 rfl rfl)
theorem dX0_whyNoChain_12 : decode cX0_whyNoChain 12 = .ok (.goto 7, 3) := dk_167 0 7 (dk_at dksX0_whyNoChain_0 12 rfl rfl)
theorem dX0_whyNoChain_15 : decode cX0_whyNoChain 15 = .ok (.astore 5, 2) := dk_58 5 (dk_at dksX0_whyNoChain_0 15 rfl rfl)
theorem dX0_whyNoChain_17 : decode cX0_whyNoChain 17 = .ok (.iconst 1, 1) := dk_4 (dk_at dksX0_whyNoChain_0 17 rfl rfl)
theorem dX0_whyNoChain_18 : decode cX0_whyNoChain 18 = .ok (.ireturn, 1) := dk_172 (dk_at dksX0_whyNoChain_0 18 rfl rfl)
theorem dX0_whyNoChain_19 : decode cX0_whyNoChain 19 = .ok (.iconst 0, 1) := dk_3 (dk_at dksX0_whyNoChain_0 19 rfl rfl)
theorem dX0_whyNoChain_20 : decode cX0_whyNoChain 20 = .ok (.ireturn, 1) := dk_172 (dk_at dksX0_whyNoChain_0 20 rfl rfl)
def dkwX0_doesHear_1 : List UInt8 := [3, 172]
abbrev dktX0_doesHear_1 : List UInt8 := dkwX0_doesHear_1 ++ []
def dkwX0_doesHear_0 : List UInt8 := [45, 3, 42, 27, 28, 182, 0, 47, 153, 0, 7, 10, 167, 0, 4, 9, 80, 167, 0, 7, 58, 4, 4, 172]
abbrev dktX0_doesHear_0 : List UInt8 := dkwX0_doesHear_0 ++ dktX0_doesHear_1
theorem dksX0_doesHear_0 : cX0_doesHear.data.toList.drop 0 = dktX0_doesHear_0 := by decide +kernel
theorem dksX0_doesHear_1 : cX0_doesHear.data.toList.drop 24 = dktX0_doesHear_1 := dk_seg dksX0_doesHear_0 24 rfl rfl
theorem dX0_doesHear_0 : decode cX0_doesHear 0 = .ok (.aload_n 3, 1) := dk_45 (dk_at dksX0_doesHear_0 0 rfl rfl)
theorem dX0_doesHear_1 : decode cX0_doesHear 1 = .ok (.iconst 0, 1) := dk_3 (dk_at dksX0_doesHear_0 1 rfl rfl)
theorem dX0_doesHear_2 : decode cX0_doesHear 2 = .ok (.aload_n 0, 1) := dk_42 (dk_at dksX0_doesHear_0 2 rfl rfl)
theorem dX0_doesHear_3 : decode cX0_doesHear 3 = .ok (.iload_n 1, 1) := dk_27 (dk_at dksX0_doesHear_0 3 rfl rfl)
theorem dX0_doesHear_4 : decode cX0_doesHear 4 = .ok (.iload_n 2, 1) := dk_28 (dk_at dksX0_doesHear_0 4 rfl rfl)
theorem dX0_doesHear_5 : decode cX0_doesHear 5 = .ok (.invokevirtual 47, 3) := dk_182 0 47 (dk_at dksX0_doesHear_0 5 rfl rfl)
theorem dX0_doesHear_8 : decode cX0_doesHear 8 = .ok (.ifCond .eq 7, 3) := dk_153 0 7 (dk_at dksX0_doesHear_0 8 rfl rfl)
theorem dX0_doesHear_11 : decode cX0_doesHear 11 = .ok (.lconst 1, 1) := dk_10 (dk_at dksX0_doesHear_0 11 rfl rfl)
theorem dX0_doesHear_12 : decode cX0_doesHear 12 = .ok (.goto 4, 3) := dk_167 0 4 (dk_at dksX0_doesHear_0 12 rfl rfl)
theorem dX0_doesHear_15 : decode cX0_doesHear 15 = .ok (.lconst 0, 1) := dk_9 (dk_at dksX0_doesHear_0 15 rfl rfl)
theorem dX0_doesHear_16 : decode cX0_doesHear 16 = .ok (.lastore, 1) := dk_80 (dk_at dksX0_doesHear_0 16 rfl rfl)
theorem dX0_doesHear_17 : decode cX0_doesHear 17 = .ok (.goto 7, 3) := dk_167 0 7 (dk_at dksX0_doesHear_0 17 rfl rfl)
theorem dX0_doesHear_20 : decode cX0_doesHear 20 = .ok (.astore 4, 2) := dk_58 4 (dk_at dksX0_doesHear_0 20 rfl rfl)
theorem dX0_doesHear_22 : decode cX0_doesHear 22 = .ok (.iconst 1, 1) := dk_4 (dk_at dksX0_doesHear_0 22 rfl rfl)
theorem dX0_doesHear_23 : decode cX0_doesHear 23 = .ok (.ireturn, 1) := dk_172 (dk_at dksX0_doesHear_0 23 rfl rfl)
theorem dX0_doesHear_24 : decode cX0_doesHear 24 = .ok (.iconst 0, 1) := dk_3 (dk_at dksX0_doesHear_1 0 rfl rfl)
theorem dX0_doesHear_25 : decode cX0_doesHear 25 = .ok (.ireturn, 1) := dk_172 (dk_at dksX0_doesHear_1 1 rfl rfl)
def dkwX0_hears_0 : List UInt8 := [44, 3, 42, 27, 182, 0, 51, 133, 80, 167, 0, 6, 78, 4, 172, 3, 172]
abbrev dktX0_hears_0 : List UInt8 := dkwX0_hears_0 ++ []
theorem dksX0_hears_0 : cX0_hears.data.toList.drop 0 = dktX0_hears_0 := by decide +kernel
theorem dX0_hears_0 : decode cX0_hears 0 = .ok (.aload_n 2, 1) := dk_44 (dk_at dksX0_hears_0 0 rfl rfl)
theorem dX0_hears_1 : decode cX0_hears 1 = .ok (.iconst 0, 1) := dk_3 (dk_at dksX0_hears_0 1 rfl rfl)
theorem dX0_hears_2 : decode cX0_hears 2 = .ok (.aload_n 0, 1) := dk_42 (dk_at dksX0_hears_0 2 rfl rfl)
theorem dX0_hears_3 : decode cX0_hears 3 = .ok (.iload_n 1, 1) := dk_27 (dk_at dksX0_hears_0 3 rfl rfl)
theorem dX0_hears_4 : decode cX0_hears 4 = .ok (.invokevirtual 51, 3) := dk_182 0 51 (dk_at dksX0_hears_0 4 rfl rfl)
theorem dX0_hears_7 : decode cX0_hears 7 = .ok (.i2l, 1) := dk_133 (dk_at dksX0_hears_0 7 rfl rfl)
theorem dX0_hears_8 : decode cX0_hears 8 = .ok (.lastore, 1) := dk_80 (dk_at dksX0_hears_0 8 rfl rfl)
theorem dX0_hears_9 : decode cX0_hears 9 = .ok (.goto 6, 3) := dk_167 0 6 (dk_at dksX0_hears_0 9 rfl rfl)
theorem dX0_hears_12 : decode cX0_hears 12 = .ok (.astore_n 3, 1) := dk_78 (dk_at dksX0_hears_0 12 rfl rfl)
theorem dX0_hears_13 : decode cX0_hears 13 = .ok (.iconst 1, 1) := dk_4 (dk_at dksX0_hears_0 13 rfl rfl)
theorem dX0_hears_14 : decode cX0_hears 14 = .ok (.ireturn, 1) := dk_172 (dk_at dksX0_hears_0 14 rfl rfl)
theorem dX0_hears_15 : decode cX0_hears 15 = .ok (.iconst 0, 1) := dk_3 (dk_at dksX0_hears_0 15 rfl rfl)
theorem dX0_hears_16 : decode cX0_hears 16 = .ok (.ireturn, 1) := dk_172 (dk_at dksX0_hears_0 16 rfl rfl)
def dkwX0_isNeedless_0 : List UInt8 := [44, 3, 42, 27, 182, 0, 54, 153, 0, 7, 10, 167, 0, 4, 9, 80, 167, 0, 6, 78, 4, 172, 3, 172]
abbrev dktX0_isNeedless_0 : List UInt8 := dkwX0_isNeedless_0 ++ []
theorem dksX0_isNeedless_0 : cX0_isNeedless.data.toList.drop 0 = dktX0_isNeedless_0 := by decide +kernel
theorem dX0_isNeedless_0 : decode cX0_isNeedless 0 = .ok (.aload_n 2, 1) := dk_44 (dk_at dksX0_isNeedless_0 0 rfl rfl)
theorem dX0_isNeedless_1 : decode cX0_isNeedless 1 = .ok (.iconst 0, 1) := dk_3 (dk_at dksX0_isNeedless_0 1 rfl rfl)
theorem dX0_isNeedless_2 : decode cX0_isNeedless 2 = .ok (.aload_n 0, 1) := dk_42 (dk_at dksX0_isNeedless_0 2 rfl rfl)
theorem dX0_isNeedless_3 : decode cX0_isNeedless 3 = .ok (.iload_n 1, 1) := dk_27 (dk_at dksX0_isNeedless_0 3 rfl rfl)
theorem dX0_isNeedless_4 : decode cX0_isNeedless 4 = .ok (.invokevirtual 54, 3) := dk_182 0 54 (dk_at dksX0_isNeedless_0 4 rfl rfl)
theorem dX0_isNeedless_7 : decode cX0_isNeedless 7 = .ok (.ifCond .eq 7, 3) := dk_153 0 7 (dk_at dksX0_isNeedless_0 7 rfl rfl)
theorem dX0_isNeedless_10 : decode cX0_isNeedless 10 = .ok (.lconst 1, 1) := dk_10 (dk_at dksX0_isNeedless_0 10 rfl rfl)
theorem dX0_isNeedless_11 : decode cX0_isNeedless 11 = .ok (.goto 4, 3) := dk_167 0 4 (dk_at dksX0_isNeedless_0 11 rfl rfl)
theorem dX0_isNeedless_14 : decode cX0_isNeedless 14 = .ok (.lconst 0, 1) := dk_9 (dk_at dksX0_isNeedless_0 14 rfl rfl)
theorem dX0_isNeedless_15 : decode cX0_isNeedless 15 = .ok (.lastore, 1) := dk_80 (dk_at dksX0_isNeedless_0 15 rfl rfl)
theorem dX0_isNeedless_16 : decode cX0_isNeedless 16 = .ok (.goto 6, 3) := dk_167 0 6 (dk_at dksX0_isNeedless_0 16 rfl rfl)
theorem dX0_isNeedless_19 : decode cX0_isNeedless 19 = .ok (.astore_n 3, 1) := dk_78 (dk_at dksX0_isNeedless_0 19 rfl rfl)
theorem dX0_isNeedless_20 : decode cX0_isNeedless 20 = .ok (.iconst 1, 1) := dk_4 (dk_at dksX0_isNeedless_0 20 rfl rfl)
theorem dX0_isNeedless_21 : decode cX0_isNeedless 21 = .ok (.ireturn, 1) := dk_172 (dk_at dksX0_isNeedless_0 21 rfl rfl)
theorem dX0_isNeedless_22 : decode cX0_isNeedless 22 = .ok (.iconst 0, 1) := dk_3 (dk_at dksX0_isNeedless_0 22 rfl rfl)
theorem dX0_isNeedless_23 : decode cX0_isNeedless 23 = .ok (.ireturn, 1) := dk_172 (dk_at dksX0_isNeedless_0 23 rfl rfl)
def dkwX0_ways_0 : List UInt8 := [45, 3, 42, 27, 28, 182, 0, 58, 133, 80, 167, 0, 7, 58, 4, 4, 172, 3, 172]
abbrev dktX0_ways_0 : List UInt8 := dkwX0_ways_0 ++ []
theorem dksX0_ways_0 : cX0_ways.data.toList.drop 0 = dktX0_ways_0 := by decide +kernel
theorem dX0_ways_0 : decode cX0_ways 0 = .ok (.aload_n 3, 1) := dk_45 (dk_at dksX0_ways_0 0 rfl rfl)
theorem dX0_ways_1 : decode cX0_ways 1 = .ok (.iconst 0, 1) := dk_3 (dk_at dksX0_ways_0 1 rfl rfl)
theorem dX0_ways_2 : decode cX0_ways 2 = .ok (.aload_n 0, 1) := dk_42 (dk_at dksX0_ways_0 2 rfl rfl)
theorem dX0_ways_3 : decode cX0_ways 3 = .ok (.iload_n 1, 1) := dk_27 (dk_at dksX0_ways_0 3 rfl rfl)
theorem dX0_ways_4 : decode cX0_ways 4 = .ok (.iload_n 2, 1) := dk_28 (dk_at dksX0_ways_0 4 rfl rfl)
theorem dX0_ways_5 : decode cX0_ways 5 = .ok (.invokevirtual 58, 3) := dk_182 0 58 (dk_at dksX0_ways_0 5 rfl rfl)
theorem dX0_ways_8 : decode cX0_ways 8 = .ok (.i2l, 1) := dk_133 (dk_at dksX0_ways_0 8 rfl rfl)
theorem dX0_ways_9 : decode cX0_ways 9 = .ok (.lastore, 1) := dk_80 (dk_at dksX0_ways_0 9 rfl rfl)
theorem dX0_ways_10 : decode cX0_ways 10 = .ok (.goto 7, 3) := dk_167 0 7 (dk_at dksX0_ways_0 10 rfl rfl)
theorem dX0_ways_13 : decode cX0_ways 13 = .ok (.astore 4, 2) := dk_58 4 (dk_at dksX0_ways_0 13 rfl rfl)
theorem dX0_ways_15 : decode cX0_ways 15 = .ok (.iconst 1, 1) := dk_4 (dk_at dksX0_ways_0 15 rfl rfl)
theorem dX0_ways_16 : decode cX0_ways 16 = .ok (.ireturn, 1) := dk_172 (dk_at dksX0_ways_0 16 rfl rfl)
theorem dX0_ways_17 : decode cX0_ways 17 = .ok (.iconst 0, 1) := dk_3 (dk_at dksX0_ways_0 17 rfl rfl)
theorem dX0_ways_18 : decode cX0_ways 18 = .ok (.ireturn, 1) := dk_172 (dk_at dksX0_ways_0 18 rfl rfl)
def dkwX0_waysByGoingBack_0 : List UInt8 := [45, 3, 42, 27, 28, 182, 0, 61, 133, 80, 167, 0, 7, 58, 4, 4, 172, 3, 172]
abbrev dktX0_waysByGoingBack_0 : List UInt8 := dkwX0_waysByGoingBack_0 ++ []
theorem dksX0_waysByGoingBack_0 : cX0_waysByGoingBack.data.toList.drop 0 = dktX0_waysByGoingBack_0 := by decide +kernel
theorem dX0_waysByGoingBack_0 : decode cX0_waysByGoingBack 0 = .ok (.aload_n 3, 1) := dk_45 (dk_at dksX0_waysByGoingBack_0 0 rfl rfl)
theorem dX0_waysByGoingBack_1 : decode cX0_waysByGoingBack 1 = .ok (.iconst 0, 1) := dk_3 (dk_at dksX0_waysByGoingBack_0 1 rfl rfl)
theorem dX0_waysByGoingBack_2 : decode cX0_waysByGoingBack 2 = .ok (.aload_n 0, 1) := dk_42 (dk_at dksX0_waysByGoingBack_0 2 rfl rfl)
theorem dX0_waysByGoingBack_3 : decode cX0_waysByGoingBack 3 = .ok (.iload_n 1, 1) := dk_27 (dk_at dksX0_waysByGoingBack_0 3 rfl rfl)
theorem dX0_waysByGoingBack_4 : decode cX0_waysByGoingBack 4 = .ok (.iload_n 2, 1) := dk_28 (dk_at dksX0_waysByGoingBack_0 4 rfl rfl)
theorem dX0_waysByGoingBack_5 : decode cX0_waysByGoingBack 5 = .ok (.invokevirtual 61, 3) := dk_182 0 61 (dk_at dksX0_waysByGoingBack_0 5 rfl rfl)
theorem dX0_waysByGoingBack_8 : decode cX0_waysByGoingBack 8 = .ok (.i2l, 1) := dk_133 (dk_at dksX0_waysByGoingBack_0 8 rfl rfl)
theorem dX0_waysByGoingBack_9 : decode cX0_waysByGoingBack 9 = .ok (.lastore, 1) := dk_80 (dk_at dksX0_waysByGoingBack_0 9 rfl rfl)
theorem dX0_waysByGoingBack_10 : decode cX0_waysByGoingBack 10 = .ok (.goto 7, 3) := dk_167 0 7 (dk_at dksX0_waysByGoingBack_0 10 rfl rfl)
theorem dX0_waysByGoingBack_13 : decode cX0_waysByGoingBack 13 = .ok (.astore 4, 2) := dk_58 4 (dk_at dksX0_waysByGoingBack_0 13 rfl rfl)
theorem dX0_waysByGoingBack_15 : decode cX0_waysByGoingBack 15 = .ok (.iconst 1, 1) := dk_4 (dk_at dksX0_waysByGoingBack_0 15 rfl rfl)
theorem dX0_waysByGoingBack_16 : decode cX0_waysByGoingBack 16 = .ok (.ireturn, 1) := dk_172 (dk_at dksX0_waysByGoingBack_0 16 rfl rfl)
theorem dX0_waysByGoingBack_17 : decode cX0_waysByGoingBack 17 = .ok (.iconst 0, 1) := dk_3 (dk_at dksX0_waysByGoingBack_0 17 rfl rfl)
theorem dX0_waysByGoingBack_18 : decode cX0_waysByGoingBack 18 = .ok (.ireturn, 1) := dk_172 (dk_at dksX0_waysByGoingBack_0 18 rfl rfl)
def dkwX0_fewestArrows_0 : List UInt8 := [45, 3, 42, 27, 28, 182, 0, 64, 133, 80, 167, 0, 11, 58, 4, 4, 172, 58, 4, 5, 172, 3, 172]
abbrev dktX0_fewestArrows_0 : List UInt8 := dkwX0_fewestArrows_0 ++ []
theorem dksX0_fewestArrows_0 : cX0_fewestArrows.data.toList.drop 0 = dktX0_fewestArrows_0 := by decide +kernel
theorem dX0_fewestArrows_0 : decode cX0_fewestArrows 0 = .ok (.aload_n 3, 1) := dk_45 (dk_at dksX0_fewestArrows_0 0 rfl rfl)
theorem dX0_fewestArrows_1 : decode cX0_fewestArrows 1 = .ok (.iconst 0, 1) := dk_3 (dk_at dksX0_fewestArrows_0 1 rfl rfl)
theorem dX0_fewestArrows_2 : decode cX0_fewestArrows 2 = .ok (.aload_n 0, 1) := dk_42 (dk_at dksX0_fewestArrows_0 2 rfl rfl)
theorem dX0_fewestArrows_3 : decode cX0_fewestArrows 3 = .ok (.iload_n 1, 1) := dk_27 (dk_at dksX0_fewestArrows_0 3 rfl rfl)
theorem dX0_fewestArrows_4 : decode cX0_fewestArrows 4 = .ok (.iload_n 2, 1) := dk_28 (dk_at dksX0_fewestArrows_0 4 rfl rfl)
theorem dX0_fewestArrows_5 : decode cX0_fewestArrows 5 = .ok (.invokevirtual 64, 3) := dk_182 0 64 (dk_at dksX0_fewestArrows_0 5 rfl rfl)
theorem dX0_fewestArrows_8 : decode cX0_fewestArrows 8 = .ok (.i2l, 1) := dk_133 (dk_at dksX0_fewestArrows_0 8 rfl rfl)
theorem dX0_fewestArrows_9 : decode cX0_fewestArrows 9 = .ok (.lastore, 1) := dk_80 (dk_at dksX0_fewestArrows_0 9 rfl rfl)
theorem dX0_fewestArrows_10 : decode cX0_fewestArrows 10 = .ok (.goto 11, 3) := dk_167 0 11 (dk_at dksX0_fewestArrows_0 10 rfl rfl)
theorem dX0_fewestArrows_13 : decode cX0_fewestArrows 13 = .ok (.astore 4, 2) := dk_58 4 (dk_at dksX0_fewestArrows_0 13 rfl rfl)
theorem dX0_fewestArrows_15 : decode cX0_fewestArrows 15 = .ok (.iconst 1, 1) := dk_4 (dk_at dksX0_fewestArrows_0 15 rfl rfl)
theorem dX0_fewestArrows_16 : decode cX0_fewestArrows 16 = .ok (.ireturn, 1) := dk_172 (dk_at dksX0_fewestArrows_0 16 rfl rfl)
theorem dX0_fewestArrows_17 : decode cX0_fewestArrows 17 = .ok (.astore 4, 2) := dk_58 4 (dk_at dksX0_fewestArrows_0 17 rfl rfl)
theorem dX0_fewestArrows_19 : decode cX0_fewestArrows 19 = .ok (.iconst 2, 1) := dk_5 (dk_at dksX0_fewestArrows_0 19 rfl rfl)
theorem dX0_fewestArrows_20 : decode cX0_fewestArrows 20 = .ok (.ireturn, 1) := dk_172 (dk_at dksX0_fewestArrows_0 20 rfl rfl)
theorem dX0_fewestArrows_21 : decode cX0_fewestArrows 21 = .ok (.iconst 0, 1) := dk_3 (dk_at dksX0_fewestArrows_0 21 rfl rfl)
theorem dX0_fewestArrows_22 : decode cX0_fewestArrows 22 = .ok (.ireturn, 1) := dk_172 (dk_at dksX0_fewestArrows_0 22 rfl rfl)
def dkwX0_mostArrows_0 : List UInt8 := [45, 3, 42, 27, 28, 182, 0, 69, 133, 80, 167, 0, 11, 58, 4, 4, 172, 58, 4, 5, 172, 3, 172]
abbrev dktX0_mostArrows_0 : List UInt8 := dkwX0_mostArrows_0 ++ []
theorem dksX0_mostArrows_0 : cX0_mostArrows.data.toList.drop 0 = dktX0_mostArrows_0 := by decide +kernel
theorem dX0_mostArrows_0 : decode cX0_mostArrows 0 = .ok (.aload_n 3, 1) := dk_45 (dk_at dksX0_mostArrows_0 0 rfl rfl)
theorem dX0_mostArrows_1 : decode cX0_mostArrows 1 = .ok (.iconst 0, 1) := dk_3 (dk_at dksX0_mostArrows_0 1 rfl rfl)
theorem dX0_mostArrows_2 : decode cX0_mostArrows 2 = .ok (.aload_n 0, 1) := dk_42 (dk_at dksX0_mostArrows_0 2 rfl rfl)
theorem dX0_mostArrows_3 : decode cX0_mostArrows 3 = .ok (.iload_n 1, 1) := dk_27 (dk_at dksX0_mostArrows_0 3 rfl rfl)
theorem dX0_mostArrows_4 : decode cX0_mostArrows 4 = .ok (.iload_n 2, 1) := dk_28 (dk_at dksX0_mostArrows_0 4 rfl rfl)
theorem dX0_mostArrows_5 : decode cX0_mostArrows 5 = .ok (.invokevirtual 69, 3) := dk_182 0 69 (dk_at dksX0_mostArrows_0 5 rfl rfl)
theorem dX0_mostArrows_8 : decode cX0_mostArrows 8 = .ok (.i2l, 1) := dk_133 (dk_at dksX0_mostArrows_0 8 rfl rfl)
theorem dX0_mostArrows_9 : decode cX0_mostArrows 9 = .ok (.lastore, 1) := dk_80 (dk_at dksX0_mostArrows_0 9 rfl rfl)
theorem dX0_mostArrows_10 : decode cX0_mostArrows 10 = .ok (.goto 11, 3) := dk_167 0 11 (dk_at dksX0_mostArrows_0 10 rfl rfl)
theorem dX0_mostArrows_13 : decode cX0_mostArrows 13 = .ok (.astore 4, 2) := dk_58 4 (dk_at dksX0_mostArrows_0 13 rfl rfl)
theorem dX0_mostArrows_15 : decode cX0_mostArrows 15 = .ok (.iconst 1, 1) := dk_4 (dk_at dksX0_mostArrows_0 15 rfl rfl)
theorem dX0_mostArrows_16 : decode cX0_mostArrows 16 = .ok (.ireturn, 1) := dk_172 (dk_at dksX0_mostArrows_0 16 rfl rfl)
theorem dX0_mostArrows_17 : decode cX0_mostArrows 17 = .ok (.astore 4, 2) := dk_58 4 (dk_at dksX0_mostArrows_0 17 rfl rfl)
theorem dX0_mostArrows_19 : decode cX0_mostArrows 19 = .ok (.iconst 2, 1) := dk_5 (dk_at dksX0_mostArrows_0 19 rfl rfl)
theorem dX0_mostArrows_20 : decode cX0_mostArrows 20 = .ok (.ireturn, 1) := dk_172 (dk_at dksX0_mostArrows_0 20 rfl rfl)
theorem dX0_mostArrows_21 : decode cX0_mostArrows 21 = .ok (.iconst 0, 1) := dk_3 (dk_at dksX0_mostArrows_0 21 rfl rfl)
theorem dX0_mostArrows_22 : decode cX0_mostArrows 22 = .ok (.ireturn, 1) := dk_172 (dk_at dksX0_mostArrows_0 22 rfl rfl)
def dkwX0_layerOf_0 : List UInt8 := [44, 3, 42, 27, 182, 0, 72, 133, 80, 167, 0, 6, 78, 4, 172, 3, 172]
abbrev dktX0_layerOf_0 : List UInt8 := dkwX0_layerOf_0 ++ []
theorem dksX0_layerOf_0 : cX0_layerOf.data.toList.drop 0 = dktX0_layerOf_0 := by decide +kernel
theorem dX0_layerOf_0 : decode cX0_layerOf 0 = .ok (.aload_n 2, 1) := dk_44 (dk_at dksX0_layerOf_0 0 rfl rfl)
theorem dX0_layerOf_1 : decode cX0_layerOf 1 = .ok (.iconst 0, 1) := dk_3 (dk_at dksX0_layerOf_0 1 rfl rfl)
theorem dX0_layerOf_2 : decode cX0_layerOf 2 = .ok (.aload_n 0, 1) := dk_42 (dk_at dksX0_layerOf_0 2 rfl rfl)
theorem dX0_layerOf_3 : decode cX0_layerOf 3 = .ok (.iload_n 1, 1) := dk_27 (dk_at dksX0_layerOf_0 3 rfl rfl)
theorem dX0_layerOf_4 : decode cX0_layerOf 4 = .ok (.invokevirtual 72, 3) := dk_182 0 72 (dk_at dksX0_layerOf_0 4 rfl rfl)
theorem dX0_layerOf_7 : decode cX0_layerOf 7 = .ok (.i2l, 1) := dk_133 (dk_at dksX0_layerOf_0 7 rfl rfl)
theorem dX0_layerOf_8 : decode cX0_layerOf 8 = .ok (.lastore, 1) := dk_80 (dk_at dksX0_layerOf_0 8 rfl rfl)
theorem dX0_layerOf_9 : decode cX0_layerOf 9 = .ok (.goto 6, 3) := dk_167 0 6 (dk_at dksX0_layerOf_0 9 rfl rfl)
theorem dX0_layerOf_12 : decode cX0_layerOf 12 = .ok (.astore_n 3, 1) := dk_78 (dk_at dksX0_layerOf_0 12 rfl rfl)
theorem dX0_layerOf_13 : decode cX0_layerOf 13 = .ok (.iconst 1, 1) := dk_4 (dk_at dksX0_layerOf_0 13 rfl rfl)
theorem dX0_layerOf_14 : decode cX0_layerOf 14 = .ok (.ireturn, 1) := dk_172 (dk_at dksX0_layerOf_0 14 rfl rfl)
theorem dX0_layerOf_15 : decode cX0_layerOf 15 = .ok (.iconst 0, 1) := dk_3 (dk_at dksX0_layerOf_0 15 rfl rfl)
theorem dX0_layerOf_16 : decode cX0_layerOf 16 = .ok (.ireturn, 1) := dk_172 (dk_at dksX0_layerOf_0 16 rfl rfl)
def dkwX0_layerByGoingBack_0 : List UInt8 := [44, 3, 42, 27, 182, 0, 75, 133, 80, 167, 0, 6, 78, 4, 172, 3, 172]
abbrev dktX0_layerByGoingBack_0 : List UInt8 := dkwX0_layerByGoingBack_0 ++ []
theorem dksX0_layerByGoingBack_0 : cX0_layerByGoingBack.data.toList.drop 0 = dktX0_layerByGoingBack_0 := by decide +kernel
theorem dX0_layerByGoingBack_0 : decode cX0_layerByGoingBack 0 = .ok (.aload_n 2, 1) := dk_44 (dk_at dksX0_layerByGoingBack_0 0 rfl rfl)
theorem dX0_layerByGoingBack_1 : decode cX0_layerByGoingBack 1 = .ok (.iconst 0, 1) := dk_3 (dk_at dksX0_layerByGoingBack_0 1 rfl rfl)
theorem dX0_layerByGoingBack_2 : decode cX0_layerByGoingBack 2 = .ok (.aload_n 0, 1) := dk_42 (dk_at dksX0_layerByGoingBack_0 2 rfl rfl)
theorem dX0_layerByGoingBack_3 : decode cX0_layerByGoingBack 3 = .ok (.iload_n 1, 1) := dk_27 (dk_at dksX0_layerByGoingBack_0 3 rfl rfl)
theorem dX0_layerByGoingBack_4 : decode cX0_layerByGoingBack 4 = .ok (.invokevirtual 75, 3) := dk_182 0 75 (dk_at dksX0_layerByGoingBack_0 4 rfl rfl)
theorem dX0_layerByGoingBack_7 : decode cX0_layerByGoingBack 7 = .ok (.i2l, 1) := dk_133 (dk_at dksX0_layerByGoingBack_0 7 rfl rfl)
theorem dX0_layerByGoingBack_8 : decode cX0_layerByGoingBack 8 = .ok (.lastore, 1) := dk_80 (dk_at dksX0_layerByGoingBack_0 8 rfl rfl)
theorem dX0_layerByGoingBack_9 : decode cX0_layerByGoingBack 9 = .ok (.goto 6, 3) := dk_167 0 6 (dk_at dksX0_layerByGoingBack_0 9 rfl rfl)
theorem dX0_layerByGoingBack_12 : decode cX0_layerByGoingBack 12 = .ok (.astore_n 3, 1) := dk_78 (dk_at dksX0_layerByGoingBack_0 12 rfl rfl)
theorem dX0_layerByGoingBack_13 : decode cX0_layerByGoingBack 13 = .ok (.iconst 1, 1) := dk_4 (dk_at dksX0_layerByGoingBack_0 13 rfl rfl)
theorem dX0_layerByGoingBack_14 : decode cX0_layerByGoingBack 14 = .ok (.ireturn, 1) := dk_172 (dk_at dksX0_layerByGoingBack_0 14 rfl rfl)
theorem dX0_layerByGoingBack_15 : decode cX0_layerByGoingBack 15 = .ok (.iconst 0, 1) := dk_3 (dk_at dksX0_layerByGoingBack_0 15 rfl rfl)
theorem dX0_layerByGoingBack_16 : decode cX0_layerByGoingBack 16 = .ok (.ireturn, 1) := dk_172 (dk_at dksX0_layerByGoingBack_0 16 rfl rfl)
def dkwX0_leastOf_0 : List UInt8 := [44, 3, 42, 27, 182, 0, 78, 133, 80, 167, 0, 6, 78, 4, 172, 3, 172]
abbrev dktX0_leastOf_0 : List UInt8 := dkwX0_leastOf_0 ++ []
theorem dksX0_leastOf_0 : cX0_leastOf.data.toList.drop 0 = dktX0_leastOf_0 := by decide +kernel
theorem dX0_leastOf_0 : decode cX0_leastOf 0 = .ok (.aload_n 2, 1) := dk_44 (dk_at dksX0_leastOf_0 0 rfl rfl)
theorem dX0_leastOf_1 : decode cX0_leastOf 1 = .ok (.iconst 0, 1) := dk_3 (dk_at dksX0_leastOf_0 1 rfl rfl)
theorem dX0_leastOf_2 : decode cX0_leastOf 2 = .ok (.aload_n 0, 1) := dk_42 (dk_at dksX0_leastOf_0 2 rfl rfl)
theorem dX0_leastOf_3 : decode cX0_leastOf 3 = .ok (.iload_n 1, 1) := dk_27 (dk_at dksX0_leastOf_0 3 rfl rfl)
theorem dX0_leastOf_4 : decode cX0_leastOf 4 = .ok (.invokevirtual 78, 3) := dk_182 0 78 (dk_at dksX0_leastOf_0 4 rfl rfl)
theorem dX0_leastOf_7 : decode cX0_leastOf 7 = .ok (.i2l, 1) := dk_133 (dk_at dksX0_leastOf_0 7 rfl rfl)
theorem dX0_leastOf_8 : decode cX0_leastOf 8 = .ok (.lastore, 1) := dk_80 (dk_at dksX0_leastOf_0 8 rfl rfl)
theorem dX0_leastOf_9 : decode cX0_leastOf 9 = .ok (.goto 6, 3) := dk_167 0 6 (dk_at dksX0_leastOf_0 9 rfl rfl)
theorem dX0_leastOf_12 : decode cX0_leastOf 12 = .ok (.astore_n 3, 1) := dk_78 (dk_at dksX0_leastOf_0 12 rfl rfl)
theorem dX0_leastOf_13 : decode cX0_leastOf 13 = .ok (.iconst 1, 1) := dk_4 (dk_at dksX0_leastOf_0 13 rfl rfl)
theorem dX0_leastOf_14 : decode cX0_leastOf 14 = .ok (.ireturn, 1) := dk_172 (dk_at dksX0_leastOf_0 14 rfl rfl)
theorem dX0_leastOf_15 : decode cX0_leastOf 15 = .ok (.iconst 0, 1) := dk_3 (dk_at dksX0_leastOf_0 15 rfl rfl)
theorem dX0_leastOf_16 : decode cX0_leastOf 16 = .ok (.ireturn, 1) := dk_172 (dk_at dksX0_leastOf_0 16 rfl rfl)
def dkwX0_spanOf_0 : List UInt8 := [44, 3, 42, 27, 182, 0, 81, 133, 80, 167, 0, 6, 78, 4, 172, 3, 172]
abbrev dktX0_spanOf_0 : List UInt8 := dkwX0_spanOf_0 ++ []
theorem dksX0_spanOf_0 : cX0_spanOf.data.toList.drop 0 = dktX0_spanOf_0 := by decide +kernel
theorem dX0_spanOf_0 : decode cX0_spanOf 0 = .ok (.aload_n 2, 1) := dk_44 (dk_at dksX0_spanOf_0 0 rfl rfl)
theorem dX0_spanOf_1 : decode cX0_spanOf 1 = .ok (.iconst 0, 1) := dk_3 (dk_at dksX0_spanOf_0 1 rfl rfl)
theorem dX0_spanOf_2 : decode cX0_spanOf 2 = .ok (.aload_n 0, 1) := dk_42 (dk_at dksX0_spanOf_0 2 rfl rfl)
theorem dX0_spanOf_3 : decode cX0_spanOf 3 = .ok (.iload_n 1, 1) := dk_27 (dk_at dksX0_spanOf_0 3 rfl rfl)
theorem dX0_spanOf_4 : decode cX0_spanOf 4 = .ok (.invokevirtual 81, 3) := dk_182 0 81 (dk_at dksX0_spanOf_0 4 rfl rfl)
theorem dX0_spanOf_7 : decode cX0_spanOf 7 = .ok (.i2l, 1) := dk_133 (dk_at dksX0_spanOf_0 7 rfl rfl)
theorem dX0_spanOf_8 : decode cX0_spanOf 8 = .ok (.lastore, 1) := dk_80 (dk_at dksX0_spanOf_0 8 rfl rfl)
theorem dX0_spanOf_9 : decode cX0_spanOf 9 = .ok (.goto 6, 3) := dk_167 0 6 (dk_at dksX0_spanOf_0 9 rfl rfl)
theorem dX0_spanOf_12 : decode cX0_spanOf 12 = .ok (.astore_n 3, 1) := dk_78 (dk_at dksX0_spanOf_0 12 rfl rfl)
theorem dX0_spanOf_13 : decode cX0_spanOf 13 = .ok (.iconst 1, 1) := dk_4 (dk_at dksX0_spanOf_0 13 rfl rfl)
theorem dX0_spanOf_14 : decode cX0_spanOf 14 = .ok (.ireturn, 1) := dk_172 (dk_at dksX0_spanOf_0 14 rfl rfl)
theorem dX0_spanOf_15 : decode cX0_spanOf 15 = .ok (.iconst 0, 1) := dk_3 (dk_at dksX0_spanOf_0 15 rfl rfl)
theorem dX0_spanOf_16 : decode cX0_spanOf 16 = .ok (.ireturn, 1) := dk_172 (dk_at dksX0_spanOf_0 16 rfl rfl)
def dkwX0_pointsOf_0 : List UInt8 := [44, 3, 42, 27, 182, 0, 84, 133, 80, 167, 0, 6, 78, 4, 172, 3, 172]
abbrev dktX0_pointsOf_0 : List UInt8 := dkwX0_pointsOf_0 ++ []
theorem dksX0_pointsOf_0 : cX0_pointsOf.data.toList.drop 0 = dktX0_pointsOf_0 := by decide +kernel
theorem dX0_pointsOf_0 : decode cX0_pointsOf 0 = .ok (.aload_n 2, 1) := dk_44 (dk_at dksX0_pointsOf_0 0 rfl rfl)
theorem dX0_pointsOf_1 : decode cX0_pointsOf 1 = .ok (.iconst 0, 1) := dk_3 (dk_at dksX0_pointsOf_0 1 rfl rfl)
theorem dX0_pointsOf_2 : decode cX0_pointsOf 2 = .ok (.aload_n 0, 1) := dk_42 (dk_at dksX0_pointsOf_0 2 rfl rfl)
theorem dX0_pointsOf_3 : decode cX0_pointsOf 3 = .ok (.iload_n 1, 1) := dk_27 (dk_at dksX0_pointsOf_0 3 rfl rfl)
theorem dX0_pointsOf_4 : decode cX0_pointsOf 4 = .ok (.invokevirtual 84, 3) := dk_182 0 84 (dk_at dksX0_pointsOf_0 4 rfl rfl)
theorem dX0_pointsOf_7 : decode cX0_pointsOf 7 = .ok (.i2l, 1) := dk_133 (dk_at dksX0_pointsOf_0 7 rfl rfl)
theorem dX0_pointsOf_8 : decode cX0_pointsOf 8 = .ok (.lastore, 1) := dk_80 (dk_at dksX0_pointsOf_0 8 rfl rfl)
theorem dX0_pointsOf_9 : decode cX0_pointsOf 9 = .ok (.goto 6, 3) := dk_167 0 6 (dk_at dksX0_pointsOf_0 9 rfl rfl)
theorem dX0_pointsOf_12 : decode cX0_pointsOf 12 = .ok (.astore_n 3, 1) := dk_78 (dk_at dksX0_pointsOf_0 12 rfl rfl)
theorem dX0_pointsOf_13 : decode cX0_pointsOf 13 = .ok (.iconst 1, 1) := dk_4 (dk_at dksX0_pointsOf_0 13 rfl rfl)
theorem dX0_pointsOf_14 : decode cX0_pointsOf 14 = .ok (.ireturn, 1) := dk_172 (dk_at dksX0_pointsOf_0 14 rfl rfl)
theorem dX0_pointsOf_15 : decode cX0_pointsOf 15 = .ok (.iconst 0, 1) := dk_3 (dk_at dksX0_pointsOf_0 15 rfl rfl)
theorem dX0_pointsOf_16 : decode cX0_pointsOf 16 = .ok (.ireturn, 1) := dk_172 (dk_at dksX0_pointsOf_0 16 rfl rfl)
def dkwX0_pointAt_0 : List UInt8 := [45, 3, 42, 27, 28, 182, 0, 87, 133, 80, 167, 0, 11, 58, 4, 4, 172, 58, 4, 5, 172, 3, 172]
abbrev dktX0_pointAt_0 : List UInt8 := dkwX0_pointAt_0 ++ []
theorem dksX0_pointAt_0 : cX0_pointAt.data.toList.drop 0 = dktX0_pointAt_0 := by decide +kernel
theorem dX0_pointAt_0 : decode cX0_pointAt 0 = .ok (.aload_n 3, 1) := dk_45 (dk_at dksX0_pointAt_0 0 rfl rfl)
theorem dX0_pointAt_1 : decode cX0_pointAt 1 = .ok (.iconst 0, 1) := dk_3 (dk_at dksX0_pointAt_0 1 rfl rfl)
theorem dX0_pointAt_2 : decode cX0_pointAt 2 = .ok (.aload_n 0, 1) := dk_42 (dk_at dksX0_pointAt_0 2 rfl rfl)
theorem dX0_pointAt_3 : decode cX0_pointAt 3 = .ok (.iload_n 1, 1) := dk_27 (dk_at dksX0_pointAt_0 3 rfl rfl)
theorem dX0_pointAt_4 : decode cX0_pointAt 4 = .ok (.iload_n 2, 1) := dk_28 (dk_at dksX0_pointAt_0 4 rfl rfl)
theorem dX0_pointAt_5 : decode cX0_pointAt 5 = .ok (.invokevirtual 87, 3) := dk_182 0 87 (dk_at dksX0_pointAt_0 5 rfl rfl)
theorem dX0_pointAt_8 : decode cX0_pointAt 8 = .ok (.i2l, 1) := dk_133 (dk_at dksX0_pointAt_0 8 rfl rfl)
theorem dX0_pointAt_9 : decode cX0_pointAt 9 = .ok (.lastore, 1) := dk_80 (dk_at dksX0_pointAt_0 9 rfl rfl)
theorem dX0_pointAt_10 : decode cX0_pointAt 10 = .ok (.goto 11, 3) := dk_167 0 11 (dk_at dksX0_pointAt_0 10 rfl rfl)
theorem dX0_pointAt_13 : decode cX0_pointAt 13 = .ok (.astore 4, 2) := dk_58 4 (dk_at dksX0_pointAt_0 13 rfl rfl)
theorem dX0_pointAt_15 : decode cX0_pointAt 15 = .ok (.iconst 1, 1) := dk_4 (dk_at dksX0_pointAt_0 15 rfl rfl)
theorem dX0_pointAt_16 : decode cX0_pointAt 16 = .ok (.ireturn, 1) := dk_172 (dk_at dksX0_pointAt_0 16 rfl rfl)
theorem dX0_pointAt_17 : decode cX0_pointAt 17 = .ok (.astore 4, 2) := dk_58 4 (dk_at dksX0_pointAt_0 17 rfl rfl)
theorem dX0_pointAt_19 : decode cX0_pointAt 19 = .ok (.iconst 2, 1) := dk_5 (dk_at dksX0_pointAt_0 19 rfl rfl)
theorem dX0_pointAt_20 : decode cX0_pointAt 20 = .ok (.ireturn, 1) := dk_172 (dk_at dksX0_pointAt_0 20 rfl rfl)
theorem dX0_pointAt_21 : decode cX0_pointAt 21 = .ok (.iconst 0, 1) := dk_3 (dk_at dksX0_pointAt_0 21 rfl rfl)
theorem dX0_pointAt_22 : decode cX0_pointAt 22 = .ok (.ireturn, 1) := dk_172 (dk_at dksX0_pointAt_0 22 rfl rfl)
def dkwX0_placeOf_0 : List UInt8 := [44, 3, 42, 27, 182, 0, 90, 133, 80, 167, 0, 6, 78, 4, 172, 3, 172]
abbrev dktX0_placeOf_0 : List UInt8 := dkwX0_placeOf_0 ++ []
theorem dksX0_placeOf_0 : cX0_placeOf.data.toList.drop 0 = dktX0_placeOf_0 := by decide +kernel
theorem dX0_placeOf_0 : decode cX0_placeOf 0 = .ok (.aload_n 2, 1) := dk_44 (dk_at dksX0_placeOf_0 0 rfl rfl)
theorem dX0_placeOf_1 : decode cX0_placeOf 1 = .ok (.iconst 0, 1) := dk_3 (dk_at dksX0_placeOf_0 1 rfl rfl)
theorem dX0_placeOf_2 : decode cX0_placeOf 2 = .ok (.aload_n 0, 1) := dk_42 (dk_at dksX0_placeOf_0 2 rfl rfl)
theorem dX0_placeOf_3 : decode cX0_placeOf 3 = .ok (.iload_n 1, 1) := dk_27 (dk_at dksX0_placeOf_0 3 rfl rfl)
theorem dX0_placeOf_4 : decode cX0_placeOf 4 = .ok (.invokevirtual 90, 3) := dk_182 0 90 (dk_at dksX0_placeOf_0 4 rfl rfl)
theorem dX0_placeOf_7 : decode cX0_placeOf 7 = .ok (.i2l, 1) := dk_133 (dk_at dksX0_placeOf_0 7 rfl rfl)
theorem dX0_placeOf_8 : decode cX0_placeOf 8 = .ok (.lastore, 1) := dk_80 (dk_at dksX0_placeOf_0 8 rfl rfl)
theorem dX0_placeOf_9 : decode cX0_placeOf 9 = .ok (.goto 6, 3) := dk_167 0 6 (dk_at dksX0_placeOf_0 9 rfl rfl)
theorem dX0_placeOf_12 : decode cX0_placeOf 12 = .ok (.astore_n 3, 1) := dk_78 (dk_at dksX0_placeOf_0 12 rfl rfl)
theorem dX0_placeOf_13 : decode cX0_placeOf 13 = .ok (.iconst 1, 1) := dk_4 (dk_at dksX0_placeOf_0 13 rfl rfl)
theorem dX0_placeOf_14 : decode cX0_placeOf 14 = .ok (.ireturn, 1) := dk_172 (dk_at dksX0_placeOf_0 14 rfl rfl)
theorem dX0_placeOf_15 : decode cX0_placeOf 15 = .ok (.iconst 0, 1) := dk_3 (dk_at dksX0_placeOf_0 15 rfl rfl)
theorem dX0_placeOf_16 : decode cX0_placeOf 16 = .ok (.ireturn, 1) := dk_172 (dk_at dksX0_placeOf_0 16 rfl rfl)
def dkwX0_medianAbove_0 : List UInt8 := [45, 3, 42, 27, 28, 182, 0, 93, 133, 80, 167, 0, 11, 58, 4, 4, 172, 58, 4, 5, 172, 3, 172]
abbrev dktX0_medianAbove_0 : List UInt8 := dkwX0_medianAbove_0 ++ []
theorem dksX0_medianAbove_0 : cX0_medianAbove.data.toList.drop 0 = dktX0_medianAbove_0 := by decide +kernel
theorem dX0_medianAbove_0 : decode cX0_medianAbove 0 = .ok (.aload_n 3, 1) := dk_45 (dk_at dksX0_medianAbove_0 0 rfl rfl)
theorem dX0_medianAbove_1 : decode cX0_medianAbove 1 = .ok (.iconst 0, 1) := dk_3 (dk_at dksX0_medianAbove_0 1 rfl rfl)
theorem dX0_medianAbove_2 : decode cX0_medianAbove 2 = .ok (.aload_n 0, 1) := dk_42 (dk_at dksX0_medianAbove_0 2 rfl rfl)
theorem dX0_medianAbove_3 : decode cX0_medianAbove 3 = .ok (.iload_n 1, 1) := dk_27 (dk_at dksX0_medianAbove_0 3 rfl rfl)
theorem dX0_medianAbove_4 : decode cX0_medianAbove 4 = .ok (.iload_n 2, 1) := dk_28 (dk_at dksX0_medianAbove_0 4 rfl rfl)
theorem dX0_medianAbove_5 : decode cX0_medianAbove 5 = .ok (.invokevirtual 93, 3) := dk_182 0 93 (dk_at dksX0_medianAbove_0 5 rfl rfl)
theorem dX0_medianAbove_8 : decode cX0_medianAbove 8 = .ok (.i2l, 1) := dk_133 (dk_at dksX0_medianAbove_0 8 rfl rfl)
theorem dX0_medianAbove_9 : decode cX0_medianAbove 9 = .ok (.lastore, 1) := dk_80 (dk_at dksX0_medianAbove_0 9 rfl rfl)
theorem dX0_medianAbove_10 : decode cX0_medianAbove 10 = .ok (.goto 11, 3) := dk_167 0 11 (dk_at dksX0_medianAbove_0 10 rfl rfl)
theorem dX0_medianAbove_13 : decode cX0_medianAbove 13 = .ok (.astore 4, 2) := dk_58 4 (dk_at dksX0_medianAbove_0 13 rfl rfl)
theorem dX0_medianAbove_15 : decode cX0_medianAbove 15 = .ok (.iconst 1, 1) := dk_4 (dk_at dksX0_medianAbove_0 15 rfl rfl)
theorem dX0_medianAbove_16 : decode cX0_medianAbove 16 = .ok (.ireturn, 1) := dk_172 (dk_at dksX0_medianAbove_0 16 rfl rfl)
theorem dX0_medianAbove_17 : decode cX0_medianAbove 17 = .ok (.astore 4, 2) := dk_58 4 (dk_at dksX0_medianAbove_0 17 rfl rfl)
theorem dX0_medianAbove_19 : decode cX0_medianAbove 19 = .ok (.iconst 2, 1) := dk_5 (dk_at dksX0_medianAbove_0 19 rfl rfl)
theorem dX0_medianAbove_20 : decode cX0_medianAbove 20 = .ok (.ireturn, 1) := dk_172 (dk_at dksX0_medianAbove_0 20 rfl rfl)
theorem dX0_medianAbove_21 : decode cX0_medianAbove 21 = .ok (.iconst 0, 1) := dk_3 (dk_at dksX0_medianAbove_0 21 rfl rfl)
theorem dX0_medianAbove_22 : decode cX0_medianAbove 22 = .ok (.ireturn, 1) := dk_172 (dk_at dksX0_medianAbove_0 22 rfl rfl)
def dkwX0_medianBelow_0 : List UInt8 := [45, 3, 42, 27, 28, 182, 0, 96, 133, 80, 167, 0, 11, 58, 4, 4, 172, 58, 4, 5, 172, 3, 172]
abbrev dktX0_medianBelow_0 : List UInt8 := dkwX0_medianBelow_0 ++ []
theorem dksX0_medianBelow_0 : cX0_medianBelow.data.toList.drop 0 = dktX0_medianBelow_0 := by decide +kernel
theorem dX0_medianBelow_0 : decode cX0_medianBelow 0 = .ok (.aload_n 3, 1) := dk_45 (dk_at dksX0_medianBelow_0 0 rfl rfl)
theorem dX0_medianBelow_1 : decode cX0_medianBelow 1 = .ok (.iconst 0, 1) := dk_3 (dk_at dksX0_medianBelow_0 1 rfl rfl)
theorem dX0_medianBelow_2 : decode cX0_medianBelow 2 = .ok (.aload_n 0, 1) := dk_42 (dk_at dksX0_medianBelow_0 2 rfl rfl)
theorem dX0_medianBelow_3 : decode cX0_medianBelow 3 = .ok (.iload_n 1, 1) := dk_27 (dk_at dksX0_medianBelow_0 3 rfl rfl)
theorem dX0_medianBelow_4 : decode cX0_medianBelow 4 = .ok (.iload_n 2, 1) := dk_28 (dk_at dksX0_medianBelow_0 4 rfl rfl)
theorem dX0_medianBelow_5 : decode cX0_medianBelow 5 = .ok (.invokevirtual 96, 3) := dk_182 0 96 (dk_at dksX0_medianBelow_0 5 rfl rfl)
theorem dX0_medianBelow_8 : decode cX0_medianBelow 8 = .ok (.i2l, 1) := dk_133 (dk_at dksX0_medianBelow_0 8 rfl rfl)
theorem dX0_medianBelow_9 : decode cX0_medianBelow 9 = .ok (.lastore, 1) := dk_80 (dk_at dksX0_medianBelow_0 9 rfl rfl)
theorem dX0_medianBelow_10 : decode cX0_medianBelow 10 = .ok (.goto 11, 3) := dk_167 0 11 (dk_at dksX0_medianBelow_0 10 rfl rfl)
theorem dX0_medianBelow_13 : decode cX0_medianBelow 13 = .ok (.astore 4, 2) := dk_58 4 (dk_at dksX0_medianBelow_0 13 rfl rfl)
theorem dX0_medianBelow_15 : decode cX0_medianBelow 15 = .ok (.iconst 1, 1) := dk_4 (dk_at dksX0_medianBelow_0 15 rfl rfl)
theorem dX0_medianBelow_16 : decode cX0_medianBelow 16 = .ok (.ireturn, 1) := dk_172 (dk_at dksX0_medianBelow_0 16 rfl rfl)
theorem dX0_medianBelow_17 : decode cX0_medianBelow 17 = .ok (.astore 4, 2) := dk_58 4 (dk_at dksX0_medianBelow_0 17 rfl rfl)
theorem dX0_medianBelow_19 : decode cX0_medianBelow 19 = .ok (.iconst 2, 1) := dk_5 (dk_at dksX0_medianBelow_0 19 rfl rfl)
theorem dX0_medianBelow_20 : decode cX0_medianBelow 20 = .ok (.ireturn, 1) := dk_172 (dk_at dksX0_medianBelow_0 20 rfl rfl)
theorem dX0_medianBelow_21 : decode cX0_medianBelow 21 = .ok (.iconst 0, 1) := dk_3 (dk_at dksX0_medianBelow_0 21 rfl rfl)
theorem dX0_medianBelow_22 : decode cX0_medianBelow 22 = .ok (.ireturn, 1) := dk_172 (dk_at dksX0_medianBelow_0 22 rfl rfl)
def dkwX0_crowdedLayer_0 : List UInt8 := [43, 3, 42, 182, 0, 99, 133, 80, 167, 0, 6, 77, 4, 172, 3, 172]
abbrev dktX0_crowdedLayer_0 : List UInt8 := dkwX0_crowdedLayer_0 ++ []
theorem dksX0_crowdedLayer_0 : cX0_crowdedLayer.data.toList.drop 0 = dktX0_crowdedLayer_0 := by decide +kernel
theorem dX0_crowdedLayer_0 : decode cX0_crowdedLayer 0 = .ok (.aload_n 1, 1) := dk_43 (dk_at dksX0_crowdedLayer_0 0 rfl rfl)
theorem dX0_crowdedLayer_1 : decode cX0_crowdedLayer 1 = .ok (.iconst 0, 1) := dk_3 (dk_at dksX0_crowdedLayer_0 1 rfl rfl)
theorem dX0_crowdedLayer_2 : decode cX0_crowdedLayer 2 = .ok (.aload_n 0, 1) := dk_42 (dk_at dksX0_crowdedLayer_0 2 rfl rfl)
theorem dX0_crowdedLayer_3 : decode cX0_crowdedLayer 3 = .ok (.invokevirtual 99, 3) := dk_182 0 99 (dk_at dksX0_crowdedLayer_0 3 rfl rfl)
theorem dX0_crowdedLayer_6 : decode cX0_crowdedLayer 6 = .ok (.i2l, 1) := dk_133 (dk_at dksX0_crowdedLayer_0 6 rfl rfl)
theorem dX0_crowdedLayer_7 : decode cX0_crowdedLayer 7 = .ok (.lastore, 1) := dk_80 (dk_at dksX0_crowdedLayer_0 7 rfl rfl)
theorem dX0_crowdedLayer_8 : decode cX0_crowdedLayer 8 = .ok (.goto 6, 3) := dk_167 0 6 (dk_at dksX0_crowdedLayer_0 8 rfl rfl)
theorem dX0_crowdedLayer_11 : decode cX0_crowdedLayer 11 = .ok (.astore_n 2, 1) := dk_77 (dk_at dksX0_crowdedLayer_0 11 rfl rfl)
theorem dX0_crowdedLayer_12 : decode cX0_crowdedLayer 12 = .ok (.iconst 1, 1) := dk_4 (dk_at dksX0_crowdedLayer_0 12 rfl rfl)
theorem dX0_crowdedLayer_13 : decode cX0_crowdedLayer 13 = .ok (.ireturn, 1) := dk_172 (dk_at dksX0_crowdedLayer_0 13 rfl rfl)
theorem dX0_crowdedLayer_14 : decode cX0_crowdedLayer 14 = .ok (.iconst 0, 1) := dk_3 (dk_at dksX0_crowdedLayer_0 14 rfl rfl)
theorem dX0_crowdedLayer_15 : decode cX0_crowdedLayer 15 = .ok (.ireturn, 1) := dk_172 (dk_at dksX0_crowdedLayer_0 15 rfl rfl)
def dkwX0_crossingsBelow_0 : List UInt8 := [44, 3, 42, 27, 182, 0, 102, 133, 80, 167, 0, 6, 78, 4, 172, 3, 172]
abbrev dktX0_crossingsBelow_0 : List UInt8 := dkwX0_crossingsBelow_0 ++ []
theorem dksX0_crossingsBelow_0 : cX0_crossingsBelow.data.toList.drop 0 = dktX0_crossingsBelow_0 := by decide +kernel
theorem dX0_crossingsBelow_0 : decode cX0_crossingsBelow 0 = .ok (.aload_n 2, 1) := dk_44 (dk_at dksX0_crossingsBelow_0 0 rfl rfl)
theorem dX0_crossingsBelow_1 : decode cX0_crossingsBelow 1 = .ok (.iconst 0, 1) := dk_3 (dk_at dksX0_crossingsBelow_0 1 rfl rfl)
theorem dX0_crossingsBelow_2 : decode cX0_crossingsBelow 2 = .ok (.aload_n 0, 1) := dk_42 (dk_at dksX0_crossingsBelow_0 2 rfl rfl)
theorem dX0_crossingsBelow_3 : decode cX0_crossingsBelow 3 = .ok (.iload_n 1, 1) := dk_27 (dk_at dksX0_crossingsBelow_0 3 rfl rfl)
theorem dX0_crossingsBelow_4 : decode cX0_crossingsBelow 4 = .ok (.invokevirtual 102, 3) := dk_182 0 102 (dk_at dksX0_crossingsBelow_0 4 rfl rfl)
theorem dX0_crossingsBelow_7 : decode cX0_crossingsBelow 7 = .ok (.i2l, 1) := dk_133 (dk_at dksX0_crossingsBelow_0 7 rfl rfl)
theorem dX0_crossingsBelow_8 : decode cX0_crossingsBelow 8 = .ok (.lastore, 1) := dk_80 (dk_at dksX0_crossingsBelow_0 8 rfl rfl)
theorem dX0_crossingsBelow_9 : decode cX0_crossingsBelow 9 = .ok (.goto 6, 3) := dk_167 0 6 (dk_at dksX0_crossingsBelow_0 9 rfl rfl)
theorem dX0_crossingsBelow_12 : decode cX0_crossingsBelow 12 = .ok (.astore_n 3, 1) := dk_78 (dk_at dksX0_crossingsBelow_0 12 rfl rfl)
theorem dX0_crossingsBelow_13 : decode cX0_crossingsBelow 13 = .ok (.iconst 1, 1) := dk_4 (dk_at dksX0_crossingsBelow_0 13 rfl rfl)
theorem dX0_crossingsBelow_14 : decode cX0_crossingsBelow 14 = .ok (.ireturn, 1) := dk_172 (dk_at dksX0_crossingsBelow_0 14 rfl rfl)
theorem dX0_crossingsBelow_15 : decode cX0_crossingsBelow 15 = .ok (.iconst 0, 1) := dk_3 (dk_at dksX0_crossingsBelow_0 15 rfl rfl)
theorem dX0_crossingsBelow_16 : decode cX0_crossingsBelow 16 = .ok (.ireturn, 1) := dk_172 (dk_at dksX0_crossingsBelow_0 16 rfl rfl)
def dkwX0_crossingsOf_0 : List UInt8 := [44, 3, 42, 27, 182, 0, 105, 133, 80, 167, 0, 6, 78, 4, 172, 3, 172]
abbrev dktX0_crossingsOf_0 : List UInt8 := dkwX0_crossingsOf_0 ++ []
theorem dksX0_crossingsOf_0 : cX0_crossingsOf.data.toList.drop 0 = dktX0_crossingsOf_0 := by decide +kernel
theorem dX0_crossingsOf_0 : decode cX0_crossingsOf 0 = .ok (.aload_n 2, 1) := dk_44 (dk_at dksX0_crossingsOf_0 0 rfl rfl)
theorem dX0_crossingsOf_1 : decode cX0_crossingsOf 1 = .ok (.iconst 0, 1) := dk_3 (dk_at dksX0_crossingsOf_0 1 rfl rfl)
theorem dX0_crossingsOf_2 : decode cX0_crossingsOf 2 = .ok (.aload_n 0, 1) := dk_42 (dk_at dksX0_crossingsOf_0 2 rfl rfl)
theorem dX0_crossingsOf_3 : decode cX0_crossingsOf 3 = .ok (.iload_n 1, 1) := dk_27 (dk_at dksX0_crossingsOf_0 3 rfl rfl)
theorem dX0_crossingsOf_4 : decode cX0_crossingsOf 4 = .ok (.invokevirtual 105, 3) := dk_182 0 105 (dk_at dksX0_crossingsOf_0 4 rfl rfl)
theorem dX0_crossingsOf_7 : decode cX0_crossingsOf 7 = .ok (.i2l, 1) := dk_133 (dk_at dksX0_crossingsOf_0 7 rfl rfl)
theorem dX0_crossingsOf_8 : decode cX0_crossingsOf 8 = .ok (.lastore, 1) := dk_80 (dk_at dksX0_crossingsOf_0 8 rfl rfl)
theorem dX0_crossingsOf_9 : decode cX0_crossingsOf 9 = .ok (.goto 6, 3) := dk_167 0 6 (dk_at dksX0_crossingsOf_0 9 rfl rfl)
theorem dX0_crossingsOf_12 : decode cX0_crossingsOf 12 = .ok (.astore_n 3, 1) := dk_78 (dk_at dksX0_crossingsOf_0 12 rfl rfl)
theorem dX0_crossingsOf_13 : decode cX0_crossingsOf 13 = .ok (.iconst 1, 1) := dk_4 (dk_at dksX0_crossingsOf_0 13 rfl rfl)
theorem dX0_crossingsOf_14 : decode cX0_crossingsOf 14 = .ok (.ireturn, 1) := dk_172 (dk_at dksX0_crossingsOf_0 14 rfl rfl)
theorem dX0_crossingsOf_15 : decode cX0_crossingsOf 15 = .ok (.iconst 0, 1) := dk_3 (dk_at dksX0_crossingsOf_0 15 rfl rfl)
theorem dX0_crossingsOf_16 : decode cX0_crossingsOf 16 = .ok (.ireturn, 1) := dk_172 (dk_at dksX0_crossingsOf_0 16 rfl rfl)
def dkwX0_columnAt_0 : List UInt8 := [45, 3, 42, 27, 28, 182, 0, 108, 133, 80, 167, 0, 11, 58, 4, 4, 172, 58, 4, 5, 172, 3, 172]
abbrev dktX0_columnAt_0 : List UInt8 := dkwX0_columnAt_0 ++ []
theorem dksX0_columnAt_0 : cX0_columnAt.data.toList.drop 0 = dktX0_columnAt_0 := by decide +kernel
theorem dX0_columnAt_0 : decode cX0_columnAt 0 = .ok (.aload_n 3, 1) := dk_45 (dk_at dksX0_columnAt_0 0 rfl rfl)
theorem dX0_columnAt_1 : decode cX0_columnAt 1 = .ok (.iconst 0, 1) := dk_3 (dk_at dksX0_columnAt_0 1 rfl rfl)
theorem dX0_columnAt_2 : decode cX0_columnAt 2 = .ok (.aload_n 0, 1) := dk_42 (dk_at dksX0_columnAt_0 2 rfl rfl)
theorem dX0_columnAt_3 : decode cX0_columnAt 3 = .ok (.iload_n 1, 1) := dk_27 (dk_at dksX0_columnAt_0 3 rfl rfl)
theorem dX0_columnAt_4 : decode cX0_columnAt 4 = .ok (.iload_n 2, 1) := dk_28 (dk_at dksX0_columnAt_0 4 rfl rfl)
theorem dX0_columnAt_5 : decode cX0_columnAt 5 = .ok (.invokevirtual 108, 3) := dk_182 0 108 (dk_at dksX0_columnAt_0 5 rfl rfl)
theorem dX0_columnAt_8 : decode cX0_columnAt 8 = .ok (.i2l, 1) := dk_133 (dk_at dksX0_columnAt_0 8 rfl rfl)
theorem dX0_columnAt_9 : decode cX0_columnAt 9 = .ok (.lastore, 1) := dk_80 (dk_at dksX0_columnAt_0 9 rfl rfl)
theorem dX0_columnAt_10 : decode cX0_columnAt 10 = .ok (.goto 11, 3) := dk_167 0 11 (dk_at dksX0_columnAt_0 10 rfl rfl)
theorem dX0_columnAt_13 : decode cX0_columnAt 13 = .ok (.astore 4, 2) := dk_58 4 (dk_at dksX0_columnAt_0 13 rfl rfl)
theorem dX0_columnAt_15 : decode cX0_columnAt 15 = .ok (.iconst 1, 1) := dk_4 (dk_at dksX0_columnAt_0 15 rfl rfl)
theorem dX0_columnAt_16 : decode cX0_columnAt 16 = .ok (.ireturn, 1) := dk_172 (dk_at dksX0_columnAt_0 16 rfl rfl)
theorem dX0_columnAt_17 : decode cX0_columnAt 17 = .ok (.astore 4, 2) := dk_58 4 (dk_at dksX0_columnAt_0 17 rfl rfl)
theorem dX0_columnAt_19 : decode cX0_columnAt 19 = .ok (.iconst 2, 1) := dk_5 (dk_at dksX0_columnAt_0 19 rfl rfl)
theorem dX0_columnAt_20 : decode cX0_columnAt 20 = .ok (.ireturn, 1) := dk_172 (dk_at dksX0_columnAt_0 20 rfl rfl)
theorem dX0_columnAt_21 : decode cX0_columnAt 21 = .ok (.iconst 0, 1) := dk_3 (dk_at dksX0_columnAt_0 21 rfl rfl)
theorem dX0_columnAt_22 : decode cX0_columnAt 22 = .ok (.ireturn, 1) := dk_172 (dk_at dksX0_columnAt_0 22 rfl rfl)
def dkwX0_bendsOf_0 : List UInt8 := [44, 3, 42, 27, 182, 0, 111, 133, 80, 167, 0, 6, 78, 4, 172, 3, 172]
abbrev dktX0_bendsOf_0 : List UInt8 := dkwX0_bendsOf_0 ++ []
theorem dksX0_bendsOf_0 : cX0_bendsOf.data.toList.drop 0 = dktX0_bendsOf_0 := by decide +kernel
theorem dX0_bendsOf_0 : decode cX0_bendsOf 0 = .ok (.aload_n 2, 1) := dk_44 (dk_at dksX0_bendsOf_0 0 rfl rfl)
theorem dX0_bendsOf_1 : decode cX0_bendsOf 1 = .ok (.iconst 0, 1) := dk_3 (dk_at dksX0_bendsOf_0 1 rfl rfl)
theorem dX0_bendsOf_2 : decode cX0_bendsOf 2 = .ok (.aload_n 0, 1) := dk_42 (dk_at dksX0_bendsOf_0 2 rfl rfl)
theorem dX0_bendsOf_3 : decode cX0_bendsOf 3 = .ok (.iload_n 1, 1) := dk_27 (dk_at dksX0_bendsOf_0 3 rfl rfl)
theorem dX0_bendsOf_4 : decode cX0_bendsOf 4 = .ok (.invokevirtual 111, 3) := dk_182 0 111 (dk_at dksX0_bendsOf_0 4 rfl rfl)
theorem dX0_bendsOf_7 : decode cX0_bendsOf 7 = .ok (.i2l, 1) := dk_133 (dk_at dksX0_bendsOf_0 7 rfl rfl)
theorem dX0_bendsOf_8 : decode cX0_bendsOf 8 = .ok (.lastore, 1) := dk_80 (dk_at dksX0_bendsOf_0 8 rfl rfl)
theorem dX0_bendsOf_9 : decode cX0_bendsOf 9 = .ok (.goto 6, 3) := dk_167 0 6 (dk_at dksX0_bendsOf_0 9 rfl rfl)
theorem dX0_bendsOf_12 : decode cX0_bendsOf 12 = .ok (.astore_n 3, 1) := dk_78 (dk_at dksX0_bendsOf_0 12 rfl rfl)
theorem dX0_bendsOf_13 : decode cX0_bendsOf 13 = .ok (.iconst 1, 1) := dk_4 (dk_at dksX0_bendsOf_0 13 rfl rfl)
theorem dX0_bendsOf_14 : decode cX0_bendsOf 14 = .ok (.ireturn, 1) := dk_172 (dk_at dksX0_bendsOf_0 14 rfl rfl)
theorem dX0_bendsOf_15 : decode cX0_bendsOf 15 = .ok (.iconst 0, 1) := dk_3 (dk_at dksX0_bendsOf_0 15 rfl rfl)
theorem dX0_bendsOf_16 : decode cX0_bendsOf 16 = .ok (.ireturn, 1) := dk_172 (dk_at dksX0_bendsOf_0 16 rfl rfl)
def dkwX0_meanPoints_0 : List UInt8 := [43, 3, 42, 182, 0, 114, 81, 167, 0, 6, 77, 4, 172, 3, 172]
abbrev dktX0_meanPoints_0 : List UInt8 := dkwX0_meanPoints_0 ++ []
theorem dksX0_meanPoints_0 : cX0_meanPoints.data.toList.drop 0 = dktX0_meanPoints_0 := by decide +kernel
theorem dX0_meanPoints_0 : decode cX0_meanPoints 0 = .ok (.aload_n 1, 1) := dk_43 (dk_at dksX0_meanPoints_0 0 rfl rfl)
theorem dX0_meanPoints_1 : decode cX0_meanPoints 1 = .ok (.iconst 0, 1) := dk_3 (dk_at dksX0_meanPoints_0 1 rfl rfl)
theorem dX0_meanPoints_2 : decode cX0_meanPoints 2 = .ok (.aload_n 0, 1) := dk_42 (dk_at dksX0_meanPoints_0 2 rfl rfl)
theorem dX0_meanPoints_3 : decode cX0_meanPoints 3 = .ok (.invokevirtual 114, 3) := dk_182 0 114 (dk_at dksX0_meanPoints_0 3 rfl rfl)
theorem dX0_meanPoints_6 : decode cX0_meanPoints 6 = .ok (.fastore, 1) := dk_81 (dk_at dksX0_meanPoints_0 6 rfl rfl)
theorem dX0_meanPoints_7 : decode cX0_meanPoints 7 = .ok (.goto 6, 3) := dk_167 0 6 (dk_at dksX0_meanPoints_0 7 rfl rfl)
theorem dX0_meanPoints_10 : decode cX0_meanPoints 10 = .ok (.astore_n 2, 1) := dk_77 (dk_at dksX0_meanPoints_0 10 rfl rfl)
theorem dX0_meanPoints_11 : decode cX0_meanPoints 11 = .ok (.iconst 1, 1) := dk_4 (dk_at dksX0_meanPoints_0 11 rfl rfl)
theorem dX0_meanPoints_12 : decode cX0_meanPoints 12 = .ok (.ireturn, 1) := dk_172 (dk_at dksX0_meanPoints_0 12 rfl rfl)
theorem dX0_meanPoints_13 : decode cX0_meanPoints 13 = .ok (.iconst 0, 1) := dk_3 (dk_at dksX0_meanPoints_0 13 rfl rfl)
theorem dX0_meanPoints_14 : decode cX0_meanPoints 14 = .ok (.ireturn, 1) := dk_172 (dk_at dksX0_meanPoints_0 14 rfl rfl)
def dkwX0_goBack_0 : List UInt8 := [43, 3, 42, 182, 0, 118, 133, 80, 167, 0, 6, 77, 4, 172, 3, 172]
abbrev dktX0_goBack_0 : List UInt8 := dkwX0_goBack_0 ++ []
theorem dksX0_goBack_0 : cX0_goBack.data.toList.drop 0 = dktX0_goBack_0 := by decide +kernel
theorem dX0_goBack_0 : decode cX0_goBack 0 = .ok (.aload_n 1, 1) := dk_43 (dk_at dksX0_goBack_0 0 rfl rfl)
theorem dX0_goBack_1 : decode cX0_goBack 1 = .ok (.iconst 0, 1) := dk_3 (dk_at dksX0_goBack_0 1 rfl rfl)
theorem dX0_goBack_2 : decode cX0_goBack 2 = .ok (.aload_n 0, 1) := dk_42 (dk_at dksX0_goBack_0 2 rfl rfl)
theorem dX0_goBack_3 : decode cX0_goBack 3 = .ok (.invokevirtual 118, 3) := dk_182 0 118 (dk_at dksX0_goBack_0 3 rfl rfl)
theorem dX0_goBack_6 : decode cX0_goBack 6 = .ok (.i2l, 1) := dk_133 (dk_at dksX0_goBack_0 6 rfl rfl)
theorem dX0_goBack_7 : decode cX0_goBack 7 = .ok (.lastore, 1) := dk_80 (dk_at dksX0_goBack_0 7 rfl rfl)
theorem dX0_goBack_8 : decode cX0_goBack 8 = .ok (.goto 6, 3) := dk_167 0 6 (dk_at dksX0_goBack_0 8 rfl rfl)
theorem dX0_goBack_11 : decode cX0_goBack 11 = .ok (.astore_n 2, 1) := dk_77 (dk_at dksX0_goBack_0 11 rfl rfl)
theorem dX0_goBack_12 : decode cX0_goBack 12 = .ok (.iconst 1, 1) := dk_4 (dk_at dksX0_goBack_0 12 rfl rfl)
theorem dX0_goBack_13 : decode cX0_goBack 13 = .ok (.ireturn, 1) := dk_172 (dk_at dksX0_goBack_0 13 rfl rfl)
theorem dX0_goBack_14 : decode cX0_goBack 14 = .ok (.iconst 0, 1) := dk_3 (dk_at dksX0_goBack_0 14 rfl rfl)
theorem dX0_goBack_15 : decode cX0_goBack 15 = .ok (.ireturn, 1) := dk_172 (dk_at dksX0_goBack_0 15 rfl rfl)
def dkwX0_undo_0 : List UInt8 := [43, 3, 42, 182, 0, 121, 133, 80, 167, 0, 6, 77, 4, 172, 3, 172]
abbrev dktX0_undo_0 : List UInt8 := dkwX0_undo_0 ++ []
theorem dksX0_undo_0 : cX0_undo.data.toList.drop 0 = dktX0_undo_0 := by decide +kernel
theorem dX0_undo_0 : decode cX0_undo 0 = .ok (.aload_n 1, 1) := dk_43 (dk_at dksX0_undo_0 0 rfl rfl)
theorem dX0_undo_1 : decode cX0_undo 1 = .ok (.iconst 0, 1) := dk_3 (dk_at dksX0_undo_0 1 rfl rfl)
theorem dX0_undo_2 : decode cX0_undo 2 = .ok (.aload_n 0, 1) := dk_42 (dk_at dksX0_undo_0 2 rfl rfl)
theorem dX0_undo_3 : decode cX0_undo 3 = .ok (.invokevirtual 121, 3) := dk_182 0 121 (dk_at dksX0_undo_0 3 rfl rfl)
theorem dX0_undo_6 : decode cX0_undo 6 = .ok (.i2l, 1) := dk_133 (dk_at dksX0_undo_0 6 rfl rfl)
theorem dX0_undo_7 : decode cX0_undo 7 = .ok (.lastore, 1) := dk_80 (dk_at dksX0_undo_0 7 rfl rfl)
theorem dX0_undo_8 : decode cX0_undo 8 = .ok (.goto 6, 3) := dk_167 0 6 (dk_at dksX0_undo_0 8 rfl rfl)
theorem dX0_undo_11 : decode cX0_undo 11 = .ok (.astore_n 2, 1) := dk_77 (dk_at dksX0_undo_0 11 rfl rfl)
theorem dX0_undo_12 : decode cX0_undo 12 = .ok (.iconst 1, 1) := dk_4 (dk_at dksX0_undo_0 12 rfl rfl)
theorem dX0_undo_13 : decode cX0_undo 13 = .ok (.ireturn, 1) := dk_172 (dk_at dksX0_undo_0 13 rfl rfl)
theorem dX0_undo_14 : decode cX0_undo 14 = .ok (.iconst 0, 1) := dk_3 (dk_at dksX0_undo_0 14 rfl rfl)
theorem dX0_undo_15 : decode cX0_undo 15 = .ok (.ireturn, 1) := dk_172 (dk_at dksX0_undo_0 15 rfl rfl)
def dkwX0_type_0 : List UInt8 := [44, 3, 42, 27, 182, 0, 124, 133, 80, 167, 0, 9, 78, 4, 172, 78, 5, 172, 3, 172]
abbrev dktX0_type_0 : List UInt8 := dkwX0_type_0 ++ []
theorem dksX0_type_0 : cX0_type.data.toList.drop 0 = dktX0_type_0 := by decide +kernel
theorem dX0_type_0 : decode cX0_type 0 = .ok (.aload_n 2, 1) := dk_44 (dk_at dksX0_type_0 0 rfl rfl)
theorem dX0_type_1 : decode cX0_type 1 = .ok (.iconst 0, 1) := dk_3 (dk_at dksX0_type_0 1 rfl rfl)
theorem dX0_type_2 : decode cX0_type 2 = .ok (.aload_n 0, 1) := dk_42 (dk_at dksX0_type_0 2 rfl rfl)
theorem dX0_type_3 : decode cX0_type 3 = .ok (.iload_n 1, 1) := dk_27 (dk_at dksX0_type_0 3 rfl rfl)
theorem dX0_type_4 : decode cX0_type 4 = .ok (.invokevirtual 124, 3) := dk_182 0 124 (dk_at dksX0_type_0 4 rfl rfl)
theorem dX0_type_7 : decode cX0_type 7 = .ok (.i2l, 1) := dk_133 (dk_at dksX0_type_0 7 rfl rfl)
theorem dX0_type_8 : decode cX0_type 8 = .ok (.lastore, 1) := dk_80 (dk_at dksX0_type_0 8 rfl rfl)
theorem dX0_type_9 : decode cX0_type 9 = .ok (.goto 9, 3) := dk_167 0 9 (dk_at dksX0_type_0 9 rfl rfl)
theorem dX0_type_12 : decode cX0_type 12 = .ok (.astore_n 3, 1) := dk_78 (dk_at dksX0_type_0 12 rfl rfl)
theorem dX0_type_13 : decode cX0_type 13 = .ok (.iconst 1, 1) := dk_4 (dk_at dksX0_type_0 13 rfl rfl)
theorem dX0_type_14 : decode cX0_type 14 = .ok (.ireturn, 1) := dk_172 (dk_at dksX0_type_0 14 rfl rfl)
theorem dX0_type_15 : decode cX0_type 15 = .ok (.astore_n 3, 1) := dk_78 (dk_at dksX0_type_0 15 rfl rfl)
theorem dX0_type_16 : decode cX0_type 16 = .ok (.iconst 2, 1) := dk_5 (dk_at dksX0_type_0 16 rfl rfl)
theorem dX0_type_17 : decode cX0_type 17 = .ok (.ireturn, 1) := dk_172 (dk_at dksX0_type_0 17 rfl rfl)
theorem dX0_type_18 : decode cX0_type 18 = .ok (.iconst 0, 1) := dk_3 (dk_at dksX0_type_0 18 rfl rfl)
theorem dX0_type_19 : decode cX0_type 19 = .ok (.ireturn, 1) := dk_172 (dk_at dksX0_type_0 19 rfl rfl)
def dkwX0_faultPosition_0 : List UInt8 := [43, 3, 42, 182, 0, 127, 133, 80, 167, 0, 6, 77, 4, 172, 3, 172]
abbrev dktX0_faultPosition_0 : List UInt8 := dkwX0_faultPosition_0 ++ []
theorem dksX0_faultPosition_0 : cX0_faultPosition.data.toList.drop 0 = dktX0_faultPosition_0 := by decide +kernel
theorem dX0_faultPosition_0 : decode cX0_faultPosition 0 = .ok (.aload_n 1, 1) := dk_43 (dk_at dksX0_faultPosition_0 0 rfl rfl)
theorem dX0_faultPosition_1 : decode cX0_faultPosition 1 = .ok (.iconst 0, 1) := dk_3 (dk_at dksX0_faultPosition_0 1 rfl rfl)
theorem dX0_faultPosition_2 : decode cX0_faultPosition 2 = .ok (.aload_n 0, 1) := dk_42 (dk_at dksX0_faultPosition_0 2 rfl rfl)
theorem dX0_faultPosition_3 : decode cX0_faultPosition 3 = .ok (.invokevirtual 127, 3) := dk_182 0 127 (dk_at dksX0_faultPosition_0 3 rfl rfl)
theorem dX0_faultPosition_6 : decode cX0_faultPosition 6 = .ok (.i2l, 1) := dk_133 (dk_at dksX0_faultPosition_0 6 rfl rfl)
theorem dX0_faultPosition_7 : decode cX0_faultPosition 7 = .ok (.lastore, 1) := dk_80 (dk_at dksX0_faultPosition_0 7 rfl rfl)
theorem dX0_faultPosition_8 : decode cX0_faultPosition 8 = .ok (.goto 6, 3) := dk_167 0 6 (dk_at dksX0_faultPosition_0 8 rfl rfl)
theorem dX0_faultPosition_11 : decode cX0_faultPosition 11 = .ok (.astore_n 2, 1) := dk_77 (dk_at dksX0_faultPosition_0 11 rfl rfl)
theorem dX0_faultPosition_12 : decode cX0_faultPosition 12 = .ok (.iconst 1, 1) := dk_4 (dk_at dksX0_faultPosition_0 12 rfl rfl)
theorem dX0_faultPosition_13 : decode cX0_faultPosition 13 = .ok (.ireturn, 1) := dk_172 (dk_at dksX0_faultPosition_0 13 rfl rfl)
theorem dX0_faultPosition_14 : decode cX0_faultPosition 14 = .ok (.iconst 0, 1) := dk_3 (dk_at dksX0_faultPosition_0 14 rfl rfl)
theorem dX0_faultPosition_15 : decode cX0_faultPosition 15 = .ok (.ireturn, 1) := dk_172 (dk_at dksX0_faultPosition_0 15 rfl rfl)
def dkwX0_faultReason_0 : List UInt8 := [43, 3, 42, 182, 0, 130, 133, 80, 167, 0, 6, 77, 4, 172, 3, 172]
abbrev dktX0_faultReason_0 : List UInt8 := dkwX0_faultReason_0 ++ []
theorem dksX0_faultReason_0 : cX0_faultReason.data.toList.drop 0 = dktX0_faultReason_0 := by decide +kernel
theorem dX0_faultReason_0 : decode cX0_faultReason 0 = .ok (.aload_n 1, 1) := dk_43 (dk_at dksX0_faultReason_0 0 rfl rfl)
theorem dX0_faultReason_1 : decode cX0_faultReason 1 = .ok (.iconst 0, 1) := dk_3 (dk_at dksX0_faultReason_0 1 rfl rfl)
theorem dX0_faultReason_2 : decode cX0_faultReason 2 = .ok (.aload_n 0, 1) := dk_42 (dk_at dksX0_faultReason_0 2 rfl rfl)
theorem dX0_faultReason_3 : decode cX0_faultReason 3 = .ok (.invokevirtual 130, 3) := dk_182 0 130 (dk_at dksX0_faultReason_0 3 rfl rfl)
theorem dX0_faultReason_6 : decode cX0_faultReason 6 = .ok (.i2l, 1) := dk_133 (dk_at dksX0_faultReason_0 6 rfl rfl)
theorem dX0_faultReason_7 : decode cX0_faultReason 7 = .ok (.lastore, 1) := dk_80 (dk_at dksX0_faultReason_0 7 rfl rfl)
theorem dX0_faultReason_8 : decode cX0_faultReason 8 = .ok (.goto 6, 3) := dk_167 0 6 (dk_at dksX0_faultReason_0 8 rfl rfl)
theorem dX0_faultReason_11 : decode cX0_faultReason 11 = .ok (.astore_n 2, 1) := dk_77 (dk_at dksX0_faultReason_0 11 rfl rfl)
theorem dX0_faultReason_12 : decode cX0_faultReason 12 = .ok (.iconst 1, 1) := dk_4 (dk_at dksX0_faultReason_0 12 rfl rfl)
theorem dX0_faultReason_13 : decode cX0_faultReason 13 = .ok (.ireturn, 1) := dk_172 (dk_at dksX0_faultReason_0 13 rfl rfl)
theorem dX0_faultReason_14 : decode cX0_faultReason 14 = .ok (.iconst 0, 1) := dk_3 (dk_at dksX0_faultReason_0 14 rfl rfl)
theorem dX0_faultReason_15 : decode cX0_faultReason 15 = .ok (.ireturn, 1) := dk_172 (dk_at dksX0_faultReason_0 15 rfl rfl)
def dkwX0_faultCause_0 : List UInt8 := [43, 3, 42, 182, 0, 133, 133, 80, 167, 0, 6, 77, 4, 172, 3, 172]
abbrev dktX0_faultCause_0 : List UInt8 := dkwX0_faultCause_0 ++ []
theorem dksX0_faultCause_0 : cX0_faultCause.data.toList.drop 0 = dktX0_faultCause_0 := by decide +kernel
theorem dX0_faultCause_0 : decode cX0_faultCause 0 = .ok (.aload_n 1, 1) := dk_43 (dk_at dksX0_faultCause_0 0 rfl rfl)
theorem dX0_faultCause_1 : decode cX0_faultCause 1 = .ok (.iconst 0, 1) := dk_3 (dk_at dksX0_faultCause_0 1 rfl rfl)
theorem dX0_faultCause_2 : decode cX0_faultCause 2 = .ok (.aload_n 0, 1) := dk_42 (dk_at dksX0_faultCause_0 2 rfl rfl)
theorem dX0_faultCause_3 : decode cX0_faultCause 3 = .ok (.invokevirtual 133, 3) := dk_182 0 133 (dk_at dksX0_faultCause_0 3 rfl rfl)
theorem dX0_faultCause_6 : decode cX0_faultCause 6 = .ok (.i2l, 1) := dk_133 (dk_at dksX0_faultCause_0 6 rfl rfl)
theorem dX0_faultCause_7 : decode cX0_faultCause 7 = .ok (.lastore, 1) := dk_80 (dk_at dksX0_faultCause_0 7 rfl rfl)
theorem dX0_faultCause_8 : decode cX0_faultCause 8 = .ok (.goto 6, 3) := dk_167 0 6 (dk_at dksX0_faultCause_0 8 rfl rfl)
theorem dX0_faultCause_11 : decode cX0_faultCause 11 = .ok (.astore_n 2, 1) := dk_77 (dk_at dksX0_faultCause_0 11 rfl rfl)
theorem dX0_faultCause_12 : decode cX0_faultCause 12 = .ok (.iconst 1, 1) := dk_4 (dk_at dksX0_faultCause_0 12 rfl rfl)
theorem dX0_faultCause_13 : decode cX0_faultCause 13 = .ok (.ireturn, 1) := dk_172 (dk_at dksX0_faultCause_0 13 rfl rfl)
theorem dX0_faultCause_14 : decode cX0_faultCause 14 = .ok (.iconst 0, 1) := dk_3 (dk_at dksX0_faultCause_0 14 rfl rfl)
theorem dX0_faultCause_15 : decode cX0_faultCause 15 = .ok (.ireturn, 1) := dk_172 (dk_at dksX0_faultCause_0 15 rfl rfl)
def dkwX0_play_0 : List UInt8 := [43, 3, 42, 182, 0, 136, 133, 80, 167, 0, 6, 77, 4, 172, 3, 172]
abbrev dktX0_play_0 : List UInt8 := dkwX0_play_0 ++ []
theorem dksX0_play_0 : cX0_play.data.toList.drop 0 = dktX0_play_0 := by decide +kernel
theorem dX0_play_0 : decode cX0_play 0 = .ok (.aload_n 1, 1) := dk_43 (dk_at dksX0_play_0 0 rfl rfl)
theorem dX0_play_1 : decode cX0_play 1 = .ok (.iconst 0, 1) := dk_3 (dk_at dksX0_play_0 1 rfl rfl)
theorem dX0_play_2 : decode cX0_play 2 = .ok (.aload_n 0, 1) := dk_42 (dk_at dksX0_play_0 2 rfl rfl)
theorem dX0_play_3 : decode cX0_play 3 = .ok (.invokevirtual 136, 3) := dk_182 0 136 (dk_at dksX0_play_0 3 rfl rfl)
theorem dX0_play_6 : decode cX0_play 6 = .ok (.i2l, 1) := dk_133 (dk_at dksX0_play_0 6 rfl rfl)
theorem dX0_play_7 : decode cX0_play 7 = .ok (.lastore, 1) := dk_80 (dk_at dksX0_play_0 7 rfl rfl)
theorem dX0_play_8 : decode cX0_play 8 = .ok (.goto 6, 3) := dk_167 0 6 (dk_at dksX0_play_0 8 rfl rfl)
theorem dX0_play_11 : decode cX0_play 11 = .ok (.astore_n 2, 1) := dk_77 (dk_at dksX0_play_0 11 rfl rfl)
theorem dX0_play_12 : decode cX0_play 12 = .ok (.iconst 1, 1) := dk_4 (dk_at dksX0_play_0 12 rfl rfl)
theorem dX0_play_13 : decode cX0_play 13 = .ok (.ireturn, 1) := dk_172 (dk_at dksX0_play_0 13 rfl rfl)
theorem dX0_play_14 : decode cX0_play 14 = .ok (.iconst 0, 1) := dk_3 (dk_at dksX0_play_0 14 rfl rfl)
theorem dX0_play_15 : decode cX0_play 15 = .ok (.ireturn, 1) := dk_172 (dk_at dksX0_play_0 15 rfl rfl)
theorem e_X0_addBox (d : Nat) (x0 : Nat) (x1 : Nat) (h : a_H) : a_call (d + 1) MX0_addBox [.ref x0, .ref x1] h = a_run d MX0_addBox 0 [some (.ref x0), some (.ref x1), none] [] h := a_call_run rfl (Nat.le_of_ble_eq_true rfl) rfl
theorem w_X0_addBox_0 (d : Nat) (a0 a2 : Option Value) (x : Nat) (st : List Value) (h : a_H) : a_run d MX0_addBox 0 [a0, some (.ref x), a2] st h = a_run d MX0_addBox 1 [a0, some (.ref x), a2] (.ref x :: st) h := w_ldAn dX0_addBox_0 rfl
theorem w_X0_addBox_0N (d : Nat) (a0 a2 : Option Value) (st : List Value) (h : a_H) : a_run d MX0_addBox 0 [a0, some .null, a2] st h = a_run d MX0_addBox 1 [a0, some .null, a2] (.null :: st) h := w_ldNn dX0_addBox_0 rfl
theorem w_X0_addBox_1 (d : Nat) (L : a_L) (st : List Value) (h : a_H) : a_run d MX0_addBox 1 L st h = a_run d MX0_addBox 2 L (.int (nI 0) :: st) h := w_iconst dX0_addBox_1 rfl
theorem w_X0_addBox_2 (d : Nat) (a1 a2 : Option Value) (x : Nat) (st : List Value) (h : a_H) : a_run d MX0_addBox 2 [some (.ref x), a1, a2] st h = a_run d MX0_addBox 3 [some (.ref x), a1, a2] (.ref x :: st) h := w_ldAn dX0_addBox_2 rfl
theorem w_X0_addBox_3 (d : Nat) (L : a_L) (i : Nat) (st : List Value) (h : a_H) (hk : a_kls h i = some 0) (hc : a_cat st ≤ 8) : a_run d MX0_addBox 3 L (.ref i :: st) h = a_cont d MX0_addBox (a_bk MX0_addBox 3 L st (a_call d MX1_addBox [.ref i] h)) := w_callV (as := [.ref i]) dX0_addBox_3 rfl rfl rfl hc (a_rcv_of hk rfl)
theorem w_X0_addBox_6 (d : Nat) (L : a_L) (x : Int32) (st : List Value) (h : a_H) : a_run d MX0_addBox 6 L (.int x :: st) h = a_run d MX0_addBox 7 L (.long x.toInt64 :: st) h := w_i2l dX0_addBox_6
theorem w_X0_addBox_7 (d : Nat) (L : a_L) (x : Int32) (y : Int64) (i : Nat) (st : List Value) (h : a_H) : a_run d MX0_addBox 7 L (.long y :: .int x :: .ref i :: st) h = (a_wrl h i x y).bind fun h' => a_run d MX0_addBox 8 L st h' := w_last dX0_addBox_7
theorem w_X0_addBox_8 (d : Nat) (L : a_L) (st : List Value) (h : a_H) : a_run d MX0_addBox 8 L st h = a_run d MX0_addBox 14 L st h := w_goto dX0_addBox_8 rfl
theorem w_X0_addBox_11 (d : Nat) (a0 a1 a2 : Option Value) (x : Nat) (st : List Value) (h : a_H) : a_run d MX0_addBox 11 [a0, a1, a2] (.ref x :: st) h = a_run d MX0_addBox 12 [a0, a1, some (.ref x)] st h := w_stAn dX0_addBox_11 (Nat.le_of_ble_eq_true rfl) rfl
theorem w_X0_addBox_11N (d : Nat) (a0 a1 a2 : Option Value) (st : List Value) (h : a_H) : a_run d MX0_addBox 11 [a0, a1, a2] (.null :: st) h = a_run d MX0_addBox 12 [a0, a1, some .null] st h := w_stNn dX0_addBox_11 (Nat.le_of_ble_eq_true rfl) rfl
theorem w_X0_addBox_12 (d : Nat) (L : a_L) (st : List Value) (h : a_H) : a_run d MX0_addBox 12 L st h = a_run d MX0_addBox 13 L (.int (nI 1) :: st) h := w_iconst dX0_addBox_12 rfl
theorem w_X0_addBox_13 (d : Nat) (L : a_L) (x : Int32) (h : a_H) : a_run d MX0_addBox 13 L [.int x] h = some (.inl (some (.int x)), h) := w_iret dX0_addBox_13 (w_retI rfl)
theorem w_X0_addBox_14 (d : Nat) (L : a_L) (st : List Value) (h : a_H) : a_run d MX0_addBox 14 L st h = a_run d MX0_addBox 15 L (.int (nI 0) :: st) h := w_iconst dX0_addBox_14 rfl
theorem w_X0_addBox_15 (d : Nat) (L : a_L) (x : Int32) (h : a_H) : a_run d MX0_addBox 15 L [.int x] h = some (.inl (some (.int x)), h) := w_iret dX0_addBox_15 (w_retI rfl)
theorem e_X0_addArrow (d : Nat) (x0 : Nat) (x1 : Int32) (x2 : Int32) (x3 : Nat) (h : a_H) : a_call (d + 1) MX0_addArrow [.ref x0, .int x1, .int x2, .ref x3] h = a_run d MX0_addArrow 0 [some (.ref x0), some (.int x1), some (.int x2), some (.ref x3), none] [] h := a_call_run rfl (Nat.le_of_ble_eq_true rfl) rfl
theorem w_X0_addArrow_0 (d : Nat) (a0 a1 a2 a4 : Option Value) (x : Nat) (st : List Value) (h : a_H) : a_run d MX0_addArrow 0 [a0, a1, a2, some (.ref x), a4] st h = a_run d MX0_addArrow 1 [a0, a1, a2, some (.ref x), a4] (.ref x :: st) h := w_ldAn dX0_addArrow_0 rfl
theorem w_X0_addArrow_0N (d : Nat) (a0 a1 a2 a4 : Option Value) (st : List Value) (h : a_H) : a_run d MX0_addArrow 0 [a0, a1, a2, some .null, a4] st h = a_run d MX0_addArrow 1 [a0, a1, a2, some .null, a4] (.null :: st) h := w_ldNn dX0_addArrow_0 rfl
theorem w_X0_addArrow_1 (d : Nat) (L : a_L) (st : List Value) (h : a_H) : a_run d MX0_addArrow 1 L st h = a_run d MX0_addArrow 2 L (.int (nI 0) :: st) h := w_iconst dX0_addArrow_1 rfl
theorem w_X0_addArrow_2 (d : Nat) (a1 a2 a3 a4 : Option Value) (x : Nat) (st : List Value) (h : a_H) : a_run d MX0_addArrow 2 [some (.ref x), a1, a2, a3, a4] st h = a_run d MX0_addArrow 3 [some (.ref x), a1, a2, a3, a4] (.ref x :: st) h := w_ldAn dX0_addArrow_2 rfl
theorem w_X0_addArrow_3 (d : Nat) (a0 a2 a3 a4 : Option Value) (x : Int32) (st : List Value) (h : a_H) : a_run d MX0_addArrow 3 [a0, some (.int x), a2, a3, a4] st h = a_run d MX0_addArrow 4 [a0, some (.int x), a2, a3, a4] (.int x :: st) h := w_ldIn dX0_addArrow_3 rfl
theorem w_X0_addArrow_4 (d : Nat) (a0 a1 a3 a4 : Option Value) (x : Int32) (st : List Value) (h : a_H) : a_run d MX0_addArrow 4 [a0, a1, some (.int x), a3, a4] st h = a_run d MX0_addArrow 5 [a0, a1, some (.int x), a3, a4] (.int x :: st) h := w_ldIn dX0_addArrow_4 rfl
theorem w_X0_addArrow_5 (d : Nat) (L : a_L) (i : Nat) (v1 v2 : Value) (st : List Value) (h : a_H) (hk : a_kls h i = some 0) (hc : a_cat st ≤ 8) : a_run d MX0_addArrow 5 L (v2 :: v1 :: .ref i :: st) h = a_cont d MX0_addArrow (a_bk MX0_addArrow 5 L st (a_call d MX1_addArrow [.ref i, v1, v2] h)) := w_callV (as := [.ref i, v1, v2]) dX0_addArrow_5 rfl rfl rfl hc (a_rcv_of hk rfl)
theorem w_X0_addArrow_8 (d : Nat) (L : a_L) (x : Int32) (st : List Value) (h : a_H) : a_run d MX0_addArrow 8 L (.int x :: st) h = a_run d MX0_addArrow 9 L (.long x.toInt64 :: st) h := w_i2l dX0_addArrow_8
theorem w_X0_addArrow_9 (d : Nat) (L : a_L) (x : Int32) (y : Int64) (i : Nat) (st : List Value) (h : a_H) : a_run d MX0_addArrow 9 L (.long y :: .int x :: .ref i :: st) h = (a_wrl h i x y).bind fun h' => a_run d MX0_addArrow 10 L st h' := w_last dX0_addArrow_9
theorem w_X0_addArrow_10 (d : Nat) (L : a_L) (st : List Value) (h : a_H) : a_run d MX0_addArrow 10 L st h = a_run d MX0_addArrow 21 L st h := w_goto dX0_addArrow_10 rfl
theorem w_X0_addArrow_13 (d : Nat) (a0 a1 a2 a3 a4 : Option Value) (x : Nat) (st : List Value) (h : a_H) : a_run d MX0_addArrow 13 [a0, a1, a2, a3, a4] (.ref x :: st) h = a_run d MX0_addArrow 15 [a0, a1, a2, a3, some (.ref x)] st h := w_stA dX0_addArrow_13 (Nat.le_of_ble_eq_true rfl) rfl
theorem w_X0_addArrow_13N (d : Nat) (a0 a1 a2 a3 a4 : Option Value) (st : List Value) (h : a_H) : a_run d MX0_addArrow 13 [a0, a1, a2, a3, a4] (.null :: st) h = a_run d MX0_addArrow 15 [a0, a1, a2, a3, some .null] st h := w_stN dX0_addArrow_13 (Nat.le_of_ble_eq_true rfl) rfl
theorem w_X0_addArrow_15 (d : Nat) (L : a_L) (st : List Value) (h : a_H) : a_run d MX0_addArrow 15 L st h = a_run d MX0_addArrow 16 L (.int (nI 1) :: st) h := w_iconst dX0_addArrow_15 rfl
theorem w_X0_addArrow_16 (d : Nat) (L : a_L) (x : Int32) (h : a_H) : a_run d MX0_addArrow 16 L [.int x] h = some (.inl (some (.int x)), h) := w_iret dX0_addArrow_16 (w_retI rfl)
theorem w_X0_addArrow_17 (d : Nat) (a0 a1 a2 a3 a4 : Option Value) (x : Nat) (st : List Value) (h : a_H) : a_run d MX0_addArrow 17 [a0, a1, a2, a3, a4] (.ref x :: st) h = a_run d MX0_addArrow 19 [a0, a1, a2, a3, some (.ref x)] st h := w_stA dX0_addArrow_17 (Nat.le_of_ble_eq_true rfl) rfl
theorem w_X0_addArrow_17N (d : Nat) (a0 a1 a2 a3 a4 : Option Value) (st : List Value) (h : a_H) : a_run d MX0_addArrow 17 [a0, a1, a2, a3, a4] (.null :: st) h = a_run d MX0_addArrow 19 [a0, a1, a2, a3, some .null] st h := w_stN dX0_addArrow_17 (Nat.le_of_ble_eq_true rfl) rfl
theorem w_X0_addArrow_19 (d : Nat) (L : a_L) (st : List Value) (h : a_H) : a_run d MX0_addArrow 19 L st h = a_run d MX0_addArrow 20 L (.int (nI 2) :: st) h := w_iconst dX0_addArrow_19 rfl
theorem w_X0_addArrow_20 (d : Nat) (L : a_L) (x : Int32) (h : a_H) : a_run d MX0_addArrow 20 L [.int x] h = some (.inl (some (.int x)), h) := w_iret dX0_addArrow_20 (w_retI rfl)
theorem w_X0_addArrow_21 (d : Nat) (L : a_L) (st : List Value) (h : a_H) : a_run d MX0_addArrow 21 L st h = a_run d MX0_addArrow 22 L (.int (nI 0) :: st) h := w_iconst dX0_addArrow_21 rfl
theorem w_X0_addArrow_22 (d : Nat) (L : a_L) (x : Int32) (h : a_H) : a_run d MX0_addArrow 22 L [.int x] h = some (.inl (some (.int x)), h) := w_iret dX0_addArrow_22 (w_retI rfl)
theorem e_X0_addChain (d : Nat) (x0 : Nat) (x1 : Int32) (x2 : Int32) (x3 : Int32) (x4 : Nat) (h : a_H) : a_call (d + 1) MX0_addChain [.ref x0, .int x1, .int x2, .int x3, .ref x4] h = a_run d MX0_addChain 0 [some (.ref x0), some (.int x1), some (.int x2), some (.int x3), some (.ref x4), none] [] h := a_call_run rfl (Nat.le_of_ble_eq_true rfl) rfl
theorem w_X0_addChain_0 (d : Nat) (a0 a1 a2 a3 a5 : Option Value) (x : Nat) (st : List Value) (h : a_H) : a_run d MX0_addChain 0 [a0, a1, a2, a3, some (.ref x), a5] st h = a_run d MX0_addChain 2 [a0, a1, a2, a3, some (.ref x), a5] (.ref x :: st) h := w_ldA dX0_addChain_0 rfl
theorem w_X0_addChain_0N (d : Nat) (a0 a1 a2 a3 a5 : Option Value) (st : List Value) (h : a_H) : a_run d MX0_addChain 0 [a0, a1, a2, a3, some .null, a5] st h = a_run d MX0_addChain 2 [a0, a1, a2, a3, some .null, a5] (.null :: st) h := w_ldN dX0_addChain_0 rfl
theorem w_X0_addChain_2 (d : Nat) (L : a_L) (st : List Value) (h : a_H) : a_run d MX0_addChain 2 L st h = a_run d MX0_addChain 3 L (.int (nI 0) :: st) h := w_iconst dX0_addChain_2 rfl
theorem w_X0_addChain_3 (d : Nat) (a1 a2 a3 a4 a5 : Option Value) (x : Nat) (st : List Value) (h : a_H) : a_run d MX0_addChain 3 [some (.ref x), a1, a2, a3, a4, a5] st h = a_run d MX0_addChain 4 [some (.ref x), a1, a2, a3, a4, a5] (.ref x :: st) h := w_ldAn dX0_addChain_3 rfl
theorem w_X0_addChain_4 (d : Nat) (a0 a2 a3 a4 a5 : Option Value) (x : Int32) (st : List Value) (h : a_H) : a_run d MX0_addChain 4 [a0, some (.int x), a2, a3, a4, a5] st h = a_run d MX0_addChain 5 [a0, some (.int x), a2, a3, a4, a5] (.int x :: st) h := w_ldIn dX0_addChain_4 rfl
theorem w_X0_addChain_5 (d : Nat) (a0 a1 a3 a4 a5 : Option Value) (x : Int32) (st : List Value) (h : a_H) : a_run d MX0_addChain 5 [a0, a1, some (.int x), a3, a4, a5] st h = a_run d MX0_addChain 6 [a0, a1, some (.int x), a3, a4, a5] (.int x :: st) h := w_ldIn dX0_addChain_5 rfl
theorem w_X0_addChain_6 (d : Nat) (a0 a1 a2 a4 a5 : Option Value) (x : Int32) (st : List Value) (h : a_H) : a_run d MX0_addChain 6 [a0, a1, a2, some (.int x), a4, a5] st h = a_run d MX0_addChain 7 [a0, a1, a2, some (.int x), a4, a5] (.int x :: st) h := w_ldIn dX0_addChain_6 rfl
theorem w_X0_addChain_7 (d : Nat) (L : a_L) (i : Nat) (v1 v2 v3 : Value) (st : List Value) (h : a_H) (hk : a_kls h i = some 0) (hc : a_cat st ≤ 8) : a_run d MX0_addChain 7 L (v3 :: v2 :: v1 :: .ref i :: st) h = a_cont d MX0_addChain (a_bk MX0_addChain 7 L st (a_call d MX1_addChain [.ref i, v1, v2, v3] h)) := w_callV (as := [.ref i, v1, v2, v3]) dX0_addChain_7 rfl rfl rfl hc (a_rcv_of hk rfl)
theorem w_X0_addChain_10 (d : Nat) (L : a_L) (x : Int32) (st : List Value) (h : a_H) : a_run d MX0_addChain 10 L (.int x :: st) h = a_run d MX0_addChain 11 L (.long x.toInt64 :: st) h := w_i2l dX0_addChain_10
theorem w_X0_addChain_11 (d : Nat) (L : a_L) (x : Int32) (y : Int64) (i : Nat) (st : List Value) (h : a_H) : a_run d MX0_addChain 11 L (.long y :: .int x :: .ref i :: st) h = (a_wrl h i x y).bind fun h' => a_run d MX0_addChain 12 L st h' := w_last dX0_addChain_11
theorem w_X0_addChain_12 (d : Nat) (L : a_L) (st : List Value) (h : a_H) : a_run d MX0_addChain 12 L st h = a_run d MX0_addChain 23 L st h := w_goto dX0_addChain_12 rfl
theorem w_X0_addChain_15 (d : Nat) (a0 a1 a2 a3 a4 a5 : Option Value) (x : Nat) (st : List Value) (h : a_H) : a_run d MX0_addChain 15 [a0, a1, a2, a3, a4, a5] (.ref x :: st) h = a_run d MX0_addChain 17 [a0, a1, a2, a3, a4, some (.ref x)] st h := w_stA dX0_addChain_15 (Nat.le_of_ble_eq_true rfl) rfl
theorem w_X0_addChain_15N (d : Nat) (a0 a1 a2 a3 a4 a5 : Option Value) (st : List Value) (h : a_H) : a_run d MX0_addChain 15 [a0, a1, a2, a3, a4, a5] (.null :: st) h = a_run d MX0_addChain 17 [a0, a1, a2, a3, a4, some .null] st h := w_stN dX0_addChain_15 (Nat.le_of_ble_eq_true rfl) rfl
theorem w_X0_addChain_17 (d : Nat) (L : a_L) (st : List Value) (h : a_H) : a_run d MX0_addChain 17 L st h = a_run d MX0_addChain 18 L (.int (nI 1) :: st) h := w_iconst dX0_addChain_17 rfl
theorem w_X0_addChain_18 (d : Nat) (L : a_L) (x : Int32) (h : a_H) : a_run d MX0_addChain 18 L [.int x] h = some (.inl (some (.int x)), h) := w_iret dX0_addChain_18 (w_retI rfl)
theorem w_X0_addChain_19 (d : Nat) (a0 a1 a2 a3 a4 a5 : Option Value) (x : Nat) (st : List Value) (h : a_H) : a_run d MX0_addChain 19 [a0, a1, a2, a3, a4, a5] (.ref x :: st) h = a_run d MX0_addChain 21 [a0, a1, a2, a3, a4, some (.ref x)] st h := w_stA dX0_addChain_19 (Nat.le_of_ble_eq_true rfl) rfl
theorem w_X0_addChain_19N (d : Nat) (a0 a1 a2 a3 a4 a5 : Option Value) (st : List Value) (h : a_H) : a_run d MX0_addChain 19 [a0, a1, a2, a3, a4, a5] (.null :: st) h = a_run d MX0_addChain 21 [a0, a1, a2, a3, a4, some .null] st h := w_stN dX0_addChain_19 (Nat.le_of_ble_eq_true rfl) rfl
theorem w_X0_addChain_21 (d : Nat) (L : a_L) (st : List Value) (h : a_H) : a_run d MX0_addChain 21 L st h = a_run d MX0_addChain 22 L (.int (nI 2) :: st) h := w_iconst dX0_addChain_21 rfl
theorem w_X0_addChain_22 (d : Nat) (L : a_L) (x : Int32) (h : a_H) : a_run d MX0_addChain 22 L [.int x] h = some (.inl (some (.int x)), h) := w_iret dX0_addChain_22 (w_retI rfl)
theorem w_X0_addChain_23 (d : Nat) (L : a_L) (st : List Value) (h : a_H) : a_run d MX0_addChain 23 L st h = a_run d MX0_addChain 24 L (.int (nI 0) :: st) h := w_iconst dX0_addChain_23 rfl
theorem w_X0_addChain_24 (d : Nat) (L : a_L) (x : Int32) (h : a_H) : a_run d MX0_addChain 24 L [.int x] h = some (.inl (some (.int x)), h) := w_iret dX0_addChain_24 (w_retI rfl)
theorem e_X0_removeArrow (d : Nat) (x0 : Nat) (x1 : Int32) (x2 : Nat) (h : a_H) : a_call (d + 1) MX0_removeArrow [.ref x0, .int x1, .ref x2] h = a_run d MX0_removeArrow 0 [some (.ref x0), some (.int x1), some (.ref x2), none] [] h := a_call_run rfl (Nat.le_of_ble_eq_true rfl) rfl
theorem w_X0_removeArrow_0 (d : Nat) (a0 a1 a3 : Option Value) (x : Nat) (st : List Value) (h : a_H) : a_run d MX0_removeArrow 0 [a0, a1, some (.ref x), a3] st h = a_run d MX0_removeArrow 1 [a0, a1, some (.ref x), a3] (.ref x :: st) h := w_ldAn dX0_removeArrow_0 rfl
theorem w_X0_removeArrow_0N (d : Nat) (a0 a1 a3 : Option Value) (st : List Value) (h : a_H) : a_run d MX0_removeArrow 0 [a0, a1, some .null, a3] st h = a_run d MX0_removeArrow 1 [a0, a1, some .null, a3] (.null :: st) h := w_ldNn dX0_removeArrow_0 rfl
theorem w_X0_removeArrow_1 (d : Nat) (L : a_L) (st : List Value) (h : a_H) : a_run d MX0_removeArrow 1 L st h = a_run d MX0_removeArrow 2 L (.int (nI 0) :: st) h := w_iconst dX0_removeArrow_1 rfl
theorem w_X0_removeArrow_2 (d : Nat) (a1 a2 a3 : Option Value) (x : Nat) (st : List Value) (h : a_H) : a_run d MX0_removeArrow 2 [some (.ref x), a1, a2, a3] st h = a_run d MX0_removeArrow 3 [some (.ref x), a1, a2, a3] (.ref x :: st) h := w_ldAn dX0_removeArrow_2 rfl
theorem w_X0_removeArrow_3 (d : Nat) (a0 a2 a3 : Option Value) (x : Int32) (st : List Value) (h : a_H) : a_run d MX0_removeArrow 3 [a0, some (.int x), a2, a3] st h = a_run d MX0_removeArrow 4 [a0, some (.int x), a2, a3] (.int x :: st) h := w_ldIn dX0_removeArrow_3 rfl
theorem w_X0_removeArrow_4 (d : Nat) (L : a_L) (i : Nat) (v1 : Value) (st : List Value) (h : a_H) (hk : a_kls h i = some 0) (hc : a_cat st ≤ 8) : a_run d MX0_removeArrow 4 L (v1 :: .ref i :: st) h = a_cont d MX0_removeArrow (a_bk MX0_removeArrow 4 L st (a_call d MX1_removeArrow [.ref i, v1] h)) := w_callV (as := [.ref i, v1]) dX0_removeArrow_4 rfl rfl rfl hc (a_rcv_of hk rfl)
theorem w_X0_removeArrow_7 (d : Nat) (L : a_L) (x : Int32) (st : List Value) (h : a_H) : a_run d MX0_removeArrow 7 L (.int x :: st) h = a_run d MX0_removeArrow 8 L (.long x.toInt64 :: st) h := w_i2l dX0_removeArrow_7
theorem w_X0_removeArrow_8 (d : Nat) (L : a_L) (x : Int32) (y : Int64) (i : Nat) (st : List Value) (h : a_H) : a_run d MX0_removeArrow 8 L (.long y :: .int x :: .ref i :: st) h = (a_wrl h i x y).bind fun h' => a_run d MX0_removeArrow 9 L st h' := w_last dX0_removeArrow_8
theorem w_X0_removeArrow_9 (d : Nat) (L : a_L) (st : List Value) (h : a_H) : a_run d MX0_removeArrow 9 L st h = a_run d MX0_removeArrow 15 L st h := w_goto dX0_removeArrow_9 rfl
theorem w_X0_removeArrow_12 (d : Nat) (a0 a1 a2 a3 : Option Value) (x : Nat) (st : List Value) (h : a_H) : a_run d MX0_removeArrow 12 [a0, a1, a2, a3] (.ref x :: st) h = a_run d MX0_removeArrow 13 [a0, a1, a2, some (.ref x)] st h := w_stAn dX0_removeArrow_12 (Nat.le_of_ble_eq_true rfl) rfl
theorem w_X0_removeArrow_12N (d : Nat) (a0 a1 a2 a3 : Option Value) (st : List Value) (h : a_H) : a_run d MX0_removeArrow 12 [a0, a1, a2, a3] (.null :: st) h = a_run d MX0_removeArrow 13 [a0, a1, a2, some .null] st h := w_stNn dX0_removeArrow_12 (Nat.le_of_ble_eq_true rfl) rfl
theorem w_X0_removeArrow_13 (d : Nat) (L : a_L) (st : List Value) (h : a_H) : a_run d MX0_removeArrow 13 L st h = a_run d MX0_removeArrow 14 L (.int (nI 1) :: st) h := w_iconst dX0_removeArrow_13 rfl
theorem w_X0_removeArrow_14 (d : Nat) (L : a_L) (x : Int32) (h : a_H) : a_run d MX0_removeArrow 14 L [.int x] h = some (.inl (some (.int x)), h) := w_iret dX0_removeArrow_14 (w_retI rfl)
theorem w_X0_removeArrow_15 (d : Nat) (L : a_L) (st : List Value) (h : a_H) : a_run d MX0_removeArrow 15 L st h = a_run d MX0_removeArrow 16 L (.int (nI 0) :: st) h := w_iconst dX0_removeArrow_15 rfl
theorem w_X0_removeArrow_16 (d : Nat) (L : a_L) (x : Int32) (h : a_H) : a_run d MX0_removeArrow 16 L [.int x] h = some (.inl (some (.int x)), h) := w_iret dX0_removeArrow_16 (w_retI rfl)
theorem e_X0_holdDown (d : Nat) (x0 : Nat) (x1 : Int32) (x2 : Int32) (x3 : Nat) (h : a_H) : a_call (d + 1) MX0_holdDown [.ref x0, .int x1, .int x2, .ref x3] h = a_run d MX0_holdDown 0 [some (.ref x0), some (.int x1), some (.int x2), some (.ref x3), none] [] h := a_call_run rfl (Nat.le_of_ble_eq_true rfl) rfl
theorem w_X0_holdDown_0 (d : Nat) (a0 a1 a2 a4 : Option Value) (x : Nat) (st : List Value) (h : a_H) : a_run d MX0_holdDown 0 [a0, a1, a2, some (.ref x), a4] st h = a_run d MX0_holdDown 1 [a0, a1, a2, some (.ref x), a4] (.ref x :: st) h := w_ldAn dX0_holdDown_0 rfl
theorem w_X0_holdDown_0N (d : Nat) (a0 a1 a2 a4 : Option Value) (st : List Value) (h : a_H) : a_run d MX0_holdDown 0 [a0, a1, a2, some .null, a4] st h = a_run d MX0_holdDown 1 [a0, a1, a2, some .null, a4] (.null :: st) h := w_ldNn dX0_holdDown_0 rfl
theorem w_X0_holdDown_1 (d : Nat) (L : a_L) (st : List Value) (h : a_H) : a_run d MX0_holdDown 1 L st h = a_run d MX0_holdDown 2 L (.int (nI 0) :: st) h := w_iconst dX0_holdDown_1 rfl
theorem w_X0_holdDown_2 (d : Nat) (a1 a2 a3 a4 : Option Value) (x : Nat) (st : List Value) (h : a_H) : a_run d MX0_holdDown 2 [some (.ref x), a1, a2, a3, a4] st h = a_run d MX0_holdDown 3 [some (.ref x), a1, a2, a3, a4] (.ref x :: st) h := w_ldAn dX0_holdDown_2 rfl
theorem w_X0_holdDown_3 (d : Nat) (a0 a2 a3 a4 : Option Value) (x : Int32) (st : List Value) (h : a_H) : a_run d MX0_holdDown 3 [a0, some (.int x), a2, a3, a4] st h = a_run d MX0_holdDown 4 [a0, some (.int x), a2, a3, a4] (.int x :: st) h := w_ldIn dX0_holdDown_3 rfl
theorem w_X0_holdDown_4 (d : Nat) (a0 a1 a3 a4 : Option Value) (x : Int32) (st : List Value) (h : a_H) : a_run d MX0_holdDown 4 [a0, a1, some (.int x), a3, a4] st h = a_run d MX0_holdDown 5 [a0, a1, some (.int x), a3, a4] (.int x :: st) h := w_ldIn dX0_holdDown_4 rfl
theorem w_X0_holdDown_5 (d : Nat) (L : a_L) (i : Nat) (v1 v2 : Value) (st : List Value) (h : a_H) (hk : a_kls h i = some 0) (hc : a_cat st ≤ 8) : a_run d MX0_holdDown 5 L (v2 :: v1 :: .ref i :: st) h = a_cont d MX0_holdDown (a_bk MX0_holdDown 5 L st (a_call d MX1_holdDown [.ref i, v1, v2] h)) := w_callV (as := [.ref i, v1, v2]) dX0_holdDown_5 rfl rfl rfl hc (a_rcv_of hk rfl)
theorem w_X0_holdDown_8 (d : Nat) (L : a_L) (x : Int32) (st : List Value) (h : a_H) : a_run d MX0_holdDown 8 L (.int x :: st) h = a_run d MX0_holdDown 9 L (.long x.toInt64 :: st) h := w_i2l dX0_holdDown_8
theorem w_X0_holdDown_9 (d : Nat) (L : a_L) (x : Int32) (y : Int64) (i : Nat) (st : List Value) (h : a_H) : a_run d MX0_holdDown 9 L (.long y :: .int x :: .ref i :: st) h = (a_wrl h i x y).bind fun h' => a_run d MX0_holdDown 10 L st h' := w_last dX0_holdDown_9
theorem w_X0_holdDown_10 (d : Nat) (L : a_L) (st : List Value) (h : a_H) : a_run d MX0_holdDown 10 L st h = a_run d MX0_holdDown 17 L st h := w_goto dX0_holdDown_10 rfl
theorem w_X0_holdDown_13 (d : Nat) (a0 a1 a2 a3 a4 : Option Value) (x : Nat) (st : List Value) (h : a_H) : a_run d MX0_holdDown 13 [a0, a1, a2, a3, a4] (.ref x :: st) h = a_run d MX0_holdDown 15 [a0, a1, a2, a3, some (.ref x)] st h := w_stA dX0_holdDown_13 (Nat.le_of_ble_eq_true rfl) rfl
theorem w_X0_holdDown_13N (d : Nat) (a0 a1 a2 a3 a4 : Option Value) (st : List Value) (h : a_H) : a_run d MX0_holdDown 13 [a0, a1, a2, a3, a4] (.null :: st) h = a_run d MX0_holdDown 15 [a0, a1, a2, a3, some .null] st h := w_stN dX0_holdDown_13 (Nat.le_of_ble_eq_true rfl) rfl
theorem w_X0_holdDown_15 (d : Nat) (L : a_L) (st : List Value) (h : a_H) : a_run d MX0_holdDown 15 L st h = a_run d MX0_holdDown 16 L (.int (nI 1) :: st) h := w_iconst dX0_holdDown_15 rfl
theorem w_X0_holdDown_16 (d : Nat) (L : a_L) (x : Int32) (h : a_H) : a_run d MX0_holdDown 16 L [.int x] h = some (.inl (some (.int x)), h) := w_iret dX0_holdDown_16 (w_retI rfl)
theorem w_X0_holdDown_17 (d : Nat) (L : a_L) (st : List Value) (h : a_H) : a_run d MX0_holdDown 17 L st h = a_run d MX0_holdDown 18 L (.int (nI 0) :: st) h := w_iconst dX0_holdDown_17 rfl
theorem w_X0_holdDown_18 (d : Nat) (L : a_L) (x : Int32) (h : a_H) : a_run d MX0_holdDown 18 L [.int x] h = some (.inl (some (.int x)), h) := w_iret dX0_holdDown_18 (w_retI rfl)
theorem e_X0_exchange (d : Nat) (x0 : Nat) (x1 : Int32) (x2 : Int32) (x3 : Int32) (x4 : Nat) (h : a_H) : a_call (d + 1) MX0_exchange [.ref x0, .int x1, .int x2, .int x3, .ref x4] h = a_run d MX0_exchange 0 [some (.ref x0), some (.int x1), some (.int x2), some (.int x3), some (.ref x4), none] [] h := a_call_run rfl (Nat.le_of_ble_eq_true rfl) rfl
theorem w_X0_exchange_0 (d : Nat) (a0 a1 a2 a3 a5 : Option Value) (x : Nat) (st : List Value) (h : a_H) : a_run d MX0_exchange 0 [a0, a1, a2, a3, some (.ref x), a5] st h = a_run d MX0_exchange 2 [a0, a1, a2, a3, some (.ref x), a5] (.ref x :: st) h := w_ldA dX0_exchange_0 rfl
theorem w_X0_exchange_0N (d : Nat) (a0 a1 a2 a3 a5 : Option Value) (st : List Value) (h : a_H) : a_run d MX0_exchange 0 [a0, a1, a2, a3, some .null, a5] st h = a_run d MX0_exchange 2 [a0, a1, a2, a3, some .null, a5] (.null :: st) h := w_ldN dX0_exchange_0 rfl
theorem w_X0_exchange_2 (d : Nat) (L : a_L) (st : List Value) (h : a_H) : a_run d MX0_exchange 2 L st h = a_run d MX0_exchange 3 L (.int (nI 0) :: st) h := w_iconst dX0_exchange_2 rfl
theorem w_X0_exchange_3 (d : Nat) (a1 a2 a3 a4 a5 : Option Value) (x : Nat) (st : List Value) (h : a_H) : a_run d MX0_exchange 3 [some (.ref x), a1, a2, a3, a4, a5] st h = a_run d MX0_exchange 4 [some (.ref x), a1, a2, a3, a4, a5] (.ref x :: st) h := w_ldAn dX0_exchange_3 rfl
theorem w_X0_exchange_4 (d : Nat) (a0 a2 a3 a4 a5 : Option Value) (x : Int32) (st : List Value) (h : a_H) : a_run d MX0_exchange 4 [a0, some (.int x), a2, a3, a4, a5] st h = a_run d MX0_exchange 5 [a0, some (.int x), a2, a3, a4, a5] (.int x :: st) h := w_ldIn dX0_exchange_4 rfl
theorem w_X0_exchange_5 (d : Nat) (a0 a1 a3 a4 a5 : Option Value) (x : Int32) (st : List Value) (h : a_H) : a_run d MX0_exchange 5 [a0, a1, some (.int x), a3, a4, a5] st h = a_run d MX0_exchange 6 [a0, a1, some (.int x), a3, a4, a5] (.int x :: st) h := w_ldIn dX0_exchange_5 rfl
theorem w_X0_exchange_6 (d : Nat) (a0 a1 a2 a4 a5 : Option Value) (x : Int32) (st : List Value) (h : a_H) : a_run d MX0_exchange 6 [a0, a1, a2, some (.int x), a4, a5] st h = a_run d MX0_exchange 7 [a0, a1, a2, some (.int x), a4, a5] (.int x :: st) h := w_ldIn dX0_exchange_6 rfl
theorem w_X0_exchange_7 (d : Nat) (L : a_L) (i : Nat) (v1 v2 v3 : Value) (st : List Value) (h : a_H) (hk : a_kls h i = some 0) (hc : a_cat st ≤ 8) : a_run d MX0_exchange 7 L (v3 :: v2 :: v1 :: .ref i :: st) h = a_cont d MX0_exchange (a_bk MX0_exchange 7 L st (a_call d MX1_exchange [.ref i, v1, v2, v3] h)) := w_callV (as := [.ref i, v1, v2, v3]) dX0_exchange_7 rfl rfl rfl hc (a_rcv_of hk rfl)
theorem w_X0_exchange_10 (d : Nat) (L : a_L) (x : Int32) (st : List Value) (h : a_H) : a_run d MX0_exchange 10 L (.int x :: st) h = a_run d MX0_exchange 11 L (.long x.toInt64 :: st) h := w_i2l dX0_exchange_10
theorem w_X0_exchange_11 (d : Nat) (L : a_L) (x : Int32) (y : Int64) (i : Nat) (st : List Value) (h : a_H) : a_run d MX0_exchange 11 L (.long y :: .int x :: .ref i :: st) h = (a_wrl h i x y).bind fun h' => a_run d MX0_exchange 12 L st h' := w_last dX0_exchange_11
theorem w_X0_exchange_12 (d : Nat) (L : a_L) (st : List Value) (h : a_H) : a_run d MX0_exchange 12 L st h = a_run d MX0_exchange 19 L st h := w_goto dX0_exchange_12 rfl
theorem w_X0_exchange_15 (d : Nat) (a0 a1 a2 a3 a4 a5 : Option Value) (x : Nat) (st : List Value) (h : a_H) : a_run d MX0_exchange 15 [a0, a1, a2, a3, a4, a5] (.ref x :: st) h = a_run d MX0_exchange 17 [a0, a1, a2, a3, a4, some (.ref x)] st h := w_stA dX0_exchange_15 (Nat.le_of_ble_eq_true rfl) rfl
theorem w_X0_exchange_15N (d : Nat) (a0 a1 a2 a3 a4 a5 : Option Value) (st : List Value) (h : a_H) : a_run d MX0_exchange 15 [a0, a1, a2, a3, a4, a5] (.null :: st) h = a_run d MX0_exchange 17 [a0, a1, a2, a3, a4, some .null] st h := w_stN dX0_exchange_15 (Nat.le_of_ble_eq_true rfl) rfl
theorem w_X0_exchange_17 (d : Nat) (L : a_L) (st : List Value) (h : a_H) : a_run d MX0_exchange 17 L st h = a_run d MX0_exchange 18 L (.int (nI 1) :: st) h := w_iconst dX0_exchange_17 rfl
theorem w_X0_exchange_18 (d : Nat) (L : a_L) (x : Int32) (h : a_H) : a_run d MX0_exchange 18 L [.int x] h = some (.inl (some (.int x)), h) := w_iret dX0_exchange_18 (w_retI rfl)
theorem w_X0_exchange_19 (d : Nat) (L : a_L) (st : List Value) (h : a_H) : a_run d MX0_exchange 19 L st h = a_run d MX0_exchange 20 L (.int (nI 0) :: st) h := w_iconst dX0_exchange_19 rfl
theorem w_X0_exchange_20 (d : Nat) (L : a_L) (x : Int32) (h : a_H) : a_run d MX0_exchange 20 L [.int x] h = some (.inl (some (.int x)), h) := w_iret dX0_exchange_20 (w_retI rfl)
theorem e_X0_fromOf (d : Nat) (x0 : Nat) (x1 : Int32) (x2 : Nat) (h : a_H) : a_call (d + 1) MX0_fromOf [.ref x0, .int x1, .ref x2] h = a_run d MX0_fromOf 0 [some (.ref x0), some (.int x1), some (.ref x2), none] [] h := a_call_run rfl (Nat.le_of_ble_eq_true rfl) rfl
theorem w_X0_fromOf_0 (d : Nat) (a0 a1 a3 : Option Value) (x : Nat) (st : List Value) (h : a_H) : a_run d MX0_fromOf 0 [a0, a1, some (.ref x), a3] st h = a_run d MX0_fromOf 1 [a0, a1, some (.ref x), a3] (.ref x :: st) h := w_ldAn dX0_fromOf_0 rfl
theorem w_X0_fromOf_0N (d : Nat) (a0 a1 a3 : Option Value) (st : List Value) (h : a_H) : a_run d MX0_fromOf 0 [a0, a1, some .null, a3] st h = a_run d MX0_fromOf 1 [a0, a1, some .null, a3] (.null :: st) h := w_ldNn dX0_fromOf_0 rfl
theorem w_X0_fromOf_1 (d : Nat) (L : a_L) (st : List Value) (h : a_H) : a_run d MX0_fromOf 1 L st h = a_run d MX0_fromOf 2 L (.int (nI 0) :: st) h := w_iconst dX0_fromOf_1 rfl
theorem w_X0_fromOf_2 (d : Nat) (a1 a2 a3 : Option Value) (x : Nat) (st : List Value) (h : a_H) : a_run d MX0_fromOf 2 [some (.ref x), a1, a2, a3] st h = a_run d MX0_fromOf 3 [some (.ref x), a1, a2, a3] (.ref x :: st) h := w_ldAn dX0_fromOf_2 rfl
theorem w_X0_fromOf_3 (d : Nat) (a0 a2 a3 : Option Value) (x : Int32) (st : List Value) (h : a_H) : a_run d MX0_fromOf 3 [a0, some (.int x), a2, a3] st h = a_run d MX0_fromOf 4 [a0, some (.int x), a2, a3] (.int x :: st) h := w_ldIn dX0_fromOf_3 rfl
theorem w_X0_fromOf_4 (d : Nat) (L : a_L) (i : Nat) (v1 : Value) (st : List Value) (h : a_H) (hk : a_kls h i = some 0) (hc : a_cat st ≤ 8) : a_run d MX0_fromOf 4 L (v1 :: .ref i :: st) h = a_cont d MX0_fromOf (a_bk MX0_fromOf 4 L st (a_call d MX1_fromOf [.ref i, v1] h)) := w_callV (as := [.ref i, v1]) dX0_fromOf_4 rfl rfl rfl hc (a_rcv_of hk rfl)
theorem w_X0_fromOf_7 (d : Nat) (L : a_L) (x : Int32) (st : List Value) (h : a_H) : a_run d MX0_fromOf 7 L (.int x :: st) h = a_run d MX0_fromOf 8 L (.long x.toInt64 :: st) h := w_i2l dX0_fromOf_7
theorem w_X0_fromOf_8 (d : Nat) (L : a_L) (x : Int32) (y : Int64) (i : Nat) (st : List Value) (h : a_H) : a_run d MX0_fromOf 8 L (.long y :: .int x :: .ref i :: st) h = (a_wrl h i x y).bind fun h' => a_run d MX0_fromOf 9 L st h' := w_last dX0_fromOf_8
theorem w_X0_fromOf_9 (d : Nat) (L : a_L) (st : List Value) (h : a_H) : a_run d MX0_fromOf 9 L st h = a_run d MX0_fromOf 15 L st h := w_goto dX0_fromOf_9 rfl
theorem w_X0_fromOf_12 (d : Nat) (a0 a1 a2 a3 : Option Value) (x : Nat) (st : List Value) (h : a_H) : a_run d MX0_fromOf 12 [a0, a1, a2, a3] (.ref x :: st) h = a_run d MX0_fromOf 13 [a0, a1, a2, some (.ref x)] st h := w_stAn dX0_fromOf_12 (Nat.le_of_ble_eq_true rfl) rfl
theorem w_X0_fromOf_12N (d : Nat) (a0 a1 a2 a3 : Option Value) (st : List Value) (h : a_H) : a_run d MX0_fromOf 12 [a0, a1, a2, a3] (.null :: st) h = a_run d MX0_fromOf 13 [a0, a1, a2, some .null] st h := w_stNn dX0_fromOf_12 (Nat.le_of_ble_eq_true rfl) rfl
theorem w_X0_fromOf_13 (d : Nat) (L : a_L) (st : List Value) (h : a_H) : a_run d MX0_fromOf 13 L st h = a_run d MX0_fromOf 14 L (.int (nI 1) :: st) h := w_iconst dX0_fromOf_13 rfl
theorem w_X0_fromOf_14 (d : Nat) (L : a_L) (x : Int32) (h : a_H) : a_run d MX0_fromOf 14 L [.int x] h = some (.inl (some (.int x)), h) := w_iret dX0_fromOf_14 (w_retI rfl)
theorem w_X0_fromOf_15 (d : Nat) (L : a_L) (st : List Value) (h : a_H) : a_run d MX0_fromOf 15 L st h = a_run d MX0_fromOf 16 L (.int (nI 0) :: st) h := w_iconst dX0_fromOf_15 rfl
theorem w_X0_fromOf_16 (d : Nat) (L : a_L) (x : Int32) (h : a_H) : a_run d MX0_fromOf 16 L [.int x] h = some (.inl (some (.int x)), h) := w_iret dX0_fromOf_16 (w_retI rfl)
theorem e_X0_toOf (d : Nat) (x0 : Nat) (x1 : Int32) (x2 : Nat) (h : a_H) : a_call (d + 1) MX0_toOf [.ref x0, .int x1, .ref x2] h = a_run d MX0_toOf 0 [some (.ref x0), some (.int x1), some (.ref x2), none] [] h := a_call_run rfl (Nat.le_of_ble_eq_true rfl) rfl
theorem w_X0_toOf_0 (d : Nat) (a0 a1 a3 : Option Value) (x : Nat) (st : List Value) (h : a_H) : a_run d MX0_toOf 0 [a0, a1, some (.ref x), a3] st h = a_run d MX0_toOf 1 [a0, a1, some (.ref x), a3] (.ref x :: st) h := w_ldAn dX0_toOf_0 rfl
theorem w_X0_toOf_0N (d : Nat) (a0 a1 a3 : Option Value) (st : List Value) (h : a_H) : a_run d MX0_toOf 0 [a0, a1, some .null, a3] st h = a_run d MX0_toOf 1 [a0, a1, some .null, a3] (.null :: st) h := w_ldNn dX0_toOf_0 rfl
theorem w_X0_toOf_1 (d : Nat) (L : a_L) (st : List Value) (h : a_H) : a_run d MX0_toOf 1 L st h = a_run d MX0_toOf 2 L (.int (nI 0) :: st) h := w_iconst dX0_toOf_1 rfl
theorem w_X0_toOf_2 (d : Nat) (a1 a2 a3 : Option Value) (x : Nat) (st : List Value) (h : a_H) : a_run d MX0_toOf 2 [some (.ref x), a1, a2, a3] st h = a_run d MX0_toOf 3 [some (.ref x), a1, a2, a3] (.ref x :: st) h := w_ldAn dX0_toOf_2 rfl
theorem w_X0_toOf_3 (d : Nat) (a0 a2 a3 : Option Value) (x : Int32) (st : List Value) (h : a_H) : a_run d MX0_toOf 3 [a0, some (.int x), a2, a3] st h = a_run d MX0_toOf 4 [a0, some (.int x), a2, a3] (.int x :: st) h := w_ldIn dX0_toOf_3 rfl
theorem w_X0_toOf_4 (d : Nat) (L : a_L) (i : Nat) (v1 : Value) (st : List Value) (h : a_H) (hk : a_kls h i = some 0) (hc : a_cat st ≤ 8) : a_run d MX0_toOf 4 L (v1 :: .ref i :: st) h = a_cont d MX0_toOf (a_bk MX0_toOf 4 L st (a_call d MX1_toOf [.ref i, v1] h)) := w_callV (as := [.ref i, v1]) dX0_toOf_4 rfl rfl rfl hc (a_rcv_of hk rfl)
theorem w_X0_toOf_7 (d : Nat) (L : a_L) (x : Int32) (st : List Value) (h : a_H) : a_run d MX0_toOf 7 L (.int x :: st) h = a_run d MX0_toOf 8 L (.long x.toInt64 :: st) h := w_i2l dX0_toOf_7
theorem w_X0_toOf_8 (d : Nat) (L : a_L) (x : Int32) (y : Int64) (i : Nat) (st : List Value) (h : a_H) : a_run d MX0_toOf 8 L (.long y :: .int x :: .ref i :: st) h = (a_wrl h i x y).bind fun h' => a_run d MX0_toOf 9 L st h' := w_last dX0_toOf_8
theorem w_X0_toOf_9 (d : Nat) (L : a_L) (st : List Value) (h : a_H) : a_run d MX0_toOf 9 L st h = a_run d MX0_toOf 15 L st h := w_goto dX0_toOf_9 rfl
theorem w_X0_toOf_12 (d : Nat) (a0 a1 a2 a3 : Option Value) (x : Nat) (st : List Value) (h : a_H) : a_run d MX0_toOf 12 [a0, a1, a2, a3] (.ref x :: st) h = a_run d MX0_toOf 13 [a0, a1, a2, some (.ref x)] st h := w_stAn dX0_toOf_12 (Nat.le_of_ble_eq_true rfl) rfl
theorem w_X0_toOf_12N (d : Nat) (a0 a1 a2 a3 : Option Value) (st : List Value) (h : a_H) : a_run d MX0_toOf 12 [a0, a1, a2, a3] (.null :: st) h = a_run d MX0_toOf 13 [a0, a1, a2, some .null] st h := w_stNn dX0_toOf_12 (Nat.le_of_ble_eq_true rfl) rfl
theorem w_X0_toOf_13 (d : Nat) (L : a_L) (st : List Value) (h : a_H) : a_run d MX0_toOf 13 L st h = a_run d MX0_toOf 14 L (.int (nI 1) :: st) h := w_iconst dX0_toOf_13 rfl
theorem w_X0_toOf_14 (d : Nat) (L : a_L) (x : Int32) (h : a_H) : a_run d MX0_toOf 14 L [.int x] h = some (.inl (some (.int x)), h) := w_iret dX0_toOf_14 (w_retI rfl)
theorem w_X0_toOf_15 (d : Nat) (L : a_L) (st : List Value) (h : a_H) : a_run d MX0_toOf 15 L st h = a_run d MX0_toOf 16 L (.int (nI 0) :: st) h := w_iconst dX0_toOf_15 rfl
theorem w_X0_toOf_16 (d : Nat) (L : a_L) (x : Int32) (h : a_H) : a_run d MX0_toOf 16 L [.int x] h = some (.inl (some (.int x)), h) := w_iret dX0_toOf_16 (w_retI rfl)
theorem e_X0_whyRefused (d : Nat) (x0 : Nat) (x1 : Int32) (x2 : Int32) (x3 : Nat) (h : a_H) : a_call (d + 1) MX0_whyRefused [.ref x0, .int x1, .int x2, .ref x3] h = a_run d MX0_whyRefused 0 [some (.ref x0), some (.int x1), some (.int x2), some (.ref x3), none] [] h := a_call_run rfl (Nat.le_of_ble_eq_true rfl) rfl
theorem w_X0_whyRefused_0 (d : Nat) (a0 a1 a2 a4 : Option Value) (x : Nat) (st : List Value) (h : a_H) : a_run d MX0_whyRefused 0 [a0, a1, a2, some (.ref x), a4] st h = a_run d MX0_whyRefused 1 [a0, a1, a2, some (.ref x), a4] (.ref x :: st) h := w_ldAn dX0_whyRefused_0 rfl
theorem w_X0_whyRefused_0N (d : Nat) (a0 a1 a2 a4 : Option Value) (st : List Value) (h : a_H) : a_run d MX0_whyRefused 0 [a0, a1, a2, some .null, a4] st h = a_run d MX0_whyRefused 1 [a0, a1, a2, some .null, a4] (.null :: st) h := w_ldNn dX0_whyRefused_0 rfl
theorem w_X0_whyRefused_1 (d : Nat) (L : a_L) (st : List Value) (h : a_H) : a_run d MX0_whyRefused 1 L st h = a_run d MX0_whyRefused 2 L (.int (nI 0) :: st) h := w_iconst dX0_whyRefused_1 rfl
theorem w_X0_whyRefused_2 (d : Nat) (a1 a2 a3 a4 : Option Value) (x : Nat) (st : List Value) (h : a_H) : a_run d MX0_whyRefused 2 [some (.ref x), a1, a2, a3, a4] st h = a_run d MX0_whyRefused 3 [some (.ref x), a1, a2, a3, a4] (.ref x :: st) h := w_ldAn dX0_whyRefused_2 rfl
theorem w_X0_whyRefused_3 (d : Nat) (a0 a2 a3 a4 : Option Value) (x : Int32) (st : List Value) (h : a_H) : a_run d MX0_whyRefused 3 [a0, some (.int x), a2, a3, a4] st h = a_run d MX0_whyRefused 4 [a0, some (.int x), a2, a3, a4] (.int x :: st) h := w_ldIn dX0_whyRefused_3 rfl
theorem w_X0_whyRefused_4 (d : Nat) (a0 a1 a3 a4 : Option Value) (x : Int32) (st : List Value) (h : a_H) : a_run d MX0_whyRefused 4 [a0, a1, some (.int x), a3, a4] st h = a_run d MX0_whyRefused 5 [a0, a1, some (.int x), a3, a4] (.int x :: st) h := w_ldIn dX0_whyRefused_4 rfl
theorem w_X0_whyRefused_5 (d : Nat) (L : a_L) (i : Nat) (v1 v2 : Value) (st : List Value) (h : a_H) (hk : a_kls h i = some 0) (hc : a_cat st ≤ 8) : a_run d MX0_whyRefused 5 L (v2 :: v1 :: .ref i :: st) h = a_cont d MX0_whyRefused (a_bk MX0_whyRefused 5 L st (a_call d MX1_whyRefused [.ref i, v1, v2] h)) := w_callV (as := [.ref i, v1, v2]) dX0_whyRefused_5 rfl rfl rfl hc (a_rcv_of hk rfl)
theorem w_X0_whyRefused_8 (d : Nat) (L : a_L) (x : Int32) (st : List Value) (h : a_H) : a_run d MX0_whyRefused 8 L (.int x :: st) h = a_run d MX0_whyRefused 9 L (.long x.toInt64 :: st) h := w_i2l dX0_whyRefused_8
theorem w_X0_whyRefused_9 (d : Nat) (L : a_L) (x : Int32) (y : Int64) (i : Nat) (st : List Value) (h : a_H) : a_run d MX0_whyRefused 9 L (.long y :: .int x :: .ref i :: st) h = (a_wrl h i x y).bind fun h' => a_run d MX0_whyRefused 10 L st h' := w_last dX0_whyRefused_9
theorem w_X0_whyRefused_10 (d : Nat) (L : a_L) (st : List Value) (h : a_H) : a_run d MX0_whyRefused 10 L st h = a_run d MX0_whyRefused 17 L st h := w_goto dX0_whyRefused_10 rfl
theorem w_X0_whyRefused_13 (d : Nat) (a0 a1 a2 a3 a4 : Option Value) (x : Nat) (st : List Value) (h : a_H) : a_run d MX0_whyRefused 13 [a0, a1, a2, a3, a4] (.ref x :: st) h = a_run d MX0_whyRefused 15 [a0, a1, a2, a3, some (.ref x)] st h := w_stA dX0_whyRefused_13 (Nat.le_of_ble_eq_true rfl) rfl
theorem w_X0_whyRefused_13N (d : Nat) (a0 a1 a2 a3 a4 : Option Value) (st : List Value) (h : a_H) : a_run d MX0_whyRefused 13 [a0, a1, a2, a3, a4] (.null :: st) h = a_run d MX0_whyRefused 15 [a0, a1, a2, a3, some .null] st h := w_stN dX0_whyRefused_13 (Nat.le_of_ble_eq_true rfl) rfl
theorem w_X0_whyRefused_15 (d : Nat) (L : a_L) (st : List Value) (h : a_H) : a_run d MX0_whyRefused 15 L st h = a_run d MX0_whyRefused 16 L (.int (nI 1) :: st) h := w_iconst dX0_whyRefused_15 rfl
theorem w_X0_whyRefused_16 (d : Nat) (L : a_L) (x : Int32) (h : a_H) : a_run d MX0_whyRefused 16 L [.int x] h = some (.inl (some (.int x)), h) := w_iret dX0_whyRefused_16 (w_retI rfl)
theorem w_X0_whyRefused_17 (d : Nat) (L : a_L) (st : List Value) (h : a_H) : a_run d MX0_whyRefused 17 L st h = a_run d MX0_whyRefused 18 L (.int (nI 0) :: st) h := w_iconst dX0_whyRefused_17 rfl
theorem w_X0_whyRefused_18 (d : Nat) (L : a_L) (x : Int32) (h : a_H) : a_run d MX0_whyRefused 18 L [.int x] h = some (.inl (some (.int x)), h) := w_iret dX0_whyRefused_18 (w_retI rfl)
theorem e_X0_whyNoChain (d : Nat) (x0 : Nat) (x1 : Int32) (x2 : Int32) (x3 : Int32) (x4 : Nat) (h : a_H) : a_call (d + 1) MX0_whyNoChain [.ref x0, .int x1, .int x2, .int x3, .ref x4] h = a_run d MX0_whyNoChain 0 [some (.ref x0), some (.int x1), some (.int x2), some (.int x3), some (.ref x4), none] [] h := a_call_run rfl (Nat.le_of_ble_eq_true rfl) rfl
theorem w_X0_whyNoChain_0 (d : Nat) (a0 a1 a2 a3 a5 : Option Value) (x : Nat) (st : List Value) (h : a_H) : a_run d MX0_whyNoChain 0 [a0, a1, a2, a3, some (.ref x), a5] st h = a_run d MX0_whyNoChain 2 [a0, a1, a2, a3, some (.ref x), a5] (.ref x :: st) h := w_ldA dX0_whyNoChain_0 rfl
theorem w_X0_whyNoChain_0N (d : Nat) (a0 a1 a2 a3 a5 : Option Value) (st : List Value) (h : a_H) : a_run d MX0_whyNoChain 0 [a0, a1, a2, a3, some .null, a5] st h = a_run d MX0_whyNoChain 2 [a0, a1, a2, a3, some .null, a5] (.null :: st) h := w_ldN dX0_whyNoChain_0 rfl
theorem w_X0_whyNoChain_2 (d : Nat) (L : a_L) (st : List Value) (h : a_H) : a_run d MX0_whyNoChain 2 L st h = a_run d MX0_whyNoChain 3 L (.int (nI 0) :: st) h := w_iconst dX0_whyNoChain_2 rfl
theorem w_X0_whyNoChain_3 (d : Nat) (a1 a2 a3 a4 a5 : Option Value) (x : Nat) (st : List Value) (h : a_H) : a_run d MX0_whyNoChain 3 [some (.ref x), a1, a2, a3, a4, a5] st h = a_run d MX0_whyNoChain 4 [some (.ref x), a1, a2, a3, a4, a5] (.ref x :: st) h := w_ldAn dX0_whyNoChain_3 rfl
theorem w_X0_whyNoChain_4 (d : Nat) (a0 a2 a3 a4 a5 : Option Value) (x : Int32) (st : List Value) (h : a_H) : a_run d MX0_whyNoChain 4 [a0, some (.int x), a2, a3, a4, a5] st h = a_run d MX0_whyNoChain 5 [a0, some (.int x), a2, a3, a4, a5] (.int x :: st) h := w_ldIn dX0_whyNoChain_4 rfl
theorem w_X0_whyNoChain_5 (d : Nat) (a0 a1 a3 a4 a5 : Option Value) (x : Int32) (st : List Value) (h : a_H) : a_run d MX0_whyNoChain 5 [a0, a1, some (.int x), a3, a4, a5] st h = a_run d MX0_whyNoChain 6 [a0, a1, some (.int x), a3, a4, a5] (.int x :: st) h := w_ldIn dX0_whyNoChain_5 rfl
theorem w_X0_whyNoChain_6 (d : Nat) (a0 a1 a2 a4 a5 : Option Value) (x : Int32) (st : List Value) (h : a_H) : a_run d MX0_whyNoChain 6 [a0, a1, a2, some (.int x), a4, a5] st h = a_run d MX0_whyNoChain 7 [a0, a1, a2, some (.int x), a4, a5] (.int x :: st) h := w_ldIn dX0_whyNoChain_6 rfl
theorem w_X0_whyNoChain_7 (d : Nat) (L : a_L) (i : Nat) (v1 v2 v3 : Value) (st : List Value) (h : a_H) (hk : a_kls h i = some 0) (hc : a_cat st ≤ 8) : a_run d MX0_whyNoChain 7 L (v3 :: v2 :: v1 :: .ref i :: st) h = a_cont d MX0_whyNoChain (a_bk MX0_whyNoChain 7 L st (a_call d MX1_whyNoChain [.ref i, v1, v2, v3] h)) := w_callV (as := [.ref i, v1, v2, v3]) dX0_whyNoChain_7 rfl rfl rfl hc (a_rcv_of hk rfl)
theorem w_X0_whyNoChain_10 (d : Nat) (L : a_L) (x : Int32) (st : List Value) (h : a_H) : a_run d MX0_whyNoChain 10 L (.int x :: st) h = a_run d MX0_whyNoChain 11 L (.long x.toInt64 :: st) h := w_i2l dX0_whyNoChain_10
theorem w_X0_whyNoChain_11 (d : Nat) (L : a_L) (x : Int32) (y : Int64) (i : Nat) (st : List Value) (h : a_H) : a_run d MX0_whyNoChain 11 L (.long y :: .int x :: .ref i :: st) h = (a_wrl h i x y).bind fun h' => a_run d MX0_whyNoChain 12 L st h' := w_last dX0_whyNoChain_11
theorem w_X0_whyNoChain_12 (d : Nat) (L : a_L) (st : List Value) (h : a_H) : a_run d MX0_whyNoChain 12 L st h = a_run d MX0_whyNoChain 19 L st h := w_goto dX0_whyNoChain_12 rfl
theorem w_X0_whyNoChain_15 (d : Nat) (a0 a1 a2 a3 a4 a5 : Option Value) (x : Nat) (st : List Value) (h : a_H) : a_run d MX0_whyNoChain 15 [a0, a1, a2, a3, a4, a5] (.ref x :: st) h = a_run d MX0_whyNoChain 17 [a0, a1, a2, a3, a4, some (.ref x)] st h := w_stA dX0_whyNoChain_15 (Nat.le_of_ble_eq_true rfl) rfl
theorem w_X0_whyNoChain_15N (d : Nat) (a0 a1 a2 a3 a4 a5 : Option Value) (st : List Value) (h : a_H) : a_run d MX0_whyNoChain 15 [a0, a1, a2, a3, a4, a5] (.null :: st) h = a_run d MX0_whyNoChain 17 [a0, a1, a2, a3, a4, some .null] st h := w_stN dX0_whyNoChain_15 (Nat.le_of_ble_eq_true rfl) rfl
theorem w_X0_whyNoChain_17 (d : Nat) (L : a_L) (st : List Value) (h : a_H) : a_run d MX0_whyNoChain 17 L st h = a_run d MX0_whyNoChain 18 L (.int (nI 1) :: st) h := w_iconst dX0_whyNoChain_17 rfl
theorem w_X0_whyNoChain_18 (d : Nat) (L : a_L) (x : Int32) (h : a_H) : a_run d MX0_whyNoChain 18 L [.int x] h = some (.inl (some (.int x)), h) := w_iret dX0_whyNoChain_18 (w_retI rfl)
theorem w_X0_whyNoChain_19 (d : Nat) (L : a_L) (st : List Value) (h : a_H) : a_run d MX0_whyNoChain 19 L st h = a_run d MX0_whyNoChain 20 L (.int (nI 0) :: st) h := w_iconst dX0_whyNoChain_19 rfl
theorem w_X0_whyNoChain_20 (d : Nat) (L : a_L) (x : Int32) (h : a_H) : a_run d MX0_whyNoChain 20 L [.int x] h = some (.inl (some (.int x)), h) := w_iret dX0_whyNoChain_20 (w_retI rfl)
theorem e_X0_doesHear (d : Nat) (x0 : Nat) (x1 : Int32) (x2 : Int32) (x3 : Nat) (h : a_H) : a_call (d + 1) MX0_doesHear [.ref x0, .int x1, .int x2, .ref x3] h = a_run d MX0_doesHear 0 [some (.ref x0), some (.int x1), some (.int x2), some (.ref x3), none] [] h := a_call_run rfl (Nat.le_of_ble_eq_true rfl) rfl
theorem w_X0_doesHear_0 (d : Nat) (a0 a1 a2 a4 : Option Value) (x : Nat) (st : List Value) (h : a_H) : a_run d MX0_doesHear 0 [a0, a1, a2, some (.ref x), a4] st h = a_run d MX0_doesHear 1 [a0, a1, a2, some (.ref x), a4] (.ref x :: st) h := w_ldAn dX0_doesHear_0 rfl
theorem w_X0_doesHear_0N (d : Nat) (a0 a1 a2 a4 : Option Value) (st : List Value) (h : a_H) : a_run d MX0_doesHear 0 [a0, a1, a2, some .null, a4] st h = a_run d MX0_doesHear 1 [a0, a1, a2, some .null, a4] (.null :: st) h := w_ldNn dX0_doesHear_0 rfl
theorem w_X0_doesHear_1 (d : Nat) (L : a_L) (st : List Value) (h : a_H) : a_run d MX0_doesHear 1 L st h = a_run d MX0_doesHear 2 L (.int (nI 0) :: st) h := w_iconst dX0_doesHear_1 rfl
theorem w_X0_doesHear_2 (d : Nat) (a1 a2 a3 a4 : Option Value) (x : Nat) (st : List Value) (h : a_H) : a_run d MX0_doesHear 2 [some (.ref x), a1, a2, a3, a4] st h = a_run d MX0_doesHear 3 [some (.ref x), a1, a2, a3, a4] (.ref x :: st) h := w_ldAn dX0_doesHear_2 rfl
theorem w_X0_doesHear_3 (d : Nat) (a0 a2 a3 a4 : Option Value) (x : Int32) (st : List Value) (h : a_H) : a_run d MX0_doesHear 3 [a0, some (.int x), a2, a3, a4] st h = a_run d MX0_doesHear 4 [a0, some (.int x), a2, a3, a4] (.int x :: st) h := w_ldIn dX0_doesHear_3 rfl
theorem w_X0_doesHear_4 (d : Nat) (a0 a1 a3 a4 : Option Value) (x : Int32) (st : List Value) (h : a_H) : a_run d MX0_doesHear 4 [a0, a1, some (.int x), a3, a4] st h = a_run d MX0_doesHear 5 [a0, a1, some (.int x), a3, a4] (.int x :: st) h := w_ldIn dX0_doesHear_4 rfl
theorem w_X0_doesHear_5 (d : Nat) (L : a_L) (i : Nat) (v1 v2 : Value) (st : List Value) (h : a_H) (hk : a_kls h i = some 0) (hc : a_cat st ≤ 8) : a_run d MX0_doesHear 5 L (v2 :: v1 :: .ref i :: st) h = a_cont d MX0_doesHear (a_bk MX0_doesHear 5 L st (a_call d MX1_doesHear [.ref i, v1, v2] h)) := w_callV (as := [.ref i, v1, v2]) dX0_doesHear_5 rfl rfl rfl hc (a_rcv_of hk rfl)
theorem w_X0_doesHear_8 (d : Nat) (L : a_L) (x : Int32) (st : List Value) (h : a_H) : a_run d MX0_doesHear 8 L (.int x :: st) h = if x = 0 then a_run d MX0_doesHear 15 L st h else a_run d MX0_doesHear 11 L st h := w_if_eq dX0_doesHear_8 rfl
theorem w_X0_doesHear_11 (d : Nat) (L : a_L) (st : List Value) (h : a_H) : a_run d MX0_doesHear 11 L st h = a_run d MX0_doesHear 12 L (.long (lN 1) :: st) h := (w_lconst dX0_doesHear_11).trans rfl
theorem w_X0_doesHear_12 (d : Nat) (L : a_L) (st : List Value) (h : a_H) : a_run d MX0_doesHear 12 L st h = a_run d MX0_doesHear 16 L st h := w_goto dX0_doesHear_12 rfl
theorem w_X0_doesHear_15 (d : Nat) (L : a_L) (st : List Value) (h : a_H) : a_run d MX0_doesHear 15 L st h = a_run d MX0_doesHear 16 L (.long (lN 0) :: st) h := (w_lconst dX0_doesHear_15).trans rfl
theorem w_X0_doesHear_16 (d : Nat) (L : a_L) (x : Int32) (y : Int64) (i : Nat) (st : List Value) (h : a_H) : a_run d MX0_doesHear 16 L (.long y :: .int x :: .ref i :: st) h = (a_wrl h i x y).bind fun h' => a_run d MX0_doesHear 17 L st h' := w_last dX0_doesHear_16
theorem w_X0_doesHear_17 (d : Nat) (L : a_L) (st : List Value) (h : a_H) : a_run d MX0_doesHear 17 L st h = a_run d MX0_doesHear 24 L st h := w_goto dX0_doesHear_17 rfl
theorem w_X0_doesHear_20 (d : Nat) (a0 a1 a2 a3 a4 : Option Value) (x : Nat) (st : List Value) (h : a_H) : a_run d MX0_doesHear 20 [a0, a1, a2, a3, a4] (.ref x :: st) h = a_run d MX0_doesHear 22 [a0, a1, a2, a3, some (.ref x)] st h := w_stA dX0_doesHear_20 (Nat.le_of_ble_eq_true rfl) rfl
theorem w_X0_doesHear_20N (d : Nat) (a0 a1 a2 a3 a4 : Option Value) (st : List Value) (h : a_H) : a_run d MX0_doesHear 20 [a0, a1, a2, a3, a4] (.null :: st) h = a_run d MX0_doesHear 22 [a0, a1, a2, a3, some .null] st h := w_stN dX0_doesHear_20 (Nat.le_of_ble_eq_true rfl) rfl
theorem w_X0_doesHear_22 (d : Nat) (L : a_L) (st : List Value) (h : a_H) : a_run d MX0_doesHear 22 L st h = a_run d MX0_doesHear 23 L (.int (nI 1) :: st) h := w_iconst dX0_doesHear_22 rfl
theorem w_X0_doesHear_23 (d : Nat) (L : a_L) (x : Int32) (h : a_H) : a_run d MX0_doesHear 23 L [.int x] h = some (.inl (some (.int x)), h) := w_iret dX0_doesHear_23 (w_retI rfl)
theorem w_X0_doesHear_24 (d : Nat) (L : a_L) (st : List Value) (h : a_H) : a_run d MX0_doesHear 24 L st h = a_run d MX0_doesHear 25 L (.int (nI 0) :: st) h := w_iconst dX0_doesHear_24 rfl
theorem w_X0_doesHear_25 (d : Nat) (L : a_L) (x : Int32) (h : a_H) : a_run d MX0_doesHear 25 L [.int x] h = some (.inl (some (.int x)), h) := w_iret dX0_doesHear_25 (w_retI rfl)
theorem e_X0_hears (d : Nat) (x0 : Nat) (x1 : Int32) (x2 : Nat) (h : a_H) : a_call (d + 1) MX0_hears [.ref x0, .int x1, .ref x2] h = a_run d MX0_hears 0 [some (.ref x0), some (.int x1), some (.ref x2), none] [] h := a_call_run rfl (Nat.le_of_ble_eq_true rfl) rfl
theorem w_X0_hears_0 (d : Nat) (a0 a1 a3 : Option Value) (x : Nat) (st : List Value) (h : a_H) : a_run d MX0_hears 0 [a0, a1, some (.ref x), a3] st h = a_run d MX0_hears 1 [a0, a1, some (.ref x), a3] (.ref x :: st) h := w_ldAn dX0_hears_0 rfl
theorem w_X0_hears_0N (d : Nat) (a0 a1 a3 : Option Value) (st : List Value) (h : a_H) : a_run d MX0_hears 0 [a0, a1, some .null, a3] st h = a_run d MX0_hears 1 [a0, a1, some .null, a3] (.null :: st) h := w_ldNn dX0_hears_0 rfl
theorem w_X0_hears_1 (d : Nat) (L : a_L) (st : List Value) (h : a_H) : a_run d MX0_hears 1 L st h = a_run d MX0_hears 2 L (.int (nI 0) :: st) h := w_iconst dX0_hears_1 rfl
theorem w_X0_hears_2 (d : Nat) (a1 a2 a3 : Option Value) (x : Nat) (st : List Value) (h : a_H) : a_run d MX0_hears 2 [some (.ref x), a1, a2, a3] st h = a_run d MX0_hears 3 [some (.ref x), a1, a2, a3] (.ref x :: st) h := w_ldAn dX0_hears_2 rfl
theorem w_X0_hears_3 (d : Nat) (a0 a2 a3 : Option Value) (x : Int32) (st : List Value) (h : a_H) : a_run d MX0_hears 3 [a0, some (.int x), a2, a3] st h = a_run d MX0_hears 4 [a0, some (.int x), a2, a3] (.int x :: st) h := w_ldIn dX0_hears_3 rfl
theorem w_X0_hears_4 (d : Nat) (L : a_L) (i : Nat) (v1 : Value) (st : List Value) (h : a_H) (hk : a_kls h i = some 0) (hc : a_cat st ≤ 8) : a_run d MX0_hears 4 L (v1 :: .ref i :: st) h = a_cont d MX0_hears (a_bk MX0_hears 4 L st (a_call d MX1_hears [.ref i, v1] h)) := w_callV (as := [.ref i, v1]) dX0_hears_4 rfl rfl rfl hc (a_rcv_of hk rfl)
theorem w_X0_hears_7 (d : Nat) (L : a_L) (x : Int32) (st : List Value) (h : a_H) : a_run d MX0_hears 7 L (.int x :: st) h = a_run d MX0_hears 8 L (.long x.toInt64 :: st) h := w_i2l dX0_hears_7
theorem w_X0_hears_8 (d : Nat) (L : a_L) (x : Int32) (y : Int64) (i : Nat) (st : List Value) (h : a_H) : a_run d MX0_hears 8 L (.long y :: .int x :: .ref i :: st) h = (a_wrl h i x y).bind fun h' => a_run d MX0_hears 9 L st h' := w_last dX0_hears_8
theorem w_X0_hears_9 (d : Nat) (L : a_L) (st : List Value) (h : a_H) : a_run d MX0_hears 9 L st h = a_run d MX0_hears 15 L st h := w_goto dX0_hears_9 rfl
theorem w_X0_hears_12 (d : Nat) (a0 a1 a2 a3 : Option Value) (x : Nat) (st : List Value) (h : a_H) : a_run d MX0_hears 12 [a0, a1, a2, a3] (.ref x :: st) h = a_run d MX0_hears 13 [a0, a1, a2, some (.ref x)] st h := w_stAn dX0_hears_12 (Nat.le_of_ble_eq_true rfl) rfl
theorem w_X0_hears_12N (d : Nat) (a0 a1 a2 a3 : Option Value) (st : List Value) (h : a_H) : a_run d MX0_hears 12 [a0, a1, a2, a3] (.null :: st) h = a_run d MX0_hears 13 [a0, a1, a2, some .null] st h := w_stNn dX0_hears_12 (Nat.le_of_ble_eq_true rfl) rfl
theorem w_X0_hears_13 (d : Nat) (L : a_L) (st : List Value) (h : a_H) : a_run d MX0_hears 13 L st h = a_run d MX0_hears 14 L (.int (nI 1) :: st) h := w_iconst dX0_hears_13 rfl
theorem w_X0_hears_14 (d : Nat) (L : a_L) (x : Int32) (h : a_H) : a_run d MX0_hears 14 L [.int x] h = some (.inl (some (.int x)), h) := w_iret dX0_hears_14 (w_retI rfl)
theorem w_X0_hears_15 (d : Nat) (L : a_L) (st : List Value) (h : a_H) : a_run d MX0_hears 15 L st h = a_run d MX0_hears 16 L (.int (nI 0) :: st) h := w_iconst dX0_hears_15 rfl
theorem w_X0_hears_16 (d : Nat) (L : a_L) (x : Int32) (h : a_H) : a_run d MX0_hears 16 L [.int x] h = some (.inl (some (.int x)), h) := w_iret dX0_hears_16 (w_retI rfl)
theorem e_X0_isNeedless (d : Nat) (x0 : Nat) (x1 : Int32) (x2 : Nat) (h : a_H) : a_call (d + 1) MX0_isNeedless [.ref x0, .int x1, .ref x2] h = a_run d MX0_isNeedless 0 [some (.ref x0), some (.int x1), some (.ref x2), none] [] h := a_call_run rfl (Nat.le_of_ble_eq_true rfl) rfl
theorem w_X0_isNeedless_0 (d : Nat) (a0 a1 a3 : Option Value) (x : Nat) (st : List Value) (h : a_H) : a_run d MX0_isNeedless 0 [a0, a1, some (.ref x), a3] st h = a_run d MX0_isNeedless 1 [a0, a1, some (.ref x), a3] (.ref x :: st) h := w_ldAn dX0_isNeedless_0 rfl
theorem w_X0_isNeedless_0N (d : Nat) (a0 a1 a3 : Option Value) (st : List Value) (h : a_H) : a_run d MX0_isNeedless 0 [a0, a1, some .null, a3] st h = a_run d MX0_isNeedless 1 [a0, a1, some .null, a3] (.null :: st) h := w_ldNn dX0_isNeedless_0 rfl
theorem w_X0_isNeedless_1 (d : Nat) (L : a_L) (st : List Value) (h : a_H) : a_run d MX0_isNeedless 1 L st h = a_run d MX0_isNeedless 2 L (.int (nI 0) :: st) h := w_iconst dX0_isNeedless_1 rfl
theorem w_X0_isNeedless_2 (d : Nat) (a1 a2 a3 : Option Value) (x : Nat) (st : List Value) (h : a_H) : a_run d MX0_isNeedless 2 [some (.ref x), a1, a2, a3] st h = a_run d MX0_isNeedless 3 [some (.ref x), a1, a2, a3] (.ref x :: st) h := w_ldAn dX0_isNeedless_2 rfl
theorem w_X0_isNeedless_3 (d : Nat) (a0 a2 a3 : Option Value) (x : Int32) (st : List Value) (h : a_H) : a_run d MX0_isNeedless 3 [a0, some (.int x), a2, a3] st h = a_run d MX0_isNeedless 4 [a0, some (.int x), a2, a3] (.int x :: st) h := w_ldIn dX0_isNeedless_3 rfl
theorem w_X0_isNeedless_4 (d : Nat) (L : a_L) (i : Nat) (v1 : Value) (st : List Value) (h : a_H) (hk : a_kls h i = some 0) (hc : a_cat st ≤ 8) : a_run d MX0_isNeedless 4 L (v1 :: .ref i :: st) h = a_cont d MX0_isNeedless (a_bk MX0_isNeedless 4 L st (a_call d MX1_isNeedless [.ref i, v1] h)) := w_callV (as := [.ref i, v1]) dX0_isNeedless_4 rfl rfl rfl hc (a_rcv_of hk rfl)
theorem w_X0_isNeedless_7 (d : Nat) (L : a_L) (x : Int32) (st : List Value) (h : a_H) : a_run d MX0_isNeedless 7 L (.int x :: st) h = if x = 0 then a_run d MX0_isNeedless 14 L st h else a_run d MX0_isNeedless 10 L st h := w_if_eq dX0_isNeedless_7 rfl
theorem w_X0_isNeedless_10 (d : Nat) (L : a_L) (st : List Value) (h : a_H) : a_run d MX0_isNeedless 10 L st h = a_run d MX0_isNeedless 11 L (.long (lN 1) :: st) h := (w_lconst dX0_isNeedless_10).trans rfl
theorem w_X0_isNeedless_11 (d : Nat) (L : a_L) (st : List Value) (h : a_H) : a_run d MX0_isNeedless 11 L st h = a_run d MX0_isNeedless 15 L st h := w_goto dX0_isNeedless_11 rfl
theorem w_X0_isNeedless_14 (d : Nat) (L : a_L) (st : List Value) (h : a_H) : a_run d MX0_isNeedless 14 L st h = a_run d MX0_isNeedless 15 L (.long (lN 0) :: st) h := (w_lconst dX0_isNeedless_14).trans rfl
theorem w_X0_isNeedless_15 (d : Nat) (L : a_L) (x : Int32) (y : Int64) (i : Nat) (st : List Value) (h : a_H) : a_run d MX0_isNeedless 15 L (.long y :: .int x :: .ref i :: st) h = (a_wrl h i x y).bind fun h' => a_run d MX0_isNeedless 16 L st h' := w_last dX0_isNeedless_15
theorem w_X0_isNeedless_16 (d : Nat) (L : a_L) (st : List Value) (h : a_H) : a_run d MX0_isNeedless 16 L st h = a_run d MX0_isNeedless 22 L st h := w_goto dX0_isNeedless_16 rfl
theorem w_X0_isNeedless_19 (d : Nat) (a0 a1 a2 a3 : Option Value) (x : Nat) (st : List Value) (h : a_H) : a_run d MX0_isNeedless 19 [a0, a1, a2, a3] (.ref x :: st) h = a_run d MX0_isNeedless 20 [a0, a1, a2, some (.ref x)] st h := w_stAn dX0_isNeedless_19 (Nat.le_of_ble_eq_true rfl) rfl
theorem w_X0_isNeedless_19N (d : Nat) (a0 a1 a2 a3 : Option Value) (st : List Value) (h : a_H) : a_run d MX0_isNeedless 19 [a0, a1, a2, a3] (.null :: st) h = a_run d MX0_isNeedless 20 [a0, a1, a2, some .null] st h := w_stNn dX0_isNeedless_19 (Nat.le_of_ble_eq_true rfl) rfl
theorem w_X0_isNeedless_20 (d : Nat) (L : a_L) (st : List Value) (h : a_H) : a_run d MX0_isNeedless 20 L st h = a_run d MX0_isNeedless 21 L (.int (nI 1) :: st) h := w_iconst dX0_isNeedless_20 rfl
theorem w_X0_isNeedless_21 (d : Nat) (L : a_L) (x : Int32) (h : a_H) : a_run d MX0_isNeedless 21 L [.int x] h = some (.inl (some (.int x)), h) := w_iret dX0_isNeedless_21 (w_retI rfl)
theorem w_X0_isNeedless_22 (d : Nat) (L : a_L) (st : List Value) (h : a_H) : a_run d MX0_isNeedless 22 L st h = a_run d MX0_isNeedless 23 L (.int (nI 0) :: st) h := w_iconst dX0_isNeedless_22 rfl
theorem w_X0_isNeedless_23 (d : Nat) (L : a_L) (x : Int32) (h : a_H) : a_run d MX0_isNeedless 23 L [.int x] h = some (.inl (some (.int x)), h) := w_iret dX0_isNeedless_23 (w_retI rfl)
theorem e_X0_ways (d : Nat) (x0 : Nat) (x1 : Int32) (x2 : Int32) (x3 : Nat) (h : a_H) : a_call (d + 1) MX0_ways [.ref x0, .int x1, .int x2, .ref x3] h = a_run d MX0_ways 0 [some (.ref x0), some (.int x1), some (.int x2), some (.ref x3), none] [] h := a_call_run rfl (Nat.le_of_ble_eq_true rfl) rfl
theorem w_X0_ways_0 (d : Nat) (a0 a1 a2 a4 : Option Value) (x : Nat) (st : List Value) (h : a_H) : a_run d MX0_ways 0 [a0, a1, a2, some (.ref x), a4] st h = a_run d MX0_ways 1 [a0, a1, a2, some (.ref x), a4] (.ref x :: st) h := w_ldAn dX0_ways_0 rfl
theorem w_X0_ways_0N (d : Nat) (a0 a1 a2 a4 : Option Value) (st : List Value) (h : a_H) : a_run d MX0_ways 0 [a0, a1, a2, some .null, a4] st h = a_run d MX0_ways 1 [a0, a1, a2, some .null, a4] (.null :: st) h := w_ldNn dX0_ways_0 rfl
theorem w_X0_ways_1 (d : Nat) (L : a_L) (st : List Value) (h : a_H) : a_run d MX0_ways 1 L st h = a_run d MX0_ways 2 L (.int (nI 0) :: st) h := w_iconst dX0_ways_1 rfl
theorem w_X0_ways_2 (d : Nat) (a1 a2 a3 a4 : Option Value) (x : Nat) (st : List Value) (h : a_H) : a_run d MX0_ways 2 [some (.ref x), a1, a2, a3, a4] st h = a_run d MX0_ways 3 [some (.ref x), a1, a2, a3, a4] (.ref x :: st) h := w_ldAn dX0_ways_2 rfl
theorem w_X0_ways_3 (d : Nat) (a0 a2 a3 a4 : Option Value) (x : Int32) (st : List Value) (h : a_H) : a_run d MX0_ways 3 [a0, some (.int x), a2, a3, a4] st h = a_run d MX0_ways 4 [a0, some (.int x), a2, a3, a4] (.int x :: st) h := w_ldIn dX0_ways_3 rfl
theorem w_X0_ways_4 (d : Nat) (a0 a1 a3 a4 : Option Value) (x : Int32) (st : List Value) (h : a_H) : a_run d MX0_ways 4 [a0, a1, some (.int x), a3, a4] st h = a_run d MX0_ways 5 [a0, a1, some (.int x), a3, a4] (.int x :: st) h := w_ldIn dX0_ways_4 rfl
theorem w_X0_ways_5 (d : Nat) (L : a_L) (i : Nat) (v1 v2 : Value) (st : List Value) (h : a_H) (hk : a_kls h i = some 0) (hc : a_cat st ≤ 8) : a_run d MX0_ways 5 L (v2 :: v1 :: .ref i :: st) h = a_cont d MX0_ways (a_bk MX0_ways 5 L st (a_call d MX1_ways [.ref i, v1, v2] h)) := w_callV (as := [.ref i, v1, v2]) dX0_ways_5 rfl rfl rfl hc (a_rcv_of hk rfl)
theorem w_X0_ways_8 (d : Nat) (L : a_L) (x : Int32) (st : List Value) (h : a_H) : a_run d MX0_ways 8 L (.int x :: st) h = a_run d MX0_ways 9 L (.long x.toInt64 :: st) h := w_i2l dX0_ways_8
theorem w_X0_ways_9 (d : Nat) (L : a_L) (x : Int32) (y : Int64) (i : Nat) (st : List Value) (h : a_H) : a_run d MX0_ways 9 L (.long y :: .int x :: .ref i :: st) h = (a_wrl h i x y).bind fun h' => a_run d MX0_ways 10 L st h' := w_last dX0_ways_9
theorem w_X0_ways_10 (d : Nat) (L : a_L) (st : List Value) (h : a_H) : a_run d MX0_ways 10 L st h = a_run d MX0_ways 17 L st h := w_goto dX0_ways_10 rfl
theorem w_X0_ways_13 (d : Nat) (a0 a1 a2 a3 a4 : Option Value) (x : Nat) (st : List Value) (h : a_H) : a_run d MX0_ways 13 [a0, a1, a2, a3, a4] (.ref x :: st) h = a_run d MX0_ways 15 [a0, a1, a2, a3, some (.ref x)] st h := w_stA dX0_ways_13 (Nat.le_of_ble_eq_true rfl) rfl
theorem w_X0_ways_13N (d : Nat) (a0 a1 a2 a3 a4 : Option Value) (st : List Value) (h : a_H) : a_run d MX0_ways 13 [a0, a1, a2, a3, a4] (.null :: st) h = a_run d MX0_ways 15 [a0, a1, a2, a3, some .null] st h := w_stN dX0_ways_13 (Nat.le_of_ble_eq_true rfl) rfl
theorem w_X0_ways_15 (d : Nat) (L : a_L) (st : List Value) (h : a_H) : a_run d MX0_ways 15 L st h = a_run d MX0_ways 16 L (.int (nI 1) :: st) h := w_iconst dX0_ways_15 rfl
theorem w_X0_ways_16 (d : Nat) (L : a_L) (x : Int32) (h : a_H) : a_run d MX0_ways 16 L [.int x] h = some (.inl (some (.int x)), h) := w_iret dX0_ways_16 (w_retI rfl)
theorem w_X0_ways_17 (d : Nat) (L : a_L) (st : List Value) (h : a_H) : a_run d MX0_ways 17 L st h = a_run d MX0_ways 18 L (.int (nI 0) :: st) h := w_iconst dX0_ways_17 rfl
theorem w_X0_ways_18 (d : Nat) (L : a_L) (x : Int32) (h : a_H) : a_run d MX0_ways 18 L [.int x] h = some (.inl (some (.int x)), h) := w_iret dX0_ways_18 (w_retI rfl)
theorem e_X0_waysByGoingBack (d : Nat) (x0 : Nat) (x1 : Int32) (x2 : Int32) (x3 : Nat) (h : a_H) : a_call (d + 1) MX0_waysByGoingBack [.ref x0, .int x1, .int x2, .ref x3] h = a_run d MX0_waysByGoingBack 0 [some (.ref x0), some (.int x1), some (.int x2), some (.ref x3), none] [] h := a_call_run rfl (Nat.le_of_ble_eq_true rfl) rfl
theorem w_X0_waysByGoingBack_0 (d : Nat) (a0 a1 a2 a4 : Option Value) (x : Nat) (st : List Value) (h : a_H) : a_run d MX0_waysByGoingBack 0 [a0, a1, a2, some (.ref x), a4] st h = a_run d MX0_waysByGoingBack 1 [a0, a1, a2, some (.ref x), a4] (.ref x :: st) h := w_ldAn dX0_waysByGoingBack_0 rfl
theorem w_X0_waysByGoingBack_0N (d : Nat) (a0 a1 a2 a4 : Option Value) (st : List Value) (h : a_H) : a_run d MX0_waysByGoingBack 0 [a0, a1, a2, some .null, a4] st h = a_run d MX0_waysByGoingBack 1 [a0, a1, a2, some .null, a4] (.null :: st) h := w_ldNn dX0_waysByGoingBack_0 rfl
theorem w_X0_waysByGoingBack_1 (d : Nat) (L : a_L) (st : List Value) (h : a_H) : a_run d MX0_waysByGoingBack 1 L st h = a_run d MX0_waysByGoingBack 2 L (.int (nI 0) :: st) h := w_iconst dX0_waysByGoingBack_1 rfl
theorem w_X0_waysByGoingBack_2 (d : Nat) (a1 a2 a3 a4 : Option Value) (x : Nat) (st : List Value) (h : a_H) : a_run d MX0_waysByGoingBack 2 [some (.ref x), a1, a2, a3, a4] st h = a_run d MX0_waysByGoingBack 3 [some (.ref x), a1, a2, a3, a4] (.ref x :: st) h := w_ldAn dX0_waysByGoingBack_2 rfl
theorem w_X0_waysByGoingBack_3 (d : Nat) (a0 a2 a3 a4 : Option Value) (x : Int32) (st : List Value) (h : a_H) : a_run d MX0_waysByGoingBack 3 [a0, some (.int x), a2, a3, a4] st h = a_run d MX0_waysByGoingBack 4 [a0, some (.int x), a2, a3, a4] (.int x :: st) h := w_ldIn dX0_waysByGoingBack_3 rfl
theorem w_X0_waysByGoingBack_4 (d : Nat) (a0 a1 a3 a4 : Option Value) (x : Int32) (st : List Value) (h : a_H) : a_run d MX0_waysByGoingBack 4 [a0, a1, some (.int x), a3, a4] st h = a_run d MX0_waysByGoingBack 5 [a0, a1, some (.int x), a3, a4] (.int x :: st) h := w_ldIn dX0_waysByGoingBack_4 rfl
theorem w_X0_waysByGoingBack_5 (d : Nat) (L : a_L) (i : Nat) (v1 v2 : Value) (st : List Value) (h : a_H) (hk : a_kls h i = some 0) (hc : a_cat st ≤ 8) : a_run d MX0_waysByGoingBack 5 L (v2 :: v1 :: .ref i :: st) h = a_cont d MX0_waysByGoingBack (a_bk MX0_waysByGoingBack 5 L st (a_call d MX1_waysByGoingBack [.ref i, v1, v2] h)) := w_callV (as := [.ref i, v1, v2]) dX0_waysByGoingBack_5 rfl rfl rfl hc (a_rcv_of hk rfl)
theorem w_X0_waysByGoingBack_8 (d : Nat) (L : a_L) (x : Int32) (st : List Value) (h : a_H) : a_run d MX0_waysByGoingBack 8 L (.int x :: st) h = a_run d MX0_waysByGoingBack 9 L (.long x.toInt64 :: st) h := w_i2l dX0_waysByGoingBack_8
theorem w_X0_waysByGoingBack_9 (d : Nat) (L : a_L) (x : Int32) (y : Int64) (i : Nat) (st : List Value) (h : a_H) : a_run d MX0_waysByGoingBack 9 L (.long y :: .int x :: .ref i :: st) h = (a_wrl h i x y).bind fun h' => a_run d MX0_waysByGoingBack 10 L st h' := w_last dX0_waysByGoingBack_9
theorem w_X0_waysByGoingBack_10 (d : Nat) (L : a_L) (st : List Value) (h : a_H) : a_run d MX0_waysByGoingBack 10 L st h = a_run d MX0_waysByGoingBack 17 L st h := w_goto dX0_waysByGoingBack_10 rfl
theorem w_X0_waysByGoingBack_13 (d : Nat) (a0 a1 a2 a3 a4 : Option Value) (x : Nat) (st : List Value) (h : a_H) : a_run d MX0_waysByGoingBack 13 [a0, a1, a2, a3, a4] (.ref x :: st) h = a_run d MX0_waysByGoingBack 15 [a0, a1, a2, a3, some (.ref x)] st h := w_stA dX0_waysByGoingBack_13 (Nat.le_of_ble_eq_true rfl) rfl
theorem w_X0_waysByGoingBack_13N (d : Nat) (a0 a1 a2 a3 a4 : Option Value) (st : List Value) (h : a_H) : a_run d MX0_waysByGoingBack 13 [a0, a1, a2, a3, a4] (.null :: st) h = a_run d MX0_waysByGoingBack 15 [a0, a1, a2, a3, some .null] st h := w_stN dX0_waysByGoingBack_13 (Nat.le_of_ble_eq_true rfl) rfl
theorem w_X0_waysByGoingBack_15 (d : Nat) (L : a_L) (st : List Value) (h : a_H) : a_run d MX0_waysByGoingBack 15 L st h = a_run d MX0_waysByGoingBack 16 L (.int (nI 1) :: st) h := w_iconst dX0_waysByGoingBack_15 rfl
theorem w_X0_waysByGoingBack_16 (d : Nat) (L : a_L) (x : Int32) (h : a_H) : a_run d MX0_waysByGoingBack 16 L [.int x] h = some (.inl (some (.int x)), h) := w_iret dX0_waysByGoingBack_16 (w_retI rfl)
theorem w_X0_waysByGoingBack_17 (d : Nat) (L : a_L) (st : List Value) (h : a_H) : a_run d MX0_waysByGoingBack 17 L st h = a_run d MX0_waysByGoingBack 18 L (.int (nI 0) :: st) h := w_iconst dX0_waysByGoingBack_17 rfl
theorem w_X0_waysByGoingBack_18 (d : Nat) (L : a_L) (x : Int32) (h : a_H) : a_run d MX0_waysByGoingBack 18 L [.int x] h = some (.inl (some (.int x)), h) := w_iret dX0_waysByGoingBack_18 (w_retI rfl)
theorem e_X0_fewestArrows (d : Nat) (x0 : Nat) (x1 : Int32) (x2 : Int32) (x3 : Nat) (h : a_H) : a_call (d + 1) MX0_fewestArrows [.ref x0, .int x1, .int x2, .ref x3] h = a_run d MX0_fewestArrows 0 [some (.ref x0), some (.int x1), some (.int x2), some (.ref x3), none] [] h := a_call_run rfl (Nat.le_of_ble_eq_true rfl) rfl
theorem w_X0_fewestArrows_0 (d : Nat) (a0 a1 a2 a4 : Option Value) (x : Nat) (st : List Value) (h : a_H) : a_run d MX0_fewestArrows 0 [a0, a1, a2, some (.ref x), a4] st h = a_run d MX0_fewestArrows 1 [a0, a1, a2, some (.ref x), a4] (.ref x :: st) h := w_ldAn dX0_fewestArrows_0 rfl
theorem w_X0_fewestArrows_0N (d : Nat) (a0 a1 a2 a4 : Option Value) (st : List Value) (h : a_H) : a_run d MX0_fewestArrows 0 [a0, a1, a2, some .null, a4] st h = a_run d MX0_fewestArrows 1 [a0, a1, a2, some .null, a4] (.null :: st) h := w_ldNn dX0_fewestArrows_0 rfl
theorem w_X0_fewestArrows_1 (d : Nat) (L : a_L) (st : List Value) (h : a_H) : a_run d MX0_fewestArrows 1 L st h = a_run d MX0_fewestArrows 2 L (.int (nI 0) :: st) h := w_iconst dX0_fewestArrows_1 rfl
theorem w_X0_fewestArrows_2 (d : Nat) (a1 a2 a3 a4 : Option Value) (x : Nat) (st : List Value) (h : a_H) : a_run d MX0_fewestArrows 2 [some (.ref x), a1, a2, a3, a4] st h = a_run d MX0_fewestArrows 3 [some (.ref x), a1, a2, a3, a4] (.ref x :: st) h := w_ldAn dX0_fewestArrows_2 rfl
theorem w_X0_fewestArrows_3 (d : Nat) (a0 a2 a3 a4 : Option Value) (x : Int32) (st : List Value) (h : a_H) : a_run d MX0_fewestArrows 3 [a0, some (.int x), a2, a3, a4] st h = a_run d MX0_fewestArrows 4 [a0, some (.int x), a2, a3, a4] (.int x :: st) h := w_ldIn dX0_fewestArrows_3 rfl
theorem w_X0_fewestArrows_4 (d : Nat) (a0 a1 a3 a4 : Option Value) (x : Int32) (st : List Value) (h : a_H) : a_run d MX0_fewestArrows 4 [a0, a1, some (.int x), a3, a4] st h = a_run d MX0_fewestArrows 5 [a0, a1, some (.int x), a3, a4] (.int x :: st) h := w_ldIn dX0_fewestArrows_4 rfl
theorem w_X0_fewestArrows_5 (d : Nat) (L : a_L) (i : Nat) (v1 v2 : Value) (st : List Value) (h : a_H) (hk : a_kls h i = some 0) (hc : a_cat st ≤ 8) : a_run d MX0_fewestArrows 5 L (v2 :: v1 :: .ref i :: st) h = a_cont d MX0_fewestArrows (a_bk MX0_fewestArrows 5 L st (a_call d MX1_fewestArrows [.ref i, v1, v2] h)) := w_callV (as := [.ref i, v1, v2]) dX0_fewestArrows_5 rfl rfl rfl hc (a_rcv_of hk rfl)
theorem w_X0_fewestArrows_8 (d : Nat) (L : a_L) (x : Int32) (st : List Value) (h : a_H) : a_run d MX0_fewestArrows 8 L (.int x :: st) h = a_run d MX0_fewestArrows 9 L (.long x.toInt64 :: st) h := w_i2l dX0_fewestArrows_8
theorem w_X0_fewestArrows_9 (d : Nat) (L : a_L) (x : Int32) (y : Int64) (i : Nat) (st : List Value) (h : a_H) : a_run d MX0_fewestArrows 9 L (.long y :: .int x :: .ref i :: st) h = (a_wrl h i x y).bind fun h' => a_run d MX0_fewestArrows 10 L st h' := w_last dX0_fewestArrows_9
theorem w_X0_fewestArrows_10 (d : Nat) (L : a_L) (st : List Value) (h : a_H) : a_run d MX0_fewestArrows 10 L st h = a_run d MX0_fewestArrows 21 L st h := w_goto dX0_fewestArrows_10 rfl
theorem w_X0_fewestArrows_13 (d : Nat) (a0 a1 a2 a3 a4 : Option Value) (x : Nat) (st : List Value) (h : a_H) : a_run d MX0_fewestArrows 13 [a0, a1, a2, a3, a4] (.ref x :: st) h = a_run d MX0_fewestArrows 15 [a0, a1, a2, a3, some (.ref x)] st h := w_stA dX0_fewestArrows_13 (Nat.le_of_ble_eq_true rfl) rfl
theorem w_X0_fewestArrows_13N (d : Nat) (a0 a1 a2 a3 a4 : Option Value) (st : List Value) (h : a_H) : a_run d MX0_fewestArrows 13 [a0, a1, a2, a3, a4] (.null :: st) h = a_run d MX0_fewestArrows 15 [a0, a1, a2, a3, some .null] st h := w_stN dX0_fewestArrows_13 (Nat.le_of_ble_eq_true rfl) rfl
theorem w_X0_fewestArrows_15 (d : Nat) (L : a_L) (st : List Value) (h : a_H) : a_run d MX0_fewestArrows 15 L st h = a_run d MX0_fewestArrows 16 L (.int (nI 1) :: st) h := w_iconst dX0_fewestArrows_15 rfl
theorem w_X0_fewestArrows_16 (d : Nat) (L : a_L) (x : Int32) (h : a_H) : a_run d MX0_fewestArrows 16 L [.int x] h = some (.inl (some (.int x)), h) := w_iret dX0_fewestArrows_16 (w_retI rfl)
theorem w_X0_fewestArrows_17 (d : Nat) (a0 a1 a2 a3 a4 : Option Value) (x : Nat) (st : List Value) (h : a_H) : a_run d MX0_fewestArrows 17 [a0, a1, a2, a3, a4] (.ref x :: st) h = a_run d MX0_fewestArrows 19 [a0, a1, a2, a3, some (.ref x)] st h := w_stA dX0_fewestArrows_17 (Nat.le_of_ble_eq_true rfl) rfl
theorem w_X0_fewestArrows_17N (d : Nat) (a0 a1 a2 a3 a4 : Option Value) (st : List Value) (h : a_H) : a_run d MX0_fewestArrows 17 [a0, a1, a2, a3, a4] (.null :: st) h = a_run d MX0_fewestArrows 19 [a0, a1, a2, a3, some .null] st h := w_stN dX0_fewestArrows_17 (Nat.le_of_ble_eq_true rfl) rfl
theorem w_X0_fewestArrows_19 (d : Nat) (L : a_L) (st : List Value) (h : a_H) : a_run d MX0_fewestArrows 19 L st h = a_run d MX0_fewestArrows 20 L (.int (nI 2) :: st) h := w_iconst dX0_fewestArrows_19 rfl
theorem w_X0_fewestArrows_20 (d : Nat) (L : a_L) (x : Int32) (h : a_H) : a_run d MX0_fewestArrows 20 L [.int x] h = some (.inl (some (.int x)), h) := w_iret dX0_fewestArrows_20 (w_retI rfl)
theorem w_X0_fewestArrows_21 (d : Nat) (L : a_L) (st : List Value) (h : a_H) : a_run d MX0_fewestArrows 21 L st h = a_run d MX0_fewestArrows 22 L (.int (nI 0) :: st) h := w_iconst dX0_fewestArrows_21 rfl
theorem w_X0_fewestArrows_22 (d : Nat) (L : a_L) (x : Int32) (h : a_H) : a_run d MX0_fewestArrows 22 L [.int x] h = some (.inl (some (.int x)), h) := w_iret dX0_fewestArrows_22 (w_retI rfl)
theorem e_X0_mostArrows (d : Nat) (x0 : Nat) (x1 : Int32) (x2 : Int32) (x3 : Nat) (h : a_H) : a_call (d + 1) MX0_mostArrows [.ref x0, .int x1, .int x2, .ref x3] h = a_run d MX0_mostArrows 0 [some (.ref x0), some (.int x1), some (.int x2), some (.ref x3), none] [] h := a_call_run rfl (Nat.le_of_ble_eq_true rfl) rfl
theorem w_X0_mostArrows_0 (d : Nat) (a0 a1 a2 a4 : Option Value) (x : Nat) (st : List Value) (h : a_H) : a_run d MX0_mostArrows 0 [a0, a1, a2, some (.ref x), a4] st h = a_run d MX0_mostArrows 1 [a0, a1, a2, some (.ref x), a4] (.ref x :: st) h := w_ldAn dX0_mostArrows_0 rfl
theorem w_X0_mostArrows_0N (d : Nat) (a0 a1 a2 a4 : Option Value) (st : List Value) (h : a_H) : a_run d MX0_mostArrows 0 [a0, a1, a2, some .null, a4] st h = a_run d MX0_mostArrows 1 [a0, a1, a2, some .null, a4] (.null :: st) h := w_ldNn dX0_mostArrows_0 rfl
theorem w_X0_mostArrows_1 (d : Nat) (L : a_L) (st : List Value) (h : a_H) : a_run d MX0_mostArrows 1 L st h = a_run d MX0_mostArrows 2 L (.int (nI 0) :: st) h := w_iconst dX0_mostArrows_1 rfl
theorem w_X0_mostArrows_2 (d : Nat) (a1 a2 a3 a4 : Option Value) (x : Nat) (st : List Value) (h : a_H) : a_run d MX0_mostArrows 2 [some (.ref x), a1, a2, a3, a4] st h = a_run d MX0_mostArrows 3 [some (.ref x), a1, a2, a3, a4] (.ref x :: st) h := w_ldAn dX0_mostArrows_2 rfl
theorem w_X0_mostArrows_3 (d : Nat) (a0 a2 a3 a4 : Option Value) (x : Int32) (st : List Value) (h : a_H) : a_run d MX0_mostArrows 3 [a0, some (.int x), a2, a3, a4] st h = a_run d MX0_mostArrows 4 [a0, some (.int x), a2, a3, a4] (.int x :: st) h := w_ldIn dX0_mostArrows_3 rfl
theorem w_X0_mostArrows_4 (d : Nat) (a0 a1 a3 a4 : Option Value) (x : Int32) (st : List Value) (h : a_H) : a_run d MX0_mostArrows 4 [a0, a1, some (.int x), a3, a4] st h = a_run d MX0_mostArrows 5 [a0, a1, some (.int x), a3, a4] (.int x :: st) h := w_ldIn dX0_mostArrows_4 rfl
theorem w_X0_mostArrows_5 (d : Nat) (L : a_L) (i : Nat) (v1 v2 : Value) (st : List Value) (h : a_H) (hk : a_kls h i = some 0) (hc : a_cat st ≤ 8) : a_run d MX0_mostArrows 5 L (v2 :: v1 :: .ref i :: st) h = a_cont d MX0_mostArrows (a_bk MX0_mostArrows 5 L st (a_call d MX1_mostArrows [.ref i, v1, v2] h)) := w_callV (as := [.ref i, v1, v2]) dX0_mostArrows_5 rfl rfl rfl hc (a_rcv_of hk rfl)
theorem w_X0_mostArrows_8 (d : Nat) (L : a_L) (x : Int32) (st : List Value) (h : a_H) : a_run d MX0_mostArrows 8 L (.int x :: st) h = a_run d MX0_mostArrows 9 L (.long x.toInt64 :: st) h := w_i2l dX0_mostArrows_8
theorem w_X0_mostArrows_9 (d : Nat) (L : a_L) (x : Int32) (y : Int64) (i : Nat) (st : List Value) (h : a_H) : a_run d MX0_mostArrows 9 L (.long y :: .int x :: .ref i :: st) h = (a_wrl h i x y).bind fun h' => a_run d MX0_mostArrows 10 L st h' := w_last dX0_mostArrows_9
theorem w_X0_mostArrows_10 (d : Nat) (L : a_L) (st : List Value) (h : a_H) : a_run d MX0_mostArrows 10 L st h = a_run d MX0_mostArrows 21 L st h := w_goto dX0_mostArrows_10 rfl
theorem w_X0_mostArrows_13 (d : Nat) (a0 a1 a2 a3 a4 : Option Value) (x : Nat) (st : List Value) (h : a_H) : a_run d MX0_mostArrows 13 [a0, a1, a2, a3, a4] (.ref x :: st) h = a_run d MX0_mostArrows 15 [a0, a1, a2, a3, some (.ref x)] st h := w_stA dX0_mostArrows_13 (Nat.le_of_ble_eq_true rfl) rfl
theorem w_X0_mostArrows_13N (d : Nat) (a0 a1 a2 a3 a4 : Option Value) (st : List Value) (h : a_H) : a_run d MX0_mostArrows 13 [a0, a1, a2, a3, a4] (.null :: st) h = a_run d MX0_mostArrows 15 [a0, a1, a2, a3, some .null] st h := w_stN dX0_mostArrows_13 (Nat.le_of_ble_eq_true rfl) rfl
theorem w_X0_mostArrows_15 (d : Nat) (L : a_L) (st : List Value) (h : a_H) : a_run d MX0_mostArrows 15 L st h = a_run d MX0_mostArrows 16 L (.int (nI 1) :: st) h := w_iconst dX0_mostArrows_15 rfl
theorem w_X0_mostArrows_16 (d : Nat) (L : a_L) (x : Int32) (h : a_H) : a_run d MX0_mostArrows 16 L [.int x] h = some (.inl (some (.int x)), h) := w_iret dX0_mostArrows_16 (w_retI rfl)
theorem w_X0_mostArrows_17 (d : Nat) (a0 a1 a2 a3 a4 : Option Value) (x : Nat) (st : List Value) (h : a_H) : a_run d MX0_mostArrows 17 [a0, a1, a2, a3, a4] (.ref x :: st) h = a_run d MX0_mostArrows 19 [a0, a1, a2, a3, some (.ref x)] st h := w_stA dX0_mostArrows_17 (Nat.le_of_ble_eq_true rfl) rfl
theorem w_X0_mostArrows_17N (d : Nat) (a0 a1 a2 a3 a4 : Option Value) (st : List Value) (h : a_H) : a_run d MX0_mostArrows 17 [a0, a1, a2, a3, a4] (.null :: st) h = a_run d MX0_mostArrows 19 [a0, a1, a2, a3, some .null] st h := w_stN dX0_mostArrows_17 (Nat.le_of_ble_eq_true rfl) rfl
theorem w_X0_mostArrows_19 (d : Nat) (L : a_L) (st : List Value) (h : a_H) : a_run d MX0_mostArrows 19 L st h = a_run d MX0_mostArrows 20 L (.int (nI 2) :: st) h := w_iconst dX0_mostArrows_19 rfl
theorem w_X0_mostArrows_20 (d : Nat) (L : a_L) (x : Int32) (h : a_H) : a_run d MX0_mostArrows 20 L [.int x] h = some (.inl (some (.int x)), h) := w_iret dX0_mostArrows_20 (w_retI rfl)
theorem w_X0_mostArrows_21 (d : Nat) (L : a_L) (st : List Value) (h : a_H) : a_run d MX0_mostArrows 21 L st h = a_run d MX0_mostArrows 22 L (.int (nI 0) :: st) h := w_iconst dX0_mostArrows_21 rfl
theorem w_X0_mostArrows_22 (d : Nat) (L : a_L) (x : Int32) (h : a_H) : a_run d MX0_mostArrows 22 L [.int x] h = some (.inl (some (.int x)), h) := w_iret dX0_mostArrows_22 (w_retI rfl)
theorem e_X0_layerOf (d : Nat) (x0 : Nat) (x1 : Int32) (x2 : Nat) (h : a_H) : a_call (d + 1) MX0_layerOf [.ref x0, .int x1, .ref x2] h = a_run d MX0_layerOf 0 [some (.ref x0), some (.int x1), some (.ref x2), none] [] h := a_call_run rfl (Nat.le_of_ble_eq_true rfl) rfl
theorem w_X0_layerOf_0 (d : Nat) (a0 a1 a3 : Option Value) (x : Nat) (st : List Value) (h : a_H) : a_run d MX0_layerOf 0 [a0, a1, some (.ref x), a3] st h = a_run d MX0_layerOf 1 [a0, a1, some (.ref x), a3] (.ref x :: st) h := w_ldAn dX0_layerOf_0 rfl
theorem w_X0_layerOf_0N (d : Nat) (a0 a1 a3 : Option Value) (st : List Value) (h : a_H) : a_run d MX0_layerOf 0 [a0, a1, some .null, a3] st h = a_run d MX0_layerOf 1 [a0, a1, some .null, a3] (.null :: st) h := w_ldNn dX0_layerOf_0 rfl
theorem w_X0_layerOf_1 (d : Nat) (L : a_L) (st : List Value) (h : a_H) : a_run d MX0_layerOf 1 L st h = a_run d MX0_layerOf 2 L (.int (nI 0) :: st) h := w_iconst dX0_layerOf_1 rfl
theorem w_X0_layerOf_2 (d : Nat) (a1 a2 a3 : Option Value) (x : Nat) (st : List Value) (h : a_H) : a_run d MX0_layerOf 2 [some (.ref x), a1, a2, a3] st h = a_run d MX0_layerOf 3 [some (.ref x), a1, a2, a3] (.ref x :: st) h := w_ldAn dX0_layerOf_2 rfl
theorem w_X0_layerOf_3 (d : Nat) (a0 a2 a3 : Option Value) (x : Int32) (st : List Value) (h : a_H) : a_run d MX0_layerOf 3 [a0, some (.int x), a2, a3] st h = a_run d MX0_layerOf 4 [a0, some (.int x), a2, a3] (.int x :: st) h := w_ldIn dX0_layerOf_3 rfl
theorem w_X0_layerOf_4 (d : Nat) (L : a_L) (i : Nat) (v1 : Value) (st : List Value) (h : a_H) (hk : a_kls h i = some 0) (hc : a_cat st ≤ 8) : a_run d MX0_layerOf 4 L (v1 :: .ref i :: st) h = a_cont d MX0_layerOf (a_bk MX0_layerOf 4 L st (a_call d MX1_layerOf [.ref i, v1] h)) := w_callV (as := [.ref i, v1]) dX0_layerOf_4 rfl rfl rfl hc (a_rcv_of hk rfl)
theorem w_X0_layerOf_7 (d : Nat) (L : a_L) (x : Int32) (st : List Value) (h : a_H) : a_run d MX0_layerOf 7 L (.int x :: st) h = a_run d MX0_layerOf 8 L (.long x.toInt64 :: st) h := w_i2l dX0_layerOf_7
theorem w_X0_layerOf_8 (d : Nat) (L : a_L) (x : Int32) (y : Int64) (i : Nat) (st : List Value) (h : a_H) : a_run d MX0_layerOf 8 L (.long y :: .int x :: .ref i :: st) h = (a_wrl h i x y).bind fun h' => a_run d MX0_layerOf 9 L st h' := w_last dX0_layerOf_8
theorem w_X0_layerOf_9 (d : Nat) (L : a_L) (st : List Value) (h : a_H) : a_run d MX0_layerOf 9 L st h = a_run d MX0_layerOf 15 L st h := w_goto dX0_layerOf_9 rfl
theorem w_X0_layerOf_12 (d : Nat) (a0 a1 a2 a3 : Option Value) (x : Nat) (st : List Value) (h : a_H) : a_run d MX0_layerOf 12 [a0, a1, a2, a3] (.ref x :: st) h = a_run d MX0_layerOf 13 [a0, a1, a2, some (.ref x)] st h := w_stAn dX0_layerOf_12 (Nat.le_of_ble_eq_true rfl) rfl
theorem w_X0_layerOf_12N (d : Nat) (a0 a1 a2 a3 : Option Value) (st : List Value) (h : a_H) : a_run d MX0_layerOf 12 [a0, a1, a2, a3] (.null :: st) h = a_run d MX0_layerOf 13 [a0, a1, a2, some .null] st h := w_stNn dX0_layerOf_12 (Nat.le_of_ble_eq_true rfl) rfl
theorem w_X0_layerOf_13 (d : Nat) (L : a_L) (st : List Value) (h : a_H) : a_run d MX0_layerOf 13 L st h = a_run d MX0_layerOf 14 L (.int (nI 1) :: st) h := w_iconst dX0_layerOf_13 rfl
theorem w_X0_layerOf_14 (d : Nat) (L : a_L) (x : Int32) (h : a_H) : a_run d MX0_layerOf 14 L [.int x] h = some (.inl (some (.int x)), h) := w_iret dX0_layerOf_14 (w_retI rfl)
theorem w_X0_layerOf_15 (d : Nat) (L : a_L) (st : List Value) (h : a_H) : a_run d MX0_layerOf 15 L st h = a_run d MX0_layerOf 16 L (.int (nI 0) :: st) h := w_iconst dX0_layerOf_15 rfl
theorem w_X0_layerOf_16 (d : Nat) (L : a_L) (x : Int32) (h : a_H) : a_run d MX0_layerOf 16 L [.int x] h = some (.inl (some (.int x)), h) := w_iret dX0_layerOf_16 (w_retI rfl)
theorem e_X0_layerByGoingBack (d : Nat) (x0 : Nat) (x1 : Int32) (x2 : Nat) (h : a_H) : a_call (d + 1) MX0_layerByGoingBack [.ref x0, .int x1, .ref x2] h = a_run d MX0_layerByGoingBack 0 [some (.ref x0), some (.int x1), some (.ref x2), none] [] h := a_call_run rfl (Nat.le_of_ble_eq_true rfl) rfl
theorem w_X0_layerByGoingBack_0 (d : Nat) (a0 a1 a3 : Option Value) (x : Nat) (st : List Value) (h : a_H) : a_run d MX0_layerByGoingBack 0 [a0, a1, some (.ref x), a3] st h = a_run d MX0_layerByGoingBack 1 [a0, a1, some (.ref x), a3] (.ref x :: st) h := w_ldAn dX0_layerByGoingBack_0 rfl
theorem w_X0_layerByGoingBack_0N (d : Nat) (a0 a1 a3 : Option Value) (st : List Value) (h : a_H) : a_run d MX0_layerByGoingBack 0 [a0, a1, some .null, a3] st h = a_run d MX0_layerByGoingBack 1 [a0, a1, some .null, a3] (.null :: st) h := w_ldNn dX0_layerByGoingBack_0 rfl
theorem w_X0_layerByGoingBack_1 (d : Nat) (L : a_L) (st : List Value) (h : a_H) : a_run d MX0_layerByGoingBack 1 L st h = a_run d MX0_layerByGoingBack 2 L (.int (nI 0) :: st) h := w_iconst dX0_layerByGoingBack_1 rfl
theorem w_X0_layerByGoingBack_2 (d : Nat) (a1 a2 a3 : Option Value) (x : Nat) (st : List Value) (h : a_H) : a_run d MX0_layerByGoingBack 2 [some (.ref x), a1, a2, a3] st h = a_run d MX0_layerByGoingBack 3 [some (.ref x), a1, a2, a3] (.ref x :: st) h := w_ldAn dX0_layerByGoingBack_2 rfl
theorem w_X0_layerByGoingBack_3 (d : Nat) (a0 a2 a3 : Option Value) (x : Int32) (st : List Value) (h : a_H) : a_run d MX0_layerByGoingBack 3 [a0, some (.int x), a2, a3] st h = a_run d MX0_layerByGoingBack 4 [a0, some (.int x), a2, a3] (.int x :: st) h := w_ldIn dX0_layerByGoingBack_3 rfl
theorem w_X0_layerByGoingBack_4 (d : Nat) (L : a_L) (i : Nat) (v1 : Value) (st : List Value) (h : a_H) (hk : a_kls h i = some 0) (hc : a_cat st ≤ 8) : a_run d MX0_layerByGoingBack 4 L (v1 :: .ref i :: st) h = a_cont d MX0_layerByGoingBack (a_bk MX0_layerByGoingBack 4 L st (a_call d MX1_layerByGoingBack [.ref i, v1] h)) := w_callV (as := [.ref i, v1]) dX0_layerByGoingBack_4 rfl rfl rfl hc (a_rcv_of hk rfl)
theorem w_X0_layerByGoingBack_7 (d : Nat) (L : a_L) (x : Int32) (st : List Value) (h : a_H) : a_run d MX0_layerByGoingBack 7 L (.int x :: st) h = a_run d MX0_layerByGoingBack 8 L (.long x.toInt64 :: st) h := w_i2l dX0_layerByGoingBack_7
theorem w_X0_layerByGoingBack_8 (d : Nat) (L : a_L) (x : Int32) (y : Int64) (i : Nat) (st : List Value) (h : a_H) : a_run d MX0_layerByGoingBack 8 L (.long y :: .int x :: .ref i :: st) h = (a_wrl h i x y).bind fun h' => a_run d MX0_layerByGoingBack 9 L st h' := w_last dX0_layerByGoingBack_8
theorem w_X0_layerByGoingBack_9 (d : Nat) (L : a_L) (st : List Value) (h : a_H) : a_run d MX0_layerByGoingBack 9 L st h = a_run d MX0_layerByGoingBack 15 L st h := w_goto dX0_layerByGoingBack_9 rfl
theorem w_X0_layerByGoingBack_12 (d : Nat) (a0 a1 a2 a3 : Option Value) (x : Nat) (st : List Value) (h : a_H) : a_run d MX0_layerByGoingBack 12 [a0, a1, a2, a3] (.ref x :: st) h = a_run d MX0_layerByGoingBack 13 [a0, a1, a2, some (.ref x)] st h := w_stAn dX0_layerByGoingBack_12 (Nat.le_of_ble_eq_true rfl) rfl
theorem w_X0_layerByGoingBack_12N (d : Nat) (a0 a1 a2 a3 : Option Value) (st : List Value) (h : a_H) : a_run d MX0_layerByGoingBack 12 [a0, a1, a2, a3] (.null :: st) h = a_run d MX0_layerByGoingBack 13 [a0, a1, a2, some .null] st h := w_stNn dX0_layerByGoingBack_12 (Nat.le_of_ble_eq_true rfl) rfl
theorem w_X0_layerByGoingBack_13 (d : Nat) (L : a_L) (st : List Value) (h : a_H) : a_run d MX0_layerByGoingBack 13 L st h = a_run d MX0_layerByGoingBack 14 L (.int (nI 1) :: st) h := w_iconst dX0_layerByGoingBack_13 rfl
theorem w_X0_layerByGoingBack_14 (d : Nat) (L : a_L) (x : Int32) (h : a_H) : a_run d MX0_layerByGoingBack 14 L [.int x] h = some (.inl (some (.int x)), h) := w_iret dX0_layerByGoingBack_14 (w_retI rfl)
theorem w_X0_layerByGoingBack_15 (d : Nat) (L : a_L) (st : List Value) (h : a_H) : a_run d MX0_layerByGoingBack 15 L st h = a_run d MX0_layerByGoingBack 16 L (.int (nI 0) :: st) h := w_iconst dX0_layerByGoingBack_15 rfl
theorem w_X0_layerByGoingBack_16 (d : Nat) (L : a_L) (x : Int32) (h : a_H) : a_run d MX0_layerByGoingBack 16 L [.int x] h = some (.inl (some (.int x)), h) := w_iret dX0_layerByGoingBack_16 (w_retI rfl)
theorem e_X0_leastOf (d : Nat) (x0 : Nat) (x1 : Int32) (x2 : Nat) (h : a_H) : a_call (d + 1) MX0_leastOf [.ref x0, .int x1, .ref x2] h = a_run d MX0_leastOf 0 [some (.ref x0), some (.int x1), some (.ref x2), none] [] h := a_call_run rfl (Nat.le_of_ble_eq_true rfl) rfl
theorem w_X0_leastOf_0 (d : Nat) (a0 a1 a3 : Option Value) (x : Nat) (st : List Value) (h : a_H) : a_run d MX0_leastOf 0 [a0, a1, some (.ref x), a3] st h = a_run d MX0_leastOf 1 [a0, a1, some (.ref x), a3] (.ref x :: st) h := w_ldAn dX0_leastOf_0 rfl
theorem w_X0_leastOf_0N (d : Nat) (a0 a1 a3 : Option Value) (st : List Value) (h : a_H) : a_run d MX0_leastOf 0 [a0, a1, some .null, a3] st h = a_run d MX0_leastOf 1 [a0, a1, some .null, a3] (.null :: st) h := w_ldNn dX0_leastOf_0 rfl
theorem w_X0_leastOf_1 (d : Nat) (L : a_L) (st : List Value) (h : a_H) : a_run d MX0_leastOf 1 L st h = a_run d MX0_leastOf 2 L (.int (nI 0) :: st) h := w_iconst dX0_leastOf_1 rfl
theorem w_X0_leastOf_2 (d : Nat) (a1 a2 a3 : Option Value) (x : Nat) (st : List Value) (h : a_H) : a_run d MX0_leastOf 2 [some (.ref x), a1, a2, a3] st h = a_run d MX0_leastOf 3 [some (.ref x), a1, a2, a3] (.ref x :: st) h := w_ldAn dX0_leastOf_2 rfl
theorem w_X0_leastOf_3 (d : Nat) (a0 a2 a3 : Option Value) (x : Int32) (st : List Value) (h : a_H) : a_run d MX0_leastOf 3 [a0, some (.int x), a2, a3] st h = a_run d MX0_leastOf 4 [a0, some (.int x), a2, a3] (.int x :: st) h := w_ldIn dX0_leastOf_3 rfl
theorem w_X0_leastOf_4 (d : Nat) (L : a_L) (i : Nat) (v1 : Value) (st : List Value) (h : a_H) (hk : a_kls h i = some 0) (hc : a_cat st ≤ 8) : a_run d MX0_leastOf 4 L (v1 :: .ref i :: st) h = a_cont d MX0_leastOf (a_bk MX0_leastOf 4 L st (a_call d MX1_leastOf [.ref i, v1] h)) := w_callV (as := [.ref i, v1]) dX0_leastOf_4 rfl rfl rfl hc (a_rcv_of hk rfl)
theorem w_X0_leastOf_7 (d : Nat) (L : a_L) (x : Int32) (st : List Value) (h : a_H) : a_run d MX0_leastOf 7 L (.int x :: st) h = a_run d MX0_leastOf 8 L (.long x.toInt64 :: st) h := w_i2l dX0_leastOf_7
theorem w_X0_leastOf_8 (d : Nat) (L : a_L) (x : Int32) (y : Int64) (i : Nat) (st : List Value) (h : a_H) : a_run d MX0_leastOf 8 L (.long y :: .int x :: .ref i :: st) h = (a_wrl h i x y).bind fun h' => a_run d MX0_leastOf 9 L st h' := w_last dX0_leastOf_8
theorem w_X0_leastOf_9 (d : Nat) (L : a_L) (st : List Value) (h : a_H) : a_run d MX0_leastOf 9 L st h = a_run d MX0_leastOf 15 L st h := w_goto dX0_leastOf_9 rfl
theorem w_X0_leastOf_12 (d : Nat) (a0 a1 a2 a3 : Option Value) (x : Nat) (st : List Value) (h : a_H) : a_run d MX0_leastOf 12 [a0, a1, a2, a3] (.ref x :: st) h = a_run d MX0_leastOf 13 [a0, a1, a2, some (.ref x)] st h := w_stAn dX0_leastOf_12 (Nat.le_of_ble_eq_true rfl) rfl
theorem w_X0_leastOf_12N (d : Nat) (a0 a1 a2 a3 : Option Value) (st : List Value) (h : a_H) : a_run d MX0_leastOf 12 [a0, a1, a2, a3] (.null :: st) h = a_run d MX0_leastOf 13 [a0, a1, a2, some .null] st h := w_stNn dX0_leastOf_12 (Nat.le_of_ble_eq_true rfl) rfl
theorem w_X0_leastOf_13 (d : Nat) (L : a_L) (st : List Value) (h : a_H) : a_run d MX0_leastOf 13 L st h = a_run d MX0_leastOf 14 L (.int (nI 1) :: st) h := w_iconst dX0_leastOf_13 rfl
theorem w_X0_leastOf_14 (d : Nat) (L : a_L) (x : Int32) (h : a_H) : a_run d MX0_leastOf 14 L [.int x] h = some (.inl (some (.int x)), h) := w_iret dX0_leastOf_14 (w_retI rfl)
theorem w_X0_leastOf_15 (d : Nat) (L : a_L) (st : List Value) (h : a_H) : a_run d MX0_leastOf 15 L st h = a_run d MX0_leastOf 16 L (.int (nI 0) :: st) h := w_iconst dX0_leastOf_15 rfl
theorem w_X0_leastOf_16 (d : Nat) (L : a_L) (x : Int32) (h : a_H) : a_run d MX0_leastOf 16 L [.int x] h = some (.inl (some (.int x)), h) := w_iret dX0_leastOf_16 (w_retI rfl)
theorem e_X0_spanOf (d : Nat) (x0 : Nat) (x1 : Int32) (x2 : Nat) (h : a_H) : a_call (d + 1) MX0_spanOf [.ref x0, .int x1, .ref x2] h = a_run d MX0_spanOf 0 [some (.ref x0), some (.int x1), some (.ref x2), none] [] h := a_call_run rfl (Nat.le_of_ble_eq_true rfl) rfl
theorem w_X0_spanOf_0 (d : Nat) (a0 a1 a3 : Option Value) (x : Nat) (st : List Value) (h : a_H) : a_run d MX0_spanOf 0 [a0, a1, some (.ref x), a3] st h = a_run d MX0_spanOf 1 [a0, a1, some (.ref x), a3] (.ref x :: st) h := w_ldAn dX0_spanOf_0 rfl
theorem w_X0_spanOf_0N (d : Nat) (a0 a1 a3 : Option Value) (st : List Value) (h : a_H) : a_run d MX0_spanOf 0 [a0, a1, some .null, a3] st h = a_run d MX0_spanOf 1 [a0, a1, some .null, a3] (.null :: st) h := w_ldNn dX0_spanOf_0 rfl
theorem w_X0_spanOf_1 (d : Nat) (L : a_L) (st : List Value) (h : a_H) : a_run d MX0_spanOf 1 L st h = a_run d MX0_spanOf 2 L (.int (nI 0) :: st) h := w_iconst dX0_spanOf_1 rfl
theorem w_X0_spanOf_2 (d : Nat) (a1 a2 a3 : Option Value) (x : Nat) (st : List Value) (h : a_H) : a_run d MX0_spanOf 2 [some (.ref x), a1, a2, a3] st h = a_run d MX0_spanOf 3 [some (.ref x), a1, a2, a3] (.ref x :: st) h := w_ldAn dX0_spanOf_2 rfl
theorem w_X0_spanOf_3 (d : Nat) (a0 a2 a3 : Option Value) (x : Int32) (st : List Value) (h : a_H) : a_run d MX0_spanOf 3 [a0, some (.int x), a2, a3] st h = a_run d MX0_spanOf 4 [a0, some (.int x), a2, a3] (.int x :: st) h := w_ldIn dX0_spanOf_3 rfl
theorem w_X0_spanOf_4 (d : Nat) (L : a_L) (i : Nat) (v1 : Value) (st : List Value) (h : a_H) (hk : a_kls h i = some 0) (hc : a_cat st ≤ 8) : a_run d MX0_spanOf 4 L (v1 :: .ref i :: st) h = a_cont d MX0_spanOf (a_bk MX0_spanOf 4 L st (a_call d MX1_spanOf [.ref i, v1] h)) := w_callV (as := [.ref i, v1]) dX0_spanOf_4 rfl rfl rfl hc (a_rcv_of hk rfl)
theorem w_X0_spanOf_7 (d : Nat) (L : a_L) (x : Int32) (st : List Value) (h : a_H) : a_run d MX0_spanOf 7 L (.int x :: st) h = a_run d MX0_spanOf 8 L (.long x.toInt64 :: st) h := w_i2l dX0_spanOf_7
theorem w_X0_spanOf_8 (d : Nat) (L : a_L) (x : Int32) (y : Int64) (i : Nat) (st : List Value) (h : a_H) : a_run d MX0_spanOf 8 L (.long y :: .int x :: .ref i :: st) h = (a_wrl h i x y).bind fun h' => a_run d MX0_spanOf 9 L st h' := w_last dX0_spanOf_8
theorem w_X0_spanOf_9 (d : Nat) (L : a_L) (st : List Value) (h : a_H) : a_run d MX0_spanOf 9 L st h = a_run d MX0_spanOf 15 L st h := w_goto dX0_spanOf_9 rfl
theorem w_X0_spanOf_12 (d : Nat) (a0 a1 a2 a3 : Option Value) (x : Nat) (st : List Value) (h : a_H) : a_run d MX0_spanOf 12 [a0, a1, a2, a3] (.ref x :: st) h = a_run d MX0_spanOf 13 [a0, a1, a2, some (.ref x)] st h := w_stAn dX0_spanOf_12 (Nat.le_of_ble_eq_true rfl) rfl
theorem w_X0_spanOf_12N (d : Nat) (a0 a1 a2 a3 : Option Value) (st : List Value) (h : a_H) : a_run d MX0_spanOf 12 [a0, a1, a2, a3] (.null :: st) h = a_run d MX0_spanOf 13 [a0, a1, a2, some .null] st h := w_stNn dX0_spanOf_12 (Nat.le_of_ble_eq_true rfl) rfl
theorem w_X0_spanOf_13 (d : Nat) (L : a_L) (st : List Value) (h : a_H) : a_run d MX0_spanOf 13 L st h = a_run d MX0_spanOf 14 L (.int (nI 1) :: st) h := w_iconst dX0_spanOf_13 rfl
theorem w_X0_spanOf_14 (d : Nat) (L : a_L) (x : Int32) (h : a_H) : a_run d MX0_spanOf 14 L [.int x] h = some (.inl (some (.int x)), h) := w_iret dX0_spanOf_14 (w_retI rfl)
theorem w_X0_spanOf_15 (d : Nat) (L : a_L) (st : List Value) (h : a_H) : a_run d MX0_spanOf 15 L st h = a_run d MX0_spanOf 16 L (.int (nI 0) :: st) h := w_iconst dX0_spanOf_15 rfl
theorem w_X0_spanOf_16 (d : Nat) (L : a_L) (x : Int32) (h : a_H) : a_run d MX0_spanOf 16 L [.int x] h = some (.inl (some (.int x)), h) := w_iret dX0_spanOf_16 (w_retI rfl)
theorem e_X0_pointsOf (d : Nat) (x0 : Nat) (x1 : Int32) (x2 : Nat) (h : a_H) : a_call (d + 1) MX0_pointsOf [.ref x0, .int x1, .ref x2] h = a_run d MX0_pointsOf 0 [some (.ref x0), some (.int x1), some (.ref x2), none] [] h := a_call_run rfl (Nat.le_of_ble_eq_true rfl) rfl
theorem w_X0_pointsOf_0 (d : Nat) (a0 a1 a3 : Option Value) (x : Nat) (st : List Value) (h : a_H) : a_run d MX0_pointsOf 0 [a0, a1, some (.ref x), a3] st h = a_run d MX0_pointsOf 1 [a0, a1, some (.ref x), a3] (.ref x :: st) h := w_ldAn dX0_pointsOf_0 rfl
theorem w_X0_pointsOf_0N (d : Nat) (a0 a1 a3 : Option Value) (st : List Value) (h : a_H) : a_run d MX0_pointsOf 0 [a0, a1, some .null, a3] st h = a_run d MX0_pointsOf 1 [a0, a1, some .null, a3] (.null :: st) h := w_ldNn dX0_pointsOf_0 rfl
theorem w_X0_pointsOf_1 (d : Nat) (L : a_L) (st : List Value) (h : a_H) : a_run d MX0_pointsOf 1 L st h = a_run d MX0_pointsOf 2 L (.int (nI 0) :: st) h := w_iconst dX0_pointsOf_1 rfl
theorem w_X0_pointsOf_2 (d : Nat) (a1 a2 a3 : Option Value) (x : Nat) (st : List Value) (h : a_H) : a_run d MX0_pointsOf 2 [some (.ref x), a1, a2, a3] st h = a_run d MX0_pointsOf 3 [some (.ref x), a1, a2, a3] (.ref x :: st) h := w_ldAn dX0_pointsOf_2 rfl
theorem w_X0_pointsOf_3 (d : Nat) (a0 a2 a3 : Option Value) (x : Int32) (st : List Value) (h : a_H) : a_run d MX0_pointsOf 3 [a0, some (.int x), a2, a3] st h = a_run d MX0_pointsOf 4 [a0, some (.int x), a2, a3] (.int x :: st) h := w_ldIn dX0_pointsOf_3 rfl
theorem w_X0_pointsOf_4 (d : Nat) (L : a_L) (i : Nat) (v1 : Value) (st : List Value) (h : a_H) (hk : a_kls h i = some 0) (hc : a_cat st ≤ 8) : a_run d MX0_pointsOf 4 L (v1 :: .ref i :: st) h = a_cont d MX0_pointsOf (a_bk MX0_pointsOf 4 L st (a_call d MX1_pointsOf [.ref i, v1] h)) := w_callV (as := [.ref i, v1]) dX0_pointsOf_4 rfl rfl rfl hc (a_rcv_of hk rfl)
theorem w_X0_pointsOf_7 (d : Nat) (L : a_L) (x : Int32) (st : List Value) (h : a_H) : a_run d MX0_pointsOf 7 L (.int x :: st) h = a_run d MX0_pointsOf 8 L (.long x.toInt64 :: st) h := w_i2l dX0_pointsOf_7
theorem w_X0_pointsOf_8 (d : Nat) (L : a_L) (x : Int32) (y : Int64) (i : Nat) (st : List Value) (h : a_H) : a_run d MX0_pointsOf 8 L (.long y :: .int x :: .ref i :: st) h = (a_wrl h i x y).bind fun h' => a_run d MX0_pointsOf 9 L st h' := w_last dX0_pointsOf_8
theorem w_X0_pointsOf_9 (d : Nat) (L : a_L) (st : List Value) (h : a_H) : a_run d MX0_pointsOf 9 L st h = a_run d MX0_pointsOf 15 L st h := w_goto dX0_pointsOf_9 rfl
theorem w_X0_pointsOf_12 (d : Nat) (a0 a1 a2 a3 : Option Value) (x : Nat) (st : List Value) (h : a_H) : a_run d MX0_pointsOf 12 [a0, a1, a2, a3] (.ref x :: st) h = a_run d MX0_pointsOf 13 [a0, a1, a2, some (.ref x)] st h := w_stAn dX0_pointsOf_12 (Nat.le_of_ble_eq_true rfl) rfl
theorem w_X0_pointsOf_12N (d : Nat) (a0 a1 a2 a3 : Option Value) (st : List Value) (h : a_H) : a_run d MX0_pointsOf 12 [a0, a1, a2, a3] (.null :: st) h = a_run d MX0_pointsOf 13 [a0, a1, a2, some .null] st h := w_stNn dX0_pointsOf_12 (Nat.le_of_ble_eq_true rfl) rfl
theorem w_X0_pointsOf_13 (d : Nat) (L : a_L) (st : List Value) (h : a_H) : a_run d MX0_pointsOf 13 L st h = a_run d MX0_pointsOf 14 L (.int (nI 1) :: st) h := w_iconst dX0_pointsOf_13 rfl
theorem w_X0_pointsOf_14 (d : Nat) (L : a_L) (x : Int32) (h : a_H) : a_run d MX0_pointsOf 14 L [.int x] h = some (.inl (some (.int x)), h) := w_iret dX0_pointsOf_14 (w_retI rfl)
theorem w_X0_pointsOf_15 (d : Nat) (L : a_L) (st : List Value) (h : a_H) : a_run d MX0_pointsOf 15 L st h = a_run d MX0_pointsOf 16 L (.int (nI 0) :: st) h := w_iconst dX0_pointsOf_15 rfl
theorem w_X0_pointsOf_16 (d : Nat) (L : a_L) (x : Int32) (h : a_H) : a_run d MX0_pointsOf 16 L [.int x] h = some (.inl (some (.int x)), h) := w_iret dX0_pointsOf_16 (w_retI rfl)
theorem e_X0_pointAt (d : Nat) (x0 : Nat) (x1 : Int32) (x2 : Int32) (x3 : Nat) (h : a_H) : a_call (d + 1) MX0_pointAt [.ref x0, .int x1, .int x2, .ref x3] h = a_run d MX0_pointAt 0 [some (.ref x0), some (.int x1), some (.int x2), some (.ref x3), none] [] h := a_call_run rfl (Nat.le_of_ble_eq_true rfl) rfl
theorem w_X0_pointAt_0 (d : Nat) (a0 a1 a2 a4 : Option Value) (x : Nat) (st : List Value) (h : a_H) : a_run d MX0_pointAt 0 [a0, a1, a2, some (.ref x), a4] st h = a_run d MX0_pointAt 1 [a0, a1, a2, some (.ref x), a4] (.ref x :: st) h := w_ldAn dX0_pointAt_0 rfl
theorem w_X0_pointAt_0N (d : Nat) (a0 a1 a2 a4 : Option Value) (st : List Value) (h : a_H) : a_run d MX0_pointAt 0 [a0, a1, a2, some .null, a4] st h = a_run d MX0_pointAt 1 [a0, a1, a2, some .null, a4] (.null :: st) h := w_ldNn dX0_pointAt_0 rfl
theorem w_X0_pointAt_1 (d : Nat) (L : a_L) (st : List Value) (h : a_H) : a_run d MX0_pointAt 1 L st h = a_run d MX0_pointAt 2 L (.int (nI 0) :: st) h := w_iconst dX0_pointAt_1 rfl
theorem w_X0_pointAt_2 (d : Nat) (a1 a2 a3 a4 : Option Value) (x : Nat) (st : List Value) (h : a_H) : a_run d MX0_pointAt 2 [some (.ref x), a1, a2, a3, a4] st h = a_run d MX0_pointAt 3 [some (.ref x), a1, a2, a3, a4] (.ref x :: st) h := w_ldAn dX0_pointAt_2 rfl
theorem w_X0_pointAt_3 (d : Nat) (a0 a2 a3 a4 : Option Value) (x : Int32) (st : List Value) (h : a_H) : a_run d MX0_pointAt 3 [a0, some (.int x), a2, a3, a4] st h = a_run d MX0_pointAt 4 [a0, some (.int x), a2, a3, a4] (.int x :: st) h := w_ldIn dX0_pointAt_3 rfl
theorem w_X0_pointAt_4 (d : Nat) (a0 a1 a3 a4 : Option Value) (x : Int32) (st : List Value) (h : a_H) : a_run d MX0_pointAt 4 [a0, a1, some (.int x), a3, a4] st h = a_run d MX0_pointAt 5 [a0, a1, some (.int x), a3, a4] (.int x :: st) h := w_ldIn dX0_pointAt_4 rfl
theorem w_X0_pointAt_5 (d : Nat) (L : a_L) (i : Nat) (v1 v2 : Value) (st : List Value) (h : a_H) (hk : a_kls h i = some 0) (hc : a_cat st ≤ 8) : a_run d MX0_pointAt 5 L (v2 :: v1 :: .ref i :: st) h = a_cont d MX0_pointAt (a_bk MX0_pointAt 5 L st (a_call d MX1_pointAt [.ref i, v1, v2] h)) := w_callV (as := [.ref i, v1, v2]) dX0_pointAt_5 rfl rfl rfl hc (a_rcv_of hk rfl)
theorem w_X0_pointAt_8 (d : Nat) (L : a_L) (x : Int32) (st : List Value) (h : a_H) : a_run d MX0_pointAt 8 L (.int x :: st) h = a_run d MX0_pointAt 9 L (.long x.toInt64 :: st) h := w_i2l dX0_pointAt_8
theorem w_X0_pointAt_9 (d : Nat) (L : a_L) (x : Int32) (y : Int64) (i : Nat) (st : List Value) (h : a_H) : a_run d MX0_pointAt 9 L (.long y :: .int x :: .ref i :: st) h = (a_wrl h i x y).bind fun h' => a_run d MX0_pointAt 10 L st h' := w_last dX0_pointAt_9
theorem w_X0_pointAt_10 (d : Nat) (L : a_L) (st : List Value) (h : a_H) : a_run d MX0_pointAt 10 L st h = a_run d MX0_pointAt 21 L st h := w_goto dX0_pointAt_10 rfl
theorem w_X0_pointAt_13 (d : Nat) (a0 a1 a2 a3 a4 : Option Value) (x : Nat) (st : List Value) (h : a_H) : a_run d MX0_pointAt 13 [a0, a1, a2, a3, a4] (.ref x :: st) h = a_run d MX0_pointAt 15 [a0, a1, a2, a3, some (.ref x)] st h := w_stA dX0_pointAt_13 (Nat.le_of_ble_eq_true rfl) rfl
theorem w_X0_pointAt_13N (d : Nat) (a0 a1 a2 a3 a4 : Option Value) (st : List Value) (h : a_H) : a_run d MX0_pointAt 13 [a0, a1, a2, a3, a4] (.null :: st) h = a_run d MX0_pointAt 15 [a0, a1, a2, a3, some .null] st h := w_stN dX0_pointAt_13 (Nat.le_of_ble_eq_true rfl) rfl
theorem w_X0_pointAt_15 (d : Nat) (L : a_L) (st : List Value) (h : a_H) : a_run d MX0_pointAt 15 L st h = a_run d MX0_pointAt 16 L (.int (nI 1) :: st) h := w_iconst dX0_pointAt_15 rfl
theorem w_X0_pointAt_16 (d : Nat) (L : a_L) (x : Int32) (h : a_H) : a_run d MX0_pointAt 16 L [.int x] h = some (.inl (some (.int x)), h) := w_iret dX0_pointAt_16 (w_retI rfl)
theorem w_X0_pointAt_17 (d : Nat) (a0 a1 a2 a3 a4 : Option Value) (x : Nat) (st : List Value) (h : a_H) : a_run d MX0_pointAt 17 [a0, a1, a2, a3, a4] (.ref x :: st) h = a_run d MX0_pointAt 19 [a0, a1, a2, a3, some (.ref x)] st h := w_stA dX0_pointAt_17 (Nat.le_of_ble_eq_true rfl) rfl
theorem w_X0_pointAt_17N (d : Nat) (a0 a1 a2 a3 a4 : Option Value) (st : List Value) (h : a_H) : a_run d MX0_pointAt 17 [a0, a1, a2, a3, a4] (.null :: st) h = a_run d MX0_pointAt 19 [a0, a1, a2, a3, some .null] st h := w_stN dX0_pointAt_17 (Nat.le_of_ble_eq_true rfl) rfl
theorem w_X0_pointAt_19 (d : Nat) (L : a_L) (st : List Value) (h : a_H) : a_run d MX0_pointAt 19 L st h = a_run d MX0_pointAt 20 L (.int (nI 2) :: st) h := w_iconst dX0_pointAt_19 rfl
theorem w_X0_pointAt_20 (d : Nat) (L : a_L) (x : Int32) (h : a_H) : a_run d MX0_pointAt 20 L [.int x] h = some (.inl (some (.int x)), h) := w_iret dX0_pointAt_20 (w_retI rfl)
theorem w_X0_pointAt_21 (d : Nat) (L : a_L) (st : List Value) (h : a_H) : a_run d MX0_pointAt 21 L st h = a_run d MX0_pointAt 22 L (.int (nI 0) :: st) h := w_iconst dX0_pointAt_21 rfl
theorem w_X0_pointAt_22 (d : Nat) (L : a_L) (x : Int32) (h : a_H) : a_run d MX0_pointAt 22 L [.int x] h = some (.inl (some (.int x)), h) := w_iret dX0_pointAt_22 (w_retI rfl)
theorem e_X0_placeOf (d : Nat) (x0 : Nat) (x1 : Int32) (x2 : Nat) (h : a_H) : a_call (d + 1) MX0_placeOf [.ref x0, .int x1, .ref x2] h = a_run d MX0_placeOf 0 [some (.ref x0), some (.int x1), some (.ref x2), none] [] h := a_call_run rfl (Nat.le_of_ble_eq_true rfl) rfl
theorem w_X0_placeOf_0 (d : Nat) (a0 a1 a3 : Option Value) (x : Nat) (st : List Value) (h : a_H) : a_run d MX0_placeOf 0 [a0, a1, some (.ref x), a3] st h = a_run d MX0_placeOf 1 [a0, a1, some (.ref x), a3] (.ref x :: st) h := w_ldAn dX0_placeOf_0 rfl
theorem w_X0_placeOf_0N (d : Nat) (a0 a1 a3 : Option Value) (st : List Value) (h : a_H) : a_run d MX0_placeOf 0 [a0, a1, some .null, a3] st h = a_run d MX0_placeOf 1 [a0, a1, some .null, a3] (.null :: st) h := w_ldNn dX0_placeOf_0 rfl
theorem w_X0_placeOf_1 (d : Nat) (L : a_L) (st : List Value) (h : a_H) : a_run d MX0_placeOf 1 L st h = a_run d MX0_placeOf 2 L (.int (nI 0) :: st) h := w_iconst dX0_placeOf_1 rfl
theorem w_X0_placeOf_2 (d : Nat) (a1 a2 a3 : Option Value) (x : Nat) (st : List Value) (h : a_H) : a_run d MX0_placeOf 2 [some (.ref x), a1, a2, a3] st h = a_run d MX0_placeOf 3 [some (.ref x), a1, a2, a3] (.ref x :: st) h := w_ldAn dX0_placeOf_2 rfl
theorem w_X0_placeOf_3 (d : Nat) (a0 a2 a3 : Option Value) (x : Int32) (st : List Value) (h : a_H) : a_run d MX0_placeOf 3 [a0, some (.int x), a2, a3] st h = a_run d MX0_placeOf 4 [a0, some (.int x), a2, a3] (.int x :: st) h := w_ldIn dX0_placeOf_3 rfl
theorem w_X0_placeOf_4 (d : Nat) (L : a_L) (i : Nat) (v1 : Value) (st : List Value) (h : a_H) (hk : a_kls h i = some 0) (hc : a_cat st ≤ 8) : a_run d MX0_placeOf 4 L (v1 :: .ref i :: st) h = a_cont d MX0_placeOf (a_bk MX0_placeOf 4 L st (a_call d MX1_placeOf [.ref i, v1] h)) := w_callV (as := [.ref i, v1]) dX0_placeOf_4 rfl rfl rfl hc (a_rcv_of hk rfl)
theorem w_X0_placeOf_7 (d : Nat) (L : a_L) (x : Int32) (st : List Value) (h : a_H) : a_run d MX0_placeOf 7 L (.int x :: st) h = a_run d MX0_placeOf 8 L (.long x.toInt64 :: st) h := w_i2l dX0_placeOf_7
theorem w_X0_placeOf_8 (d : Nat) (L : a_L) (x : Int32) (y : Int64) (i : Nat) (st : List Value) (h : a_H) : a_run d MX0_placeOf 8 L (.long y :: .int x :: .ref i :: st) h = (a_wrl h i x y).bind fun h' => a_run d MX0_placeOf 9 L st h' := w_last dX0_placeOf_8
theorem w_X0_placeOf_9 (d : Nat) (L : a_L) (st : List Value) (h : a_H) : a_run d MX0_placeOf 9 L st h = a_run d MX0_placeOf 15 L st h := w_goto dX0_placeOf_9 rfl
theorem w_X0_placeOf_12 (d : Nat) (a0 a1 a2 a3 : Option Value) (x : Nat) (st : List Value) (h : a_H) : a_run d MX0_placeOf 12 [a0, a1, a2, a3] (.ref x :: st) h = a_run d MX0_placeOf 13 [a0, a1, a2, some (.ref x)] st h := w_stAn dX0_placeOf_12 (Nat.le_of_ble_eq_true rfl) rfl
theorem w_X0_placeOf_12N (d : Nat) (a0 a1 a2 a3 : Option Value) (st : List Value) (h : a_H) : a_run d MX0_placeOf 12 [a0, a1, a2, a3] (.null :: st) h = a_run d MX0_placeOf 13 [a0, a1, a2, some .null] st h := w_stNn dX0_placeOf_12 (Nat.le_of_ble_eq_true rfl) rfl
theorem w_X0_placeOf_13 (d : Nat) (L : a_L) (st : List Value) (h : a_H) : a_run d MX0_placeOf 13 L st h = a_run d MX0_placeOf 14 L (.int (nI 1) :: st) h := w_iconst dX0_placeOf_13 rfl
theorem w_X0_placeOf_14 (d : Nat) (L : a_L) (x : Int32) (h : a_H) : a_run d MX0_placeOf 14 L [.int x] h = some (.inl (some (.int x)), h) := w_iret dX0_placeOf_14 (w_retI rfl)
theorem w_X0_placeOf_15 (d : Nat) (L : a_L) (st : List Value) (h : a_H) : a_run d MX0_placeOf 15 L st h = a_run d MX0_placeOf 16 L (.int (nI 0) :: st) h := w_iconst dX0_placeOf_15 rfl
theorem w_X0_placeOf_16 (d : Nat) (L : a_L) (x : Int32) (h : a_H) : a_run d MX0_placeOf 16 L [.int x] h = some (.inl (some (.int x)), h) := w_iret dX0_placeOf_16 (w_retI rfl)
theorem e_X0_medianAbove (d : Nat) (x0 : Nat) (x1 : Int32) (x2 : Int32) (x3 : Nat) (h : a_H) : a_call (d + 1) MX0_medianAbove [.ref x0, .int x1, .int x2, .ref x3] h = a_run d MX0_medianAbove 0 [some (.ref x0), some (.int x1), some (.int x2), some (.ref x3), none] [] h := a_call_run rfl (Nat.le_of_ble_eq_true rfl) rfl
theorem w_X0_medianAbove_0 (d : Nat) (a0 a1 a2 a4 : Option Value) (x : Nat) (st : List Value) (h : a_H) : a_run d MX0_medianAbove 0 [a0, a1, a2, some (.ref x), a4] st h = a_run d MX0_medianAbove 1 [a0, a1, a2, some (.ref x), a4] (.ref x :: st) h := w_ldAn dX0_medianAbove_0 rfl
theorem w_X0_medianAbove_0N (d : Nat) (a0 a1 a2 a4 : Option Value) (st : List Value) (h : a_H) : a_run d MX0_medianAbove 0 [a0, a1, a2, some .null, a4] st h = a_run d MX0_medianAbove 1 [a0, a1, a2, some .null, a4] (.null :: st) h := w_ldNn dX0_medianAbove_0 rfl
theorem w_X0_medianAbove_1 (d : Nat) (L : a_L) (st : List Value) (h : a_H) : a_run d MX0_medianAbove 1 L st h = a_run d MX0_medianAbove 2 L (.int (nI 0) :: st) h := w_iconst dX0_medianAbove_1 rfl
theorem w_X0_medianAbove_2 (d : Nat) (a1 a2 a3 a4 : Option Value) (x : Nat) (st : List Value) (h : a_H) : a_run d MX0_medianAbove 2 [some (.ref x), a1, a2, a3, a4] st h = a_run d MX0_medianAbove 3 [some (.ref x), a1, a2, a3, a4] (.ref x :: st) h := w_ldAn dX0_medianAbove_2 rfl
theorem w_X0_medianAbove_3 (d : Nat) (a0 a2 a3 a4 : Option Value) (x : Int32) (st : List Value) (h : a_H) : a_run d MX0_medianAbove 3 [a0, some (.int x), a2, a3, a4] st h = a_run d MX0_medianAbove 4 [a0, some (.int x), a2, a3, a4] (.int x :: st) h := w_ldIn dX0_medianAbove_3 rfl
theorem w_X0_medianAbove_4 (d : Nat) (a0 a1 a3 a4 : Option Value) (x : Int32) (st : List Value) (h : a_H) : a_run d MX0_medianAbove 4 [a0, a1, some (.int x), a3, a4] st h = a_run d MX0_medianAbove 5 [a0, a1, some (.int x), a3, a4] (.int x :: st) h := w_ldIn dX0_medianAbove_4 rfl
theorem w_X0_medianAbove_5 (d : Nat) (L : a_L) (i : Nat) (v1 v2 : Value) (st : List Value) (h : a_H) (hk : a_kls h i = some 0) (hc : a_cat st ≤ 8) : a_run d MX0_medianAbove 5 L (v2 :: v1 :: .ref i :: st) h = a_cont d MX0_medianAbove (a_bk MX0_medianAbove 5 L st (a_call d MX1_medianAbove [.ref i, v1, v2] h)) := w_callV (as := [.ref i, v1, v2]) dX0_medianAbove_5 rfl rfl rfl hc (a_rcv_of hk rfl)
theorem w_X0_medianAbove_8 (d : Nat) (L : a_L) (x : Int32) (st : List Value) (h : a_H) : a_run d MX0_medianAbove 8 L (.int x :: st) h = a_run d MX0_medianAbove 9 L (.long x.toInt64 :: st) h := w_i2l dX0_medianAbove_8
theorem w_X0_medianAbove_9 (d : Nat) (L : a_L) (x : Int32) (y : Int64) (i : Nat) (st : List Value) (h : a_H) : a_run d MX0_medianAbove 9 L (.long y :: .int x :: .ref i :: st) h = (a_wrl h i x y).bind fun h' => a_run d MX0_medianAbove 10 L st h' := w_last dX0_medianAbove_9
theorem w_X0_medianAbove_10 (d : Nat) (L : a_L) (st : List Value) (h : a_H) : a_run d MX0_medianAbove 10 L st h = a_run d MX0_medianAbove 21 L st h := w_goto dX0_medianAbove_10 rfl
theorem w_X0_medianAbove_13 (d : Nat) (a0 a1 a2 a3 a4 : Option Value) (x : Nat) (st : List Value) (h : a_H) : a_run d MX0_medianAbove 13 [a0, a1, a2, a3, a4] (.ref x :: st) h = a_run d MX0_medianAbove 15 [a0, a1, a2, a3, some (.ref x)] st h := w_stA dX0_medianAbove_13 (Nat.le_of_ble_eq_true rfl) rfl
theorem w_X0_medianAbove_13N (d : Nat) (a0 a1 a2 a3 a4 : Option Value) (st : List Value) (h : a_H) : a_run d MX0_medianAbove 13 [a0, a1, a2, a3, a4] (.null :: st) h = a_run d MX0_medianAbove 15 [a0, a1, a2, a3, some .null] st h := w_stN dX0_medianAbove_13 (Nat.le_of_ble_eq_true rfl) rfl
theorem w_X0_medianAbove_15 (d : Nat) (L : a_L) (st : List Value) (h : a_H) : a_run d MX0_medianAbove 15 L st h = a_run d MX0_medianAbove 16 L (.int (nI 1) :: st) h := w_iconst dX0_medianAbove_15 rfl
theorem w_X0_medianAbove_16 (d : Nat) (L : a_L) (x : Int32) (h : a_H) : a_run d MX0_medianAbove 16 L [.int x] h = some (.inl (some (.int x)), h) := w_iret dX0_medianAbove_16 (w_retI rfl)
theorem w_X0_medianAbove_17 (d : Nat) (a0 a1 a2 a3 a4 : Option Value) (x : Nat) (st : List Value) (h : a_H) : a_run d MX0_medianAbove 17 [a0, a1, a2, a3, a4] (.ref x :: st) h = a_run d MX0_medianAbove 19 [a0, a1, a2, a3, some (.ref x)] st h := w_stA dX0_medianAbove_17 (Nat.le_of_ble_eq_true rfl) rfl
theorem w_X0_medianAbove_17N (d : Nat) (a0 a1 a2 a3 a4 : Option Value) (st : List Value) (h : a_H) : a_run d MX0_medianAbove 17 [a0, a1, a2, a3, a4] (.null :: st) h = a_run d MX0_medianAbove 19 [a0, a1, a2, a3, some .null] st h := w_stN dX0_medianAbove_17 (Nat.le_of_ble_eq_true rfl) rfl
theorem w_X0_medianAbove_19 (d : Nat) (L : a_L) (st : List Value) (h : a_H) : a_run d MX0_medianAbove 19 L st h = a_run d MX0_medianAbove 20 L (.int (nI 2) :: st) h := w_iconst dX0_medianAbove_19 rfl
theorem w_X0_medianAbove_20 (d : Nat) (L : a_L) (x : Int32) (h : a_H) : a_run d MX0_medianAbove 20 L [.int x] h = some (.inl (some (.int x)), h) := w_iret dX0_medianAbove_20 (w_retI rfl)
theorem w_X0_medianAbove_21 (d : Nat) (L : a_L) (st : List Value) (h : a_H) : a_run d MX0_medianAbove 21 L st h = a_run d MX0_medianAbove 22 L (.int (nI 0) :: st) h := w_iconst dX0_medianAbove_21 rfl
theorem w_X0_medianAbove_22 (d : Nat) (L : a_L) (x : Int32) (h : a_H) : a_run d MX0_medianAbove 22 L [.int x] h = some (.inl (some (.int x)), h) := w_iret dX0_medianAbove_22 (w_retI rfl)
theorem e_X0_medianBelow (d : Nat) (x0 : Nat) (x1 : Int32) (x2 : Int32) (x3 : Nat) (h : a_H) : a_call (d + 1) MX0_medianBelow [.ref x0, .int x1, .int x2, .ref x3] h = a_run d MX0_medianBelow 0 [some (.ref x0), some (.int x1), some (.int x2), some (.ref x3), none] [] h := a_call_run rfl (Nat.le_of_ble_eq_true rfl) rfl
theorem w_X0_medianBelow_0 (d : Nat) (a0 a1 a2 a4 : Option Value) (x : Nat) (st : List Value) (h : a_H) : a_run d MX0_medianBelow 0 [a0, a1, a2, some (.ref x), a4] st h = a_run d MX0_medianBelow 1 [a0, a1, a2, some (.ref x), a4] (.ref x :: st) h := w_ldAn dX0_medianBelow_0 rfl
theorem w_X0_medianBelow_0N (d : Nat) (a0 a1 a2 a4 : Option Value) (st : List Value) (h : a_H) : a_run d MX0_medianBelow 0 [a0, a1, a2, some .null, a4] st h = a_run d MX0_medianBelow 1 [a0, a1, a2, some .null, a4] (.null :: st) h := w_ldNn dX0_medianBelow_0 rfl
theorem w_X0_medianBelow_1 (d : Nat) (L : a_L) (st : List Value) (h : a_H) : a_run d MX0_medianBelow 1 L st h = a_run d MX0_medianBelow 2 L (.int (nI 0) :: st) h := w_iconst dX0_medianBelow_1 rfl
theorem w_X0_medianBelow_2 (d : Nat) (a1 a2 a3 a4 : Option Value) (x : Nat) (st : List Value) (h : a_H) : a_run d MX0_medianBelow 2 [some (.ref x), a1, a2, a3, a4] st h = a_run d MX0_medianBelow 3 [some (.ref x), a1, a2, a3, a4] (.ref x :: st) h := w_ldAn dX0_medianBelow_2 rfl
theorem w_X0_medianBelow_3 (d : Nat) (a0 a2 a3 a4 : Option Value) (x : Int32) (st : List Value) (h : a_H) : a_run d MX0_medianBelow 3 [a0, some (.int x), a2, a3, a4] st h = a_run d MX0_medianBelow 4 [a0, some (.int x), a2, a3, a4] (.int x :: st) h := w_ldIn dX0_medianBelow_3 rfl
theorem w_X0_medianBelow_4 (d : Nat) (a0 a1 a3 a4 : Option Value) (x : Int32) (st : List Value) (h : a_H) : a_run d MX0_medianBelow 4 [a0, a1, some (.int x), a3, a4] st h = a_run d MX0_medianBelow 5 [a0, a1, some (.int x), a3, a4] (.int x :: st) h := w_ldIn dX0_medianBelow_4 rfl
theorem w_X0_medianBelow_5 (d : Nat) (L : a_L) (i : Nat) (v1 v2 : Value) (st : List Value) (h : a_H) (hk : a_kls h i = some 0) (hc : a_cat st ≤ 8) : a_run d MX0_medianBelow 5 L (v2 :: v1 :: .ref i :: st) h = a_cont d MX0_medianBelow (a_bk MX0_medianBelow 5 L st (a_call d MX1_medianBelow [.ref i, v1, v2] h)) := w_callV (as := [.ref i, v1, v2]) dX0_medianBelow_5 rfl rfl rfl hc (a_rcv_of hk rfl)
theorem w_X0_medianBelow_8 (d : Nat) (L : a_L) (x : Int32) (st : List Value) (h : a_H) : a_run d MX0_medianBelow 8 L (.int x :: st) h = a_run d MX0_medianBelow 9 L (.long x.toInt64 :: st) h := w_i2l dX0_medianBelow_8
theorem w_X0_medianBelow_9 (d : Nat) (L : a_L) (x : Int32) (y : Int64) (i : Nat) (st : List Value) (h : a_H) : a_run d MX0_medianBelow 9 L (.long y :: .int x :: .ref i :: st) h = (a_wrl h i x y).bind fun h' => a_run d MX0_medianBelow 10 L st h' := w_last dX0_medianBelow_9
theorem w_X0_medianBelow_10 (d : Nat) (L : a_L) (st : List Value) (h : a_H) : a_run d MX0_medianBelow 10 L st h = a_run d MX0_medianBelow 21 L st h := w_goto dX0_medianBelow_10 rfl
theorem w_X0_medianBelow_13 (d : Nat) (a0 a1 a2 a3 a4 : Option Value) (x : Nat) (st : List Value) (h : a_H) : a_run d MX0_medianBelow 13 [a0, a1, a2, a3, a4] (.ref x :: st) h = a_run d MX0_medianBelow 15 [a0, a1, a2, a3, some (.ref x)] st h := w_stA dX0_medianBelow_13 (Nat.le_of_ble_eq_true rfl) rfl
theorem w_X0_medianBelow_13N (d : Nat) (a0 a1 a2 a3 a4 : Option Value) (st : List Value) (h : a_H) : a_run d MX0_medianBelow 13 [a0, a1, a2, a3, a4] (.null :: st) h = a_run d MX0_medianBelow 15 [a0, a1, a2, a3, some .null] st h := w_stN dX0_medianBelow_13 (Nat.le_of_ble_eq_true rfl) rfl
theorem w_X0_medianBelow_15 (d : Nat) (L : a_L) (st : List Value) (h : a_H) : a_run d MX0_medianBelow 15 L st h = a_run d MX0_medianBelow 16 L (.int (nI 1) :: st) h := w_iconst dX0_medianBelow_15 rfl
theorem w_X0_medianBelow_16 (d : Nat) (L : a_L) (x : Int32) (h : a_H) : a_run d MX0_medianBelow 16 L [.int x] h = some (.inl (some (.int x)), h) := w_iret dX0_medianBelow_16 (w_retI rfl)
theorem w_X0_medianBelow_17 (d : Nat) (a0 a1 a2 a3 a4 : Option Value) (x : Nat) (st : List Value) (h : a_H) : a_run d MX0_medianBelow 17 [a0, a1, a2, a3, a4] (.ref x :: st) h = a_run d MX0_medianBelow 19 [a0, a1, a2, a3, some (.ref x)] st h := w_stA dX0_medianBelow_17 (Nat.le_of_ble_eq_true rfl) rfl
theorem w_X0_medianBelow_17N (d : Nat) (a0 a1 a2 a3 a4 : Option Value) (st : List Value) (h : a_H) : a_run d MX0_medianBelow 17 [a0, a1, a2, a3, a4] (.null :: st) h = a_run d MX0_medianBelow 19 [a0, a1, a2, a3, some .null] st h := w_stN dX0_medianBelow_17 (Nat.le_of_ble_eq_true rfl) rfl
theorem w_X0_medianBelow_19 (d : Nat) (L : a_L) (st : List Value) (h : a_H) : a_run d MX0_medianBelow 19 L st h = a_run d MX0_medianBelow 20 L (.int (nI 2) :: st) h := w_iconst dX0_medianBelow_19 rfl
theorem w_X0_medianBelow_20 (d : Nat) (L : a_L) (x : Int32) (h : a_H) : a_run d MX0_medianBelow 20 L [.int x] h = some (.inl (some (.int x)), h) := w_iret dX0_medianBelow_20 (w_retI rfl)
theorem w_X0_medianBelow_21 (d : Nat) (L : a_L) (st : List Value) (h : a_H) : a_run d MX0_medianBelow 21 L st h = a_run d MX0_medianBelow 22 L (.int (nI 0) :: st) h := w_iconst dX0_medianBelow_21 rfl
theorem w_X0_medianBelow_22 (d : Nat) (L : a_L) (x : Int32) (h : a_H) : a_run d MX0_medianBelow 22 L [.int x] h = some (.inl (some (.int x)), h) := w_iret dX0_medianBelow_22 (w_retI rfl)
theorem e_X0_crowdedLayer (d : Nat) (x0 : Nat) (x1 : Nat) (h : a_H) : a_call (d + 1) MX0_crowdedLayer [.ref x0, .ref x1] h = a_run d MX0_crowdedLayer 0 [some (.ref x0), some (.ref x1), none] [] h := a_call_run rfl (Nat.le_of_ble_eq_true rfl) rfl
theorem w_X0_crowdedLayer_0 (d : Nat) (a0 a2 : Option Value) (x : Nat) (st : List Value) (h : a_H) : a_run d MX0_crowdedLayer 0 [a0, some (.ref x), a2] st h = a_run d MX0_crowdedLayer 1 [a0, some (.ref x), a2] (.ref x :: st) h := w_ldAn dX0_crowdedLayer_0 rfl
theorem w_X0_crowdedLayer_0N (d : Nat) (a0 a2 : Option Value) (st : List Value) (h : a_H) : a_run d MX0_crowdedLayer 0 [a0, some .null, a2] st h = a_run d MX0_crowdedLayer 1 [a0, some .null, a2] (.null :: st) h := w_ldNn dX0_crowdedLayer_0 rfl
theorem w_X0_crowdedLayer_1 (d : Nat) (L : a_L) (st : List Value) (h : a_H) : a_run d MX0_crowdedLayer 1 L st h = a_run d MX0_crowdedLayer 2 L (.int (nI 0) :: st) h := w_iconst dX0_crowdedLayer_1 rfl
theorem w_X0_crowdedLayer_2 (d : Nat) (a1 a2 : Option Value) (x : Nat) (st : List Value) (h : a_H) : a_run d MX0_crowdedLayer 2 [some (.ref x), a1, a2] st h = a_run d MX0_crowdedLayer 3 [some (.ref x), a1, a2] (.ref x :: st) h := w_ldAn dX0_crowdedLayer_2 rfl
theorem w_X0_crowdedLayer_3 (d : Nat) (L : a_L) (i : Nat) (st : List Value) (h : a_H) (hk : a_kls h i = some 0) (hc : a_cat st ≤ 8) : a_run d MX0_crowdedLayer 3 L (.ref i :: st) h = a_cont d MX0_crowdedLayer (a_bk MX0_crowdedLayer 3 L st (a_call d MX1_crowdedLayer [.ref i] h)) := w_callV (as := [.ref i]) dX0_crowdedLayer_3 rfl rfl rfl hc (a_rcv_of hk rfl)
theorem w_X0_crowdedLayer_6 (d : Nat) (L : a_L) (x : Int32) (st : List Value) (h : a_H) : a_run d MX0_crowdedLayer 6 L (.int x :: st) h = a_run d MX0_crowdedLayer 7 L (.long x.toInt64 :: st) h := w_i2l dX0_crowdedLayer_6
theorem w_X0_crowdedLayer_7 (d : Nat) (L : a_L) (x : Int32) (y : Int64) (i : Nat) (st : List Value) (h : a_H) : a_run d MX0_crowdedLayer 7 L (.long y :: .int x :: .ref i :: st) h = (a_wrl h i x y).bind fun h' => a_run d MX0_crowdedLayer 8 L st h' := w_last dX0_crowdedLayer_7
theorem w_X0_crowdedLayer_8 (d : Nat) (L : a_L) (st : List Value) (h : a_H) : a_run d MX0_crowdedLayer 8 L st h = a_run d MX0_crowdedLayer 14 L st h := w_goto dX0_crowdedLayer_8 rfl
theorem w_X0_crowdedLayer_11 (d : Nat) (a0 a1 a2 : Option Value) (x : Nat) (st : List Value) (h : a_H) : a_run d MX0_crowdedLayer 11 [a0, a1, a2] (.ref x :: st) h = a_run d MX0_crowdedLayer 12 [a0, a1, some (.ref x)] st h := w_stAn dX0_crowdedLayer_11 (Nat.le_of_ble_eq_true rfl) rfl
theorem w_X0_crowdedLayer_11N (d : Nat) (a0 a1 a2 : Option Value) (st : List Value) (h : a_H) : a_run d MX0_crowdedLayer 11 [a0, a1, a2] (.null :: st) h = a_run d MX0_crowdedLayer 12 [a0, a1, some .null] st h := w_stNn dX0_crowdedLayer_11 (Nat.le_of_ble_eq_true rfl) rfl
theorem w_X0_crowdedLayer_12 (d : Nat) (L : a_L) (st : List Value) (h : a_H) : a_run d MX0_crowdedLayer 12 L st h = a_run d MX0_crowdedLayer 13 L (.int (nI 1) :: st) h := w_iconst dX0_crowdedLayer_12 rfl
theorem w_X0_crowdedLayer_13 (d : Nat) (L : a_L) (x : Int32) (h : a_H) : a_run d MX0_crowdedLayer 13 L [.int x] h = some (.inl (some (.int x)), h) := w_iret dX0_crowdedLayer_13 (w_retI rfl)
theorem w_X0_crowdedLayer_14 (d : Nat) (L : a_L) (st : List Value) (h : a_H) : a_run d MX0_crowdedLayer 14 L st h = a_run d MX0_crowdedLayer 15 L (.int (nI 0) :: st) h := w_iconst dX0_crowdedLayer_14 rfl
theorem w_X0_crowdedLayer_15 (d : Nat) (L : a_L) (x : Int32) (h : a_H) : a_run d MX0_crowdedLayer 15 L [.int x] h = some (.inl (some (.int x)), h) := w_iret dX0_crowdedLayer_15 (w_retI rfl)
theorem e_X0_crossingsBelow (d : Nat) (x0 : Nat) (x1 : Int32) (x2 : Nat) (h : a_H) : a_call (d + 1) MX0_crossingsBelow [.ref x0, .int x1, .ref x2] h = a_run d MX0_crossingsBelow 0 [some (.ref x0), some (.int x1), some (.ref x2), none] [] h := a_call_run rfl (Nat.le_of_ble_eq_true rfl) rfl
theorem w_X0_crossingsBelow_0 (d : Nat) (a0 a1 a3 : Option Value) (x : Nat) (st : List Value) (h : a_H) : a_run d MX0_crossingsBelow 0 [a0, a1, some (.ref x), a3] st h = a_run d MX0_crossingsBelow 1 [a0, a1, some (.ref x), a3] (.ref x :: st) h := w_ldAn dX0_crossingsBelow_0 rfl
theorem w_X0_crossingsBelow_0N (d : Nat) (a0 a1 a3 : Option Value) (st : List Value) (h : a_H) : a_run d MX0_crossingsBelow 0 [a0, a1, some .null, a3] st h = a_run d MX0_crossingsBelow 1 [a0, a1, some .null, a3] (.null :: st) h := w_ldNn dX0_crossingsBelow_0 rfl
theorem w_X0_crossingsBelow_1 (d : Nat) (L : a_L) (st : List Value) (h : a_H) : a_run d MX0_crossingsBelow 1 L st h = a_run d MX0_crossingsBelow 2 L (.int (nI 0) :: st) h := w_iconst dX0_crossingsBelow_1 rfl
theorem w_X0_crossingsBelow_2 (d : Nat) (a1 a2 a3 : Option Value) (x : Nat) (st : List Value) (h : a_H) : a_run d MX0_crossingsBelow 2 [some (.ref x), a1, a2, a3] st h = a_run d MX0_crossingsBelow 3 [some (.ref x), a1, a2, a3] (.ref x :: st) h := w_ldAn dX0_crossingsBelow_2 rfl
theorem w_X0_crossingsBelow_3 (d : Nat) (a0 a2 a3 : Option Value) (x : Int32) (st : List Value) (h : a_H) : a_run d MX0_crossingsBelow 3 [a0, some (.int x), a2, a3] st h = a_run d MX0_crossingsBelow 4 [a0, some (.int x), a2, a3] (.int x :: st) h := w_ldIn dX0_crossingsBelow_3 rfl
theorem w_X0_crossingsBelow_4 (d : Nat) (L : a_L) (i : Nat) (v1 : Value) (st : List Value) (h : a_H) (hk : a_kls h i = some 0) (hc : a_cat st ≤ 8) : a_run d MX0_crossingsBelow 4 L (v1 :: .ref i :: st) h = a_cont d MX0_crossingsBelow (a_bk MX0_crossingsBelow 4 L st (a_call d MX1_crossingsBelow [.ref i, v1] h)) := w_callV (as := [.ref i, v1]) dX0_crossingsBelow_4 rfl rfl rfl hc (a_rcv_of hk rfl)
theorem w_X0_crossingsBelow_7 (d : Nat) (L : a_L) (x : Int32) (st : List Value) (h : a_H) : a_run d MX0_crossingsBelow 7 L (.int x :: st) h = a_run d MX0_crossingsBelow 8 L (.long x.toInt64 :: st) h := w_i2l dX0_crossingsBelow_7
theorem w_X0_crossingsBelow_8 (d : Nat) (L : a_L) (x : Int32) (y : Int64) (i : Nat) (st : List Value) (h : a_H) : a_run d MX0_crossingsBelow 8 L (.long y :: .int x :: .ref i :: st) h = (a_wrl h i x y).bind fun h' => a_run d MX0_crossingsBelow 9 L st h' := w_last dX0_crossingsBelow_8
theorem w_X0_crossingsBelow_9 (d : Nat) (L : a_L) (st : List Value) (h : a_H) : a_run d MX0_crossingsBelow 9 L st h = a_run d MX0_crossingsBelow 15 L st h := w_goto dX0_crossingsBelow_9 rfl
theorem w_X0_crossingsBelow_12 (d : Nat) (a0 a1 a2 a3 : Option Value) (x : Nat) (st : List Value) (h : a_H) : a_run d MX0_crossingsBelow 12 [a0, a1, a2, a3] (.ref x :: st) h = a_run d MX0_crossingsBelow 13 [a0, a1, a2, some (.ref x)] st h := w_stAn dX0_crossingsBelow_12 (Nat.le_of_ble_eq_true rfl) rfl
theorem w_X0_crossingsBelow_12N (d : Nat) (a0 a1 a2 a3 : Option Value) (st : List Value) (h : a_H) : a_run d MX0_crossingsBelow 12 [a0, a1, a2, a3] (.null :: st) h = a_run d MX0_crossingsBelow 13 [a0, a1, a2, some .null] st h := w_stNn dX0_crossingsBelow_12 (Nat.le_of_ble_eq_true rfl) rfl
theorem w_X0_crossingsBelow_13 (d : Nat) (L : a_L) (st : List Value) (h : a_H) : a_run d MX0_crossingsBelow 13 L st h = a_run d MX0_crossingsBelow 14 L (.int (nI 1) :: st) h := w_iconst dX0_crossingsBelow_13 rfl
theorem w_X0_crossingsBelow_14 (d : Nat) (L : a_L) (x : Int32) (h : a_H) : a_run d MX0_crossingsBelow 14 L [.int x] h = some (.inl (some (.int x)), h) := w_iret dX0_crossingsBelow_14 (w_retI rfl)
theorem w_X0_crossingsBelow_15 (d : Nat) (L : a_L) (st : List Value) (h : a_H) : a_run d MX0_crossingsBelow 15 L st h = a_run d MX0_crossingsBelow 16 L (.int (nI 0) :: st) h := w_iconst dX0_crossingsBelow_15 rfl
theorem w_X0_crossingsBelow_16 (d : Nat) (L : a_L) (x : Int32) (h : a_H) : a_run d MX0_crossingsBelow 16 L [.int x] h = some (.inl (some (.int x)), h) := w_iret dX0_crossingsBelow_16 (w_retI rfl)
theorem e_X0_crossingsOf (d : Nat) (x0 : Nat) (x1 : Int32) (x2 : Nat) (h : a_H) : a_call (d + 1) MX0_crossingsOf [.ref x0, .int x1, .ref x2] h = a_run d MX0_crossingsOf 0 [some (.ref x0), some (.int x1), some (.ref x2), none] [] h := a_call_run rfl (Nat.le_of_ble_eq_true rfl) rfl
theorem w_X0_crossingsOf_0 (d : Nat) (a0 a1 a3 : Option Value) (x : Nat) (st : List Value) (h : a_H) : a_run d MX0_crossingsOf 0 [a0, a1, some (.ref x), a3] st h = a_run d MX0_crossingsOf 1 [a0, a1, some (.ref x), a3] (.ref x :: st) h := w_ldAn dX0_crossingsOf_0 rfl
theorem w_X0_crossingsOf_0N (d : Nat) (a0 a1 a3 : Option Value) (st : List Value) (h : a_H) : a_run d MX0_crossingsOf 0 [a0, a1, some .null, a3] st h = a_run d MX0_crossingsOf 1 [a0, a1, some .null, a3] (.null :: st) h := w_ldNn dX0_crossingsOf_0 rfl
theorem w_X0_crossingsOf_1 (d : Nat) (L : a_L) (st : List Value) (h : a_H) : a_run d MX0_crossingsOf 1 L st h = a_run d MX0_crossingsOf 2 L (.int (nI 0) :: st) h := w_iconst dX0_crossingsOf_1 rfl
theorem w_X0_crossingsOf_2 (d : Nat) (a1 a2 a3 : Option Value) (x : Nat) (st : List Value) (h : a_H) : a_run d MX0_crossingsOf 2 [some (.ref x), a1, a2, a3] st h = a_run d MX0_crossingsOf 3 [some (.ref x), a1, a2, a3] (.ref x :: st) h := w_ldAn dX0_crossingsOf_2 rfl
theorem w_X0_crossingsOf_3 (d : Nat) (a0 a2 a3 : Option Value) (x : Int32) (st : List Value) (h : a_H) : a_run d MX0_crossingsOf 3 [a0, some (.int x), a2, a3] st h = a_run d MX0_crossingsOf 4 [a0, some (.int x), a2, a3] (.int x :: st) h := w_ldIn dX0_crossingsOf_3 rfl
theorem w_X0_crossingsOf_4 (d : Nat) (L : a_L) (i : Nat) (v1 : Value) (st : List Value) (h : a_H) (hk : a_kls h i = some 0) (hc : a_cat st ≤ 8) : a_run d MX0_crossingsOf 4 L (v1 :: .ref i :: st) h = a_cont d MX0_crossingsOf (a_bk MX0_crossingsOf 4 L st (a_call d MX1_crossingsOf [.ref i, v1] h)) := w_callV (as := [.ref i, v1]) dX0_crossingsOf_4 rfl rfl rfl hc (a_rcv_of hk rfl)
theorem w_X0_crossingsOf_7 (d : Nat) (L : a_L) (x : Int32) (st : List Value) (h : a_H) : a_run d MX0_crossingsOf 7 L (.int x :: st) h = a_run d MX0_crossingsOf 8 L (.long x.toInt64 :: st) h := w_i2l dX0_crossingsOf_7
theorem w_X0_crossingsOf_8 (d : Nat) (L : a_L) (x : Int32) (y : Int64) (i : Nat) (st : List Value) (h : a_H) : a_run d MX0_crossingsOf 8 L (.long y :: .int x :: .ref i :: st) h = (a_wrl h i x y).bind fun h' => a_run d MX0_crossingsOf 9 L st h' := w_last dX0_crossingsOf_8
theorem w_X0_crossingsOf_9 (d : Nat) (L : a_L) (st : List Value) (h : a_H) : a_run d MX0_crossingsOf 9 L st h = a_run d MX0_crossingsOf 15 L st h := w_goto dX0_crossingsOf_9 rfl
theorem w_X0_crossingsOf_12 (d : Nat) (a0 a1 a2 a3 : Option Value) (x : Nat) (st : List Value) (h : a_H) : a_run d MX0_crossingsOf 12 [a0, a1, a2, a3] (.ref x :: st) h = a_run d MX0_crossingsOf 13 [a0, a1, a2, some (.ref x)] st h := w_stAn dX0_crossingsOf_12 (Nat.le_of_ble_eq_true rfl) rfl
theorem w_X0_crossingsOf_12N (d : Nat) (a0 a1 a2 a3 : Option Value) (st : List Value) (h : a_H) : a_run d MX0_crossingsOf 12 [a0, a1, a2, a3] (.null :: st) h = a_run d MX0_crossingsOf 13 [a0, a1, a2, some .null] st h := w_stNn dX0_crossingsOf_12 (Nat.le_of_ble_eq_true rfl) rfl
theorem w_X0_crossingsOf_13 (d : Nat) (L : a_L) (st : List Value) (h : a_H) : a_run d MX0_crossingsOf 13 L st h = a_run d MX0_crossingsOf 14 L (.int (nI 1) :: st) h := w_iconst dX0_crossingsOf_13 rfl
theorem w_X0_crossingsOf_14 (d : Nat) (L : a_L) (x : Int32) (h : a_H) : a_run d MX0_crossingsOf 14 L [.int x] h = some (.inl (some (.int x)), h) := w_iret dX0_crossingsOf_14 (w_retI rfl)
theorem w_X0_crossingsOf_15 (d : Nat) (L : a_L) (st : List Value) (h : a_H) : a_run d MX0_crossingsOf 15 L st h = a_run d MX0_crossingsOf 16 L (.int (nI 0) :: st) h := w_iconst dX0_crossingsOf_15 rfl
theorem w_X0_crossingsOf_16 (d : Nat) (L : a_L) (x : Int32) (h : a_H) : a_run d MX0_crossingsOf 16 L [.int x] h = some (.inl (some (.int x)), h) := w_iret dX0_crossingsOf_16 (w_retI rfl)
theorem e_X0_columnAt (d : Nat) (x0 : Nat) (x1 : Int32) (x2 : Int32) (x3 : Nat) (h : a_H) : a_call (d + 1) MX0_columnAt [.ref x0, .int x1, .int x2, .ref x3] h = a_run d MX0_columnAt 0 [some (.ref x0), some (.int x1), some (.int x2), some (.ref x3), none] [] h := a_call_run rfl (Nat.le_of_ble_eq_true rfl) rfl
theorem w_X0_columnAt_0 (d : Nat) (a0 a1 a2 a4 : Option Value) (x : Nat) (st : List Value) (h : a_H) : a_run d MX0_columnAt 0 [a0, a1, a2, some (.ref x), a4] st h = a_run d MX0_columnAt 1 [a0, a1, a2, some (.ref x), a4] (.ref x :: st) h := w_ldAn dX0_columnAt_0 rfl
theorem w_X0_columnAt_0N (d : Nat) (a0 a1 a2 a4 : Option Value) (st : List Value) (h : a_H) : a_run d MX0_columnAt 0 [a0, a1, a2, some .null, a4] st h = a_run d MX0_columnAt 1 [a0, a1, a2, some .null, a4] (.null :: st) h := w_ldNn dX0_columnAt_0 rfl
theorem w_X0_columnAt_1 (d : Nat) (L : a_L) (st : List Value) (h : a_H) : a_run d MX0_columnAt 1 L st h = a_run d MX0_columnAt 2 L (.int (nI 0) :: st) h := w_iconst dX0_columnAt_1 rfl
theorem w_X0_columnAt_2 (d : Nat) (a1 a2 a3 a4 : Option Value) (x : Nat) (st : List Value) (h : a_H) : a_run d MX0_columnAt 2 [some (.ref x), a1, a2, a3, a4] st h = a_run d MX0_columnAt 3 [some (.ref x), a1, a2, a3, a4] (.ref x :: st) h := w_ldAn dX0_columnAt_2 rfl
theorem w_X0_columnAt_3 (d : Nat) (a0 a2 a3 a4 : Option Value) (x : Int32) (st : List Value) (h : a_H) : a_run d MX0_columnAt 3 [a0, some (.int x), a2, a3, a4] st h = a_run d MX0_columnAt 4 [a0, some (.int x), a2, a3, a4] (.int x :: st) h := w_ldIn dX0_columnAt_3 rfl
theorem w_X0_columnAt_4 (d : Nat) (a0 a1 a3 a4 : Option Value) (x : Int32) (st : List Value) (h : a_H) : a_run d MX0_columnAt 4 [a0, a1, some (.int x), a3, a4] st h = a_run d MX0_columnAt 5 [a0, a1, some (.int x), a3, a4] (.int x :: st) h := w_ldIn dX0_columnAt_4 rfl
theorem w_X0_columnAt_5 (d : Nat) (L : a_L) (i : Nat) (v1 v2 : Value) (st : List Value) (h : a_H) (hk : a_kls h i = some 0) (hc : a_cat st ≤ 8) : a_run d MX0_columnAt 5 L (v2 :: v1 :: .ref i :: st) h = a_cont d MX0_columnAt (a_bk MX0_columnAt 5 L st (a_call d MX1_columnAt [.ref i, v1, v2] h)) := w_callV (as := [.ref i, v1, v2]) dX0_columnAt_5 rfl rfl rfl hc (a_rcv_of hk rfl)
theorem w_X0_columnAt_8 (d : Nat) (L : a_L) (x : Int32) (st : List Value) (h : a_H) : a_run d MX0_columnAt 8 L (.int x :: st) h = a_run d MX0_columnAt 9 L (.long x.toInt64 :: st) h := w_i2l dX0_columnAt_8
theorem w_X0_columnAt_9 (d : Nat) (L : a_L) (x : Int32) (y : Int64) (i : Nat) (st : List Value) (h : a_H) : a_run d MX0_columnAt 9 L (.long y :: .int x :: .ref i :: st) h = (a_wrl h i x y).bind fun h' => a_run d MX0_columnAt 10 L st h' := w_last dX0_columnAt_9
theorem w_X0_columnAt_10 (d : Nat) (L : a_L) (st : List Value) (h : a_H) : a_run d MX0_columnAt 10 L st h = a_run d MX0_columnAt 21 L st h := w_goto dX0_columnAt_10 rfl
theorem w_X0_columnAt_13 (d : Nat) (a0 a1 a2 a3 a4 : Option Value) (x : Nat) (st : List Value) (h : a_H) : a_run d MX0_columnAt 13 [a0, a1, a2, a3, a4] (.ref x :: st) h = a_run d MX0_columnAt 15 [a0, a1, a2, a3, some (.ref x)] st h := w_stA dX0_columnAt_13 (Nat.le_of_ble_eq_true rfl) rfl
theorem w_X0_columnAt_13N (d : Nat) (a0 a1 a2 a3 a4 : Option Value) (st : List Value) (h : a_H) : a_run d MX0_columnAt 13 [a0, a1, a2, a3, a4] (.null :: st) h = a_run d MX0_columnAt 15 [a0, a1, a2, a3, some .null] st h := w_stN dX0_columnAt_13 (Nat.le_of_ble_eq_true rfl) rfl
theorem w_X0_columnAt_15 (d : Nat) (L : a_L) (st : List Value) (h : a_H) : a_run d MX0_columnAt 15 L st h = a_run d MX0_columnAt 16 L (.int (nI 1) :: st) h := w_iconst dX0_columnAt_15 rfl
theorem w_X0_columnAt_16 (d : Nat) (L : a_L) (x : Int32) (h : a_H) : a_run d MX0_columnAt 16 L [.int x] h = some (.inl (some (.int x)), h) := w_iret dX0_columnAt_16 (w_retI rfl)
theorem w_X0_columnAt_17 (d : Nat) (a0 a1 a2 a3 a4 : Option Value) (x : Nat) (st : List Value) (h : a_H) : a_run d MX0_columnAt 17 [a0, a1, a2, a3, a4] (.ref x :: st) h = a_run d MX0_columnAt 19 [a0, a1, a2, a3, some (.ref x)] st h := w_stA dX0_columnAt_17 (Nat.le_of_ble_eq_true rfl) rfl
theorem w_X0_columnAt_17N (d : Nat) (a0 a1 a2 a3 a4 : Option Value) (st : List Value) (h : a_H) : a_run d MX0_columnAt 17 [a0, a1, a2, a3, a4] (.null :: st) h = a_run d MX0_columnAt 19 [a0, a1, a2, a3, some .null] st h := w_stN dX0_columnAt_17 (Nat.le_of_ble_eq_true rfl) rfl
theorem w_X0_columnAt_19 (d : Nat) (L : a_L) (st : List Value) (h : a_H) : a_run d MX0_columnAt 19 L st h = a_run d MX0_columnAt 20 L (.int (nI 2) :: st) h := w_iconst dX0_columnAt_19 rfl
theorem w_X0_columnAt_20 (d : Nat) (L : a_L) (x : Int32) (h : a_H) : a_run d MX0_columnAt 20 L [.int x] h = some (.inl (some (.int x)), h) := w_iret dX0_columnAt_20 (w_retI rfl)
theorem w_X0_columnAt_21 (d : Nat) (L : a_L) (st : List Value) (h : a_H) : a_run d MX0_columnAt 21 L st h = a_run d MX0_columnAt 22 L (.int (nI 0) :: st) h := w_iconst dX0_columnAt_21 rfl
theorem w_X0_columnAt_22 (d : Nat) (L : a_L) (x : Int32) (h : a_H) : a_run d MX0_columnAt 22 L [.int x] h = some (.inl (some (.int x)), h) := w_iret dX0_columnAt_22 (w_retI rfl)
theorem e_X0_bendsOf (d : Nat) (x0 : Nat) (x1 : Int32) (x2 : Nat) (h : a_H) : a_call (d + 1) MX0_bendsOf [.ref x0, .int x1, .ref x2] h = a_run d MX0_bendsOf 0 [some (.ref x0), some (.int x1), some (.ref x2), none] [] h := a_call_run rfl (Nat.le_of_ble_eq_true rfl) rfl
theorem w_X0_bendsOf_0 (d : Nat) (a0 a1 a3 : Option Value) (x : Nat) (st : List Value) (h : a_H) : a_run d MX0_bendsOf 0 [a0, a1, some (.ref x), a3] st h = a_run d MX0_bendsOf 1 [a0, a1, some (.ref x), a3] (.ref x :: st) h := w_ldAn dX0_bendsOf_0 rfl
theorem w_X0_bendsOf_0N (d : Nat) (a0 a1 a3 : Option Value) (st : List Value) (h : a_H) : a_run d MX0_bendsOf 0 [a0, a1, some .null, a3] st h = a_run d MX0_bendsOf 1 [a0, a1, some .null, a3] (.null :: st) h := w_ldNn dX0_bendsOf_0 rfl
theorem w_X0_bendsOf_1 (d : Nat) (L : a_L) (st : List Value) (h : a_H) : a_run d MX0_bendsOf 1 L st h = a_run d MX0_bendsOf 2 L (.int (nI 0) :: st) h := w_iconst dX0_bendsOf_1 rfl
theorem w_X0_bendsOf_2 (d : Nat) (a1 a2 a3 : Option Value) (x : Nat) (st : List Value) (h : a_H) : a_run d MX0_bendsOf 2 [some (.ref x), a1, a2, a3] st h = a_run d MX0_bendsOf 3 [some (.ref x), a1, a2, a3] (.ref x :: st) h := w_ldAn dX0_bendsOf_2 rfl
theorem w_X0_bendsOf_3 (d : Nat) (a0 a2 a3 : Option Value) (x : Int32) (st : List Value) (h : a_H) : a_run d MX0_bendsOf 3 [a0, some (.int x), a2, a3] st h = a_run d MX0_bendsOf 4 [a0, some (.int x), a2, a3] (.int x :: st) h := w_ldIn dX0_bendsOf_3 rfl
theorem w_X0_bendsOf_4 (d : Nat) (L : a_L) (i : Nat) (v1 : Value) (st : List Value) (h : a_H) (hk : a_kls h i = some 0) (hc : a_cat st ≤ 8) : a_run d MX0_bendsOf 4 L (v1 :: .ref i :: st) h = a_cont d MX0_bendsOf (a_bk MX0_bendsOf 4 L st (a_call d MX1_bendsOf [.ref i, v1] h)) := w_callV (as := [.ref i, v1]) dX0_bendsOf_4 rfl rfl rfl hc (a_rcv_of hk rfl)
theorem w_X0_bendsOf_7 (d : Nat) (L : a_L) (x : Int32) (st : List Value) (h : a_H) : a_run d MX0_bendsOf 7 L (.int x :: st) h = a_run d MX0_bendsOf 8 L (.long x.toInt64 :: st) h := w_i2l dX0_bendsOf_7
theorem w_X0_bendsOf_8 (d : Nat) (L : a_L) (x : Int32) (y : Int64) (i : Nat) (st : List Value) (h : a_H) : a_run d MX0_bendsOf 8 L (.long y :: .int x :: .ref i :: st) h = (a_wrl h i x y).bind fun h' => a_run d MX0_bendsOf 9 L st h' := w_last dX0_bendsOf_8
theorem w_X0_bendsOf_9 (d : Nat) (L : a_L) (st : List Value) (h : a_H) : a_run d MX0_bendsOf 9 L st h = a_run d MX0_bendsOf 15 L st h := w_goto dX0_bendsOf_9 rfl
theorem w_X0_bendsOf_12 (d : Nat) (a0 a1 a2 a3 : Option Value) (x : Nat) (st : List Value) (h : a_H) : a_run d MX0_bendsOf 12 [a0, a1, a2, a3] (.ref x :: st) h = a_run d MX0_bendsOf 13 [a0, a1, a2, some (.ref x)] st h := w_stAn dX0_bendsOf_12 (Nat.le_of_ble_eq_true rfl) rfl
theorem w_X0_bendsOf_12N (d : Nat) (a0 a1 a2 a3 : Option Value) (st : List Value) (h : a_H) : a_run d MX0_bendsOf 12 [a0, a1, a2, a3] (.null :: st) h = a_run d MX0_bendsOf 13 [a0, a1, a2, some .null] st h := w_stNn dX0_bendsOf_12 (Nat.le_of_ble_eq_true rfl) rfl
theorem w_X0_bendsOf_13 (d : Nat) (L : a_L) (st : List Value) (h : a_H) : a_run d MX0_bendsOf 13 L st h = a_run d MX0_bendsOf 14 L (.int (nI 1) :: st) h := w_iconst dX0_bendsOf_13 rfl
theorem w_X0_bendsOf_14 (d : Nat) (L : a_L) (x : Int32) (h : a_H) : a_run d MX0_bendsOf 14 L [.int x] h = some (.inl (some (.int x)), h) := w_iret dX0_bendsOf_14 (w_retI rfl)
theorem w_X0_bendsOf_15 (d : Nat) (L : a_L) (st : List Value) (h : a_H) : a_run d MX0_bendsOf 15 L st h = a_run d MX0_bendsOf 16 L (.int (nI 0) :: st) h := w_iconst dX0_bendsOf_15 rfl
theorem w_X0_bendsOf_16 (d : Nat) (L : a_L) (x : Int32) (h : a_H) : a_run d MX0_bendsOf 16 L [.int x] h = some (.inl (some (.int x)), h) := w_iret dX0_bendsOf_16 (w_retI rfl)
theorem e_X0_meanPoints (d : Nat) (x0 : Nat) (x1 : Nat) (h : a_H) : a_call (d + 1) MX0_meanPoints [.ref x0, .ref x1] h = a_run d MX0_meanPoints 0 [some (.ref x0), some (.ref x1), none] [] h := a_call_run rfl (Nat.le_of_ble_eq_true rfl) rfl
theorem w_X0_meanPoints_0 (d : Nat) (a0 a2 : Option Value) (x : Nat) (st : List Value) (h : a_H) : a_run d MX0_meanPoints 0 [a0, some (.ref x), a2] st h = a_run d MX0_meanPoints 1 [a0, some (.ref x), a2] (.ref x :: st) h := w_ldAn dX0_meanPoints_0 rfl
theorem w_X0_meanPoints_0N (d : Nat) (a0 a2 : Option Value) (st : List Value) (h : a_H) : a_run d MX0_meanPoints 0 [a0, some .null, a2] st h = a_run d MX0_meanPoints 1 [a0, some .null, a2] (.null :: st) h := w_ldNn dX0_meanPoints_0 rfl
theorem w_X0_meanPoints_1 (d : Nat) (L : a_L) (st : List Value) (h : a_H) : a_run d MX0_meanPoints 1 L st h = a_run d MX0_meanPoints 2 L (.int (nI 0) :: st) h := w_iconst dX0_meanPoints_1 rfl
theorem w_X0_meanPoints_2 (d : Nat) (a1 a2 : Option Value) (x : Nat) (st : List Value) (h : a_H) : a_run d MX0_meanPoints 2 [some (.ref x), a1, a2] st h = a_run d MX0_meanPoints 3 [some (.ref x), a1, a2] (.ref x :: st) h := w_ldAn dX0_meanPoints_2 rfl
theorem w_X0_meanPoints_3 (d : Nat) (L : a_L) (i : Nat) (st : List Value) (h : a_H) (hk : a_kls h i = some 0) (hc : a_cat st ≤ 8) : a_run d MX0_meanPoints 3 L (.ref i :: st) h = a_cont d MX0_meanPoints (a_bk MX0_meanPoints 3 L st (a_call d MX1_meanPoints [.ref i] h)) := w_callV (as := [.ref i]) dX0_meanPoints_3 rfl rfl rfl hc (a_rcv_of hk rfl)
theorem w_X0_meanPoints_6 (d : Nat) (L : a_L) (x : Int32) (y : UInt32) (i : Nat) (st : List Value) (h : a_H) : a_run d MX0_meanPoints 6 L (.float y :: .int x :: .ref i :: st) h = (a_wrf h i x y).bind fun h' => a_run d MX0_meanPoints 7 L st h' := w_fast dX0_meanPoints_6
theorem w_X0_meanPoints_7 (d : Nat) (L : a_L) (st : List Value) (h : a_H) : a_run d MX0_meanPoints 7 L st h = a_run d MX0_meanPoints 13 L st h := w_goto dX0_meanPoints_7 rfl
theorem w_X0_meanPoints_10 (d : Nat) (a0 a1 a2 : Option Value) (x : Nat) (st : List Value) (h : a_H) : a_run d MX0_meanPoints 10 [a0, a1, a2] (.ref x :: st) h = a_run d MX0_meanPoints 11 [a0, a1, some (.ref x)] st h := w_stAn dX0_meanPoints_10 (Nat.le_of_ble_eq_true rfl) rfl
theorem w_X0_meanPoints_10N (d : Nat) (a0 a1 a2 : Option Value) (st : List Value) (h : a_H) : a_run d MX0_meanPoints 10 [a0, a1, a2] (.null :: st) h = a_run d MX0_meanPoints 11 [a0, a1, some .null] st h := w_stNn dX0_meanPoints_10 (Nat.le_of_ble_eq_true rfl) rfl
theorem w_X0_meanPoints_11 (d : Nat) (L : a_L) (st : List Value) (h : a_H) : a_run d MX0_meanPoints 11 L st h = a_run d MX0_meanPoints 12 L (.int (nI 1) :: st) h := w_iconst dX0_meanPoints_11 rfl
theorem w_X0_meanPoints_12 (d : Nat) (L : a_L) (x : Int32) (h : a_H) : a_run d MX0_meanPoints 12 L [.int x] h = some (.inl (some (.int x)), h) := w_iret dX0_meanPoints_12 (w_retI rfl)
theorem w_X0_meanPoints_13 (d : Nat) (L : a_L) (st : List Value) (h : a_H) : a_run d MX0_meanPoints 13 L st h = a_run d MX0_meanPoints 14 L (.int (nI 0) :: st) h := w_iconst dX0_meanPoints_13 rfl
theorem w_X0_meanPoints_14 (d : Nat) (L : a_L) (x : Int32) (h : a_H) : a_run d MX0_meanPoints 14 L [.int x] h = some (.inl (some (.int x)), h) := w_iret dX0_meanPoints_14 (w_retI rfl)
theorem e_X0_goBack (d : Nat) (x0 : Nat) (x1 : Nat) (h : a_H) : a_call (d + 1) MX0_goBack [.ref x0, .ref x1] h = a_run d MX0_goBack 0 [some (.ref x0), some (.ref x1), none] [] h := a_call_run rfl (Nat.le_of_ble_eq_true rfl) rfl
theorem w_X0_goBack_0 (d : Nat) (a0 a2 : Option Value) (x : Nat) (st : List Value) (h : a_H) : a_run d MX0_goBack 0 [a0, some (.ref x), a2] st h = a_run d MX0_goBack 1 [a0, some (.ref x), a2] (.ref x :: st) h := w_ldAn dX0_goBack_0 rfl
theorem w_X0_goBack_0N (d : Nat) (a0 a2 : Option Value) (st : List Value) (h : a_H) : a_run d MX0_goBack 0 [a0, some .null, a2] st h = a_run d MX0_goBack 1 [a0, some .null, a2] (.null :: st) h := w_ldNn dX0_goBack_0 rfl
theorem w_X0_goBack_1 (d : Nat) (L : a_L) (st : List Value) (h : a_H) : a_run d MX0_goBack 1 L st h = a_run d MX0_goBack 2 L (.int (nI 0) :: st) h := w_iconst dX0_goBack_1 rfl
theorem w_X0_goBack_2 (d : Nat) (a1 a2 : Option Value) (x : Nat) (st : List Value) (h : a_H) : a_run d MX0_goBack 2 [some (.ref x), a1, a2] st h = a_run d MX0_goBack 3 [some (.ref x), a1, a2] (.ref x :: st) h := w_ldAn dX0_goBack_2 rfl
theorem w_X0_goBack_3 (d : Nat) (L : a_L) (i : Nat) (st : List Value) (h : a_H) (hk : a_kls h i = some 0) (hc : a_cat st ≤ 8) : a_run d MX0_goBack 3 L (.ref i :: st) h = a_cont d MX0_goBack (a_bk MX0_goBack 3 L st (a_call d MX1_goBack [.ref i] h)) := w_callV (as := [.ref i]) dX0_goBack_3 rfl rfl rfl hc (a_rcv_of hk rfl)
theorem w_X0_goBack_6 (d : Nat) (L : a_L) (x : Int32) (st : List Value) (h : a_H) : a_run d MX0_goBack 6 L (.int x :: st) h = a_run d MX0_goBack 7 L (.long x.toInt64 :: st) h := w_i2l dX0_goBack_6
theorem w_X0_goBack_7 (d : Nat) (L : a_L) (x : Int32) (y : Int64) (i : Nat) (st : List Value) (h : a_H) : a_run d MX0_goBack 7 L (.long y :: .int x :: .ref i :: st) h = (a_wrl h i x y).bind fun h' => a_run d MX0_goBack 8 L st h' := w_last dX0_goBack_7
theorem w_X0_goBack_8 (d : Nat) (L : a_L) (st : List Value) (h : a_H) : a_run d MX0_goBack 8 L st h = a_run d MX0_goBack 14 L st h := w_goto dX0_goBack_8 rfl
theorem w_X0_goBack_11 (d : Nat) (a0 a1 a2 : Option Value) (x : Nat) (st : List Value) (h : a_H) : a_run d MX0_goBack 11 [a0, a1, a2] (.ref x :: st) h = a_run d MX0_goBack 12 [a0, a1, some (.ref x)] st h := w_stAn dX0_goBack_11 (Nat.le_of_ble_eq_true rfl) rfl
theorem w_X0_goBack_11N (d : Nat) (a0 a1 a2 : Option Value) (st : List Value) (h : a_H) : a_run d MX0_goBack 11 [a0, a1, a2] (.null :: st) h = a_run d MX0_goBack 12 [a0, a1, some .null] st h := w_stNn dX0_goBack_11 (Nat.le_of_ble_eq_true rfl) rfl
theorem w_X0_goBack_12 (d : Nat) (L : a_L) (st : List Value) (h : a_H) : a_run d MX0_goBack 12 L st h = a_run d MX0_goBack 13 L (.int (nI 1) :: st) h := w_iconst dX0_goBack_12 rfl
theorem w_X0_goBack_13 (d : Nat) (L : a_L) (x : Int32) (h : a_H) : a_run d MX0_goBack 13 L [.int x] h = some (.inl (some (.int x)), h) := w_iret dX0_goBack_13 (w_retI rfl)
theorem w_X0_goBack_14 (d : Nat) (L : a_L) (st : List Value) (h : a_H) : a_run d MX0_goBack 14 L st h = a_run d MX0_goBack 15 L (.int (nI 0) :: st) h := w_iconst dX0_goBack_14 rfl
theorem w_X0_goBack_15 (d : Nat) (L : a_L) (x : Int32) (h : a_H) : a_run d MX0_goBack 15 L [.int x] h = some (.inl (some (.int x)), h) := w_iret dX0_goBack_15 (w_retI rfl)
theorem e_X0_undo (d : Nat) (x0 : Nat) (x1 : Nat) (h : a_H) : a_call (d + 1) MX0_undo [.ref x0, .ref x1] h = a_run d MX0_undo 0 [some (.ref x0), some (.ref x1), none] [] h := a_call_run rfl (Nat.le_of_ble_eq_true rfl) rfl
theorem w_X0_undo_0 (d : Nat) (a0 a2 : Option Value) (x : Nat) (st : List Value) (h : a_H) : a_run d MX0_undo 0 [a0, some (.ref x), a2] st h = a_run d MX0_undo 1 [a0, some (.ref x), a2] (.ref x :: st) h := w_ldAn dX0_undo_0 rfl
theorem w_X0_undo_0N (d : Nat) (a0 a2 : Option Value) (st : List Value) (h : a_H) : a_run d MX0_undo 0 [a0, some .null, a2] st h = a_run d MX0_undo 1 [a0, some .null, a2] (.null :: st) h := w_ldNn dX0_undo_0 rfl
theorem w_X0_undo_1 (d : Nat) (L : a_L) (st : List Value) (h : a_H) : a_run d MX0_undo 1 L st h = a_run d MX0_undo 2 L (.int (nI 0) :: st) h := w_iconst dX0_undo_1 rfl
theorem w_X0_undo_2 (d : Nat) (a1 a2 : Option Value) (x : Nat) (st : List Value) (h : a_H) : a_run d MX0_undo 2 [some (.ref x), a1, a2] st h = a_run d MX0_undo 3 [some (.ref x), a1, a2] (.ref x :: st) h := w_ldAn dX0_undo_2 rfl
theorem w_X0_undo_3 (d : Nat) (L : a_L) (i : Nat) (st : List Value) (h : a_H) (hk : a_kls h i = some 0) (hc : a_cat st ≤ 8) : a_run d MX0_undo 3 L (.ref i :: st) h = a_cont d MX0_undo (a_bk MX0_undo 3 L st (a_call d MX1_undo [.ref i] h)) := w_callV (as := [.ref i]) dX0_undo_3 rfl rfl rfl hc (a_rcv_of hk rfl)
theorem w_X0_undo_6 (d : Nat) (L : a_L) (x : Int32) (st : List Value) (h : a_H) : a_run d MX0_undo 6 L (.int x :: st) h = a_run d MX0_undo 7 L (.long x.toInt64 :: st) h := w_i2l dX0_undo_6
theorem w_X0_undo_7 (d : Nat) (L : a_L) (x : Int32) (y : Int64) (i : Nat) (st : List Value) (h : a_H) : a_run d MX0_undo 7 L (.long y :: .int x :: .ref i :: st) h = (a_wrl h i x y).bind fun h' => a_run d MX0_undo 8 L st h' := w_last dX0_undo_7
theorem w_X0_undo_8 (d : Nat) (L : a_L) (st : List Value) (h : a_H) : a_run d MX0_undo 8 L st h = a_run d MX0_undo 14 L st h := w_goto dX0_undo_8 rfl
theorem w_X0_undo_11 (d : Nat) (a0 a1 a2 : Option Value) (x : Nat) (st : List Value) (h : a_H) : a_run d MX0_undo 11 [a0, a1, a2] (.ref x :: st) h = a_run d MX0_undo 12 [a0, a1, some (.ref x)] st h := w_stAn dX0_undo_11 (Nat.le_of_ble_eq_true rfl) rfl
theorem w_X0_undo_11N (d : Nat) (a0 a1 a2 : Option Value) (st : List Value) (h : a_H) : a_run d MX0_undo 11 [a0, a1, a2] (.null :: st) h = a_run d MX0_undo 12 [a0, a1, some .null] st h := w_stNn dX0_undo_11 (Nat.le_of_ble_eq_true rfl) rfl
theorem w_X0_undo_12 (d : Nat) (L : a_L) (st : List Value) (h : a_H) : a_run d MX0_undo 12 L st h = a_run d MX0_undo 13 L (.int (nI 1) :: st) h := w_iconst dX0_undo_12 rfl
theorem w_X0_undo_13 (d : Nat) (L : a_L) (x : Int32) (h : a_H) : a_run d MX0_undo 13 L [.int x] h = some (.inl (some (.int x)), h) := w_iret dX0_undo_13 (w_retI rfl)
theorem w_X0_undo_14 (d : Nat) (L : a_L) (st : List Value) (h : a_H) : a_run d MX0_undo 14 L st h = a_run d MX0_undo 15 L (.int (nI 0) :: st) h := w_iconst dX0_undo_14 rfl
theorem w_X0_undo_15 (d : Nat) (L : a_L) (x : Int32) (h : a_H) : a_run d MX0_undo 15 L [.int x] h = some (.inl (some (.int x)), h) := w_iret dX0_undo_15 (w_retI rfl)
theorem e_X0_type (d : Nat) (x0 : Nat) (x1 : Int32) (x2 : Nat) (h : a_H) : a_call (d + 1) MX0_type [.ref x0, .int x1, .ref x2] h = a_run d MX0_type 0 [some (.ref x0), some (.int x1), some (.ref x2), none] [] h := a_call_run rfl (Nat.le_of_ble_eq_true rfl) rfl
theorem w_X0_type_0 (d : Nat) (a0 a1 a3 : Option Value) (x : Nat) (st : List Value) (h : a_H) : a_run d MX0_type 0 [a0, a1, some (.ref x), a3] st h = a_run d MX0_type 1 [a0, a1, some (.ref x), a3] (.ref x :: st) h := w_ldAn dX0_type_0 rfl
theorem w_X0_type_0N (d : Nat) (a0 a1 a3 : Option Value) (st : List Value) (h : a_H) : a_run d MX0_type 0 [a0, a1, some .null, a3] st h = a_run d MX0_type 1 [a0, a1, some .null, a3] (.null :: st) h := w_ldNn dX0_type_0 rfl
theorem w_X0_type_1 (d : Nat) (L : a_L) (st : List Value) (h : a_H) : a_run d MX0_type 1 L st h = a_run d MX0_type 2 L (.int (nI 0) :: st) h := w_iconst dX0_type_1 rfl
theorem w_X0_type_2 (d : Nat) (a1 a2 a3 : Option Value) (x : Nat) (st : List Value) (h : a_H) : a_run d MX0_type 2 [some (.ref x), a1, a2, a3] st h = a_run d MX0_type 3 [some (.ref x), a1, a2, a3] (.ref x :: st) h := w_ldAn dX0_type_2 rfl
theorem w_X0_type_3 (d : Nat) (a0 a2 a3 : Option Value) (x : Int32) (st : List Value) (h : a_H) : a_run d MX0_type 3 [a0, some (.int x), a2, a3] st h = a_run d MX0_type 4 [a0, some (.int x), a2, a3] (.int x :: st) h := w_ldIn dX0_type_3 rfl
theorem w_X0_type_4 (d : Nat) (L : a_L) (i : Nat) (v1 : Value) (st : List Value) (h : a_H) (hk : a_kls h i = some 0) (hc : a_cat st ≤ 8) : a_run d MX0_type 4 L (v1 :: .ref i :: st) h = a_cont d MX0_type (a_bk MX0_type 4 L st (a_call d MX1_type [.ref i, v1] h)) := w_callV (as := [.ref i, v1]) dX0_type_4 rfl rfl rfl hc (a_rcv_of hk rfl)
theorem w_X0_type_7 (d : Nat) (L : a_L) (x : Int32) (st : List Value) (h : a_H) : a_run d MX0_type 7 L (.int x :: st) h = a_run d MX0_type 8 L (.long x.toInt64 :: st) h := w_i2l dX0_type_7
theorem w_X0_type_8 (d : Nat) (L : a_L) (x : Int32) (y : Int64) (i : Nat) (st : List Value) (h : a_H) : a_run d MX0_type 8 L (.long y :: .int x :: .ref i :: st) h = (a_wrl h i x y).bind fun h' => a_run d MX0_type 9 L st h' := w_last dX0_type_8
theorem w_X0_type_9 (d : Nat) (L : a_L) (st : List Value) (h : a_H) : a_run d MX0_type 9 L st h = a_run d MX0_type 18 L st h := w_goto dX0_type_9 rfl
theorem w_X0_type_12 (d : Nat) (a0 a1 a2 a3 : Option Value) (x : Nat) (st : List Value) (h : a_H) : a_run d MX0_type 12 [a0, a1, a2, a3] (.ref x :: st) h = a_run d MX0_type 13 [a0, a1, a2, some (.ref x)] st h := w_stAn dX0_type_12 (Nat.le_of_ble_eq_true rfl) rfl
theorem w_X0_type_12N (d : Nat) (a0 a1 a2 a3 : Option Value) (st : List Value) (h : a_H) : a_run d MX0_type 12 [a0, a1, a2, a3] (.null :: st) h = a_run d MX0_type 13 [a0, a1, a2, some .null] st h := w_stNn dX0_type_12 (Nat.le_of_ble_eq_true rfl) rfl
theorem w_X0_type_13 (d : Nat) (L : a_L) (st : List Value) (h : a_H) : a_run d MX0_type 13 L st h = a_run d MX0_type 14 L (.int (nI 1) :: st) h := w_iconst dX0_type_13 rfl
theorem w_X0_type_14 (d : Nat) (L : a_L) (x : Int32) (h : a_H) : a_run d MX0_type 14 L [.int x] h = some (.inl (some (.int x)), h) := w_iret dX0_type_14 (w_retI rfl)
theorem w_X0_type_15 (d : Nat) (a0 a1 a2 a3 : Option Value) (x : Nat) (st : List Value) (h : a_H) : a_run d MX0_type 15 [a0, a1, a2, a3] (.ref x :: st) h = a_run d MX0_type 16 [a0, a1, a2, some (.ref x)] st h := w_stAn dX0_type_15 (Nat.le_of_ble_eq_true rfl) rfl
theorem w_X0_type_15N (d : Nat) (a0 a1 a2 a3 : Option Value) (st : List Value) (h : a_H) : a_run d MX0_type 15 [a0, a1, a2, a3] (.null :: st) h = a_run d MX0_type 16 [a0, a1, a2, some .null] st h := w_stNn dX0_type_15 (Nat.le_of_ble_eq_true rfl) rfl
theorem w_X0_type_16 (d : Nat) (L : a_L) (st : List Value) (h : a_H) : a_run d MX0_type 16 L st h = a_run d MX0_type 17 L (.int (nI 2) :: st) h := w_iconst dX0_type_16 rfl
theorem w_X0_type_17 (d : Nat) (L : a_L) (x : Int32) (h : a_H) : a_run d MX0_type 17 L [.int x] h = some (.inl (some (.int x)), h) := w_iret dX0_type_17 (w_retI rfl)
theorem w_X0_type_18 (d : Nat) (L : a_L) (st : List Value) (h : a_H) : a_run d MX0_type 18 L st h = a_run d MX0_type 19 L (.int (nI 0) :: st) h := w_iconst dX0_type_18 rfl
theorem w_X0_type_19 (d : Nat) (L : a_L) (x : Int32) (h : a_H) : a_run d MX0_type 19 L [.int x] h = some (.inl (some (.int x)), h) := w_iret dX0_type_19 (w_retI rfl)
theorem e_X0_faultPosition (d : Nat) (x0 : Nat) (x1 : Nat) (h : a_H) : a_call (d + 1) MX0_faultPosition [.ref x0, .ref x1] h = a_run d MX0_faultPosition 0 [some (.ref x0), some (.ref x1), none] [] h := a_call_run rfl (Nat.le_of_ble_eq_true rfl) rfl
theorem w_X0_faultPosition_0 (d : Nat) (a0 a2 : Option Value) (x : Nat) (st : List Value) (h : a_H) : a_run d MX0_faultPosition 0 [a0, some (.ref x), a2] st h = a_run d MX0_faultPosition 1 [a0, some (.ref x), a2] (.ref x :: st) h := w_ldAn dX0_faultPosition_0 rfl
theorem w_X0_faultPosition_0N (d : Nat) (a0 a2 : Option Value) (st : List Value) (h : a_H) : a_run d MX0_faultPosition 0 [a0, some .null, a2] st h = a_run d MX0_faultPosition 1 [a0, some .null, a2] (.null :: st) h := w_ldNn dX0_faultPosition_0 rfl
theorem w_X0_faultPosition_1 (d : Nat) (L : a_L) (st : List Value) (h : a_H) : a_run d MX0_faultPosition 1 L st h = a_run d MX0_faultPosition 2 L (.int (nI 0) :: st) h := w_iconst dX0_faultPosition_1 rfl
theorem w_X0_faultPosition_2 (d : Nat) (a1 a2 : Option Value) (x : Nat) (st : List Value) (h : a_H) : a_run d MX0_faultPosition 2 [some (.ref x), a1, a2] st h = a_run d MX0_faultPosition 3 [some (.ref x), a1, a2] (.ref x :: st) h := w_ldAn dX0_faultPosition_2 rfl
theorem w_X0_faultPosition_3 (d : Nat) (L : a_L) (i : Nat) (st : List Value) (h : a_H) (hk : a_kls h i = some 0) (hc : a_cat st ≤ 8) : a_run d MX0_faultPosition 3 L (.ref i :: st) h = a_cont d MX0_faultPosition (a_bk MX0_faultPosition 3 L st (a_call d MX1_faultPosition [.ref i] h)) := w_callV (as := [.ref i]) dX0_faultPosition_3 rfl rfl rfl hc (a_rcv_of hk rfl)
theorem w_X0_faultPosition_6 (d : Nat) (L : a_L) (x : Int32) (st : List Value) (h : a_H) : a_run d MX0_faultPosition 6 L (.int x :: st) h = a_run d MX0_faultPosition 7 L (.long x.toInt64 :: st) h := w_i2l dX0_faultPosition_6
theorem w_X0_faultPosition_7 (d : Nat) (L : a_L) (x : Int32) (y : Int64) (i : Nat) (st : List Value) (h : a_H) : a_run d MX0_faultPosition 7 L (.long y :: .int x :: .ref i :: st) h = (a_wrl h i x y).bind fun h' => a_run d MX0_faultPosition 8 L st h' := w_last dX0_faultPosition_7
theorem w_X0_faultPosition_8 (d : Nat) (L : a_L) (st : List Value) (h : a_H) : a_run d MX0_faultPosition 8 L st h = a_run d MX0_faultPosition 14 L st h := w_goto dX0_faultPosition_8 rfl
theorem w_X0_faultPosition_11 (d : Nat) (a0 a1 a2 : Option Value) (x : Nat) (st : List Value) (h : a_H) : a_run d MX0_faultPosition 11 [a0, a1, a2] (.ref x :: st) h = a_run d MX0_faultPosition 12 [a0, a1, some (.ref x)] st h := w_stAn dX0_faultPosition_11 (Nat.le_of_ble_eq_true rfl) rfl
theorem w_X0_faultPosition_11N (d : Nat) (a0 a1 a2 : Option Value) (st : List Value) (h : a_H) : a_run d MX0_faultPosition 11 [a0, a1, a2] (.null :: st) h = a_run d MX0_faultPosition 12 [a0, a1, some .null] st h := w_stNn dX0_faultPosition_11 (Nat.le_of_ble_eq_true rfl) rfl
theorem w_X0_faultPosition_12 (d : Nat) (L : a_L) (st : List Value) (h : a_H) : a_run d MX0_faultPosition 12 L st h = a_run d MX0_faultPosition 13 L (.int (nI 1) :: st) h := w_iconst dX0_faultPosition_12 rfl
theorem w_X0_faultPosition_13 (d : Nat) (L : a_L) (x : Int32) (h : a_H) : a_run d MX0_faultPosition 13 L [.int x] h = some (.inl (some (.int x)), h) := w_iret dX0_faultPosition_13 (w_retI rfl)
theorem w_X0_faultPosition_14 (d : Nat) (L : a_L) (st : List Value) (h : a_H) : a_run d MX0_faultPosition 14 L st h = a_run d MX0_faultPosition 15 L (.int (nI 0) :: st) h := w_iconst dX0_faultPosition_14 rfl
theorem w_X0_faultPosition_15 (d : Nat) (L : a_L) (x : Int32) (h : a_H) : a_run d MX0_faultPosition 15 L [.int x] h = some (.inl (some (.int x)), h) := w_iret dX0_faultPosition_15 (w_retI rfl)
theorem e_X0_faultReason (d : Nat) (x0 : Nat) (x1 : Nat) (h : a_H) : a_call (d + 1) MX0_faultReason [.ref x0, .ref x1] h = a_run d MX0_faultReason 0 [some (.ref x0), some (.ref x1), none] [] h := a_call_run rfl (Nat.le_of_ble_eq_true rfl) rfl
theorem w_X0_faultReason_0 (d : Nat) (a0 a2 : Option Value) (x : Nat) (st : List Value) (h : a_H) : a_run d MX0_faultReason 0 [a0, some (.ref x), a2] st h = a_run d MX0_faultReason 1 [a0, some (.ref x), a2] (.ref x :: st) h := w_ldAn dX0_faultReason_0 rfl
theorem w_X0_faultReason_0N (d : Nat) (a0 a2 : Option Value) (st : List Value) (h : a_H) : a_run d MX0_faultReason 0 [a0, some .null, a2] st h = a_run d MX0_faultReason 1 [a0, some .null, a2] (.null :: st) h := w_ldNn dX0_faultReason_0 rfl
theorem w_X0_faultReason_1 (d : Nat) (L : a_L) (st : List Value) (h : a_H) : a_run d MX0_faultReason 1 L st h = a_run d MX0_faultReason 2 L (.int (nI 0) :: st) h := w_iconst dX0_faultReason_1 rfl
theorem w_X0_faultReason_2 (d : Nat) (a1 a2 : Option Value) (x : Nat) (st : List Value) (h : a_H) : a_run d MX0_faultReason 2 [some (.ref x), a1, a2] st h = a_run d MX0_faultReason 3 [some (.ref x), a1, a2] (.ref x :: st) h := w_ldAn dX0_faultReason_2 rfl
theorem w_X0_faultReason_3 (d : Nat) (L : a_L) (i : Nat) (st : List Value) (h : a_H) (hk : a_kls h i = some 0) (hc : a_cat st ≤ 8) : a_run d MX0_faultReason 3 L (.ref i :: st) h = a_cont d MX0_faultReason (a_bk MX0_faultReason 3 L st (a_call d MX1_faultReason [.ref i] h)) := w_callV (as := [.ref i]) dX0_faultReason_3 rfl rfl rfl hc (a_rcv_of hk rfl)
theorem w_X0_faultReason_6 (d : Nat) (L : a_L) (x : Int32) (st : List Value) (h : a_H) : a_run d MX0_faultReason 6 L (.int x :: st) h = a_run d MX0_faultReason 7 L (.long x.toInt64 :: st) h := w_i2l dX0_faultReason_6
theorem w_X0_faultReason_7 (d : Nat) (L : a_L) (x : Int32) (y : Int64) (i : Nat) (st : List Value) (h : a_H) : a_run d MX0_faultReason 7 L (.long y :: .int x :: .ref i :: st) h = (a_wrl h i x y).bind fun h' => a_run d MX0_faultReason 8 L st h' := w_last dX0_faultReason_7
theorem w_X0_faultReason_8 (d : Nat) (L : a_L) (st : List Value) (h : a_H) : a_run d MX0_faultReason 8 L st h = a_run d MX0_faultReason 14 L st h := w_goto dX0_faultReason_8 rfl
theorem w_X0_faultReason_11 (d : Nat) (a0 a1 a2 : Option Value) (x : Nat) (st : List Value) (h : a_H) : a_run d MX0_faultReason 11 [a0, a1, a2] (.ref x :: st) h = a_run d MX0_faultReason 12 [a0, a1, some (.ref x)] st h := w_stAn dX0_faultReason_11 (Nat.le_of_ble_eq_true rfl) rfl
theorem w_X0_faultReason_11N (d : Nat) (a0 a1 a2 : Option Value) (st : List Value) (h : a_H) : a_run d MX0_faultReason 11 [a0, a1, a2] (.null :: st) h = a_run d MX0_faultReason 12 [a0, a1, some .null] st h := w_stNn dX0_faultReason_11 (Nat.le_of_ble_eq_true rfl) rfl
theorem w_X0_faultReason_12 (d : Nat) (L : a_L) (st : List Value) (h : a_H) : a_run d MX0_faultReason 12 L st h = a_run d MX0_faultReason 13 L (.int (nI 1) :: st) h := w_iconst dX0_faultReason_12 rfl
theorem w_X0_faultReason_13 (d : Nat) (L : a_L) (x : Int32) (h : a_H) : a_run d MX0_faultReason 13 L [.int x] h = some (.inl (some (.int x)), h) := w_iret dX0_faultReason_13 (w_retI rfl)
theorem w_X0_faultReason_14 (d : Nat) (L : a_L) (st : List Value) (h : a_H) : a_run d MX0_faultReason 14 L st h = a_run d MX0_faultReason 15 L (.int (nI 0) :: st) h := w_iconst dX0_faultReason_14 rfl
theorem w_X0_faultReason_15 (d : Nat) (L : a_L) (x : Int32) (h : a_H) : a_run d MX0_faultReason 15 L [.int x] h = some (.inl (some (.int x)), h) := w_iret dX0_faultReason_15 (w_retI rfl)
theorem e_X0_faultCause (d : Nat) (x0 : Nat) (x1 : Nat) (h : a_H) : a_call (d + 1) MX0_faultCause [.ref x0, .ref x1] h = a_run d MX0_faultCause 0 [some (.ref x0), some (.ref x1), none] [] h := a_call_run rfl (Nat.le_of_ble_eq_true rfl) rfl
theorem w_X0_faultCause_0 (d : Nat) (a0 a2 : Option Value) (x : Nat) (st : List Value) (h : a_H) : a_run d MX0_faultCause 0 [a0, some (.ref x), a2] st h = a_run d MX0_faultCause 1 [a0, some (.ref x), a2] (.ref x :: st) h := w_ldAn dX0_faultCause_0 rfl
theorem w_X0_faultCause_0N (d : Nat) (a0 a2 : Option Value) (st : List Value) (h : a_H) : a_run d MX0_faultCause 0 [a0, some .null, a2] st h = a_run d MX0_faultCause 1 [a0, some .null, a2] (.null :: st) h := w_ldNn dX0_faultCause_0 rfl
theorem w_X0_faultCause_1 (d : Nat) (L : a_L) (st : List Value) (h : a_H) : a_run d MX0_faultCause 1 L st h = a_run d MX0_faultCause 2 L (.int (nI 0) :: st) h := w_iconst dX0_faultCause_1 rfl
theorem w_X0_faultCause_2 (d : Nat) (a1 a2 : Option Value) (x : Nat) (st : List Value) (h : a_H) : a_run d MX0_faultCause 2 [some (.ref x), a1, a2] st h = a_run d MX0_faultCause 3 [some (.ref x), a1, a2] (.ref x :: st) h := w_ldAn dX0_faultCause_2 rfl
theorem w_X0_faultCause_3 (d : Nat) (L : a_L) (i : Nat) (st : List Value) (h : a_H) (hk : a_kls h i = some 0) (hc : a_cat st ≤ 8) : a_run d MX0_faultCause 3 L (.ref i :: st) h = a_cont d MX0_faultCause (a_bk MX0_faultCause 3 L st (a_call d MX1_faultCause [.ref i] h)) := w_callV (as := [.ref i]) dX0_faultCause_3 rfl rfl rfl hc (a_rcv_of hk rfl)
theorem w_X0_faultCause_6 (d : Nat) (L : a_L) (x : Int32) (st : List Value) (h : a_H) : a_run d MX0_faultCause 6 L (.int x :: st) h = a_run d MX0_faultCause 7 L (.long x.toInt64 :: st) h := w_i2l dX0_faultCause_6
theorem w_X0_faultCause_7 (d : Nat) (L : a_L) (x : Int32) (y : Int64) (i : Nat) (st : List Value) (h : a_H) : a_run d MX0_faultCause 7 L (.long y :: .int x :: .ref i :: st) h = (a_wrl h i x y).bind fun h' => a_run d MX0_faultCause 8 L st h' := w_last dX0_faultCause_7
theorem w_X0_faultCause_8 (d : Nat) (L : a_L) (st : List Value) (h : a_H) : a_run d MX0_faultCause 8 L st h = a_run d MX0_faultCause 14 L st h := w_goto dX0_faultCause_8 rfl
theorem w_X0_faultCause_11 (d : Nat) (a0 a1 a2 : Option Value) (x : Nat) (st : List Value) (h : a_H) : a_run d MX0_faultCause 11 [a0, a1, a2] (.ref x :: st) h = a_run d MX0_faultCause 12 [a0, a1, some (.ref x)] st h := w_stAn dX0_faultCause_11 (Nat.le_of_ble_eq_true rfl) rfl
theorem w_X0_faultCause_11N (d : Nat) (a0 a1 a2 : Option Value) (st : List Value) (h : a_H) : a_run d MX0_faultCause 11 [a0, a1, a2] (.null :: st) h = a_run d MX0_faultCause 12 [a0, a1, some .null] st h := w_stNn dX0_faultCause_11 (Nat.le_of_ble_eq_true rfl) rfl
theorem w_X0_faultCause_12 (d : Nat) (L : a_L) (st : List Value) (h : a_H) : a_run d MX0_faultCause 12 L st h = a_run d MX0_faultCause 13 L (.int (nI 1) :: st) h := w_iconst dX0_faultCause_12 rfl
theorem w_X0_faultCause_13 (d : Nat) (L : a_L) (x : Int32) (h : a_H) : a_run d MX0_faultCause 13 L [.int x] h = some (.inl (some (.int x)), h) := w_iret dX0_faultCause_13 (w_retI rfl)
theorem w_X0_faultCause_14 (d : Nat) (L : a_L) (st : List Value) (h : a_H) : a_run d MX0_faultCause 14 L st h = a_run d MX0_faultCause 15 L (.int (nI 0) :: st) h := w_iconst dX0_faultCause_14 rfl
theorem w_X0_faultCause_15 (d : Nat) (L : a_L) (x : Int32) (h : a_H) : a_run d MX0_faultCause 15 L [.int x] h = some (.inl (some (.int x)), h) := w_iret dX0_faultCause_15 (w_retI rfl)
theorem e_X0_play (d : Nat) (x0 : Nat) (x1 : Nat) (h : a_H) : a_call (d + 1) MX0_play [.ref x0, .ref x1] h = a_run d MX0_play 0 [some (.ref x0), some (.ref x1), none] [] h := a_call_run rfl (Nat.le_of_ble_eq_true rfl) rfl
theorem w_X0_play_0 (d : Nat) (a0 a2 : Option Value) (x : Nat) (st : List Value) (h : a_H) : a_run d MX0_play 0 [a0, some (.ref x), a2] st h = a_run d MX0_play 1 [a0, some (.ref x), a2] (.ref x :: st) h := w_ldAn dX0_play_0 rfl
theorem w_X0_play_0N (d : Nat) (a0 a2 : Option Value) (st : List Value) (h : a_H) : a_run d MX0_play 0 [a0, some .null, a2] st h = a_run d MX0_play 1 [a0, some .null, a2] (.null :: st) h := w_ldNn dX0_play_0 rfl
theorem w_X0_play_1 (d : Nat) (L : a_L) (st : List Value) (h : a_H) : a_run d MX0_play 1 L st h = a_run d MX0_play 2 L (.int (nI 0) :: st) h := w_iconst dX0_play_1 rfl
theorem w_X0_play_2 (d : Nat) (a1 a2 : Option Value) (x : Nat) (st : List Value) (h : a_H) : a_run d MX0_play 2 [some (.ref x), a1, a2] st h = a_run d MX0_play 3 [some (.ref x), a1, a2] (.ref x :: st) h := w_ldAn dX0_play_2 rfl
theorem w_X0_play_3 (d : Nat) (L : a_L) (i : Nat) (st : List Value) (h : a_H) (hk : a_kls h i = some 0) (hc : a_cat st ≤ 8) : a_run d MX0_play 3 L (.ref i :: st) h = a_cont d MX0_play (a_bk MX0_play 3 L st (a_call d MX1_play [.ref i] h)) := w_callV (as := [.ref i]) dX0_play_3 rfl rfl rfl hc (a_rcv_of hk rfl)
theorem w_X0_play_6 (d : Nat) (L : a_L) (x : Int32) (st : List Value) (h : a_H) : a_run d MX0_play 6 L (.int x :: st) h = a_run d MX0_play 7 L (.long x.toInt64 :: st) h := w_i2l dX0_play_6
theorem w_X0_play_7 (d : Nat) (L : a_L) (x : Int32) (y : Int64) (i : Nat) (st : List Value) (h : a_H) : a_run d MX0_play 7 L (.long y :: .int x :: .ref i :: st) h = (a_wrl h i x y).bind fun h' => a_run d MX0_play 8 L st h' := w_last dX0_play_7
theorem w_X0_play_8 (d : Nat) (L : a_L) (st : List Value) (h : a_H) : a_run d MX0_play 8 L st h = a_run d MX0_play 14 L st h := w_goto dX0_play_8 rfl
theorem w_X0_play_11 (d : Nat) (a0 a1 a2 : Option Value) (x : Nat) (st : List Value) (h : a_H) : a_run d MX0_play 11 [a0, a1, a2] (.ref x :: st) h = a_run d MX0_play 12 [a0, a1, some (.ref x)] st h := w_stAn dX0_play_11 (Nat.le_of_ble_eq_true rfl) rfl
theorem w_X0_play_11N (d : Nat) (a0 a1 a2 : Option Value) (st : List Value) (h : a_H) : a_run d MX0_play 11 [a0, a1, a2] (.null :: st) h = a_run d MX0_play 12 [a0, a1, some .null] st h := w_stNn dX0_play_11 (Nat.le_of_ble_eq_true rfl) rfl
theorem w_X0_play_12 (d : Nat) (L : a_L) (st : List Value) (h : a_H) : a_run d MX0_play 12 L st h = a_run d MX0_play 13 L (.int (nI 1) :: st) h := w_iconst dX0_play_12 rfl
theorem w_X0_play_13 (d : Nat) (L : a_L) (x : Int32) (h : a_H) : a_run d MX0_play 13 L [.int x] h = some (.inl (some (.int x)), h) := w_iret dX0_play_13 (w_retI rfl)
theorem w_X0_play_14 (d : Nat) (L : a_L) (st : List Value) (h : a_H) : a_run d MX0_play 14 L st h = a_run d MX0_play 15 L (.int (nI 0) :: st) h := w_iconst dX0_play_14 rfl
theorem w_X0_play_15 (d : Nat) (L : a_L) (x : Int32) (h : a_H) : a_run d MX0_play 15 L [.int x] h = some (.inl (some (.int x)), h) := w_iret dX0_play_15 (w_retI rfl)
