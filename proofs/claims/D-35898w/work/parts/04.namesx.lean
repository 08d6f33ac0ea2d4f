/-! RaidhallLaw -/
set_option maxRecDepth 100000
def RX0 : String := "RaidhallLaw"
abbrev cX0_begin : ByteArray := method_3_code
def yX0_begin : MethodName := ⟨RX0, "begin", "(LRaidhall;III[J)I"⟩
def dkwX0_begin_1 : List UInt8 := [58, 5, 6, 172, 3, 172]
abbrev dktX0_begin_1 : List UInt8 := dkwX0_begin_1 ++ []
def dkwX0_begin_0 : List UInt8 := [25, 4, 3, 42, 27, 28, 29, 182, 0, 7, 133, 80, 167, 0, 15, 58, 5, 4, 172, 58, 5, 5, 172]
abbrev dktX0_begin_0 : List UInt8 := dkwX0_begin_0 ++ dktX0_begin_1
theorem dksX0_begin_0 : cX0_begin.data.toList.drop 0 = dktX0_begin_0 := by decide +kernel
theorem dksX0_begin_1 : cX0_begin.data.toList.drop 23 = dktX0_begin_1 := dk_seg dksX0_begin_0 23 rfl rfl
theorem dX0_begin_0 : decode cX0_begin 0 = .ok (.aload 4, 2) := dk_25 4 (dk_at dksX0_begin_0 0 rfl rfl)
theorem dX0_begin_2 : decode cX0_begin 2 = .ok (.iconst 0, 1) := dk_3 (dk_at dksX0_begin_0 2 rfl rfl)
theorem dX0_begin_3 : decode cX0_begin 3 = .ok (.aload_n 0, 1) := dk_42 (dk_at dksX0_begin_0 3 rfl rfl)
theorem dX0_begin_4 : decode cX0_begin 4 = .ok (.iload_n 1, 1) := dk_27 (dk_at dksX0_begin_0 4 rfl rfl)
theorem dX0_begin_5 : decode cX0_begin 5 = .ok (.iload_n 2, 1) := dk_28 (dk_at dksX0_begin_0 5 rfl rfl)
theorem dX0_begin_6 : decode cX0_begin 6 = .ok (.iload_n 3, 1) := dk_29 (dk_at dksX0_begin_0 6 rfl rfl)
theorem dX0_begin_7 : decode cX0_begin 7 = .ok (.invokevirtual 7, 3) := dk_182 0 7 (dk_at dksX0_begin_0 7 rfl rfl)
theorem dX0_begin_10 : decode cX0_begin 10 = .ok (.i2l, 1) := dk_133 (dk_at dksX0_begin_0 10 rfl rfl)
theorem dX0_begin_11 : decode cX0_begin 11 = .ok (.lastore, 1) := dk_80 (dk_at dksX0_begin_0 11 rfl rfl)
theorem dX0_begin_12 : decode cX0_begin 12 = .ok (.goto 15, 3) := dk_167 0 15 (dk_at dksX0_begin_0 12 rfl rfl)
theorem dX0_begin_15 : decode cX0_begin 15 = .ok (.astore 5, 2) := dk_58 5 (dk_at dksX0_begin_0 15 rfl rfl)
theorem dX0_begin_17 : decode cX0_begin 17 = .ok (.iconst 1, 1) := dk_4 (dk_at dksX0_begin_0 17 rfl rfl)
theorem dX0_begin_18 : decode cX0_begin 18 = .ok (.ireturn, 1) := dk_172 (dk_at dksX0_begin_0 18 rfl rfl)
theorem dX0_begin_19 : decode cX0_begin 19 = .ok (.astore 5, 2) := dk_58 5 (dk_at dksX0_begin_0 19 rfl rfl)
theorem dX0_begin_21 : decode cX0_begin 21 = .ok (.iconst 2, 1) := dk_5 (dk_at dksX0_begin_0 21 rfl rfl)
theorem dX0_begin_22 : decode cX0_begin 22 = .ok (.ireturn, 1) := dk_172 (dk_at dksX0_begin_0 22 rfl rfl)
theorem dX0_begin_23 : decode cX0_begin 23 = .ok (.astore 5, 2) := dk_58 5 (dk_at dksX0_begin_1 0 rfl rfl)
theorem dX0_begin_25 : decode cX0_begin 25 = .ok (.iconst 3, 1) := dk_6 (dk_at dksX0_begin_1 2 rfl rfl)
theorem dX0_begin_26 : decode cX0_begin 26 = .ok (.ireturn, 1) := dk_172 (dk_at dksX0_begin_1 3 rfl rfl)
theorem dX0_begin_27 : decode cX0_begin 27 = .ok (.iconst 0, 1) := dk_3 (dk_at dksX0_begin_1 4 rfl rfl)
theorem dX0_begin_28 : decode cX0_begin 28 = .ok (.ireturn, 1) := dk_172 (dk_at dksX0_begin_1 5 rfl rfl)
abbrev cX0_raid : ByteArray := method_4_code
def yX0_raid : MethodName := ⟨RX0, "raid", "(LRaidhall;I[J)I"⟩
def dkwX0_raid_0 : List UInt8 := [44, 3, 42, 27, 182, 0, 19, 133, 80, 167, 0, 9, 78, 4, 172, 78, 5, 172, 3, 172]
abbrev dktX0_raid_0 : List UInt8 := dkwX0_raid_0 ++ []
theorem dksX0_raid_0 : cX0_raid.data.toList.drop 0 = dktX0_raid_0 := by decide +kernel
theorem dX0_raid_0 : decode cX0_raid 0 = .ok (.aload_n 2, 1) := dk_44 (dk_at dksX0_raid_0 0 rfl rfl)
theorem dX0_raid_1 : decode cX0_raid 1 = .ok (.iconst 0, 1) := dk_3 (dk_at dksX0_raid_0 1 rfl rfl)
theorem dX0_raid_2 : decode cX0_raid 2 = .ok (.aload_n 0, 1) := dk_42 (dk_at dksX0_raid_0 2 rfl rfl)
theorem dX0_raid_3 : decode cX0_raid 3 = .ok (.iload_n 1, 1) := dk_27 (dk_at dksX0_raid_0 3 rfl rfl)
theorem dX0_raid_4 : decode cX0_raid 4 = .ok (.invokevirtual 19, 3) := dk_182 0 19 (dk_at dksX0_raid_0 4 rfl rfl)
theorem dX0_raid_7 : decode cX0_raid 7 = .ok (.i2l, 1) := dk_133 (dk_at dksX0_raid_0 7 rfl rfl)
theorem dX0_raid_8 : decode cX0_raid 8 = .ok (.lastore, 1) := dk_80 (dk_at dksX0_raid_0 8 rfl rfl)
theorem dX0_raid_9 : decode cX0_raid 9 = .ok (.goto 9, 3) := dk_167 0 9 (dk_at dksX0_raid_0 9 rfl rfl)
theorem dX0_raid_12 : decode cX0_raid 12 = .ok (.astore_n 3, 1) := dk_78 (dk_at dksX0_raid_0 12 rfl rfl)
theorem dX0_raid_13 : decode cX0_raid 13 = .ok (.iconst 1, 1) := dk_4 (dk_at dksX0_raid_0 13 rfl rfl)
theorem dX0_raid_14 : decode cX0_raid 14 = .ok (.ireturn, 1) := dk_172 (dk_at dksX0_raid_0 14 rfl rfl)
theorem dX0_raid_15 : decode cX0_raid 15 = .ok (.astore_n 3, 1) := dk_78 (dk_at dksX0_raid_0 15 rfl rfl)
theorem dX0_raid_16 : decode cX0_raid 16 = .ok (.iconst 2, 1) := dk_5 (dk_at dksX0_raid_0 16 rfl rfl)
theorem dX0_raid_17 : decode cX0_raid 17 = .ok (.ireturn, 1) := dk_172 (dk_at dksX0_raid_0 17 rfl rfl)
theorem dX0_raid_18 : decode cX0_raid 18 = .ok (.iconst 0, 1) := dk_3 (dk_at dksX0_raid_0 18 rfl rfl)
theorem dX0_raid_19 : decode cX0_raid 19 = .ok (.ireturn, 1) := dk_172 (dk_at dksX0_raid_0 19 rfl rfl)
abbrev cX0_step : ByteArray := method_5_code
def yX0_step : MethodName := ⟨RX0, "step", "(LRaidhall;III[J)I"⟩
def dkwX0_step_1 : List UInt8 := [172]
abbrev dktX0_step_1 : List UInt8 := dkwX0_step_1 ++ []
def dkwX0_step_0 : List UInt8 := [25, 4, 3, 42, 27, 28, 29, 182, 0, 23, 133, 80, 167, 0, 11, 58, 5, 4, 172, 58, 5, 5, 172, 3]
abbrev dktX0_step_0 : List UInt8 := dkwX0_step_0 ++ dktX0_step_1
theorem dksX0_step_0 : cX0_step.data.toList.drop 0 = dktX0_step_0 := by decide +kernel
theorem dksX0_step_1 : cX0_step.data.toList.drop 24 = dktX0_step_1 := dk_seg dksX0_step_0 24 rfl rfl
theorem dX0_step_0 : decode cX0_step 0 = .ok (.aload 4, 2) := dk_25 4 (dk_at dksX0_step_0 0 rfl rfl)
theorem dX0_step_2 : decode cX0_step 2 = .ok (.iconst 0, 1) := dk_3 (dk_at dksX0_step_0 2 rfl rfl)
theorem dX0_step_3 : decode cX0_step 3 = .ok (.aload_n 0, 1) := dk_42 (dk_at dksX0_step_0 3 rfl rfl)
theorem dX0_step_4 : decode cX0_step 4 = .ok (.iload_n 1, 1) := dk_27 (dk_at dksX0_step_0 4 rfl rfl)
theorem dX0_step_5 : decode cX0_step 5 = .ok (.iload_n 2, 1) := dk_28 (dk_at dksX0_step_0 5 rfl rfl)
theorem dX0_step_6 : decode cX0_step 6 = .ok (.iload_n 3, 1) := dk_29 (dk_at dksX0_step_0 6 rfl rfl)
theorem dX0_step_7 : decode cX0_step 7 = .ok (.invokevirtual 23, 3) := dk_182 0 23 (dk_at dksX0_step_0 7 rfl rfl)
theorem dX0_step_10 : decode cX0_step 10 = .ok (.i2l, 1) := dk_133 (dk_at dksX0_step_0 10 rfl rfl)
theorem dX0_step_11 : decode cX0_step 11 = .ok (.lastore, 1) := dk_80 (dk_at dksX0_step_0 11 rfl rfl)
theorem dX0_step_12 : decode cX0_step 12 = .ok (.goto 11, 3) := dk_167 0 11 (dk_at dksX0_step_0 12 rfl rfl)
theorem dX0_step_15 : decode cX0_step 15 = .ok (.astore 5, 2) := dk_58 5 (dk_at dksX0_step_0 15 rfl rfl)
theorem dX0_step_17 : decode cX0_step 17 = .ok (.iconst 1, 1) := dk_4 (dk_at dksX0_step_0 17 rfl rfl)
theorem dX0_step_18 : decode cX0_step 18 = .ok (.ireturn, 1) := dk_172 (dk_at dksX0_step_0 18 rfl rfl)
theorem dX0_step_19 : decode cX0_step 19 = .ok (.astore 5, 2) := dk_58 5 (dk_at dksX0_step_0 19 rfl rfl)
theorem dX0_step_21 : decode cX0_step 21 = .ok (.iconst 2, 1) := dk_5 (dk_at dksX0_step_0 21 rfl rfl)
theorem dX0_step_22 : decode cX0_step 22 = .ok (.ireturn, 1) := dk_172 (dk_at dksX0_step_0 22 rfl rfl)
theorem dX0_step_23 : decode cX0_step 23 = .ok (.iconst 0, 1) := dk_3 (dk_at dksX0_step_0 23 rfl rfl)
theorem dX0_step_24 : decode cX0_step 24 = .ok (.ireturn, 1) := dk_172 (dk_at dksX0_step_1 0 rfl rfl)
abbrev cX0_card : ByteArray := method_6_code
def yX0_card : MethodName := ⟨RX0, "card", "(LRaidhall;III[J)I"⟩
def dkwX0_card_1 : List UInt8 := [58, 5, 6, 172, 3, 172]
abbrev dktX0_card_1 : List UInt8 := dkwX0_card_1 ++ []
def dkwX0_card_0 : List UInt8 := [25, 4, 3, 42, 27, 28, 29, 182, 0, 26, 133, 80, 167, 0, 15, 58, 5, 4, 172, 58, 5, 5, 172]
abbrev dktX0_card_0 : List UInt8 := dkwX0_card_0 ++ dktX0_card_1
theorem dksX0_card_0 : cX0_card.data.toList.drop 0 = dktX0_card_0 := by decide +kernel
theorem dksX0_card_1 : cX0_card.data.toList.drop 23 = dktX0_card_1 := dk_seg dksX0_card_0 23 rfl rfl
theorem dX0_card_0 : decode cX0_card 0 = .ok (.aload 4, 2) := dk_25 4 (dk_at dksX0_card_0 0 rfl rfl)
theorem dX0_card_2 : decode cX0_card 2 = .ok (.iconst 0, 1) := dk_3 (dk_at dksX0_card_0 2 rfl rfl)
theorem dX0_card_3 : decode cX0_card 3 = .ok (.aload_n 0, 1) := dk_42 (dk_at dksX0_card_0 3 rfl rfl)
theorem dX0_card_4 : decode cX0_card 4 = .ok (.iload_n 1, 1) := dk_27 (dk_at dksX0_card_0 4 rfl rfl)
theorem dX0_card_5 : decode cX0_card 5 = .ok (.iload_n 2, 1) := dk_28 (dk_at dksX0_card_0 5 rfl rfl)
theorem dX0_card_6 : decode cX0_card 6 = .ok (.iload_n 3, 1) := dk_29 (dk_at dksX0_card_0 6 rfl rfl)
theorem dX0_card_7 : decode cX0_card 7 = .ok (.invokevirtual 26, 3) := dk_182 0 26 (dk_at dksX0_card_0 7 rfl rfl)
theorem dX0_card_10 : decode cX0_card 10 = .ok (.i2l, 1) := dk_133 (dk_at dksX0_card_0 10 rfl rfl)
theorem dX0_card_11 : decode cX0_card 11 = .ok (.lastore, 1) := dk_80 (dk_at dksX0_card_0 11 rfl rfl)
theorem dX0_card_12 : decode cX0_card 12 = .ok (.goto 15, 3) := dk_167 0 15 (dk_at dksX0_card_0 12 rfl rfl)
theorem dX0_card_15 : decode cX0_card 15 = .ok (.astore 5, 2) := dk_58 5 (dk_at dksX0_card_0 15 rfl rfl)
theorem dX0_card_17 : decode cX0_card 17 = .ok (.iconst 1, 1) := dk_4 (dk_at dksX0_card_0 17 rfl rfl)
theorem dX0_card_18 : decode cX0_card 18 = .ok (.ireturn, 1) := dk_172 (dk_at dksX0_card_0 18 rfl rfl)
theorem dX0_card_19 : decode cX0_card 19 = .ok (.astore 5, 2) := dk_58 5 (dk_at dksX0_card_0 19 rfl rfl)
theorem dX0_card_21 : decode cX0_card 21 = .ok (.iconst 2, 1) := dk_5 (dk_at dksX0_card_0 21 rfl rfl)
theorem dX0_card_22 : decode cX0_card 22 = .ok (.ireturn, 1) := dk_172 (dk_at dksX0_card_0 22 rfl rfl)
theorem dX0_card_23 : decode cX0_card 23 = .ok (.astore 5, 2) := dk_58 5 (dk_at dksX0_card_1 0 rfl rfl)
theorem dX0_card_25 : decode cX0_card 25 = .ok (.iconst 3, 1) := dk_6 (dk_at dksX0_card_1 2 rfl rfl)
theorem dX0_card_26 : decode cX0_card 26 = .ok (.ireturn, 1) := dk_172 (dk_at dksX0_card_1 3 rfl rfl)
theorem dX0_card_27 : decode cX0_card 27 = .ok (.iconst 0, 1) := dk_3 (dk_at dksX0_card_1 4 rfl rfl)
theorem dX0_card_28 : decode cX0_card 28 = .ok (.ireturn, 1) := dk_172 (dk_at dksX0_card_1 5 rfl rfl)
abbrev cX0_change : ByteArray := method_7_code
def yX0_change : MethodName := ⟨RX0, "change", "(LRaidhall;III[J)I"⟩
def dkwX0_change_1 : List UInt8 := [172]
abbrev dktX0_change_1 : List UInt8 := dkwX0_change_1 ++ []
def dkwX0_change_0 : List UInt8 := [25, 4, 3, 42, 27, 28, 29, 182, 0, 29, 133, 80, 167, 0, 11, 58, 5, 4, 172, 58, 5, 5, 172, 3]
abbrev dktX0_change_0 : List UInt8 := dkwX0_change_0 ++ dktX0_change_1
theorem dksX0_change_0 : cX0_change.data.toList.drop 0 = dktX0_change_0 := by decide +kernel
theorem dksX0_change_1 : cX0_change.data.toList.drop 24 = dktX0_change_1 := dk_seg dksX0_change_0 24 rfl rfl
theorem dX0_change_0 : decode cX0_change 0 = .ok (.aload 4, 2) := dk_25 4 (dk_at dksX0_change_0 0 rfl rfl)
theorem dX0_change_2 : decode cX0_change 2 = .ok (.iconst 0, 1) := dk_3 (dk_at dksX0_change_0 2 rfl rfl)
theorem dX0_change_3 : decode cX0_change 3 = .ok (.aload_n 0, 1) := dk_42 (dk_at dksX0_change_0 3 rfl rfl)
theorem dX0_change_4 : decode cX0_change 4 = .ok (.iload_n 1, 1) := dk_27 (dk_at dksX0_change_0 4 rfl rfl)
theorem dX0_change_5 : decode cX0_change 5 = .ok (.iload_n 2, 1) := dk_28 (dk_at dksX0_change_0 5 rfl rfl)
theorem dX0_change_6 : decode cX0_change 6 = .ok (.iload_n 3, 1) := dk_29 (dk_at dksX0_change_0 6 rfl rfl)
theorem dX0_change_7 : decode cX0_change 7 = .ok (.invokevirtual 29, 3) := dk_182 0 29 (dk_at dksX0_change_0 7 rfl rfl)
theorem dX0_change_10 : decode cX0_change 10 = .ok (.i2l, 1) := dk_133 (dk_at dksX0_change_0 10 rfl rfl)
theorem dX0_change_11 : decode cX0_change 11 = .ok (.lastore, 1) := dk_80 (dk_at dksX0_change_0 11 rfl rfl)
theorem dX0_change_12 : decode cX0_change 12 = .ok (.goto 11, 3) := dk_167 0 11 (dk_at dksX0_change_0 12 rfl rfl)
theorem dX0_change_15 : decode cX0_change 15 = .ok (.astore 5, 2) := dk_58 5 (dk_at dksX0_change_0 15 rfl rfl)
theorem dX0_change_17 : decode cX0_change 17 = .ok (.iconst 1, 1) := dk_4 (dk_at dksX0_change_0 17 rfl rfl)
theorem dX0_change_18 : decode cX0_change 18 = .ok (.ireturn, 1) := dk_172 (dk_at dksX0_change_0 18 rfl rfl)
theorem dX0_change_19 : decode cX0_change 19 = .ok (.astore 5, 2) := dk_58 5 (dk_at dksX0_change_0 19 rfl rfl)
theorem dX0_change_21 : decode cX0_change 21 = .ok (.iconst 2, 1) := dk_5 (dk_at dksX0_change_0 21 rfl rfl)
theorem dX0_change_22 : decode cX0_change 22 = .ok (.ireturn, 1) := dk_172 (dk_at dksX0_change_0 22 rfl rfl)
theorem dX0_change_23 : decode cX0_change 23 = .ok (.iconst 0, 1) := dk_3 (dk_at dksX0_change_0 23 rfl rfl)
theorem dX0_change_24 : decode cX0_change 24 = .ok (.ireturn, 1) := dk_172 (dk_at dksX0_change_1 0 rfl rfl)
abbrev cX0_review : ByteArray := method_8_code
def yX0_review : MethodName := ⟨RX0, "review", "(LRaidhall;IIIII[J)I"⟩
def dkwX0_review_1 : List UInt8 := [58, 7, 5, 172, 58, 7, 6, 172, 3, 172]
abbrev dktX0_review_1 : List UInt8 := dkwX0_review_1 ++ []
def dkwX0_review_0 : List UInt8 := [25, 6, 3, 42, 27, 28, 29, 21, 4, 21, 5, 182, 0, 32, 133, 80, 167, 0, 15, 58, 7, 4, 172]
abbrev dktX0_review_0 : List UInt8 := dkwX0_review_0 ++ dktX0_review_1
theorem dksX0_review_0 : cX0_review.data.toList.drop 0 = dktX0_review_0 := by decide +kernel
theorem dksX0_review_1 : cX0_review.data.toList.drop 23 = dktX0_review_1 := dk_seg dksX0_review_0 23 rfl rfl
theorem dX0_review_0 : decode cX0_review 0 = .ok (.aload 6, 2) := dk_25 6 (dk_at dksX0_review_0 0 rfl rfl)
theorem dX0_review_2 : decode cX0_review 2 = .ok (.iconst 0, 1) := dk_3 (dk_at dksX0_review_0 2 rfl rfl)
theorem dX0_review_3 : decode cX0_review 3 = .ok (.aload_n 0, 1) := dk_42 (dk_at dksX0_review_0 3 rfl rfl)
theorem dX0_review_4 : decode cX0_review 4 = .ok (.iload_n 1, 1) := dk_27 (dk_at dksX0_review_0 4 rfl rfl)
theorem dX0_review_5 : decode cX0_review 5 = .ok (.iload_n 2, 1) := dk_28 (dk_at dksX0_review_0 5 rfl rfl)
theorem dX0_review_6 : decode cX0_review 6 = .ok (.iload_n 3, 1) := dk_29 (dk_at dksX0_review_0 6 rfl rfl)
theorem dX0_review_7 : decode cX0_review 7 = .ok (.iload 4, 2) := dk_21 4 (dk_at dksX0_review_0 7 rfl rfl)
theorem dX0_review_9 : decode cX0_review 9 = .ok (.iload 5, 2) := dk_21 5 (dk_at dksX0_review_0 9 rfl rfl)
theorem dX0_review_11 : decode cX0_review 11 = .ok (.invokevirtual 32, 3) := dk_182 0 32 (dk_at dksX0_review_0 11 rfl rfl)
theorem dX0_review_14 : decode cX0_review 14 = .ok (.i2l, 1) := dk_133 (dk_at dksX0_review_0 14 rfl rfl)
theorem dX0_review_15 : decode cX0_review 15 = .ok (.lastore, 1) := dk_80 (dk_at dksX0_review_0 15 rfl rfl)
theorem dX0_review_16 : decode cX0_review 16 = .ok (.goto 15, 3) := dk_167 0 15 (dk_at dksX0_review_0 16 rfl rfl)
theorem dX0_review_19 : decode cX0_review 19 = .ok (.astore 7, 2) := dk_58 7 (dk_at dksX0_review_0 19 rfl rfl)
theorem dX0_review_21 : decode cX0_review 21 = .ok (.iconst 1, 1) := dk_4 (dk_at dksX0_review_0 21 rfl rfl)
theorem dX0_review_22 : decode cX0_review 22 = .ok (.ireturn, 1) := dk_172 (dk_at dksX0_review_0 22 rfl rfl)
theorem dX0_review_23 : decode cX0_review 23 = .ok (.astore 7, 2) := dk_58 7 (dk_at dksX0_review_1 0 rfl rfl)
theorem dX0_review_25 : decode cX0_review 25 = .ok (.iconst 2, 1) := dk_5 (dk_at dksX0_review_1 2 rfl rfl)
theorem dX0_review_26 : decode cX0_review 26 = .ok (.ireturn, 1) := dk_172 (dk_at dksX0_review_1 3 rfl rfl)
theorem dX0_review_27 : decode cX0_review 27 = .ok (.astore 7, 2) := dk_58 7 (dk_at dksX0_review_1 4 rfl rfl)
theorem dX0_review_29 : decode cX0_review 29 = .ok (.iconst 3, 1) := dk_6 (dk_at dksX0_review_1 6 rfl rfl)
theorem dX0_review_30 : decode cX0_review 30 = .ok (.ireturn, 1) := dk_172 (dk_at dksX0_review_1 7 rfl rfl)
theorem dX0_review_31 : decode cX0_review 31 = .ok (.iconst 0, 1) := dk_3 (dk_at dksX0_review_1 8 rfl rfl)
theorem dX0_review_32 : decode cX0_review 32 = .ok (.ireturn, 1) := dk_172 (dk_at dksX0_review_1 9 rfl rfl)
abbrev cX0_wouldFall : ByteArray := method_9_code
def yX0_wouldFall : MethodName := ⟨RX0, "wouldFall", "(LRaidhall;IIII[J)I"⟩
def dkwX0_wouldFall_1 : List UInt8 := [172, 3, 172]
abbrev dktX0_wouldFall_1 : List UInt8 := dkwX0_wouldFall_1 ++ []
def dkwX0_wouldFall_0 : List UInt8 := [25, 5, 3, 42, 27, 28, 29, 21, 4, 182, 0, 36, 133, 80, 167, 0, 11, 58, 6, 4, 172, 58, 6, 5]
abbrev dktX0_wouldFall_0 : List UInt8 := dkwX0_wouldFall_0 ++ dktX0_wouldFall_1
theorem dksX0_wouldFall_0 : cX0_wouldFall.data.toList.drop 0 = dktX0_wouldFall_0 := by decide +kernel
theorem dksX0_wouldFall_1 : cX0_wouldFall.data.toList.drop 24 = dktX0_wouldFall_1 := dk_seg dksX0_wouldFall_0 24 rfl rfl
theorem dX0_wouldFall_0 : decode cX0_wouldFall 0 = .ok (.aload 5, 2) := dk_25 5 (dk_at dksX0_wouldFall_0 0 rfl rfl)
theorem dX0_wouldFall_2 : decode cX0_wouldFall 2 = .ok (.iconst 0, 1) := dk_3 (dk_at dksX0_wouldFall_0 2 rfl rfl)
theorem dX0_wouldFall_3 : decode cX0_wouldFall 3 = .ok (.aload_n 0, 1) := dk_42 (dk_at dksX0_wouldFall_0 3 rfl rfl)
theorem dX0_wouldFall_4 : decode cX0_wouldFall 4 = .ok (.iload_n 1, 1) := dk_27 (dk_at dksX0_wouldFall_0 4 rfl rfl)
theorem dX0_wouldFall_5 : decode cX0_wouldFall 5 = .ok (.iload_n 2, 1) := dk_28 (dk_at dksX0_wouldFall_0 5 rfl rfl)
theorem dX0_wouldFall_6 : decode cX0_wouldFall 6 = .ok (.iload_n 3, 1) := dk_29 (dk_at dksX0_wouldFall_0 6 rfl rfl)
theorem dX0_wouldFall_7 : decode cX0_wouldFall 7 = .ok (.iload 4, 2) := dk_21 4 (dk_at dksX0_wouldFall_0 7 rfl rfl)
theorem dX0_wouldFall_9 : decode cX0_wouldFall 9 = .ok (.invokevirtual 36, 3) := dk_182 0 36 (dk_at dksX0_wouldFall_0 9 rfl rfl)
theorem dX0_wouldFall_12 : decode cX0_wouldFall 12 = .ok (.i2l, 1) := dk_133 (dk_at dksX0_wouldFall_0 12 rfl rfl)
theorem dX0_wouldFall_13 : decode cX0_wouldFall 13 = .ok (.lastore, 1) := dk_80 (dk_at dksX0_wouldFall_0 13 rfl rfl)
theorem dX0_wouldFall_14 : decode cX0_wouldFall 14 = .ok (.goto 11, 3) := dk_167 0 11 (dk_at dksX0_wouldFall_0 14 rfl rfl)
theorem dX0_wouldFall_17 : decode cX0_wouldFall 17 = .ok (.astore 6, 2) := dk_58 6 (dk_at dksX0_wouldFall_0 17 rfl rfl)
theorem dX0_wouldFall_19 : decode cX0_wouldFall 19 = .ok (.iconst 1, 1) := dk_4 (dk_at dksX0_wouldFall_0 19 rfl rfl)
theorem dX0_wouldFall_20 : decode cX0_wouldFall 20 = .ok (.ireturn, 1) := dk_172 (dk_at dksX0_wouldFall_0 20 rfl rfl)
theorem dX0_wouldFall_21 : decode cX0_wouldFall 21 = .ok (.astore 6, 2) := dk_58 6 (dk_at dksX0_wouldFall_0 21 rfl rfl)
theorem dX0_wouldFall_23 : decode cX0_wouldFall 23 = .ok (.iconst 2, 1) := dk_5 (dk_at dksX0_wouldFall_0 23 rfl rfl)
theorem dX0_wouldFall_24 : decode cX0_wouldFall 24 = .ok (.ireturn, 1) := dk_172 (dk_at dksX0_wouldFall_1 0 rfl rfl)
theorem dX0_wouldFall_25 : decode cX0_wouldFall 25 = .ok (.iconst 0, 1) := dk_3 (dk_at dksX0_wouldFall_1 1 rfl rfl)
theorem dX0_wouldFall_26 : decode cX0_wouldFall 26 = .ok (.ireturn, 1) := dk_172 (dk_at dksX0_wouldFall_1 2 rfl rfl)
abbrev cX0_takeBack : ByteArray := method_10_code
def yX0_takeBack : MethodName := ⟨RX0, "takeBack", "(LRaidhall;I[J)I"⟩
def dkwX0_takeBack_0 : List UInt8 := [44, 3, 42, 27, 182, 0, 40, 133, 80, 167, 0, 6, 78, 4, 172, 3, 172]
abbrev dktX0_takeBack_0 : List UInt8 := dkwX0_takeBack_0 ++ []
theorem dksX0_takeBack_0 : cX0_takeBack.data.toList.drop 0 = dktX0_takeBack_0 := by decide +kernel
theorem dX0_takeBack_0 : decode cX0_takeBack 0 = .ok (.aload_n 2, 1) := dk_44 (dk_at dksX0_takeBack_0 0 rfl rfl)
theorem dX0_takeBack_1 : decode cX0_takeBack 1 = .ok (.iconst 0, 1) := dk_3 (dk_at dksX0_takeBack_0 1 rfl rfl)
theorem dX0_takeBack_2 : decode cX0_takeBack 2 = .ok (.aload_n 0, 1) := dk_42 (dk_at dksX0_takeBack_0 2 rfl rfl)
theorem dX0_takeBack_3 : decode cX0_takeBack 3 = .ok (.iload_n 1, 1) := dk_27 (dk_at dksX0_takeBack_0 3 rfl rfl)
theorem dX0_takeBack_4 : decode cX0_takeBack 4 = .ok (.invokevirtual 40, 3) := dk_182 0 40 (dk_at dksX0_takeBack_0 4 rfl rfl)
theorem dX0_takeBack_7 : decode cX0_takeBack 7 = .ok (.i2l, 1) := dk_133 (dk_at dksX0_takeBack_0 7 rfl rfl)
theorem dX0_takeBack_8 : decode cX0_takeBack 8 = .ok (.lastore, 1) := dk_80 (dk_at dksX0_takeBack_0 8 rfl rfl)
theorem dX0_takeBack_9 : decode cX0_takeBack 9 = .ok (.goto 6, 3) := dk_167 0 6 (dk_at dksX0_takeBack_0 9 rfl rfl)
theorem dX0_takeBack_12 : decode cX0_takeBack 12 = .ok (.astore_n 3, 1) := dk_78 (dk_at dksX0_takeBack_0 12 rfl rfl)
theorem dX0_takeBack_13 : decode cX0_takeBack 13 = .ok (.iconst 1, 1) := dk_4 (dk_at dksX0_takeBack_0 13 rfl rfl)
theorem dX0_takeBack_14 : decode cX0_takeBack 14 = .ok (.ireturn, 1) := dk_172 (dk_at dksX0_takeBack_0 14 rfl rfl)
theorem dX0_takeBack_15 : decode cX0_takeBack 15 = .ok (.iconst 0, 1) := dk_3 (dk_at dksX0_takeBack_0 15 rfl rfl)
theorem dX0_takeBack_16 : decode cX0_takeBack 16 = .ok (.ireturn, 1) := dk_172 (dk_at dksX0_takeBack_0 16 rfl rfl)
abbrev cX0_enter : ByteArray := method_11_code
def yX0_enter : MethodName := ⟨RX0, "enter", "(LRaidhall;[J)I"⟩
def dkwX0_enter_0 : List UInt8 := [43, 3, 42, 182, 0, 43, 133, 80, 167, 0, 6, 77, 4, 172, 3, 172]
abbrev dktX0_enter_0 : List UInt8 := dkwX0_enter_0 ++ []
theorem dksX0_enter_0 : cX0_enter.data.toList.drop 0 = dktX0_enter_0 := by decide +kernel
theorem dX0_enter_0 : decode cX0_enter 0 = .ok (.aload_n 1, 1) := dk_43 (dk_at dksX0_enter_0 0 rfl rfl)
theorem dX0_enter_1 : decode cX0_enter 1 = .ok (.iconst 0, 1) := dk_3 (dk_at dksX0_enter_0 1 rfl rfl)
theorem dX0_enter_2 : decode cX0_enter 2 = .ok (.aload_n 0, 1) := dk_42 (dk_at dksX0_enter_0 2 rfl rfl)
theorem dX0_enter_3 : decode cX0_enter 3 = .ok (.invokevirtual 43, 3) := dk_182 0 43 (dk_at dksX0_enter_0 3 rfl rfl)
theorem dX0_enter_6 : decode cX0_enter 6 = .ok (.i2l, 1) := dk_133 (dk_at dksX0_enter_0 6 rfl rfl)
theorem dX0_enter_7 : decode cX0_enter 7 = .ok (.lastore, 1) := dk_80 (dk_at dksX0_enter_0 7 rfl rfl)
theorem dX0_enter_8 : decode cX0_enter 8 = .ok (.goto 6, 3) := dk_167 0 6 (dk_at dksX0_enter_0 8 rfl rfl)
theorem dX0_enter_11 : decode cX0_enter 11 = .ok (.astore_n 2, 1) := dk_77 (dk_at dksX0_enter_0 11 rfl rfl)
theorem dX0_enter_12 : decode cX0_enter 12 = .ok (.iconst 1, 1) := dk_4 (dk_at dksX0_enter_0 12 rfl rfl)
theorem dX0_enter_13 : decode cX0_enter 13 = .ok (.ireturn, 1) := dk_172 (dk_at dksX0_enter_0 13 rfl rfl)
theorem dX0_enter_14 : decode cX0_enter 14 = .ok (.iconst 0, 1) := dk_3 (dk_at dksX0_enter_0 14 rfl rfl)
theorem dX0_enter_15 : decode cX0_enter 15 = .ok (.ireturn, 1) := dk_172 (dk_at dksX0_enter_0 15 rfl rfl)
abbrev cX0_type : ByteArray := method_12_code
def yX0_type : MethodName := ⟨RX0, "type", "(LRaidhall;I[J)I"⟩
def dkwX0_type_0 : List UInt8 := [44, 3, 42, 27, 182, 0, 47, 133, 80, 167, 0, 9, 78, 4, 172, 78, 5, 172, 3, 172]
abbrev dktX0_type_0 : List UInt8 := dkwX0_type_0 ++ []
theorem dksX0_type_0 : cX0_type.data.toList.drop 0 = dktX0_type_0 := by decide +kernel
theorem dX0_type_0 : decode cX0_type 0 = .ok (.aload_n 2, 1) := dk_44 (dk_at dksX0_type_0 0 rfl rfl)
theorem dX0_type_1 : decode cX0_type 1 = .ok (.iconst 0, 1) := dk_3 (dk_at dksX0_type_0 1 rfl rfl)
theorem dX0_type_2 : decode cX0_type 2 = .ok (.aload_n 0, 1) := dk_42 (dk_at dksX0_type_0 2 rfl rfl)
theorem dX0_type_3 : decode cX0_type 3 = .ok (.iload_n 1, 1) := dk_27 (dk_at dksX0_type_0 3 rfl rfl)
theorem dX0_type_4 : decode cX0_type 4 = .ok (.invokevirtual 47, 3) := dk_182 0 47 (dk_at dksX0_type_0 4 rfl rfl)
theorem dX0_type_7 : decode cX0_type 7 = .ok (.i2l, 1) := dk_133 (dk_at dksX0_type_0 7 rfl rfl)
theorem dX0_type_8 : decode cX0_type 8 = .ok (.lastore, 1) := dk_80 (dk_at dksX0_type_0 8 rfl rfl)
theorem dX0_type_9 : decode cX0_type 9 = .ok (.goto 9, 3) := dk_167 0 9 (dk_at dksX0_type_0 9 rfl rfl)
theorem dX0_type_12 : decode cX0_type 12 = .ok (.astore_n 3, 1) := dk_78 (dk_at dksX0_type_0 12 rfl rfl)
theorem dX0_type_13 : decode cX0_type 13 = .ok (.iconst 1, 1) := dk_4 (dk_at dksX0_type_0 13 rfl rfl)
theorem dX0_type_14 : decode cX0_type 14 = .ok (.ireturn, 1) := dk_172 (dk_at dksX0_type_0 14 rfl rfl)
theorem dX0_type_15 : decode cX0_type 15 = .ok (.astore_n 3, 1) := dk_78 (dk_at dksX0_type_0 15 rfl rfl)
theorem dX0_type_16 : decode cX0_type 16 = .ok (.iconst 2, 1) := dk_5 (dk_at dksX0_type_0 16 rfl rfl)
theorem dX0_type_17 : decode cX0_type 17 = .ok (.ireturn, 1) := dk_172 (dk_at dksX0_type_0 17 rfl rfl)
theorem dX0_type_18 : decode cX0_type 18 = .ok (.iconst 0, 1) := dk_3 (dk_at dksX0_type_0 18 rfl rfl)
theorem dX0_type_19 : decode cX0_type 19 = .ok (.ireturn, 1) := dk_172 (dk_at dksX0_type_0 19 rfl rfl)
abbrev cX0_run : ByteArray := method_13_code
def yX0_run : MethodName := ⟨RX0, "run", "(LRaidhall;[J)I"⟩
def dkwX0_run_0 : List UInt8 := [43, 3, 42, 182, 0, 50, 133, 80, 167, 0, 6, 77, 4, 172, 3, 172]
abbrev dktX0_run_0 : List UInt8 := dkwX0_run_0 ++ []
theorem dksX0_run_0 : cX0_run.data.toList.drop 0 = dktX0_run_0 := by decide +kernel
theorem dX0_run_0 : decode cX0_run 0 = .ok (.aload_n 1, 1) := dk_43 (dk_at dksX0_run_0 0 rfl rfl)
theorem dX0_run_1 : decode cX0_run 1 = .ok (.iconst 0, 1) := dk_3 (dk_at dksX0_run_0 1 rfl rfl)
theorem dX0_run_2 : decode cX0_run 2 = .ok (.aload_n 0, 1) := dk_42 (dk_at dksX0_run_0 2 rfl rfl)
theorem dX0_run_3 : decode cX0_run 3 = .ok (.invokevirtual 50, 3) := dk_182 0 50 (dk_at dksX0_run_0 3 rfl rfl)
theorem dX0_run_6 : decode cX0_run 6 = .ok (.i2l, 1) := dk_133 (dk_at dksX0_run_0 6 rfl rfl)
theorem dX0_run_7 : decode cX0_run 7 = .ok (.lastore, 1) := dk_80 (dk_at dksX0_run_0 7 rfl rfl)
theorem dX0_run_8 : decode cX0_run 8 = .ok (.goto 6, 3) := dk_167 0 6 (dk_at dksX0_run_0 8 rfl rfl)
theorem dX0_run_11 : decode cX0_run 11 = .ok (.astore_n 2, 1) := dk_77 (dk_at dksX0_run_0 11 rfl rfl)
theorem dX0_run_12 : decode cX0_run 12 = .ok (.iconst 1, 1) := dk_4 (dk_at dksX0_run_0 12 rfl rfl)
theorem dX0_run_13 : decode cX0_run 13 = .ok (.ireturn, 1) := dk_172 (dk_at dksX0_run_0 13 rfl rfl)
theorem dX0_run_14 : decode cX0_run 14 = .ok (.iconst 0, 1) := dk_3 (dk_at dksX0_run_0 14 rfl rfl)
theorem dX0_run_15 : decode cX0_run 15 = .ok (.ireturn, 1) := dk_172 (dk_at dksX0_run_0 15 rfl rfl)
abbrev cX0_player : ByteArray := method_14_code
def yX0_player : MethodName := ⟨RX0, "player", "(LRaidhall;II[J)I"⟩
def dkwX0_player_0 : List UInt8 := [45, 3, 42, 27, 28, 182, 0, 53, 133, 80, 167, 0, 11, 58, 4, 4, 172, 58, 4, 5, 172, 3, 172]
abbrev dktX0_player_0 : List UInt8 := dkwX0_player_0 ++ []
theorem dksX0_player_0 : cX0_player.data.toList.drop 0 = dktX0_player_0 := by decide +kernel
theorem dX0_player_0 : decode cX0_player 0 = .ok (.aload_n 3, 1) := dk_45 (dk_at dksX0_player_0 0 rfl rfl)
theorem dX0_player_1 : decode cX0_player 1 = .ok (.iconst 0, 1) := dk_3 (dk_at dksX0_player_0 1 rfl rfl)
theorem dX0_player_2 : decode cX0_player 2 = .ok (.aload_n 0, 1) := dk_42 (dk_at dksX0_player_0 2 rfl rfl)
theorem dX0_player_3 : decode cX0_player 3 = .ok (.iload_n 1, 1) := dk_27 (dk_at dksX0_player_0 3 rfl rfl)
theorem dX0_player_4 : decode cX0_player 4 = .ok (.iload_n 2, 1) := dk_28 (dk_at dksX0_player_0 4 rfl rfl)
theorem dX0_player_5 : decode cX0_player 5 = .ok (.invokevirtual 53, 3) := dk_182 0 53 (dk_at dksX0_player_0 5 rfl rfl)
theorem dX0_player_8 : decode cX0_player 8 = .ok (.i2l, 1) := dk_133 (dk_at dksX0_player_0 8 rfl rfl)
theorem dX0_player_9 : decode cX0_player 9 = .ok (.lastore, 1) := dk_80 (dk_at dksX0_player_0 9 rfl rfl)
theorem dX0_player_10 : decode cX0_player 10 = .ok (.goto 11, 3) := dk_167 0 11 (dk_at dksX0_player_0 10 rfl rfl)
theorem dX0_player_13 : decode cX0_player 13 = .ok (.astore 4, 2) := dk_58 4 (dk_at dksX0_player_0 13 rfl rfl)
theorem dX0_player_15 : decode cX0_player 15 = .ok (.iconst 1, 1) := dk_4 (dk_at dksX0_player_0 15 rfl rfl)
theorem dX0_player_16 : decode cX0_player 16 = .ok (.ireturn, 1) := dk_172 (dk_at dksX0_player_0 16 rfl rfl)
theorem dX0_player_17 : decode cX0_player 17 = .ok (.astore 4, 2) := dk_58 4 (dk_at dksX0_player_0 17 rfl rfl)
theorem dX0_player_19 : decode cX0_player 19 = .ok (.iconst 2, 1) := dk_5 (dk_at dksX0_player_0 19 rfl rfl)
theorem dX0_player_20 : decode cX0_player 20 = .ok (.ireturn, 1) := dk_172 (dk_at dksX0_player_0 20 rfl rfl)
theorem dX0_player_21 : decode cX0_player 21 = .ok (.iconst 0, 1) := dk_3 (dk_at dksX0_player_0 21 rfl rfl)
theorem dX0_player_22 : decode cX0_player 22 = .ok (.ireturn, 1) := dk_172 (dk_at dksX0_player_0 22 rfl rfl)
abbrev cX0_out : ByteArray := method_15_code
def yX0_out : MethodName := ⟨RX0, "out", "(LRaidhall;II[J)I"⟩
def dkwX0_out_0 : List UInt8 := [45, 3, 42, 27, 28, 182, 0, 57, 133, 80, 167, 0, 11, 58, 4, 4, 172, 58, 4, 5, 172, 3, 172]
abbrev dktX0_out_0 : List UInt8 := dkwX0_out_0 ++ []
theorem dksX0_out_0 : cX0_out.data.toList.drop 0 = dktX0_out_0 := by decide +kernel
theorem dX0_out_0 : decode cX0_out 0 = .ok (.aload_n 3, 1) := dk_45 (dk_at dksX0_out_0 0 rfl rfl)
theorem dX0_out_1 : decode cX0_out 1 = .ok (.iconst 0, 1) := dk_3 (dk_at dksX0_out_0 1 rfl rfl)
theorem dX0_out_2 : decode cX0_out 2 = .ok (.aload_n 0, 1) := dk_42 (dk_at dksX0_out_0 2 rfl rfl)
theorem dX0_out_3 : decode cX0_out 3 = .ok (.iload_n 1, 1) := dk_27 (dk_at dksX0_out_0 3 rfl rfl)
theorem dX0_out_4 : decode cX0_out 4 = .ok (.iload_n 2, 1) := dk_28 (dk_at dksX0_out_0 4 rfl rfl)
theorem dX0_out_5 : decode cX0_out 5 = .ok (.invokevirtual 57, 3) := dk_182 0 57 (dk_at dksX0_out_0 5 rfl rfl)
theorem dX0_out_8 : decode cX0_out 8 = .ok (.i2l, 1) := dk_133 (dk_at dksX0_out_0 8 rfl rfl)
theorem dX0_out_9 : decode cX0_out 9 = .ok (.lastore, 1) := dk_80 (dk_at dksX0_out_0 9 rfl rfl)
theorem dX0_out_10 : decode cX0_out 10 = .ok (.goto 11, 3) := dk_167 0 11 (dk_at dksX0_out_0 10 rfl rfl)
theorem dX0_out_13 : decode cX0_out 13 = .ok (.astore 4, 2) := dk_58 4 (dk_at dksX0_out_0 13 rfl rfl)
theorem dX0_out_15 : decode cX0_out 15 = .ok (.iconst 1, 1) := dk_4 (dk_at dksX0_out_0 15 rfl rfl)
theorem dX0_out_16 : decode cX0_out 16 = .ok (.ireturn, 1) := dk_172 (dk_at dksX0_out_0 16 rfl rfl)
theorem dX0_out_17 : decode cX0_out 17 = .ok (.astore 4, 2) := dk_58 4 (dk_at dksX0_out_0 17 rfl rfl)
theorem dX0_out_19 : decode cX0_out 19 = .ok (.iconst 2, 1) := dk_5 (dk_at dksX0_out_0 19 rfl rfl)
theorem dX0_out_20 : decode cX0_out 20 = .ok (.ireturn, 1) := dk_172 (dk_at dksX0_out_0 20 rfl rfl)
theorem dX0_out_21 : decode cX0_out 21 = .ok (.iconst 0, 1) := dk_3 (dk_at dksX0_out_0 21 rfl rfl)
theorem dX0_out_22 : decode cX0_out 22 = .ok (.ireturn, 1) := dk_172 (dk_at dksX0_out_0 22 rfl rfl)
abbrev cX0_next : ByteArray := method_16_code
def yX0_next : MethodName := ⟨RX0, "next", "(LRaidhall;I[J)I"⟩
def dkwX0_next_0 : List UInt8 := [44, 3, 42, 27, 182, 0, 60, 133, 80, 167, 0, 9, 78, 4, 172, 78, 5, 172, 3, 172]
abbrev dktX0_next_0 : List UInt8 := dkwX0_next_0 ++ []
theorem dksX0_next_0 : cX0_next.data.toList.drop 0 = dktX0_next_0 := by decide +kernel
theorem dX0_next_0 : decode cX0_next 0 = .ok (.aload_n 2, 1) := dk_44 (dk_at dksX0_next_0 0 rfl rfl)
theorem dX0_next_1 : decode cX0_next 1 = .ok (.iconst 0, 1) := dk_3 (dk_at dksX0_next_0 1 rfl rfl)
theorem dX0_next_2 : decode cX0_next 2 = .ok (.aload_n 0, 1) := dk_42 (dk_at dksX0_next_0 2 rfl rfl)
theorem dX0_next_3 : decode cX0_next 3 = .ok (.iload_n 1, 1) := dk_27 (dk_at dksX0_next_0 3 rfl rfl)
theorem dX0_next_4 : decode cX0_next 4 = .ok (.invokevirtual 60, 3) := dk_182 0 60 (dk_at dksX0_next_0 4 rfl rfl)
theorem dX0_next_7 : decode cX0_next 7 = .ok (.i2l, 1) := dk_133 (dk_at dksX0_next_0 7 rfl rfl)
theorem dX0_next_8 : decode cX0_next 8 = .ok (.lastore, 1) := dk_80 (dk_at dksX0_next_0 8 rfl rfl)
theorem dX0_next_9 : decode cX0_next 9 = .ok (.goto 9, 3) := dk_167 0 9 (dk_at dksX0_next_0 9 rfl rfl)
theorem dX0_next_12 : decode cX0_next 12 = .ok (.astore_n 3, 1) := dk_78 (dk_at dksX0_next_0 12 rfl rfl)
theorem dX0_next_13 : decode cX0_next 13 = .ok (.iconst 1, 1) := dk_4 (dk_at dksX0_next_0 13 rfl rfl)
theorem dX0_next_14 : decode cX0_next 14 = .ok (.ireturn, 1) := dk_172 (dk_at dksX0_next_0 14 rfl rfl)
theorem dX0_next_15 : decode cX0_next 15 = .ok (.astore_n 3, 1) := dk_78 (dk_at dksX0_next_0 15 rfl rfl)
theorem dX0_next_16 : decode cX0_next 16 = .ok (.iconst 2, 1) := dk_5 (dk_at dksX0_next_0 16 rfl rfl)
theorem dX0_next_17 : decode cX0_next 17 = .ok (.ireturn, 1) := dk_172 (dk_at dksX0_next_0 17 rfl rfl)
theorem dX0_next_18 : decode cX0_next 18 = .ok (.iconst 0, 1) := dk_3 (dk_at dksX0_next_0 18 rfl rfl)
theorem dX0_next_19 : decode cX0_next 19 = .ok (.ireturn, 1) := dk_172 (dk_at dksX0_next_0 19 rfl rfl)
abbrev cX0_points : ByteArray := method_17_code
def yX0_points : MethodName := ⟨RX0, "points", "(LRaidhall;I[J)I"⟩
def dkwX0_points_0 : List UInt8 := [44, 3, 42, 27, 182, 0, 63, 133, 80, 167, 0, 9, 78, 4, 172, 78, 5, 172, 3, 172]
abbrev dktX0_points_0 : List UInt8 := dkwX0_points_0 ++ []
theorem dksX0_points_0 : cX0_points.data.toList.drop 0 = dktX0_points_0 := by decide +kernel
theorem dX0_points_0 : decode cX0_points 0 = .ok (.aload_n 2, 1) := dk_44 (dk_at dksX0_points_0 0 rfl rfl)
theorem dX0_points_1 : decode cX0_points 1 = .ok (.iconst 0, 1) := dk_3 (dk_at dksX0_points_0 1 rfl rfl)
theorem dX0_points_2 : decode cX0_points 2 = .ok (.aload_n 0, 1) := dk_42 (dk_at dksX0_points_0 2 rfl rfl)
theorem dX0_points_3 : decode cX0_points 3 = .ok (.iload_n 1, 1) := dk_27 (dk_at dksX0_points_0 3 rfl rfl)
theorem dX0_points_4 : decode cX0_points 4 = .ok (.invokevirtual 63, 3) := dk_182 0 63 (dk_at dksX0_points_0 4 rfl rfl)
theorem dX0_points_7 : decode cX0_points 7 = .ok (.i2l, 1) := dk_133 (dk_at dksX0_points_0 7 rfl rfl)
theorem dX0_points_8 : decode cX0_points 8 = .ok (.lastore, 1) := dk_80 (dk_at dksX0_points_0 8 rfl rfl)
theorem dX0_points_9 : decode cX0_points 9 = .ok (.goto 9, 3) := dk_167 0 9 (dk_at dksX0_points_0 9 rfl rfl)
theorem dX0_points_12 : decode cX0_points 12 = .ok (.astore_n 3, 1) := dk_78 (dk_at dksX0_points_0 12 rfl rfl)
theorem dX0_points_13 : decode cX0_points 13 = .ok (.iconst 1, 1) := dk_4 (dk_at dksX0_points_0 13 rfl rfl)
theorem dX0_points_14 : decode cX0_points 14 = .ok (.ireturn, 1) := dk_172 (dk_at dksX0_points_0 14 rfl rfl)
theorem dX0_points_15 : decode cX0_points 15 = .ok (.astore_n 3, 1) := dk_78 (dk_at dksX0_points_0 15 rfl rfl)
theorem dX0_points_16 : decode cX0_points 16 = .ok (.iconst 2, 1) := dk_5 (dk_at dksX0_points_0 16 rfl rfl)
theorem dX0_points_17 : decode cX0_points 17 = .ok (.ireturn, 1) := dk_172 (dk_at dksX0_points_0 17 rfl rfl)
theorem dX0_points_18 : decode cX0_points 18 = .ok (.iconst 0, 1) := dk_3 (dk_at dksX0_points_0 18 rfl rfl)
theorem dX0_points_19 : decode cX0_points 19 = .ok (.ireturn, 1) := dk_172 (dk_at dksX0_points_0 19 rfl rfl)
abbrev cX0_match : ByteArray := method_18_code
def yX0_match : MethodName := ⟨RX0, "match", "(LRaidhall;I[J)I"⟩
def dkwX0_match_0 : List UInt8 := [44, 3, 42, 27, 182, 0, 66, 133, 80, 167, 0, 9, 78, 4, 172, 78, 5, 172, 3, 172]
abbrev dktX0_match_0 : List UInt8 := dkwX0_match_0 ++ []
theorem dksX0_match_0 : cX0_match.data.toList.drop 0 = dktX0_match_0 := by decide +kernel
theorem dX0_match_0 : decode cX0_match 0 = .ok (.aload_n 2, 1) := dk_44 (dk_at dksX0_match_0 0 rfl rfl)
theorem dX0_match_1 : decode cX0_match 1 = .ok (.iconst 0, 1) := dk_3 (dk_at dksX0_match_0 1 rfl rfl)
theorem dX0_match_2 : decode cX0_match 2 = .ok (.aload_n 0, 1) := dk_42 (dk_at dksX0_match_0 2 rfl rfl)
theorem dX0_match_3 : decode cX0_match 3 = .ok (.iload_n 1, 1) := dk_27 (dk_at dksX0_match_0 3 rfl rfl)
theorem dX0_match_4 : decode cX0_match 4 = .ok (.invokevirtual 66, 3) := dk_182 0 66 (dk_at dksX0_match_0 4 rfl rfl)
theorem dX0_match_7 : decode cX0_match 7 = .ok (.i2l, 1) := dk_133 (dk_at dksX0_match_0 7 rfl rfl)
theorem dX0_match_8 : decode cX0_match 8 = .ok (.lastore, 1) := dk_80 (dk_at dksX0_match_0 8 rfl rfl)
theorem dX0_match_9 : decode cX0_match 9 = .ok (.goto 9, 3) := dk_167 0 9 (dk_at dksX0_match_0 9 rfl rfl)
theorem dX0_match_12 : decode cX0_match 12 = .ok (.astore_n 3, 1) := dk_78 (dk_at dksX0_match_0 12 rfl rfl)
theorem dX0_match_13 : decode cX0_match 13 = .ok (.iconst 1, 1) := dk_4 (dk_at dksX0_match_0 13 rfl rfl)
theorem dX0_match_14 : decode cX0_match 14 = .ok (.ireturn, 1) := dk_172 (dk_at dksX0_match_0 14 rfl rfl)
theorem dX0_match_15 : decode cX0_match 15 = .ok (.astore_n 3, 1) := dk_78 (dk_at dksX0_match_0 15 rfl rfl)
theorem dX0_match_16 : decode cX0_match 16 = .ok (.iconst 2, 1) := dk_5 (dk_at dksX0_match_0 16 rfl rfl)
theorem dX0_match_17 : decode cX0_match 17 = .ok (.ireturn, 1) := dk_172 (dk_at dksX0_match_0 17 rfl rfl)
theorem dX0_match_18 : decode cX0_match 18 = .ok (.iconst 0, 1) := dk_3 (dk_at dksX0_match_0 18 rfl rfl)
theorem dX0_match_19 : decode cX0_match 19 = .ok (.ireturn, 1) := dk_172 (dk_at dksX0_match_0 19 rfl rfl)
abbrev cX0_hasReview : ByteArray := method_19_code
def yX0_hasReview : MethodName := ⟨RX0, "hasReview", "(LRaidhall;I[J)I"⟩
def dkwX0_hasReview_1 : List UInt8 := [172, 3, 172]
abbrev dktX0_hasReview_1 : List UInt8 := dkwX0_hasReview_1 ++ []
def dkwX0_hasReview_0 : List UInt8 := [44, 3, 42, 27, 182, 0, 69, 153, 0, 7, 10, 167, 0, 4, 9, 80, 167, 0, 9, 78, 4, 172, 78, 5]
abbrev dktX0_hasReview_0 : List UInt8 := dkwX0_hasReview_0 ++ dktX0_hasReview_1
theorem dksX0_hasReview_0 : cX0_hasReview.data.toList.drop 0 = dktX0_hasReview_0 := by decide +kernel
theorem dksX0_hasReview_1 : cX0_hasReview.data.toList.drop 24 = dktX0_hasReview_1 := dk_seg dksX0_hasReview_0 24 rfl rfl
theorem dX0_hasReview_0 : decode cX0_hasReview 0 = .ok (.aload_n 2, 1) := dk_44 (dk_at dksX0_hasReview_0 0 rfl rfl)
theorem dX0_hasReview_1 : decode cX0_hasReview 1 = .ok (.iconst 0, 1) := dk_3 (dk_at dksX0_hasReview_0 1 rfl rfl)
theorem dX0_hasReview_2 : decode cX0_hasReview 2 = .ok (.aload_n 0, 1) := dk_42 (dk_at dksX0_hasReview_0 2 rfl rfl)
theorem dX0_hasReview_3 : decode cX0_hasReview 3 = .ok (.iload_n 1, 1) := dk_27 (dk_at dksX0_hasReview_0 3 rfl rfl)
theorem dX0_hasReview_4 : decode cX0_hasReview 4 = .ok (.invokevirtual 69, 3) := dk_182 0 69 (dk_at dksX0_hasReview_0 4 rfl rfl)
theorem dX0_hasReview_7 : decode cX0_hasReview 7 = .ok (.ifCond .eq 7, 3) := dk_153 0 7 (dk_at dksX0_hasReview_0 7 rfl rfl)
theorem dX0_hasReview_10 : decode cX0_hasReview 10 = .ok (.lconst 1, 1) := dk_10 (dk_at dksX0_hasReview_0 10 rfl rfl)
theorem dX0_hasReview_11 : decode cX0_hasReview 11 = .ok (.goto 4, 3) := dk_167 0 4 (dk_at dksX0_hasReview_0 11 rfl rfl)
theorem dX0_hasReview_14 : decode cX0_hasReview 14 = .ok (.lconst 0, 1) := dk_9 (dk_at dksX0_hasReview_0 14 rfl rfl)
theorem dX0_hasReview_15 : decode cX0_hasReview 15 = .ok (.lastore, 1) := dk_80 (dk_at dksX0_hasReview_0 15 rfl rfl)
theorem dX0_hasReview_16 : decode cX0_hasReview 16 = .ok (.goto 9, 3) := dk_167 0 9 (dk_at dksX0_hasReview_0 16 rfl rfl)
theorem dX0_hasReview_19 : decode cX0_hasReview 19 = .ok (.astore_n 3, 1) := dk_78 (dk_at dksX0_hasReview_0 19 rfl rfl)
theorem dX0_hasReview_20 : decode cX0_hasReview 20 = .ok (.iconst 1, 1) := dk_4 (dk_at dksX0_hasReview_0 20 rfl rfl)
theorem dX0_hasReview_21 : decode cX0_hasReview 21 = .ok (.ireturn, 1) := dk_172 (dk_at dksX0_hasReview_0 21 rfl rfl)
theorem dX0_hasReview_22 : decode cX0_hasReview 22 = .ok (.astore_n 3, 1) := dk_78 (dk_at dksX0_hasReview_0 22 rfl rfl)
theorem dX0_hasReview_23 : decode cX0_hasReview 23 = .ok (.iconst 2, 1) := dk_5 (dk_at dksX0_hasReview_0 23 rfl rfl)
theorem dX0_hasReview_24 : decode cX0_hasReview 24 = .ok (.ireturn, 1) := dk_172 (dk_at dksX0_hasReview_1 0 rfl rfl)
theorem dX0_hasReview_25 : decode cX0_hasReview 25 = .ok (.iconst 0, 1) := dk_3 (dk_at dksX0_hasReview_1 1 rfl rfl)
theorem dX0_hasReview_26 : decode cX0_hasReview 26 = .ok (.ireturn, 1) := dk_172 (dk_at dksX0_hasReview_1 2 rfl rfl)
abbrev cX0_matAfter : ByteArray := method_20_code
def yX0_matAfter : MethodName := ⟨RX0, "matAfter", "(LRaidhall;II[J)I"⟩
def dkwX0_matAfter_0 : List UInt8 := [45, 3, 42, 27, 28, 182, 0, 73, 133, 80, 167, 0, 7, 58, 4, 4, 172, 3, 172]
abbrev dktX0_matAfter_0 : List UInt8 := dkwX0_matAfter_0 ++ []
theorem dksX0_matAfter_0 : cX0_matAfter.data.toList.drop 0 = dktX0_matAfter_0 := by decide +kernel
theorem dX0_matAfter_0 : decode cX0_matAfter 0 = .ok (.aload_n 3, 1) := dk_45 (dk_at dksX0_matAfter_0 0 rfl rfl)
theorem dX0_matAfter_1 : decode cX0_matAfter 1 = .ok (.iconst 0, 1) := dk_3 (dk_at dksX0_matAfter_0 1 rfl rfl)
theorem dX0_matAfter_2 : decode cX0_matAfter 2 = .ok (.aload_n 0, 1) := dk_42 (dk_at dksX0_matAfter_0 2 rfl rfl)
theorem dX0_matAfter_3 : decode cX0_matAfter 3 = .ok (.iload_n 1, 1) := dk_27 (dk_at dksX0_matAfter_0 3 rfl rfl)
theorem dX0_matAfter_4 : decode cX0_matAfter 4 = .ok (.iload_n 2, 1) := dk_28 (dk_at dksX0_matAfter_0 4 rfl rfl)
theorem dX0_matAfter_5 : decode cX0_matAfter 5 = .ok (.invokevirtual 73, 3) := dk_182 0 73 (dk_at dksX0_matAfter_0 5 rfl rfl)
theorem dX0_matAfter_8 : decode cX0_matAfter 8 = .ok (.i2l, 1) := dk_133 (dk_at dksX0_matAfter_0 8 rfl rfl)
theorem dX0_matAfter_9 : decode cX0_matAfter 9 = .ok (.lastore, 1) := dk_80 (dk_at dksX0_matAfter_0 9 rfl rfl)
theorem dX0_matAfter_10 : decode cX0_matAfter 10 = .ok (.goto 7, 3) := dk_167 0 7 (dk_at dksX0_matAfter_0 10 rfl rfl)
theorem dX0_matAfter_13 : decode cX0_matAfter 13 = .ok (.astore 4, 2) := dk_58 4 (dk_at dksX0_matAfter_0 13 rfl rfl)
theorem dX0_matAfter_15 : decode cX0_matAfter 15 = .ok (.iconst 1, 1) := dk_4 (dk_at dksX0_matAfter_0 15 rfl rfl)
theorem dX0_matAfter_16 : decode cX0_matAfter 16 = .ok (.ireturn, 1) := dk_172 (dk_at dksX0_matAfter_0 16 rfl rfl)
theorem dX0_matAfter_17 : decode cX0_matAfter 17 = .ok (.iconst 0, 1) := dk_3 (dk_at dksX0_matAfter_0 17 rfl rfl)
theorem dX0_matAfter_18 : decode cX0_matAfter 18 = .ok (.ireturn, 1) := dk_172 (dk_at dksX0_matAfter_0 18 rfl rfl)
abbrev cX0_matAnew : ByteArray := method_21_code
def yX0_matAnew : MethodName := ⟨RX0, "matAnew", "(LRaidhall;II[J)I"⟩
def dkwX0_matAnew_0 : List UInt8 := [45, 3, 42, 27, 28, 182, 0, 76, 133, 80, 167, 0, 7, 58, 4, 4, 172, 3, 172]
abbrev dktX0_matAnew_0 : List UInt8 := dkwX0_matAnew_0 ++ []
theorem dksX0_matAnew_0 : cX0_matAnew.data.toList.drop 0 = dktX0_matAnew_0 := by decide +kernel
theorem dX0_matAnew_0 : decode cX0_matAnew 0 = .ok (.aload_n 3, 1) := dk_45 (dk_at dksX0_matAnew_0 0 rfl rfl)
theorem dX0_matAnew_1 : decode cX0_matAnew 1 = .ok (.iconst 0, 1) := dk_3 (dk_at dksX0_matAnew_0 1 rfl rfl)
theorem dX0_matAnew_2 : decode cX0_matAnew 2 = .ok (.aload_n 0, 1) := dk_42 (dk_at dksX0_matAnew_0 2 rfl rfl)
theorem dX0_matAnew_3 : decode cX0_matAnew 3 = .ok (.iload_n 1, 1) := dk_27 (dk_at dksX0_matAnew_0 3 rfl rfl)
theorem dX0_matAnew_4 : decode cX0_matAnew 4 = .ok (.iload_n 2, 1) := dk_28 (dk_at dksX0_matAnew_0 4 rfl rfl)
theorem dX0_matAnew_5 : decode cX0_matAnew 5 = .ok (.invokevirtual 76, 3) := dk_182 0 76 (dk_at dksX0_matAnew_0 5 rfl rfl)
theorem dX0_matAnew_8 : decode cX0_matAnew 8 = .ok (.i2l, 1) := dk_133 (dk_at dksX0_matAnew_0 8 rfl rfl)
theorem dX0_matAnew_9 : decode cX0_matAnew 9 = .ok (.lastore, 1) := dk_80 (dk_at dksX0_matAnew_0 9 rfl rfl)
theorem dX0_matAnew_10 : decode cX0_matAnew 10 = .ok (.goto 7, 3) := dk_167 0 7 (dk_at dksX0_matAnew_0 10 rfl rfl)
theorem dX0_matAnew_13 : decode cX0_matAnew 13 = .ok (.astore 4, 2) := dk_58 4 (dk_at dksX0_matAnew_0 13 rfl rfl)
theorem dX0_matAnew_15 : decode cX0_matAnew 15 = .ok (.iconst 1, 1) := dk_4 (dk_at dksX0_matAnew_0 15 rfl rfl)
theorem dX0_matAnew_16 : decode cX0_matAnew 16 = .ok (.ireturn, 1) := dk_172 (dk_at dksX0_matAnew_0 16 rfl rfl)
theorem dX0_matAnew_17 : decode cX0_matAnew 17 = .ok (.iconst 0, 1) := dk_3 (dk_at dksX0_matAnew_0 17 rfl rfl)
theorem dX0_matAnew_18 : decode cX0_matAnew 18 = .ok (.ireturn, 1) := dk_172 (dk_at dksX0_matAnew_0 18 rfl rfl)
abbrev cX0_pointsAfter : ByteArray := method_22_code
def yX0_pointsAfter : MethodName := ⟨RX0, "pointsAfter", "(LRaidhall;II[J)I"⟩
def dkwX0_pointsAfter_0 : List UInt8 := [45, 3, 42, 27, 28, 182, 0, 79, 133, 80, 167, 0, 7, 58, 4, 4, 172, 3, 172]
abbrev dktX0_pointsAfter_0 : List UInt8 := dkwX0_pointsAfter_0 ++ []
theorem dksX0_pointsAfter_0 : cX0_pointsAfter.data.toList.drop 0 = dktX0_pointsAfter_0 := by decide +kernel
theorem dX0_pointsAfter_0 : decode cX0_pointsAfter 0 = .ok (.aload_n 3, 1) := dk_45 (dk_at dksX0_pointsAfter_0 0 rfl rfl)
theorem dX0_pointsAfter_1 : decode cX0_pointsAfter 1 = .ok (.iconst 0, 1) := dk_3 (dk_at dksX0_pointsAfter_0 1 rfl rfl)
theorem dX0_pointsAfter_2 : decode cX0_pointsAfter 2 = .ok (.aload_n 0, 1) := dk_42 (dk_at dksX0_pointsAfter_0 2 rfl rfl)
theorem dX0_pointsAfter_3 : decode cX0_pointsAfter 3 = .ok (.iload_n 1, 1) := dk_27 (dk_at dksX0_pointsAfter_0 3 rfl rfl)
theorem dX0_pointsAfter_4 : decode cX0_pointsAfter 4 = .ok (.iload_n 2, 1) := dk_28 (dk_at dksX0_pointsAfter_0 4 rfl rfl)
theorem dX0_pointsAfter_5 : decode cX0_pointsAfter 5 = .ok (.invokevirtual 79, 3) := dk_182 0 79 (dk_at dksX0_pointsAfter_0 5 rfl rfl)
theorem dX0_pointsAfter_8 : decode cX0_pointsAfter 8 = .ok (.i2l, 1) := dk_133 (dk_at dksX0_pointsAfter_0 8 rfl rfl)
theorem dX0_pointsAfter_9 : decode cX0_pointsAfter 9 = .ok (.lastore, 1) := dk_80 (dk_at dksX0_pointsAfter_0 9 rfl rfl)
theorem dX0_pointsAfter_10 : decode cX0_pointsAfter 10 = .ok (.goto 7, 3) := dk_167 0 7 (dk_at dksX0_pointsAfter_0 10 rfl rfl)
theorem dX0_pointsAfter_13 : decode cX0_pointsAfter 13 = .ok (.astore 4, 2) := dk_58 4 (dk_at dksX0_pointsAfter_0 13 rfl rfl)
theorem dX0_pointsAfter_15 : decode cX0_pointsAfter 15 = .ok (.iconst 1, 1) := dk_4 (dk_at dksX0_pointsAfter_0 15 rfl rfl)
theorem dX0_pointsAfter_16 : decode cX0_pointsAfter 16 = .ok (.ireturn, 1) := dk_172 (dk_at dksX0_pointsAfter_0 16 rfl rfl)
theorem dX0_pointsAfter_17 : decode cX0_pointsAfter 17 = .ok (.iconst 0, 1) := dk_3 (dk_at dksX0_pointsAfter_0 17 rfl rfl)
theorem dX0_pointsAfter_18 : decode cX0_pointsAfter 18 = .ok (.ireturn, 1) := dk_172 (dk_at dksX0_pointsAfter_0 18 rfl rfl)
abbrev cX0_raidPoints : ByteArray := method_23_code
def yX0_raidPoints : MethodName := ⟨RX0, "raidPoints", "(LRaidhall;II[J)I"⟩
def dkwX0_raidPoints_0 : List UInt8 := [45, 3, 42, 27, 28, 182, 0, 82, 133, 80, 167, 0, 11, 58, 4, 4, 172, 58, 4, 5, 172, 3, 172]
abbrev dktX0_raidPoints_0 : List UInt8 := dkwX0_raidPoints_0 ++ []
theorem dksX0_raidPoints_0 : cX0_raidPoints.data.toList.drop 0 = dktX0_raidPoints_0 := by decide +kernel
theorem dX0_raidPoints_0 : decode cX0_raidPoints 0 = .ok (.aload_n 3, 1) := dk_45 (dk_at dksX0_raidPoints_0 0 rfl rfl)
theorem dX0_raidPoints_1 : decode cX0_raidPoints 1 = .ok (.iconst 0, 1) := dk_3 (dk_at dksX0_raidPoints_0 1 rfl rfl)
theorem dX0_raidPoints_2 : decode cX0_raidPoints 2 = .ok (.aload_n 0, 1) := dk_42 (dk_at dksX0_raidPoints_0 2 rfl rfl)
theorem dX0_raidPoints_3 : decode cX0_raidPoints 3 = .ok (.iload_n 1, 1) := dk_27 (dk_at dksX0_raidPoints_0 3 rfl rfl)
theorem dX0_raidPoints_4 : decode cX0_raidPoints 4 = .ok (.iload_n 2, 1) := dk_28 (dk_at dksX0_raidPoints_0 4 rfl rfl)
theorem dX0_raidPoints_5 : decode cX0_raidPoints 5 = .ok (.invokevirtual 82, 3) := dk_182 0 82 (dk_at dksX0_raidPoints_0 5 rfl rfl)
theorem dX0_raidPoints_8 : decode cX0_raidPoints 8 = .ok (.i2l, 1) := dk_133 (dk_at dksX0_raidPoints_0 8 rfl rfl)
theorem dX0_raidPoints_9 : decode cX0_raidPoints 9 = .ok (.lastore, 1) := dk_80 (dk_at dksX0_raidPoints_0 9 rfl rfl)
theorem dX0_raidPoints_10 : decode cX0_raidPoints 10 = .ok (.goto 11, 3) := dk_167 0 11 (dk_at dksX0_raidPoints_0 10 rfl rfl)
theorem dX0_raidPoints_13 : decode cX0_raidPoints 13 = .ok (.astore 4, 2) := dk_58 4 (dk_at dksX0_raidPoints_0 13 rfl rfl)
theorem dX0_raidPoints_15 : decode cX0_raidPoints 15 = .ok (.iconst 1, 1) := dk_4 (dk_at dksX0_raidPoints_0 15 rfl rfl)
theorem dX0_raidPoints_16 : decode cX0_raidPoints 16 = .ok (.ireturn, 1) := dk_172 (dk_at dksX0_raidPoints_0 16 rfl rfl)
theorem dX0_raidPoints_17 : decode cX0_raidPoints 17 = .ok (.astore 4, 2) := dk_58 4 (dk_at dksX0_raidPoints_0 17 rfl rfl)
theorem dX0_raidPoints_19 : decode cX0_raidPoints 19 = .ok (.iconst 2, 1) := dk_5 (dk_at dksX0_raidPoints_0 19 rfl rfl)
theorem dX0_raidPoints_20 : decode cX0_raidPoints 20 = .ok (.ireturn, 1) := dk_172 (dk_at dksX0_raidPoints_0 20 rfl rfl)
theorem dX0_raidPoints_21 : decode cX0_raidPoints 21 = .ok (.iconst 0, 1) := dk_3 (dk_at dksX0_raidPoints_0 21 rfl rfl)
theorem dX0_raidPoints_22 : decode cX0_raidPoints 22 = .ok (.ireturn, 1) := dk_172 (dk_at dksX0_raidPoints_0 22 rfl rfl)
abbrev cX0_club : ByteArray := method_24_code
def yX0_club : MethodName := ⟨RX0, "club", "(LRaidhall;II[J)I"⟩
def dkwX0_club_0 : List UInt8 := [45, 3, 42, 27, 28, 182, 0, 85, 133, 80, 167, 0, 11, 58, 4, 4, 172, 58, 4, 5, 172, 3, 172]
abbrev dktX0_club_0 : List UInt8 := dkwX0_club_0 ++ []
theorem dksX0_club_0 : cX0_club.data.toList.drop 0 = dktX0_club_0 := by decide +kernel
theorem dX0_club_0 : decode cX0_club 0 = .ok (.aload_n 3, 1) := dk_45 (dk_at dksX0_club_0 0 rfl rfl)
theorem dX0_club_1 : decode cX0_club 1 = .ok (.iconst 0, 1) := dk_3 (dk_at dksX0_club_0 1 rfl rfl)
theorem dX0_club_2 : decode cX0_club 2 = .ok (.aload_n 0, 1) := dk_42 (dk_at dksX0_club_0 2 rfl rfl)
theorem dX0_club_3 : decode cX0_club 3 = .ok (.iload_n 1, 1) := dk_27 (dk_at dksX0_club_0 3 rfl rfl)
theorem dX0_club_4 : decode cX0_club 4 = .ok (.iload_n 2, 1) := dk_28 (dk_at dksX0_club_0 4 rfl rfl)
theorem dX0_club_5 : decode cX0_club 5 = .ok (.invokevirtual 85, 3) := dk_182 0 85 (dk_at dksX0_club_0 5 rfl rfl)
theorem dX0_club_8 : decode cX0_club 8 = .ok (.i2l, 1) := dk_133 (dk_at dksX0_club_0 8 rfl rfl)
theorem dX0_club_9 : decode cX0_club 9 = .ok (.lastore, 1) := dk_80 (dk_at dksX0_club_0 9 rfl rfl)
theorem dX0_club_10 : decode cX0_club 10 = .ok (.goto 11, 3) := dk_167 0 11 (dk_at dksX0_club_0 10 rfl rfl)
theorem dX0_club_13 : decode cX0_club 13 = .ok (.astore 4, 2) := dk_58 4 (dk_at dksX0_club_0 13 rfl rfl)
theorem dX0_club_15 : decode cX0_club 15 = .ok (.iconst 1, 1) := dk_4 (dk_at dksX0_club_0 15 rfl rfl)
theorem dX0_club_16 : decode cX0_club 16 = .ok (.ireturn, 1) := dk_172 (dk_at dksX0_club_0 16 rfl rfl)
theorem dX0_club_17 : decode cX0_club 17 = .ok (.astore 4, 2) := dk_58 4 (dk_at dksX0_club_0 17 rfl rfl)
theorem dX0_club_19 : decode cX0_club 19 = .ok (.iconst 2, 1) := dk_5 (dk_at dksX0_club_0 19 rfl rfl)
theorem dX0_club_20 : decode cX0_club 20 = .ok (.ireturn, 1) := dk_172 (dk_at dksX0_club_0 20 rfl rfl)
theorem dX0_club_21 : decode cX0_club 21 = .ok (.iconst 0, 1) := dk_3 (dk_at dksX0_club_0 21 rfl rfl)
theorem dX0_club_22 : decode cX0_club 22 = .ok (.ireturn, 1) := dk_172 (dk_at dksX0_club_0 22 rfl rfl)
abbrev cX0_right : ByteArray := method_25_code
def yX0_right : MethodName := ⟨RX0, "right", "(LRaidhall;II[J)I"⟩
def dkwX0_right_0 : List UInt8 := [45, 3, 42, 27, 28, 182, 0, 88, 133, 80, 167, 0, 11, 58, 4, 4, 172, 58, 4, 5, 172, 3, 172]
abbrev dktX0_right_0 : List UInt8 := dkwX0_right_0 ++ []
theorem dksX0_right_0 : cX0_right.data.toList.drop 0 = dktX0_right_0 := by decide +kernel
theorem dX0_right_0 : decode cX0_right 0 = .ok (.aload_n 3, 1) := dk_45 (dk_at dksX0_right_0 0 rfl rfl)
theorem dX0_right_1 : decode cX0_right 1 = .ok (.iconst 0, 1) := dk_3 (dk_at dksX0_right_0 1 rfl rfl)
theorem dX0_right_2 : decode cX0_right 2 = .ok (.aload_n 0, 1) := dk_42 (dk_at dksX0_right_0 2 rfl rfl)
theorem dX0_right_3 : decode cX0_right 3 = .ok (.iload_n 1, 1) := dk_27 (dk_at dksX0_right_0 3 rfl rfl)
theorem dX0_right_4 : decode cX0_right 4 = .ok (.iload_n 2, 1) := dk_28 (dk_at dksX0_right_0 4 rfl rfl)
theorem dX0_right_5 : decode cX0_right 5 = .ok (.invokevirtual 88, 3) := dk_182 0 88 (dk_at dksX0_right_0 5 rfl rfl)
theorem dX0_right_8 : decode cX0_right 8 = .ok (.i2l, 1) := dk_133 (dk_at dksX0_right_0 8 rfl rfl)
theorem dX0_right_9 : decode cX0_right 9 = .ok (.lastore, 1) := dk_80 (dk_at dksX0_right_0 9 rfl rfl)
theorem dX0_right_10 : decode cX0_right 10 = .ok (.goto 11, 3) := dk_167 0 11 (dk_at dksX0_right_0 10 rfl rfl)
theorem dX0_right_13 : decode cX0_right 13 = .ok (.astore 4, 2) := dk_58 4 (dk_at dksX0_right_0 13 rfl rfl)
theorem dX0_right_15 : decode cX0_right 15 = .ok (.iconst 1, 1) := dk_4 (dk_at dksX0_right_0 15 rfl rfl)
theorem dX0_right_16 : decode cX0_right 16 = .ok (.ireturn, 1) := dk_172 (dk_at dksX0_right_0 16 rfl rfl)
theorem dX0_right_17 : decode cX0_right 17 = .ok (.astore 4, 2) := dk_58 4 (dk_at dksX0_right_0 17 rfl rfl)
theorem dX0_right_19 : decode cX0_right 19 = .ok (.iconst 2, 1) := dk_5 (dk_at dksX0_right_0 19 rfl rfl)
theorem dX0_right_20 : decode cX0_right 20 = .ok (.ireturn, 1) := dk_172 (dk_at dksX0_right_0 20 rfl rfl)
theorem dX0_right_21 : decode cX0_right 21 = .ok (.iconst 0, 1) := dk_3 (dk_at dksX0_right_0 21 rfl rfl)
theorem dX0_right_22 : decode cX0_right 22 = .ok (.ireturn, 1) := dk_172 (dk_at dksX0_right_0 22 rfl rfl)
abbrev cX0_call : ByteArray := method_26_code
def yX0_call : MethodName := ⟨RX0, "call", "(LRaidhall;I[J)I"⟩
def dkwX0_call_0 : List UInt8 := [44, 3, 42, 27, 182, 0, 91, 133, 80, 167, 0, 9, 78, 4, 172, 78, 5, 172, 3, 172]
abbrev dktX0_call_0 : List UInt8 := dkwX0_call_0 ++ []
theorem dksX0_call_0 : cX0_call.data.toList.drop 0 = dktX0_call_0 := by decide +kernel
theorem dX0_call_0 : decode cX0_call 0 = .ok (.aload_n 2, 1) := dk_44 (dk_at dksX0_call_0 0 rfl rfl)
theorem dX0_call_1 : decode cX0_call 1 = .ok (.iconst 0, 1) := dk_3 (dk_at dksX0_call_0 1 rfl rfl)
theorem dX0_call_2 : decode cX0_call 2 = .ok (.aload_n 0, 1) := dk_42 (dk_at dksX0_call_0 2 rfl rfl)
theorem dX0_call_3 : decode cX0_call 3 = .ok (.iload_n 1, 1) := dk_27 (dk_at dksX0_call_0 3 rfl rfl)
theorem dX0_call_4 : decode cX0_call 4 = .ok (.invokevirtual 91, 3) := dk_182 0 91 (dk_at dksX0_call_0 4 rfl rfl)
theorem dX0_call_7 : decode cX0_call 7 = .ok (.i2l, 1) := dk_133 (dk_at dksX0_call_0 7 rfl rfl)
theorem dX0_call_8 : decode cX0_call 8 = .ok (.lastore, 1) := dk_80 (dk_at dksX0_call_0 8 rfl rfl)
theorem dX0_call_9 : decode cX0_call 9 = .ok (.goto 9, 3) := dk_167 0 9 (dk_at dksX0_call_0 9 rfl rfl)
theorem dX0_call_12 : decode cX0_call 12 = .ok (.astore_n 3, 1) := dk_78 (dk_at dksX0_call_0 12 rfl rfl)
theorem dX0_call_13 : decode cX0_call 13 = .ok (.iconst 1, 1) := dk_4 (dk_at dksX0_call_0 13 rfl rfl)
theorem dX0_call_14 : decode cX0_call 14 = .ok (.ireturn, 1) := dk_172 (dk_at dksX0_call_0 14 rfl rfl)
theorem dX0_call_15 : decode cX0_call 15 = .ok (.astore_n 3, 1) := dk_78 (dk_at dksX0_call_0 15 rfl rfl)
theorem dX0_call_16 : decode cX0_call 16 = .ok (.iconst 2, 1) := dk_5 (dk_at dksX0_call_0 16 rfl rfl)
theorem dX0_call_17 : decode cX0_call 17 = .ok (.ireturn, 1) := dk_172 (dk_at dksX0_call_0 17 rfl rfl)
theorem dX0_call_18 : decode cX0_call 18 = .ok (.iconst 0, 1) := dk_3 (dk_at dksX0_call_0 18 rfl rfl)
theorem dX0_call_19 : decode cX0_call 19 = .ok (.ireturn, 1) := dk_172 (dk_at dksX0_call_0 19 rfl rfl)
abbrev cX0_bid : ByteArray := method_27_code
def yX0_bid : MethodName := ⟨RX0, "bid", "(LRaidhall;II[J)I"⟩
def dkwX0_bid_1 : List UInt8 := [172, 3, 172]
abbrev dktX0_bid_1 : List UInt8 := dkwX0_bid_1 ++ []
def dkwX0_bid_0 : List UInt8 := [45, 3, 42, 27, 28, 182, 0, 94, 133, 80, 167, 0, 15, 58, 4, 4, 172, 58, 4, 5, 172, 58, 4, 6]
abbrev dktX0_bid_0 : List UInt8 := dkwX0_bid_0 ++ dktX0_bid_1
theorem dksX0_bid_0 : cX0_bid.data.toList.drop 0 = dktX0_bid_0 := by decide +kernel
theorem dksX0_bid_1 : cX0_bid.data.toList.drop 24 = dktX0_bid_1 := dk_seg dksX0_bid_0 24 rfl rfl
theorem dX0_bid_0 : decode cX0_bid 0 = .ok (.aload_n 3, 1) := dk_45 (dk_at dksX0_bid_0 0 rfl rfl)
theorem dX0_bid_1 : decode cX0_bid 1 = .ok (.iconst 0, 1) := dk_3 (dk_at dksX0_bid_0 1 rfl rfl)
theorem dX0_bid_2 : decode cX0_bid 2 = .ok (.aload_n 0, 1) := dk_42 (dk_at dksX0_bid_0 2 rfl rfl)
theorem dX0_bid_3 : decode cX0_bid 3 = .ok (.iload_n 1, 1) := dk_27 (dk_at dksX0_bid_0 3 rfl rfl)
theorem dX0_bid_4 : decode cX0_bid 4 = .ok (.iload_n 2, 1) := dk_28 (dk_at dksX0_bid_0 4 rfl rfl)
theorem dX0_bid_5 : decode cX0_bid 5 = .ok (.invokevirtual 94, 3) := dk_182 0 94 (dk_at dksX0_bid_0 5 rfl rfl)
theorem dX0_bid_8 : decode cX0_bid 8 = .ok (.i2l, 1) := dk_133 (dk_at dksX0_bid_0 8 rfl rfl)
theorem dX0_bid_9 : decode cX0_bid 9 = .ok (.lastore, 1) := dk_80 (dk_at dksX0_bid_0 9 rfl rfl)
theorem dX0_bid_10 : decode cX0_bid 10 = .ok (.goto 15, 3) := dk_167 0 15 (dk_at dksX0_bid_0 10 rfl rfl)
theorem dX0_bid_13 : decode cX0_bid 13 = .ok (.astore 4, 2) := dk_58 4 (dk_at dksX0_bid_0 13 rfl rfl)
theorem dX0_bid_15 : decode cX0_bid 15 = .ok (.iconst 1, 1) := dk_4 (dk_at dksX0_bid_0 15 rfl rfl)
theorem dX0_bid_16 : decode cX0_bid 16 = .ok (.ireturn, 1) := dk_172 (dk_at dksX0_bid_0 16 rfl rfl)
theorem dX0_bid_17 : decode cX0_bid 17 = .ok (.astore 4, 2) := dk_58 4 (dk_at dksX0_bid_0 17 rfl rfl)
theorem dX0_bid_19 : decode cX0_bid 19 = .ok (.iconst 2, 1) := dk_5 (dk_at dksX0_bid_0 19 rfl rfl)
theorem dX0_bid_20 : decode cX0_bid 20 = .ok (.ireturn, 1) := dk_172 (dk_at dksX0_bid_0 20 rfl rfl)
theorem dX0_bid_21 : decode cX0_bid 21 = .ok (.astore 4, 2) := dk_58 4 (dk_at dksX0_bid_0 21 rfl rfl)
theorem dX0_bid_23 : decode cX0_bid 23 = .ok (.iconst 3, 1) := dk_6 (dk_at dksX0_bid_0 23 rfl rfl)
theorem dX0_bid_24 : decode cX0_bid 24 = .ok (.ireturn, 1) := dk_172 (dk_at dksX0_bid_1 0 rfl rfl)
theorem dX0_bid_25 : decode cX0_bid 25 = .ok (.iconst 0, 1) := dk_3 (dk_at dksX0_bid_1 1 rfl rfl)
theorem dX0_bid_26 : decode cX0_bid 26 = .ok (.ireturn, 1) := dk_172 (dk_at dksX0_bid_1 2 rfl rfl)
abbrev cX0_hammer : ByteArray := method_28_code
def yX0_hammer : MethodName := ⟨RX0, "hammer", "(LRaidhall;[J)I"⟩
def dkwX0_hammer_0 : List UInt8 := [43, 3, 42, 182, 0, 97, 133, 80, 167, 0, 6, 77, 4, 172, 3, 172]
abbrev dktX0_hammer_0 : List UInt8 := dkwX0_hammer_0 ++ []
theorem dksX0_hammer_0 : cX0_hammer.data.toList.drop 0 = dktX0_hammer_0 := by decide +kernel
theorem dX0_hammer_0 : decode cX0_hammer 0 = .ok (.aload_n 1, 1) := dk_43 (dk_at dksX0_hammer_0 0 rfl rfl)
theorem dX0_hammer_1 : decode cX0_hammer 1 = .ok (.iconst 0, 1) := dk_3 (dk_at dksX0_hammer_0 1 rfl rfl)
theorem dX0_hammer_2 : decode cX0_hammer 2 = .ok (.aload_n 0, 1) := dk_42 (dk_at dksX0_hammer_0 2 rfl rfl)
theorem dX0_hammer_3 : decode cX0_hammer 3 = .ok (.invokevirtual 97, 3) := dk_182 0 97 (dk_at dksX0_hammer_0 3 rfl rfl)
theorem dX0_hammer_6 : decode cX0_hammer 6 = .ok (.i2l, 1) := dk_133 (dk_at dksX0_hammer_0 6 rfl rfl)
theorem dX0_hammer_7 : decode cX0_hammer 7 = .ok (.lastore, 1) := dk_80 (dk_at dksX0_hammer_0 7 rfl rfl)
theorem dX0_hammer_8 : decode cX0_hammer 8 = .ok (.goto 6, 3) := dk_167 0 6 (dk_at dksX0_hammer_0 8 rfl rfl)
theorem dX0_hammer_11 : decode cX0_hammer 11 = .ok (.astore_n 2, 1) := dk_77 (dk_at dksX0_hammer_0 11 rfl rfl)
theorem dX0_hammer_12 : decode cX0_hammer 12 = .ok (.iconst 1, 1) := dk_4 (dk_at dksX0_hammer_0 12 rfl rfl)
theorem dX0_hammer_13 : decode cX0_hammer 13 = .ok (.ireturn, 1) := dk_172 (dk_at dksX0_hammer_0 13 rfl rfl)
theorem dX0_hammer_14 : decode cX0_hammer 14 = .ok (.iconst 0, 1) := dk_3 (dk_at dksX0_hammer_0 14 rfl rfl)
theorem dX0_hammer_15 : decode cX0_hammer 15 = .ok (.ireturn, 1) := dk_172 (dk_at dksX0_hammer_0 15 rfl rfl)
abbrev cX0_answer : ByteArray := method_29_code
def yX0_answer : MethodName := ⟨RX0, "answer", "(LRaidhall;Z[J)I"⟩
def dkwX0_answer_0 : List UInt8 := [44, 3, 42, 27, 182, 0, 100, 133, 80, 167, 0, 6, 78, 4, 172, 3, 172]
abbrev dktX0_answer_0 : List UInt8 := dkwX0_answer_0 ++ []
theorem dksX0_answer_0 : cX0_answer.data.toList.drop 0 = dktX0_answer_0 := by decide +kernel
theorem dX0_answer_0 : decode cX0_answer 0 = .ok (.aload_n 2, 1) := dk_44 (dk_at dksX0_answer_0 0 rfl rfl)
theorem dX0_answer_1 : decode cX0_answer 1 = .ok (.iconst 0, 1) := dk_3 (dk_at dksX0_answer_0 1 rfl rfl)
theorem dX0_answer_2 : decode cX0_answer 2 = .ok (.aload_n 0, 1) := dk_42 (dk_at dksX0_answer_0 2 rfl rfl)
theorem dX0_answer_3 : decode cX0_answer 3 = .ok (.iload_n 1, 1) := dk_27 (dk_at dksX0_answer_0 3 rfl rfl)
theorem dX0_answer_4 : decode cX0_answer 4 = .ok (.invokevirtual 100, 3) := dk_182 0 100 (dk_at dksX0_answer_0 4 rfl rfl)
theorem dX0_answer_7 : decode cX0_answer 7 = .ok (.i2l, 1) := dk_133 (dk_at dksX0_answer_0 7 rfl rfl)
theorem dX0_answer_8 : decode cX0_answer 8 = .ok (.lastore, 1) := dk_80 (dk_at dksX0_answer_0 8 rfl rfl)
theorem dX0_answer_9 : decode cX0_answer 9 = .ok (.goto 6, 3) := dk_167 0 6 (dk_at dksX0_answer_0 9 rfl rfl)
theorem dX0_answer_12 : decode cX0_answer 12 = .ok (.astore_n 3, 1) := dk_78 (dk_at dksX0_answer_0 12 rfl rfl)
theorem dX0_answer_13 : decode cX0_answer 13 = .ok (.iconst 1, 1) := dk_4 (dk_at dksX0_answer_0 13 rfl rfl)
theorem dX0_answer_14 : decode cX0_answer 14 = .ok (.ireturn, 1) := dk_172 (dk_at dksX0_answer_0 14 rfl rfl)
theorem dX0_answer_15 : decode cX0_answer 15 = .ok (.iconst 0, 1) := dk_3 (dk_at dksX0_answer_0 15 rfl rfl)
theorem dX0_answer_16 : decode cX0_answer 16 = .ok (.ireturn, 1) := dk_172 (dk_at dksX0_answer_0 16 rfl rfl)
abbrev cX0_lot : ByteArray := method_30_code
def yX0_lot : MethodName := ⟨RX0, "lot", "(LRaidhall;II[J)I"⟩
def dkwX0_lot_0 : List UInt8 := [45, 3, 42, 27, 28, 182, 0, 104, 133, 80, 167, 0, 11, 58, 4, 4, 172, 58, 4, 5, 172, 3, 172]
abbrev dktX0_lot_0 : List UInt8 := dkwX0_lot_0 ++ []
theorem dksX0_lot_0 : cX0_lot.data.toList.drop 0 = dktX0_lot_0 := by decide +kernel
theorem dX0_lot_0 : decode cX0_lot 0 = .ok (.aload_n 3, 1) := dk_45 (dk_at dksX0_lot_0 0 rfl rfl)
theorem dX0_lot_1 : decode cX0_lot 1 = .ok (.iconst 0, 1) := dk_3 (dk_at dksX0_lot_0 1 rfl rfl)
theorem dX0_lot_2 : decode cX0_lot 2 = .ok (.aload_n 0, 1) := dk_42 (dk_at dksX0_lot_0 2 rfl rfl)
theorem dX0_lot_3 : decode cX0_lot 3 = .ok (.iload_n 1, 1) := dk_27 (dk_at dksX0_lot_0 3 rfl rfl)
theorem dX0_lot_4 : decode cX0_lot 4 = .ok (.iload_n 2, 1) := dk_28 (dk_at dksX0_lot_0 4 rfl rfl)
theorem dX0_lot_5 : decode cX0_lot 5 = .ok (.invokevirtual 104, 3) := dk_182 0 104 (dk_at dksX0_lot_0 5 rfl rfl)
theorem dX0_lot_8 : decode cX0_lot 8 = .ok (.i2l, 1) := dk_133 (dk_at dksX0_lot_0 8 rfl rfl)
theorem dX0_lot_9 : decode cX0_lot 9 = .ok (.lastore, 1) := dk_80 (dk_at dksX0_lot_0 9 rfl rfl)
theorem dX0_lot_10 : decode cX0_lot 10 = .ok (.goto 11, 3) := dk_167 0 11 (dk_at dksX0_lot_0 10 rfl rfl)
theorem dX0_lot_13 : decode cX0_lot 13 = .ok (.astore 4, 2) := dk_58 4 (dk_at dksX0_lot_0 13 rfl rfl)
theorem dX0_lot_15 : decode cX0_lot 15 = .ok (.iconst 1, 1) := dk_4 (dk_at dksX0_lot_0 15 rfl rfl)
theorem dX0_lot_16 : decode cX0_lot 16 = .ok (.ireturn, 1) := dk_172 (dk_at dksX0_lot_0 16 rfl rfl)
theorem dX0_lot_17 : decode cX0_lot 17 = .ok (.astore 4, 2) := dk_58 4 (dk_at dksX0_lot_0 17 rfl rfl)
theorem dX0_lot_19 : decode cX0_lot 19 = .ok (.iconst 2, 1) := dk_5 (dk_at dksX0_lot_0 19 rfl rfl)
theorem dX0_lot_20 : decode cX0_lot 20 = .ok (.ireturn, 1) := dk_172 (dk_at dksX0_lot_0 20 rfl rfl)
theorem dX0_lot_21 : decode cX0_lot 21 = .ok (.iconst 0, 1) := dk_3 (dk_at dksX0_lot_0 21 rfl rfl)
theorem dX0_lot_22 : decode cX0_lot 22 = .ok (.ireturn, 1) := dk_172 (dk_at dksX0_lot_0 22 rfl rfl)
abbrev cX0_squad : ByteArray := method_31_code
def yX0_squad : MethodName := ⟨RX0, "squad", "(LRaidhall;II[J)I"⟩
def dkwX0_squad_0 : List UInt8 := [45, 3, 42, 27, 28, 182, 0, 107, 133, 80, 167, 0, 11, 58, 4, 4, 172, 58, 4, 5, 172, 3, 172]
abbrev dktX0_squad_0 : List UInt8 := dkwX0_squad_0 ++ []
theorem dksX0_squad_0 : cX0_squad.data.toList.drop 0 = dktX0_squad_0 := by decide +kernel
theorem dX0_squad_0 : decode cX0_squad 0 = .ok (.aload_n 3, 1) := dk_45 (dk_at dksX0_squad_0 0 rfl rfl)
theorem dX0_squad_1 : decode cX0_squad 1 = .ok (.iconst 0, 1) := dk_3 (dk_at dksX0_squad_0 1 rfl rfl)
theorem dX0_squad_2 : decode cX0_squad 2 = .ok (.aload_n 0, 1) := dk_42 (dk_at dksX0_squad_0 2 rfl rfl)
theorem dX0_squad_3 : decode cX0_squad 3 = .ok (.iload_n 1, 1) := dk_27 (dk_at dksX0_squad_0 3 rfl rfl)
theorem dX0_squad_4 : decode cX0_squad 4 = .ok (.iload_n 2, 1) := dk_28 (dk_at dksX0_squad_0 4 rfl rfl)
theorem dX0_squad_5 : decode cX0_squad 5 = .ok (.invokevirtual 107, 3) := dk_182 0 107 (dk_at dksX0_squad_0 5 rfl rfl)
theorem dX0_squad_8 : decode cX0_squad 8 = .ok (.i2l, 1) := dk_133 (dk_at dksX0_squad_0 8 rfl rfl)
theorem dX0_squad_9 : decode cX0_squad 9 = .ok (.lastore, 1) := dk_80 (dk_at dksX0_squad_0 9 rfl rfl)
theorem dX0_squad_10 : decode cX0_squad 10 = .ok (.goto 11, 3) := dk_167 0 11 (dk_at dksX0_squad_0 10 rfl rfl)
theorem dX0_squad_13 : decode cX0_squad 13 = .ok (.astore 4, 2) := dk_58 4 (dk_at dksX0_squad_0 13 rfl rfl)
theorem dX0_squad_15 : decode cX0_squad 15 = .ok (.iconst 1, 1) := dk_4 (dk_at dksX0_squad_0 15 rfl rfl)
theorem dX0_squad_16 : decode cX0_squad 16 = .ok (.ireturn, 1) := dk_172 (dk_at dksX0_squad_0 16 rfl rfl)
theorem dX0_squad_17 : decode cX0_squad 17 = .ok (.astore 4, 2) := dk_58 4 (dk_at dksX0_squad_0 17 rfl rfl)
theorem dX0_squad_19 : decode cX0_squad 19 = .ok (.iconst 2, 1) := dk_5 (dk_at dksX0_squad_0 19 rfl rfl)
theorem dX0_squad_20 : decode cX0_squad 20 = .ok (.ireturn, 1) := dk_172 (dk_at dksX0_squad_0 20 rfl rfl)
theorem dX0_squad_21 : decode cX0_squad 21 = .ok (.iconst 0, 1) := dk_3 (dk_at dksX0_squad_0 21 rfl rfl)
theorem dX0_squad_22 : decode cX0_squad 22 = .ok (.ireturn, 1) := dk_172 (dk_at dksX0_squad_0 22 rfl rfl)
theorem q64 : (Jvm.Cond.initialized "RaidhallLaw") ∈ lw_all := lw_g (lw_at lw_m1 0 rfl) rfl
theorem q107 : (Jvm.Cond.classLink "RaidhallLaw" (8 : Nat) "Raidhall") ∈ lw_all := lw_g (lw_at lw_m1 43 rfl) rfl
theorem q109 : (Jvm.Cond.methodLink "RaidhallLaw" (110 : Nat) ({ cls := "Raidhall", name := "<init>", desc := "()V" } : Jvm.MethodName)) ∈ lw_all := lw_g (lw_at lw_m1 45 rfl) rfl
theorem q244 : (Jvm.Cond.methodLink "RaidhallLaw" (154 : Nat) ({ cls := "Raidhall", name := "clear", desc := "()I" } : Jvm.MethodName)) ∈ lw_all := lw_g (lw_at lw_m1 180 rfl) rfl
theorem q594 : (Jvm.Cond.methodLink "RaidhallLaw" (158 : Nat) ({ cls := "Raidhall", name := "fault", desc := "()I" } : Jvm.MethodName)) ∈ lw_all := lw_g (lw_at lw_m3 50 rfl) rfl
theorem q1019 : (Jvm.Cond.methodLink "RaidhallLaw" (114 : Nat) ({ cls := "RaidhallLaw", name := "begin", desc := "(LRaidhall;III[J)I" } : Jvm.MethodName)) ∈ lw_all := lw_g (lw_at lw_m4 235 rfl) rfl
theorem q1020 : (Jvm.Cond.static ({ cls := "RaidhallLaw", name := "begin", desc := "(LRaidhall;III[J)I" } : Jvm.MethodName)) ∈ lw_all := lw_g (lw_at lw_m4 236 rfl) rfl
theorem q1021 : (Jvm.Cond.codeWith ({ cls := "RaidhallLaw", name := "begin", desc := "(LRaidhall;III[J)I" } : Jvm.MethodName) method_3_code (6 : Nat) (Option.some Jvm.ClassFile.FieldType.int) [((0 : Nat), (12 : Nat), (15 : Nat), (13 : Nat)), ((0 : Nat), (12 : Nat), (19 : Nat), (15 : Nat)), ((0 : Nat), (12 : Nat), (23 : Nat), (17 : Nat))]) ∈ lw_all := lw_g (lw_at lw_m4 237 rfl) rfl
theorem q1022 : (Jvm.Cond.classLink "RaidhallLaw" (13 : Nat) "java/lang/IndexOutOfBoundsException") ∈ lw_all := lw_g (lw_at lw_m4 238 rfl) rfl
theorem q1025 : (Jvm.Cond.classLink "RaidhallLaw" (15 : Nat) "java/lang/IllegalArgumentException") ∈ lw_all := lw_g (lw_at lw_m5 1 rfl) rfl
theorem q1026 : (Jvm.Cond.classLink "RaidhallLaw" (17 : Nat) "java/lang/IllegalStateException") ∈ lw_all := lw_g (lw_at lw_m5 2 rfl) rfl
theorem q1027 : (Jvm.Cond.methodLink "RaidhallLaw" (7 : Nat) ({ cls := "Raidhall", name := "begin", desc := "(III)I" } : Jvm.MethodName)) ∈ lw_all := lw_g (lw_at lw_m5 3 rfl) rfl
theorem q1185 : (Jvm.Cond.methodLink "RaidhallLaw" (123 : Nat) ({ cls := "RaidhallLaw", name := "raid", desc := "(LRaidhall;I[J)I" } : Jvm.MethodName)) ∈ lw_all := lw_g (lw_at lw_m5 161 rfl) rfl
theorem q1186 : (Jvm.Cond.static ({ cls := "RaidhallLaw", name := "raid", desc := "(LRaidhall;I[J)I" } : Jvm.MethodName)) ∈ lw_all := lw_g (lw_at lw_m5 162 rfl) rfl
theorem q1187 : (Jvm.Cond.codeWith ({ cls := "RaidhallLaw", name := "raid", desc := "(LRaidhall;I[J)I" } : Jvm.MethodName) method_4_code (4 : Nat) (Option.some Jvm.ClassFile.FieldType.int) [((0 : Nat), (9 : Nat), (12 : Nat), (13 : Nat)), ((0 : Nat), (9 : Nat), (15 : Nat), (17 : Nat))]) ∈ lw_all := lw_g (lw_at lw_m5 163 rfl) rfl
theorem q1188 : (Jvm.Cond.methodLink "RaidhallLaw" (19 : Nat) ({ cls := "Raidhall", name := "raid", desc := "(I)I" } : Jvm.MethodName)) ∈ lw_all := lw_g (lw_at lw_m5 164 rfl) rfl
theorem q1351 : (Jvm.Cond.methodLink "RaidhallLaw" (127 : Nat) ({ cls := "RaidhallLaw", name := "step", desc := "(LRaidhall;III[J)I" } : Jvm.MethodName)) ∈ lw_all := lw_g (lw_at lw_m6 87 rfl) rfl
theorem q1352 : (Jvm.Cond.static ({ cls := "RaidhallLaw", name := "step", desc := "(LRaidhall;III[J)I" } : Jvm.MethodName)) ∈ lw_all := lw_g (lw_at lw_m6 88 rfl) rfl
theorem q1353 : (Jvm.Cond.codeWith ({ cls := "RaidhallLaw", name := "step", desc := "(LRaidhall;III[J)I" } : Jvm.MethodName) method_5_code (6 : Nat) (Option.some Jvm.ClassFile.FieldType.int) [((0 : Nat), (12 : Nat), (15 : Nat), (15 : Nat)), ((0 : Nat), (12 : Nat), (19 : Nat), (17 : Nat))]) ∈ lw_all := lw_g (lw_at lw_m6 89 rfl) rfl
theorem q1354 : (Jvm.Cond.methodLink "RaidhallLaw" (23 : Nat) ({ cls := "Raidhall", name := "step", desc := "(III)I" } : Jvm.MethodName)) ∈ lw_all := lw_g (lw_at lw_m6 90 rfl) rfl
theorem q1559 : (Jvm.Cond.methodLink "RaidhallLaw" (130 : Nat) ({ cls := "RaidhallLaw", name := "card", desc := "(LRaidhall;III[J)I" } : Jvm.MethodName)) ∈ lw_all := lw_g (lw_at lw_m7 55 rfl) rfl
theorem q1560 : (Jvm.Cond.static ({ cls := "RaidhallLaw", name := "card", desc := "(LRaidhall;III[J)I" } : Jvm.MethodName)) ∈ lw_all := lw_g (lw_at lw_m7 56 rfl) rfl
theorem q1561 : (Jvm.Cond.codeWith ({ cls := "RaidhallLaw", name := "card", desc := "(LRaidhall;III[J)I" } : Jvm.MethodName) method_6_code (6 : Nat) (Option.some Jvm.ClassFile.FieldType.int) [((0 : Nat), (12 : Nat), (15 : Nat), (13 : Nat)), ((0 : Nat), (12 : Nat), (19 : Nat), (15 : Nat)), ((0 : Nat), (12 : Nat), (23 : Nat), (17 : Nat))]) ∈ lw_all := lw_g (lw_at lw_m7 57 rfl) rfl
theorem q1562 : (Jvm.Cond.methodLink "RaidhallLaw" (26 : Nat) ({ cls := "Raidhall", name := "card", desc := "(III)I" } : Jvm.MethodName)) ∈ lw_all := lw_g (lw_at lw_m7 58 rfl) rfl
theorem q1586 : (Jvm.Cond.methodLink "RaidhallLaw" (133 : Nat) ({ cls := "RaidhallLaw", name := "change", desc := "(LRaidhall;III[J)I" } : Jvm.MethodName)) ∈ lw_all := lw_g (lw_at lw_m7 82 rfl) rfl
theorem q1587 : (Jvm.Cond.static ({ cls := "RaidhallLaw", name := "change", desc := "(LRaidhall;III[J)I" } : Jvm.MethodName)) ∈ lw_all := lw_g (lw_at lw_m7 83 rfl) rfl
theorem q1588 : (Jvm.Cond.codeWith ({ cls := "RaidhallLaw", name := "change", desc := "(LRaidhall;III[J)I" } : Jvm.MethodName) method_7_code (6 : Nat) (Option.some Jvm.ClassFile.FieldType.int) [((0 : Nat), (12 : Nat), (15 : Nat), (13 : Nat)), ((0 : Nat), (12 : Nat), (19 : Nat), (17 : Nat))]) ∈ lw_all := lw_g (lw_at lw_m7 84 rfl) rfl
theorem q1589 : (Jvm.Cond.methodLink "RaidhallLaw" (29 : Nat) ({ cls := "Raidhall", name := "change", desc := "(III)I" } : Jvm.MethodName)) ∈ lw_all := lw_g (lw_at lw_m7 85 rfl) rfl
theorem q1609 : (Jvm.Cond.methodLink "RaidhallLaw" (136 : Nat) ({ cls := "RaidhallLaw", name := "review", desc := "(LRaidhall;IIIII[J)I" } : Jvm.MethodName)) ∈ lw_all := lw_g (lw_at lw_m7 105 rfl) rfl
theorem q1610 : (Jvm.Cond.static ({ cls := "RaidhallLaw", name := "review", desc := "(LRaidhall;IIIII[J)I" } : Jvm.MethodName)) ∈ lw_all := lw_g (lw_at lw_m7 106 rfl) rfl
theorem q1611 : (Jvm.Cond.codeWith ({ cls := "RaidhallLaw", name := "review", desc := "(LRaidhall;IIIII[J)I" } : Jvm.MethodName) method_8_code (8 : Nat) (Option.some Jvm.ClassFile.FieldType.int) [((0 : Nat), (16 : Nat), (19 : Nat), (13 : Nat)), ((0 : Nat), (16 : Nat), (23 : Nat), (15 : Nat)), ((0 : Nat), (16 : Nat), (27 : Nat), (17 : Nat))]) ∈ lw_all := lw_g (lw_at lw_m7 107 rfl) rfl
theorem q1612 : (Jvm.Cond.methodLink "RaidhallLaw" (32 : Nat) ({ cls := "Raidhall", name := "review", desc := "(IIIII)I" } : Jvm.MethodName)) ∈ lw_all := lw_g (lw_at lw_m7 108 rfl) rfl
theorem q1645 : (Jvm.Cond.methodLink "RaidhallLaw" (140 : Nat) ({ cls := "RaidhallLaw", name := "wouldFall", desc := "(LRaidhall;IIII[J)I" } : Jvm.MethodName)) ∈ lw_all := lw_g (lw_at lw_m7 141 rfl) rfl
theorem q1646 : (Jvm.Cond.static ({ cls := "RaidhallLaw", name := "wouldFall", desc := "(LRaidhall;IIII[J)I" } : Jvm.MethodName)) ∈ lw_all := lw_g (lw_at lw_m7 142 rfl) rfl
theorem q1647 : (Jvm.Cond.codeWith ({ cls := "RaidhallLaw", name := "wouldFall", desc := "(LRaidhall;IIII[J)I" } : Jvm.MethodName) method_9_code (7 : Nat) (Option.some Jvm.ClassFile.FieldType.int) [((0 : Nat), (14 : Nat), (17 : Nat), (13 : Nat)), ((0 : Nat), (14 : Nat), (21 : Nat), (15 : Nat))]) ∈ lw_all := lw_g (lw_at lw_m7 143 rfl) rfl
theorem q1648 : (Jvm.Cond.methodLink "RaidhallLaw" (36 : Nat) ({ cls := "Raidhall", name := "wouldFall", desc := "(IIII)I" } : Jvm.MethodName)) ∈ lw_all := lw_g (lw_at lw_m7 144 rfl) rfl
theorem q1652 : (Jvm.Cond.methodLink "RaidhallLaw" (144 : Nat) ({ cls := "RaidhallLaw", name := "takeBack", desc := "(LRaidhall;I[J)I" } : Jvm.MethodName)) ∈ lw_all := lw_g (lw_at lw_m7 148 rfl) rfl
theorem q1653 : (Jvm.Cond.static ({ cls := "RaidhallLaw", name := "takeBack", desc := "(LRaidhall;I[J)I" } : Jvm.MethodName)) ∈ lw_all := lw_g (lw_at lw_m7 149 rfl) rfl
theorem q1654 : (Jvm.Cond.codeWith ({ cls := "RaidhallLaw", name := "takeBack", desc := "(LRaidhall;I[J)I" } : Jvm.MethodName) method_10_code (4 : Nat) (Option.some Jvm.ClassFile.FieldType.int) [((0 : Nat), (9 : Nat), (12 : Nat), (13 : Nat))]) ∈ lw_all := lw_g (lw_at lw_m7 150 rfl) rfl
theorem q1655 : (Jvm.Cond.methodLink "RaidhallLaw" (40 : Nat) ({ cls := "Raidhall", name := "takeBack", desc := "(I)I" } : Jvm.MethodName)) ∈ lw_all := lw_g (lw_at lw_m7 151 rfl) rfl
theorem q1665 : (Jvm.Cond.methodLink "RaidhallLaw" (147 : Nat) ({ cls := "RaidhallLaw", name := "enter", desc := "(LRaidhall;[J)I" } : Jvm.MethodName)) ∈ lw_all := lw_g (lw_at lw_m7 161 rfl) rfl
theorem q1666 : (Jvm.Cond.static ({ cls := "RaidhallLaw", name := "enter", desc := "(LRaidhall;[J)I" } : Jvm.MethodName)) ∈ lw_all := lw_g (lw_at lw_m7 162 rfl) rfl
theorem q1667 : (Jvm.Cond.codeWith ({ cls := "RaidhallLaw", name := "enter", desc := "(LRaidhall;[J)I" } : Jvm.MethodName) method_11_code (3 : Nat) (Option.some Jvm.ClassFile.FieldType.int) [((0 : Nat), (8 : Nat), (11 : Nat), (17 : Nat))]) ∈ lw_all := lw_g (lw_at lw_m7 163 rfl) rfl
theorem q1668 : (Jvm.Cond.methodLink "RaidhallLaw" (43 : Nat) ({ cls := "Raidhall", name := "enter", desc := "()I" } : Jvm.MethodName)) ∈ lw_all := lw_g (lw_at lw_m7 164 rfl) rfl
theorem q1684 : (Jvm.Cond.methodLink "RaidhallLaw" (151 : Nat) ({ cls := "RaidhallLaw", name := "type", desc := "(LRaidhall;I[J)I" } : Jvm.MethodName)) ∈ lw_all := lw_g (lw_at lw_m7 180 rfl) rfl
theorem q1685 : (Jvm.Cond.static ({ cls := "RaidhallLaw", name := "type", desc := "(LRaidhall;I[J)I" } : Jvm.MethodName)) ∈ lw_all := lw_g (lw_at lw_m7 181 rfl) rfl
theorem q1686 : (Jvm.Cond.codeWith ({ cls := "RaidhallLaw", name := "type", desc := "(LRaidhall;I[J)I" } : Jvm.MethodName) method_12_code (4 : Nat) (Option.some Jvm.ClassFile.FieldType.int) [((0 : Nat), (9 : Nat), (12 : Nat), (15 : Nat)), ((0 : Nat), (9 : Nat), (15 : Nat), (17 : Nat))]) ∈ lw_all := lw_g (lw_at lw_m7 182 rfl) rfl
theorem q1687 : (Jvm.Cond.methodLink "RaidhallLaw" (47 : Nat) ({ cls := "Raidhall", name := "type", desc := "(I)I" } : Jvm.MethodName)) ∈ lw_all := lw_g (lw_at lw_m7 183 rfl) rfl
theorem q1692 : (Jvm.Cond.methodLink "RaidhallLaw" (162 : Nat) ({ cls := "RaidhallLaw", name := "run", desc := "(LRaidhall;[J)I" } : Jvm.MethodName)) ∈ lw_all := lw_g (lw_at lw_m7 188 rfl) rfl
theorem q1693 : (Jvm.Cond.static ({ cls := "RaidhallLaw", name := "run", desc := "(LRaidhall;[J)I" } : Jvm.MethodName)) ∈ lw_all := lw_g (lw_at lw_m7 189 rfl) rfl
theorem q1694 : (Jvm.Cond.codeWith ({ cls := "RaidhallLaw", name := "run", desc := "(LRaidhall;[J)I" } : Jvm.MethodName) method_13_code (3 : Nat) (Option.some Jvm.ClassFile.FieldType.int) [((0 : Nat), (8 : Nat), (11 : Nat), (17 : Nat))]) ∈ lw_all := lw_g (lw_at lw_m7 190 rfl) rfl
theorem q1695 : (Jvm.Cond.methodLink "RaidhallLaw" (50 : Nat) ({ cls := "Raidhall", name := "run", desc := "()I" } : Jvm.MethodName)) ∈ lw_all := lw_g (lw_at lw_m7 191 rfl) rfl
theorem q1724 : (Jvm.Cond.methodLink "RaidhallLaw" (165 : Nat) ({ cls := "RaidhallLaw", name := "player", desc := "(LRaidhall;II[J)I" } : Jvm.MethodName)) ∈ lw_all := lw_g (lw_at lw_m7 220 rfl) rfl
theorem q1725 : (Jvm.Cond.static ({ cls := "RaidhallLaw", name := "player", desc := "(LRaidhall;II[J)I" } : Jvm.MethodName)) ∈ lw_all := lw_g (lw_at lw_m7 221 rfl) rfl
theorem q1726 : (Jvm.Cond.codeWith ({ cls := "RaidhallLaw", name := "player", desc := "(LRaidhall;II[J)I" } : Jvm.MethodName) method_14_code (5 : Nat) (Option.some Jvm.ClassFile.FieldType.int) [((0 : Nat), (10 : Nat), (13 : Nat), (13 : Nat)), ((0 : Nat), (10 : Nat), (17 : Nat), (17 : Nat))]) ∈ lw_all := lw_g (lw_at lw_m7 222 rfl) rfl
theorem q1727 : (Jvm.Cond.methodLink "RaidhallLaw" (53 : Nat) ({ cls := "Raidhall", name := "player", desc := "(II)I" } : Jvm.MethodName)) ∈ lw_all := lw_g (lw_at lw_m7 223 rfl) rfl
theorem q1731 : (Jvm.Cond.methodLink "RaidhallLaw" (169 : Nat) ({ cls := "RaidhallLaw", name := "out", desc := "(LRaidhall;II[J)I" } : Jvm.MethodName)) ∈ lw_all := lw_g (lw_at lw_m7 227 rfl) rfl
theorem q1732 : (Jvm.Cond.static ({ cls := "RaidhallLaw", name := "out", desc := "(LRaidhall;II[J)I" } : Jvm.MethodName)) ∈ lw_all := lw_g (lw_at lw_m7 228 rfl) rfl
theorem q1733 : (Jvm.Cond.codeWith ({ cls := "RaidhallLaw", name := "out", desc := "(LRaidhall;II[J)I" } : Jvm.MethodName) method_15_code (5 : Nat) (Option.some Jvm.ClassFile.FieldType.int) [((0 : Nat), (10 : Nat), (13 : Nat), (13 : Nat)), ((0 : Nat), (10 : Nat), (17 : Nat), (17 : Nat))]) ∈ lw_all := lw_g (lw_at lw_m7 229 rfl) rfl
theorem q1734 : (Jvm.Cond.methodLink "RaidhallLaw" (57 : Nat) ({ cls := "Raidhall", name := "out", desc := "(II)I" } : Jvm.MethodName)) ∈ lw_all := lw_g (lw_at lw_m7 230 rfl) rfl
theorem q1741 : (Jvm.Cond.methodLink "RaidhallLaw" (172 : Nat) ({ cls := "RaidhallLaw", name := "next", desc := "(LRaidhall;I[J)I" } : Jvm.MethodName)) ∈ lw_all := lw_g (lw_at lw_m7 237 rfl) rfl
theorem q1742 : (Jvm.Cond.static ({ cls := "RaidhallLaw", name := "next", desc := "(LRaidhall;I[J)I" } : Jvm.MethodName)) ∈ lw_all := lw_g (lw_at lw_m7 238 rfl) rfl
theorem q1743 : (Jvm.Cond.codeWith ({ cls := "RaidhallLaw", name := "next", desc := "(LRaidhall;I[J)I" } : Jvm.MethodName) method_16_code (4 : Nat) (Option.some Jvm.ClassFile.FieldType.int) [((0 : Nat), (9 : Nat), (12 : Nat), (13 : Nat)), ((0 : Nat), (9 : Nat), (15 : Nat), (17 : Nat))]) ∈ lw_all := lw_g (lw_at lw_m7 239 rfl) rfl
theorem q1744 : (Jvm.Cond.methodLink "RaidhallLaw" (60 : Nat) ({ cls := "Raidhall", name := "next", desc := "(I)I" } : Jvm.MethodName)) ∈ lw_all := lw_g (lw_at lw_m8 0 rfl) rfl
theorem q1750 : (Jvm.Cond.methodLink "RaidhallLaw" (175 : Nat) ({ cls := "RaidhallLaw", name := "points", desc := "(LRaidhall;I[J)I" } : Jvm.MethodName)) ∈ lw_all := lw_g (lw_at lw_m8 6 rfl) rfl
theorem q1751 : (Jvm.Cond.static ({ cls := "RaidhallLaw", name := "points", desc := "(LRaidhall;I[J)I" } : Jvm.MethodName)) ∈ lw_all := lw_g (lw_at lw_m8 7 rfl) rfl
theorem q1752 : (Jvm.Cond.codeWith ({ cls := "RaidhallLaw", name := "points", desc := "(LRaidhall;I[J)I" } : Jvm.MethodName) method_17_code (4 : Nat) (Option.some Jvm.ClassFile.FieldType.int) [((0 : Nat), (9 : Nat), (12 : Nat), (13 : Nat)), ((0 : Nat), (9 : Nat), (15 : Nat), (17 : Nat))]) ∈ lw_all := lw_g (lw_at lw_m8 8 rfl) rfl
theorem q1753 : (Jvm.Cond.methodLink "RaidhallLaw" (63 : Nat) ({ cls := "Raidhall", name := "points", desc := "(I)I" } : Jvm.MethodName)) ∈ lw_all := lw_g (lw_at lw_m8 9 rfl) rfl
theorem q1757 : (Jvm.Cond.methodLink "RaidhallLaw" (178 : Nat) ({ cls := "RaidhallLaw", name := "match", desc := "(LRaidhall;I[J)I" } : Jvm.MethodName)) ∈ lw_all := lw_g (lw_at lw_m8 13 rfl) rfl
theorem q1758 : (Jvm.Cond.static ({ cls := "RaidhallLaw", name := "match", desc := "(LRaidhall;I[J)I" } : Jvm.MethodName)) ∈ lw_all := lw_g (lw_at lw_m8 14 rfl) rfl
theorem q1759 : (Jvm.Cond.codeWith ({ cls := "RaidhallLaw", name := "match", desc := "(LRaidhall;I[J)I" } : Jvm.MethodName) method_18_code (4 : Nat) (Option.some Jvm.ClassFile.FieldType.int) [((0 : Nat), (9 : Nat), (12 : Nat), (15 : Nat)), ((0 : Nat), (9 : Nat), (15 : Nat), (17 : Nat))]) ∈ lw_all := lw_g (lw_at lw_m8 15 rfl) rfl
theorem q1760 : (Jvm.Cond.methodLink "RaidhallLaw" (66 : Nat) ({ cls := "Raidhall", name := "match", desc := "(I)I" } : Jvm.MethodName)) ∈ lw_all := lw_g (lw_at lw_m8 16 rfl) rfl
theorem q1765 : (Jvm.Cond.methodLink "RaidhallLaw" (181 : Nat) ({ cls := "RaidhallLaw", name := "hasReview", desc := "(LRaidhall;I[J)I" } : Jvm.MethodName)) ∈ lw_all := lw_g (lw_at lw_m8 21 rfl) rfl
theorem q1766 : (Jvm.Cond.static ({ cls := "RaidhallLaw", name := "hasReview", desc := "(LRaidhall;I[J)I" } : Jvm.MethodName)) ∈ lw_all := lw_g (lw_at lw_m8 22 rfl) rfl
theorem q1767 : (Jvm.Cond.codeWith ({ cls := "RaidhallLaw", name := "hasReview", desc := "(LRaidhall;I[J)I" } : Jvm.MethodName) method_19_code (4 : Nat) (Option.some Jvm.ClassFile.FieldType.int) [((0 : Nat), (16 : Nat), (19 : Nat), (13 : Nat)), ((0 : Nat), (16 : Nat), (22 : Nat), (17 : Nat))]) ∈ lw_all := lw_g (lw_at lw_m8 23 rfl) rfl
theorem q1768 : (Jvm.Cond.methodLink "RaidhallLaw" (69 : Nat) ({ cls := "Raidhall", name := "hasReview", desc := "(I)Z" } : Jvm.MethodName)) ∈ lw_all := lw_g (lw_at lw_m8 24 rfl) rfl
theorem q1772 : (Jvm.Cond.methodLink "RaidhallLaw" (184 : Nat) ({ cls := "RaidhallLaw", name := "matAfter", desc := "(LRaidhall;II[J)I" } : Jvm.MethodName)) ∈ lw_all := lw_g (lw_at lw_m8 28 rfl) rfl
theorem q1773 : (Jvm.Cond.static ({ cls := "RaidhallLaw", name := "matAfter", desc := "(LRaidhall;II[J)I" } : Jvm.MethodName)) ∈ lw_all := lw_g (lw_at lw_m8 29 rfl) rfl
theorem q1774 : (Jvm.Cond.codeWith ({ cls := "RaidhallLaw", name := "matAfter", desc := "(LRaidhall;II[J)I" } : Jvm.MethodName) method_20_code (5 : Nat) (Option.some Jvm.ClassFile.FieldType.int) [((0 : Nat), (10 : Nat), (13 : Nat), (13 : Nat))]) ∈ lw_all := lw_g (lw_at lw_m8 30 rfl) rfl
theorem q1775 : (Jvm.Cond.methodLink "RaidhallLaw" (73 : Nat) ({ cls := "Raidhall", name := "matAfter", desc := "(II)I" } : Jvm.MethodName)) ∈ lw_all := lw_g (lw_at lw_m8 31 rfl) rfl
theorem q1784 : (Jvm.Cond.methodLink "RaidhallLaw" (187 : Nat) ({ cls := "RaidhallLaw", name := "matAnew", desc := "(LRaidhall;II[J)I" } : Jvm.MethodName)) ∈ lw_all := lw_g (lw_at lw_m8 40 rfl) rfl
theorem q1785 : (Jvm.Cond.static ({ cls := "RaidhallLaw", name := "matAnew", desc := "(LRaidhall;II[J)I" } : Jvm.MethodName)) ∈ lw_all := lw_g (lw_at lw_m8 41 rfl) rfl
theorem q1786 : (Jvm.Cond.codeWith ({ cls := "RaidhallLaw", name := "matAnew", desc := "(LRaidhall;II[J)I" } : Jvm.MethodName) method_21_code (5 : Nat) (Option.some Jvm.ClassFile.FieldType.int) [((0 : Nat), (10 : Nat), (13 : Nat), (13 : Nat))]) ∈ lw_all := lw_g (lw_at lw_m8 42 rfl) rfl
theorem q1787 : (Jvm.Cond.methodLink "RaidhallLaw" (76 : Nat) ({ cls := "Raidhall", name := "matAnew", desc := "(II)I" } : Jvm.MethodName)) ∈ lw_all := lw_g (lw_at lw_m8 43 rfl) rfl
theorem q1795 : (Jvm.Cond.methodLink "RaidhallLaw" (190 : Nat) ({ cls := "RaidhallLaw", name := "pointsAfter", desc := "(LRaidhall;II[J)I" } : Jvm.MethodName)) ∈ lw_all := lw_g (lw_at lw_m8 51 rfl) rfl
theorem q1796 : (Jvm.Cond.static ({ cls := "RaidhallLaw", name := "pointsAfter", desc := "(LRaidhall;II[J)I" } : Jvm.MethodName)) ∈ lw_all := lw_g (lw_at lw_m8 52 rfl) rfl
theorem q1797 : (Jvm.Cond.codeWith ({ cls := "RaidhallLaw", name := "pointsAfter", desc := "(LRaidhall;II[J)I" } : Jvm.MethodName) method_22_code (5 : Nat) (Option.some Jvm.ClassFile.FieldType.int) [((0 : Nat), (10 : Nat), (13 : Nat), (13 : Nat))]) ∈ lw_all := lw_g (lw_at lw_m8 53 rfl) rfl
theorem q1798 : (Jvm.Cond.methodLink "RaidhallLaw" (79 : Nat) ({ cls := "Raidhall", name := "pointsAfter", desc := "(II)I" } : Jvm.MethodName)) ∈ lw_all := lw_g (lw_at lw_m8 54 rfl) rfl
theorem q1802 : (Jvm.Cond.methodLink "RaidhallLaw" (193 : Nat) ({ cls := "RaidhallLaw", name := "raidPoints", desc := "(LRaidhall;II[J)I" } : Jvm.MethodName)) ∈ lw_all := lw_g (lw_at lw_m8 58 rfl) rfl
theorem q1803 : (Jvm.Cond.static ({ cls := "RaidhallLaw", name := "raidPoints", desc := "(LRaidhall;II[J)I" } : Jvm.MethodName)) ∈ lw_all := lw_g (lw_at lw_m8 59 rfl) rfl
theorem q1804 : (Jvm.Cond.codeWith ({ cls := "RaidhallLaw", name := "raidPoints", desc := "(LRaidhall;II[J)I" } : Jvm.MethodName) method_23_code (5 : Nat) (Option.some Jvm.ClassFile.FieldType.int) [((0 : Nat), (10 : Nat), (13 : Nat), (13 : Nat)), ((0 : Nat), (10 : Nat), (17 : Nat), (17 : Nat))]) ∈ lw_all := lw_g (lw_at lw_m8 60 rfl) rfl
theorem q1805 : (Jvm.Cond.methodLink "RaidhallLaw" (82 : Nat) ({ cls := "Raidhall", name := "raidPoints", desc := "(II)I" } : Jvm.MethodName)) ∈ lw_all := lw_g (lw_at lw_m8 61 rfl) rfl
theorem q1809 : (Jvm.Cond.methodLink "RaidhallLaw" (196 : Nat) ({ cls := "RaidhallLaw", name := "club", desc := "(LRaidhall;II[J)I" } : Jvm.MethodName)) ∈ lw_all := lw_g (lw_at lw_m8 65 rfl) rfl
theorem q1810 : (Jvm.Cond.static ({ cls := "RaidhallLaw", name := "club", desc := "(LRaidhall;II[J)I" } : Jvm.MethodName)) ∈ lw_all := lw_g (lw_at lw_m8 66 rfl) rfl
theorem q1811 : (Jvm.Cond.codeWith ({ cls := "RaidhallLaw", name := "club", desc := "(LRaidhall;II[J)I" } : Jvm.MethodName) method_24_code (5 : Nat) (Option.some Jvm.ClassFile.FieldType.int) [((0 : Nat), (10 : Nat), (13 : Nat), (13 : Nat)), ((0 : Nat), (10 : Nat), (17 : Nat), (15 : Nat))]) ∈ lw_all := lw_g (lw_at lw_m8 67 rfl) rfl
theorem q1812 : (Jvm.Cond.methodLink "RaidhallLaw" (85 : Nat) ({ cls := "Raidhall", name := "club", desc := "(II)I" } : Jvm.MethodName)) ∈ lw_all := lw_g (lw_at lw_m8 68 rfl) rfl
theorem q1832 : (Jvm.Cond.methodLink "RaidhallLaw" (199 : Nat) ({ cls := "RaidhallLaw", name := "right", desc := "(LRaidhall;II[J)I" } : Jvm.MethodName)) ∈ lw_all := lw_g (lw_at lw_m8 88 rfl) rfl
theorem q1833 : (Jvm.Cond.static ({ cls := "RaidhallLaw", name := "right", desc := "(LRaidhall;II[J)I" } : Jvm.MethodName)) ∈ lw_all := lw_g (lw_at lw_m8 89 rfl) rfl
theorem q1834 : (Jvm.Cond.codeWith ({ cls := "RaidhallLaw", name := "right", desc := "(LRaidhall;II[J)I" } : Jvm.MethodName) method_25_code (5 : Nat) (Option.some Jvm.ClassFile.FieldType.int) [((0 : Nat), (10 : Nat), (13 : Nat), (13 : Nat)), ((0 : Nat), (10 : Nat), (17 : Nat), (17 : Nat))]) ∈ lw_all := lw_g (lw_at lw_m8 90 rfl) rfl
theorem q1835 : (Jvm.Cond.methodLink "RaidhallLaw" (88 : Nat) ({ cls := "Raidhall", name := "right", desc := "(II)I" } : Jvm.MethodName)) ∈ lw_all := lw_g (lw_at lw_m8 91 rfl) rfl
theorem q1839 : (Jvm.Cond.methodLink "RaidhallLaw" (202 : Nat) ({ cls := "RaidhallLaw", name := "call", desc := "(LRaidhall;I[J)I" } : Jvm.MethodName)) ∈ lw_all := lw_g (lw_at lw_m8 95 rfl) rfl
theorem q1840 : (Jvm.Cond.static ({ cls := "RaidhallLaw", name := "call", desc := "(LRaidhall;I[J)I" } : Jvm.MethodName)) ∈ lw_all := lw_g (lw_at lw_m8 96 rfl) rfl
theorem q1841 : (Jvm.Cond.codeWith ({ cls := "RaidhallLaw", name := "call", desc := "(LRaidhall;I[J)I" } : Jvm.MethodName) method_26_code (4 : Nat) (Option.some Jvm.ClassFile.FieldType.int) [((0 : Nat), (9 : Nat), (12 : Nat), (13 : Nat)), ((0 : Nat), (9 : Nat), (15 : Nat), (17 : Nat))]) ∈ lw_all := lw_g (lw_at lw_m8 97 rfl) rfl
theorem q1842 : (Jvm.Cond.methodLink "RaidhallLaw" (91 : Nat) ({ cls := "Raidhall", name := "call", desc := "(I)I" } : Jvm.MethodName)) ∈ lw_all := lw_g (lw_at lw_m8 98 rfl) rfl
theorem q1850 : (Jvm.Cond.methodLink "RaidhallLaw" (205 : Nat) ({ cls := "RaidhallLaw", name := "bid", desc := "(LRaidhall;II[J)I" } : Jvm.MethodName)) ∈ lw_all := lw_g (lw_at lw_m8 106 rfl) rfl
theorem q1851 : (Jvm.Cond.static ({ cls := "RaidhallLaw", name := "bid", desc := "(LRaidhall;II[J)I" } : Jvm.MethodName)) ∈ lw_all := lw_g (lw_at lw_m8 107 rfl) rfl
theorem q1852 : (Jvm.Cond.codeWith ({ cls := "RaidhallLaw", name := "bid", desc := "(LRaidhall;II[J)I" } : Jvm.MethodName) method_27_code (5 : Nat) (Option.some Jvm.ClassFile.FieldType.int) [((0 : Nat), (10 : Nat), (13 : Nat), (13 : Nat)), ((0 : Nat), (10 : Nat), (17 : Nat), (15 : Nat)), ((0 : Nat), (10 : Nat), (21 : Nat), (17 : Nat))]) ∈ lw_all := lw_g (lw_at lw_m8 108 rfl) rfl
theorem q1853 : (Jvm.Cond.methodLink "RaidhallLaw" (94 : Nat) ({ cls := "Raidhall", name := "bid", desc := "(II)I" } : Jvm.MethodName)) ∈ lw_all := lw_g (lw_at lw_m8 109 rfl) rfl
theorem q1865 : (Jvm.Cond.methodLink "RaidhallLaw" (208 : Nat) ({ cls := "RaidhallLaw", name := "hammer", desc := "(LRaidhall;[J)I" } : Jvm.MethodName)) ∈ lw_all := lw_g (lw_at lw_m8 121 rfl) rfl
theorem q1866 : (Jvm.Cond.static ({ cls := "RaidhallLaw", name := "hammer", desc := "(LRaidhall;[J)I" } : Jvm.MethodName)) ∈ lw_all := lw_g (lw_at lw_m8 122 rfl) rfl
theorem q1867 : (Jvm.Cond.codeWith ({ cls := "RaidhallLaw", name := "hammer", desc := "(LRaidhall;[J)I" } : Jvm.MethodName) method_28_code (3 : Nat) (Option.some Jvm.ClassFile.FieldType.int) [((0 : Nat), (8 : Nat), (11 : Nat), (17 : Nat))]) ∈ lw_all := lw_g (lw_at lw_m8 123 rfl) rfl
theorem q1868 : (Jvm.Cond.methodLink "RaidhallLaw" (97 : Nat) ({ cls := "Raidhall", name := "hammer", desc := "()I" } : Jvm.MethodName)) ∈ lw_all := lw_g (lw_at lw_m8 124 rfl) rfl
theorem q1876 : (Jvm.Cond.methodLink "RaidhallLaw" (211 : Nat) ({ cls := "RaidhallLaw", name := "answer", desc := "(LRaidhall;Z[J)I" } : Jvm.MethodName)) ∈ lw_all := lw_g (lw_at lw_m8 132 rfl) rfl
theorem q1877 : (Jvm.Cond.static ({ cls := "RaidhallLaw", name := "answer", desc := "(LRaidhall;Z[J)I" } : Jvm.MethodName)) ∈ lw_all := lw_g (lw_at lw_m8 133 rfl) rfl
theorem q1878 : (Jvm.Cond.codeWith ({ cls := "RaidhallLaw", name := "answer", desc := "(LRaidhall;Z[J)I" } : Jvm.MethodName) method_29_code (4 : Nat) (Option.some Jvm.ClassFile.FieldType.int) [((0 : Nat), (9 : Nat), (12 : Nat), (17 : Nat))]) ∈ lw_all := lw_g (lw_at lw_m8 134 rfl) rfl
theorem q1879 : (Jvm.Cond.methodLink "RaidhallLaw" (100 : Nat) ({ cls := "Raidhall", name := "answer", desc := "(Z)I" } : Jvm.MethodName)) ∈ lw_all := lw_g (lw_at lw_m8 135 rfl) rfl
theorem q1883 : (Jvm.Cond.methodLink "RaidhallLaw" (215 : Nat) ({ cls := "RaidhallLaw", name := "lot", desc := "(LRaidhall;II[J)I" } : Jvm.MethodName)) ∈ lw_all := lw_g (lw_at lw_m8 139 rfl) rfl
theorem q1884 : (Jvm.Cond.static ({ cls := "RaidhallLaw", name := "lot", desc := "(LRaidhall;II[J)I" } : Jvm.MethodName)) ∈ lw_all := lw_g (lw_at lw_m8 140 rfl) rfl
theorem q1885 : (Jvm.Cond.codeWith ({ cls := "RaidhallLaw", name := "lot", desc := "(LRaidhall;II[J)I" } : Jvm.MethodName) method_30_code (5 : Nat) (Option.some Jvm.ClassFile.FieldType.int) [((0 : Nat), (10 : Nat), (13 : Nat), (13 : Nat)), ((0 : Nat), (10 : Nat), (17 : Nat), (15 : Nat))]) ∈ lw_all := lw_g (lw_at lw_m8 141 rfl) rfl
theorem q1886 : (Jvm.Cond.methodLink "RaidhallLaw" (104 : Nat) ({ cls := "Raidhall", name := "lot", desc := "(II)I" } : Jvm.MethodName)) ∈ lw_all := lw_g (lw_at lw_m8 142 rfl) rfl
theorem q1890 : (Jvm.Cond.methodLink "RaidhallLaw" (218 : Nat) ({ cls := "RaidhallLaw", name := "squad", desc := "(LRaidhall;II[J)I" } : Jvm.MethodName)) ∈ lw_all := lw_g (lw_at lw_m8 146 rfl) rfl
theorem q1891 : (Jvm.Cond.static ({ cls := "RaidhallLaw", name := "squad", desc := "(LRaidhall;II[J)I" } : Jvm.MethodName)) ∈ lw_all := lw_g (lw_at lw_m8 147 rfl) rfl
theorem q1892 : (Jvm.Cond.codeWith ({ cls := "RaidhallLaw", name := "squad", desc := "(LRaidhall;II[J)I" } : Jvm.MethodName) method_31_code (5 : Nat) (Option.some Jvm.ClassFile.FieldType.int) [((0 : Nat), (10 : Nat), (13 : Nat), (13 : Nat)), ((0 : Nat), (10 : Nat), (17 : Nat), (15 : Nat))]) ∈ lw_all := lw_g (lw_at lw_m8 148 rfl) rfl
theorem q1893 : (Jvm.Cond.methodLink "RaidhallLaw" (107 : Nat) ({ cls := "Raidhall", name := "squad", desc := "(II)I" } : Jvm.MethodName)) ∈ lw_all := lw_g (lw_at lw_m8 149 rfl) rfl
theorem q1897 : (Jvm.Cond.classLink "RaidhallLaw" (111 : Nat) "RaidhallModel") ∈ lw_all := lw_g (lw_at lw_m8 153 rfl) rfl
theorem q1899 : (Jvm.Cond.methodLink "RaidhallLaw" (113 : Nat) ({ cls := "RaidhallModel", name := "<init>", desc := "()V" } : Jvm.MethodName)) ∈ lw_all := lw_g (lw_at lw_m8 155 rfl) rfl
theorem q2018 : (Jvm.Cond.methodLink "RaidhallLaw" (120 : Nat) ({ cls := "RaidhallModel", name := "thrown", desc := "()I" } : Jvm.MethodName)) ∈ lw_all := lw_g (lw_at lw_m9 34 rfl) rfl
theorem q2022 : (Jvm.Cond.methodLink "RaidhallLaw" (119 : Nat) ({ cls := "RaidhallModel", name := "begin", desc := "(III)I" } : Jvm.MethodName)) ∈ lw_all := lw_g (lw_at lw_m9 38 rfl) rfl
theorem q2040 : (Jvm.Cond.methodLink "RaidhallLaw" (126 : Nat) ({ cls := "RaidhallModel", name := "raid", desc := "(I)I" } : Jvm.MethodName)) ∈ lw_all := lw_g (lw_at lw_m9 56 rfl) rfl
theorem q2067 : (Jvm.Cond.methodLink "RaidhallLaw" (129 : Nat) ({ cls := "RaidhallModel", name := "step", desc := "(III)I" } : Jvm.MethodName)) ∈ lw_all := lw_g (lw_at lw_m9 83 rfl) rfl
theorem q2118 : (Jvm.Cond.methodLink "RaidhallLaw" (132 : Nat) ({ cls := "RaidhallModel", name := "card", desc := "(III)I" } : Jvm.MethodName)) ∈ lw_all := lw_g (lw_at lw_m9 134 rfl) rfl
theorem q2145 : (Jvm.Cond.methodLink "RaidhallLaw" (135 : Nat) ({ cls := "RaidhallModel", name := "change", desc := "(III)I" } : Jvm.MethodName)) ∈ lw_all := lw_g (lw_at lw_m9 161 rfl) rfl
theorem q2149 : (Jvm.Cond.methodLink "RaidhallLaw" (139 : Nat) ({ cls := "RaidhallModel", name := "review", desc := "(IIIII)I" } : Jvm.MethodName)) ∈ lw_all := lw_g (lw_at lw_m9 165 rfl) rfl
theorem q2177 : (Jvm.Cond.methodLink "RaidhallLaw" (143 : Nat) ({ cls := "RaidhallModel", name := "wouldFall", desc := "(IIII)I" } : Jvm.MethodName)) ∈ lw_all := lw_g (lw_at lw_m9 193 rfl) rfl
theorem q2181 : (Jvm.Cond.methodLink "RaidhallLaw" (146 : Nat) ({ cls := "RaidhallModel", name := "takeBack", desc := "(I)I" } : Jvm.MethodName)) ∈ lw_all := lw_g (lw_at lw_m9 197 rfl) rfl
theorem q2185 : (Jvm.Cond.methodLink "RaidhallLaw" (150 : Nat) ({ cls := "RaidhallModel", name := "enter", desc := "()I" } : Jvm.MethodName)) ∈ lw_all := lw_g (lw_at lw_m9 201 rfl) rfl
theorem q2189 : (Jvm.Cond.methodLink "RaidhallLaw" (153 : Nat) ({ cls := "RaidhallModel", name := "type", desc := "(I)I" } : Jvm.MethodName)) ∈ lw_all := lw_g (lw_at lw_m9 205 rfl) rfl
theorem q2193 : (Jvm.Cond.methodLink "RaidhallLaw" (157 : Nat) ({ cls := "RaidhallModel", name := "clear", desc := "()I" } : Jvm.MethodName)) ∈ lw_all := lw_g (lw_at lw_m9 209 rfl) rfl
theorem q2197 : (Jvm.Cond.methodLink "RaidhallLaw" (161 : Nat) ({ cls := "RaidhallModel", name := "fault", desc := "()I" } : Jvm.MethodName)) ∈ lw_all := lw_g (lw_at lw_m9 213 rfl) rfl
theorem q2225 : (Jvm.Cond.methodLink "RaidhallLaw" (164 : Nat) ({ cls := "RaidhallModel", name := "run", desc := "()I" } : Jvm.MethodName)) ∈ lw_all := lw_g (lw_at lw_m10 1 rfl) rfl
theorem q2231 : (Jvm.Cond.methodLink "RaidhallLaw" (168 : Nat) ({ cls := "RaidhallModel", name := "player", desc := "(II)I" } : Jvm.MethodName)) ∈ lw_all := lw_g (lw_at lw_m10 7 rfl) rfl
theorem q2239 : (Jvm.Cond.methodLink "RaidhallLaw" (171 : Nat) ({ cls := "RaidhallModel", name := "out", desc := "(II)I" } : Jvm.MethodName)) ∈ lw_all := lw_g (lw_at lw_m10 15 rfl) rfl
theorem q2247 : (Jvm.Cond.methodLink "RaidhallLaw" (174 : Nat) ({ cls := "RaidhallModel", name := "next", desc := "(I)I" } : Jvm.MethodName)) ∈ lw_all := lw_g (lw_at lw_m10 23 rfl) rfl
theorem q2251 : (Jvm.Cond.methodLink "RaidhallLaw" (177 : Nat) ({ cls := "RaidhallModel", name := "points", desc := "(I)I" } : Jvm.MethodName)) ∈ lw_all := lw_g (lw_at lw_m10 27 rfl) rfl
theorem q2255 : (Jvm.Cond.methodLink "RaidhallLaw" (180 : Nat) ({ cls := "RaidhallModel", name := "match", desc := "(I)I" } : Jvm.MethodName)) ∈ lw_all := lw_g (lw_at lw_m10 31 rfl) rfl
theorem q2259 : (Jvm.Cond.methodLink "RaidhallLaw" (183 : Nat) ({ cls := "RaidhallModel", name := "hasReview", desc := "(I)Z" } : Jvm.MethodName)) ∈ lw_all := lw_g (lw_at lw_m10 35 rfl) rfl
theorem q2263 : (Jvm.Cond.methodLink "RaidhallLaw" (186 : Nat) ({ cls := "RaidhallModel", name := "matAfter", desc := "(II)I" } : Jvm.MethodName)) ∈ lw_all := lw_g (lw_at lw_m10 39 rfl) rfl
theorem q2271 : (Jvm.Cond.methodLink "RaidhallLaw" (189 : Nat) ({ cls := "RaidhallModel", name := "matAnew", desc := "(II)I" } : Jvm.MethodName)) ∈ lw_all := lw_g (lw_at lw_m10 47 rfl) rfl
theorem q2276 : (Jvm.Cond.methodLink "RaidhallLaw" (192 : Nat) ({ cls := "RaidhallModel", name := "pointsAfter", desc := "(II)I" } : Jvm.MethodName)) ∈ lw_all := lw_g (lw_at lw_m10 52 rfl) rfl
theorem q2280 : (Jvm.Cond.methodLink "RaidhallLaw" (195 : Nat) ({ cls := "RaidhallModel", name := "raidPoints", desc := "(II)I" } : Jvm.MethodName)) ∈ lw_all := lw_g (lw_at lw_m10 56 rfl) rfl
theorem q2284 : (Jvm.Cond.methodLink "RaidhallLaw" (198 : Nat) ({ cls := "RaidhallModel", name := "club", desc := "(II)I" } : Jvm.MethodName)) ∈ lw_all := lw_g (lw_at lw_m10 60 rfl) rfl
theorem q2296 : (Jvm.Cond.methodLink "RaidhallLaw" (201 : Nat) ({ cls := "RaidhallModel", name := "right", desc := "(II)I" } : Jvm.MethodName)) ∈ lw_all := lw_g (lw_at lw_m10 72 rfl) rfl
theorem q2303 : (Jvm.Cond.methodLink "RaidhallLaw" (204 : Nat) ({ cls := "RaidhallModel", name := "call", desc := "(I)I" } : Jvm.MethodName)) ∈ lw_all := lw_g (lw_at lw_m10 79 rfl) rfl
theorem q2310 : (Jvm.Cond.methodLink "RaidhallLaw" (207 : Nat) ({ cls := "RaidhallModel", name := "bid", desc := "(II)I" } : Jvm.MethodName)) ∈ lw_all := lw_g (lw_at lw_m10 86 rfl) rfl
theorem q2321 : (Jvm.Cond.methodLink "RaidhallLaw" (210 : Nat) ({ cls := "RaidhallModel", name := "hammer", desc := "()I" } : Jvm.MethodName)) ∈ lw_all := lw_g (lw_at lw_m10 97 rfl) rfl
theorem q2329 : (Jvm.Cond.methodLink "RaidhallLaw" (214 : Nat) ({ cls := "RaidhallModel", name := "answer", desc := "(Z)I" } : Jvm.MethodName)) ∈ lw_all := lw_g (lw_at lw_m10 105 rfl) rfl
theorem q2333 : (Jvm.Cond.methodLink "RaidhallLaw" (217 : Nat) ({ cls := "RaidhallModel", name := "lot", desc := "(II)I" } : Jvm.MethodName)) ∈ lw_all := lw_g (lw_at lw_m10 109 rfl) rfl
theorem q2337 : (Jvm.Cond.methodLink "RaidhallLaw" (220 : Nat) ({ cls := "RaidhallModel", name := "squad", desc := "(II)I" } : Jvm.MethodName)) ∈ lw_all := lw_g (lw_at lw_m10 113 rfl) rfl

/-! Raidhall -/
set_option maxRecDepth 100000
def RX1 : String := "Raidhall"
def TX1 : u_T := fun k => match k with
  | 0 => ("Raidhall", "match", "LRaidhall$Match;", false)
  | 1 => ("Raidhall", "matches", "I", false)
  | 2 => ("Raidhall", "pad", "Ljava/lang/StringBuilder;", true)
  | 3 => ("Raidhall", "clubs", "[LRaidhall$Club;", true)
  | 4 => ("Raidhall", "lots", "[LRaidhall$Lot;", true)
  | 5 => ("Raidhall", "called", "LRaidhall$Lot;", false)
  | 6 => ("Raidhall", "bids", "I", false)
  | 7 => ("Raidhall", "bidder", "I", false)
  | 8 => ("Raidhall", "highest", "I", false)
  | _ => ("Raidhall", "isAsked", "Z", false)
def tyX1 : Nat → FieldType := fun k => match k with
  | 0 => .object "Raidhall$Match"
  | 1 => .int
  | 2 => .object "java/lang/StringBuilder"
  | 3 => .array (.object "Raidhall$Club")
  | 4 => .array (.object "Raidhall$Lot")
  | 5 => .object "Raidhall$Lot"
  | 6 => .int
  | 7 => .int
  | 8 => .int
  | _ => .boolean
abbrev wsX10 : List Cond := u_ws RX1 TX1 10
theorem nmX1 : ∀ a, a < 10 → ∀ b, b < 10 → a ≠ b → (TX1 a).2.1 ≠ (TX1 b).2.1 := by decide +kernel
theorem tyX1_ok : ∀ k, k < 10 → parseFieldDescriptor (TX1 k).2.2.1 = some (tyX1 k) := by decide +kernel
abbrev cX1_init : ByteArray := prog_1_method_2_code
def yX1_init : MethodName := ⟨RX1, "<init>", "()V"⟩
def dkwX1_init_3 : List UInt8 := [162, 0, 23, 42, 180, 0, 40, 27, 187, 0, 38, 89, 27, 183, 0, 49, 83, 132, 1, 1, 167, 255, 233, 177]
abbrev dktX1_init_3 : List UInt8 := dkwX1_init_3 ++ []
def dkwX1_init_2 : List UInt8 := [180, 0, 34, 27, 187, 0, 32, 89, 183, 0, 48, 83, 132, 1, 1, 167, 255, 234, 3, 60, 27, 16, 24]
abbrev dktX1_init_2 : List UInt8 := dkwX1_init_2 ++ dktX1_init_3
def dkwX1_init_1 : List UInt8 := [42, 16, 24, 189, 0, 38, 181, 0, 40, 42, 2, 181, 0, 44, 3, 60, 27, 16, 8, 162, 0, 22, 42]
abbrev dktX1_init_1 : List UInt8 := dkwX1_init_1 ++ dktX1_init_2
def dkwX1_init_0 : List UInt8 := [42, 183, 0, 17, 42, 187, 0, 23, 89, 183, 0, 25, 181, 0, 26, 42, 16, 8, 189, 0, 32, 181, 0, 34]
abbrev dktX1_init_0 : List UInt8 := dkwX1_init_0 ++ dktX1_init_1
theorem dksX1_init_0 : cX1_init.data.toList.drop 0 = dktX1_init_0 := by decide +kernel
theorem dksX1_init_1 : cX1_init.data.toList.drop 24 = dktX1_init_1 := dk_seg dksX1_init_0 24 rfl rfl
theorem dksX1_init_2 : cX1_init.data.toList.drop 47 = dktX1_init_2 := dk_seg dksX1_init_1 23 rfl rfl
theorem dksX1_init_3 : cX1_init.data.toList.drop 70 = dktX1_init_3 := dk_seg dksX1_init_2 23 rfl rfl
theorem dX1_init_0 : decode cX1_init 0 = .ok (.aload_n 0, 1) := dk_42 (dk_at dksX1_init_0 0 rfl rfl)
theorem dX1_init_1 : decode cX1_init 1 = .ok (.invokespecial 17, 3) := dk_183 0 17 (dk_at dksX1_init_0 1 rfl rfl)
theorem dX1_init_4 : decode cX1_init 4 = .ok (.aload_n 0, 1) := dk_42 (dk_at dksX1_init_0 4 rfl rfl)
theorem dX1_init_5 : decode cX1_init 5 = .ok (.new 23, 3) := dk_187 0 23 (dk_at dksX1_init_0 5 rfl rfl)
theorem dX1_init_8 : decode cX1_init 8 = .ok (.dup, 1) := dk_89 (dk_at dksX1_init_0 8 rfl rfl)
theorem dX1_init_9 : decode cX1_init 9 = .ok (.invokespecial 25, 3) := dk_183 0 25 (dk_at dksX1_init_0 9 rfl rfl)
theorem dX1_init_12 : decode cX1_init 12 = .ok (.putfield 26, 3) := dk_181 0 26 (dk_at dksX1_init_0 12 rfl rfl)
theorem dX1_init_15 : decode cX1_init 15 = .ok (.aload_n 0, 1) := dk_42 (dk_at dksX1_init_0 15 rfl rfl)
theorem dX1_init_16 : decode cX1_init 16 = .ok (.bipush 8, 2) := dk_16 8 (dk_at dksX1_init_0 16 rfl rfl)
theorem dX1_init_18 : decode cX1_init 18 = .ok (.anewarray 32, 3) := dk_189 0 32 (dk_at dksX1_init_0 18 rfl rfl)
theorem dX1_init_21 : decode cX1_init 21 = .ok (.putfield 34, 3) := dk_181 0 34 (dk_at dksX1_init_0 21 rfl rfl)
theorem dX1_init_24 : decode cX1_init 24 = .ok (.aload_n 0, 1) := dk_42 (dk_at dksX1_init_1 0 rfl rfl)
theorem dX1_init_25 : decode cX1_init 25 = .ok (.bipush 24, 2) := dk_16 24 (dk_at dksX1_init_1 1 rfl rfl)
theorem dX1_init_27 : decode cX1_init 27 = .ok (.anewarray 38, 3) := dk_189 0 38 (dk_at dksX1_init_1 3 rfl rfl)
theorem dX1_init_30 : decode cX1_init 30 = .ok (.putfield 40, 3) := dk_181 0 40 (dk_at dksX1_init_1 6 rfl rfl)
theorem dX1_init_33 : decode cX1_init 33 = .ok (.aload_n 0, 1) := dk_42 (dk_at dksX1_init_1 9 rfl rfl)
theorem dX1_init_34 : decode cX1_init 34 = .ok (.iconst (-1), 1) := dk_2 (dk_at dksX1_init_1 10 rfl rfl)
theorem dX1_init_35 : decode cX1_init 35 = .ok (.putfield 44, 3) := dk_181 0 44 (dk_at dksX1_init_1 11 rfl rfl)
theorem dX1_init_38 : decode cX1_init 38 = .ok (.iconst 0, 1) := dk_3 (dk_at dksX1_init_1 14 rfl rfl)
theorem dX1_init_39 : decode cX1_init 39 = .ok (.istore_n 1, 1) := dk_60 (dk_at dksX1_init_1 15 rfl rfl)
theorem dX1_init_40 : decode cX1_init 40 = .ok (.iload_n 1, 1) := dk_27 (dk_at dksX1_init_1 16 rfl rfl)
theorem dX1_init_41 : decode cX1_init 41 = .ok (.bipush 8, 2) := dk_16 8 (dk_at dksX1_init_1 17 rfl rfl)
theorem dX1_init_43 : decode cX1_init 43 = .ok (.if_icmp .ge 22, 3) := dk_162 0 22 (dk_at dksX1_init_1 19 rfl rfl)
theorem dX1_init_46 : decode cX1_init 46 = .ok (.aload_n 0, 1) := dk_42 (dk_at dksX1_init_1 22 rfl rfl)
theorem dX1_init_47 : decode cX1_init 47 = .ok (.getfield 34, 3) := dk_180 0 34 (dk_at dksX1_init_2 0 rfl rfl)
theorem dX1_init_50 : decode cX1_init 50 = .ok (.iload_n 1, 1) := dk_27 (dk_at dksX1_init_2 3 rfl rfl)
theorem dX1_init_51 : decode cX1_init 51 = .ok (.new 32, 3) := dk_187 0 32 (dk_at dksX1_init_2 4 rfl rfl)
theorem dX1_init_54 : decode cX1_init 54 = .ok (.dup, 1) := dk_89 (dk_at dksX1_init_2 7 rfl rfl)
theorem dX1_init_55 : decode cX1_init 55 = .ok (.invokespecial 48, 3) := dk_183 0 48 (dk_at dksX1_init_2 8 rfl rfl)
theorem dX1_init_58 : decode cX1_init 58 = .ok (.aastore, 1) := dk_83 (dk_at dksX1_init_2 11 rfl rfl)
theorem dX1_init_59 : decode cX1_init 59 = .ok (.iinc 1 1, 3) := dk_132 1 1 (dk_at dksX1_init_2 12 rfl rfl)
theorem dX1_init_62 : decode cX1_init 62 = .ok (.goto (-22), 3) := dk_167 255 234 (dk_at dksX1_init_2 15 rfl rfl)
theorem dX1_init_65 : decode cX1_init 65 = .ok (.iconst 0, 1) := dk_3 (dk_at dksX1_init_2 18 rfl rfl)
theorem dX1_init_66 : decode cX1_init 66 = .ok (.istore_n 1, 1) := dk_60 (dk_at dksX1_init_2 19 rfl rfl)
theorem dX1_init_67 : decode cX1_init 67 = .ok (.iload_n 1, 1) := dk_27 (dk_at dksX1_init_2 20 rfl rfl)
theorem dX1_init_68 : decode cX1_init 68 = .ok (.bipush 24, 2) := dk_16 24 (dk_at dksX1_init_2 21 rfl rfl)
theorem dX1_init_70 : decode cX1_init 70 = .ok (.if_icmp .ge 23, 3) := dk_162 0 23 (dk_at dksX1_init_3 0 rfl rfl)
theorem dX1_init_73 : decode cX1_init 73 = .ok (.aload_n 0, 1) := dk_42 (dk_at dksX1_init_3 3 rfl rfl)
theorem dX1_init_74 : decode cX1_init 74 = .ok (.getfield 40, 3) := dk_180 0 40 (dk_at dksX1_init_3 4 rfl rfl)
theorem dX1_init_77 : decode cX1_init 77 = .ok (.iload_n 1, 1) := dk_27 (dk_at dksX1_init_3 7 rfl rfl)
theorem dX1_init_78 : decode cX1_init 78 = .ok (.new 38, 3) := dk_187 0 38 (dk_at dksX1_init_3 8 rfl rfl)
theorem dX1_init_81 : decode cX1_init 81 = .ok (.dup, 1) := dk_89 (dk_at dksX1_init_3 11 rfl rfl)
theorem dX1_init_82 : decode cX1_init 82 = .ok (.iload_n 1, 1) := dk_27 (dk_at dksX1_init_3 12 rfl rfl)
theorem dX1_init_83 : decode cX1_init 83 = .ok (.invokespecial 49, 3) := dk_183 0 49 (dk_at dksX1_init_3 13 rfl rfl)
theorem dX1_init_86 : decode cX1_init 86 = .ok (.aastore, 1) := dk_83 (dk_at dksX1_init_3 16 rfl rfl)
theorem dX1_init_87 : decode cX1_init 87 = .ok (.iinc 1 1, 3) := dk_132 1 1 (dk_at dksX1_init_3 17 rfl rfl)
theorem dX1_init_90 : decode cX1_init 90 = .ok (.goto (-23), 3) := dk_167 255 233 (dk_at dksX1_init_3 20 rfl rfl)
theorem dX1_init_93 : decode cX1_init 93 = .ok (.return_, 1) := dk_177 (dk_at dksX1_init_3 23 rfl rfl)
abbrev cX1_clear : ByteArray := prog_1_method_22_code
def yX1_clear : MethodName := ⟨RX1, "clear", "()I"⟩
def dkwX1_clear_0 : List UInt8 := [42, 180, 0, 26, 182, 0, 217, 60, 42, 180, 0, 26, 3, 182, 0, 224, 27, 172]
abbrev dktX1_clear_0 : List UInt8 := dkwX1_clear_0 ++ []
theorem dksX1_clear_0 : cX1_clear.data.toList.drop 0 = dktX1_clear_0 := by decide +kernel
theorem dX1_clear_0 : decode cX1_clear 0 = .ok (.aload_n 0, 1) := dk_42 (dk_at dksX1_clear_0 0 rfl rfl)
theorem dX1_clear_1 : decode cX1_clear 1 = .ok (.getfield 26, 3) := dk_180 0 26 (dk_at dksX1_clear_0 1 rfl rfl)
theorem dX1_clear_4 : decode cX1_clear 4 = .ok (.invokevirtual 217, 3) := dk_182 0 217 (dk_at dksX1_clear_0 4 rfl rfl)
theorem dX1_clear_7 : decode cX1_clear 7 = .ok (.istore_n 1, 1) := dk_60 (dk_at dksX1_clear_0 7 rfl rfl)
theorem dX1_clear_8 : decode cX1_clear 8 = .ok (.aload_n 0, 1) := dk_42 (dk_at dksX1_clear_0 8 rfl rfl)
theorem dX1_clear_9 : decode cX1_clear 9 = .ok (.getfield 26, 3) := dk_180 0 26 (dk_at dksX1_clear_0 9 rfl rfl)
theorem dX1_clear_12 : decode cX1_clear 12 = .ok (.iconst 0, 1) := dk_3 (dk_at dksX1_clear_0 12 rfl rfl)
theorem dX1_clear_13 : decode cX1_clear 13 = .ok (.invokevirtual 224, 3) := dk_182 0 224 (dk_at dksX1_clear_0 13 rfl rfl)
theorem dX1_clear_16 : decode cX1_clear 16 = .ok (.iload_n 1, 1) := dk_27 (dk_at dksX1_clear_0 16 rfl rfl)
theorem dX1_clear_17 : decode cX1_clear 17 = .ok (.ireturn, 1) := dk_172 (dk_at dksX1_clear_0 17 rfl rfl)
abbrev cX1_fault : ByteArray := prog_1_method_23_code
def yX1_fault : MethodName := ⟨RX1, "fault", "()I"⟩
def dkwX1_fault_0 : List UInt8 := [187, 0, 227, 89, 42, 180, 0, 26, 183, 0, 229, 182, 0, 232, 172]
abbrev dktX1_fault_0 : List UInt8 := dkwX1_fault_0 ++ []
theorem dksX1_fault_0 : cX1_fault.data.toList.drop 0 = dktX1_fault_0 := by decide +kernel
theorem dX1_fault_0 : decode cX1_fault 0 = .ok (.new 227, 3) := dk_187 0 227 (dk_at dksX1_fault_0 0 rfl rfl)
theorem dX1_fault_3 : decode cX1_fault 3 = .ok (.dup, 1) := dk_89 (dk_at dksX1_fault_0 3 rfl rfl)
theorem dX1_fault_4 : decode cX1_fault 4 = .ok (.aload_n 0, 1) := dk_42 (dk_at dksX1_fault_0 4 rfl rfl)
theorem dX1_fault_5 : decode cX1_fault 5 = .ok (.getfield 26, 3) := dk_180 0 26 (dk_at dksX1_fault_0 5 rfl rfl)
theorem dX1_fault_8 : decode cX1_fault 8 = .ok (.invokespecial 229, 3) := dk_183 0 229 (dk_at dksX1_fault_0 8 rfl rfl)
theorem dX1_fault_11 : decode cX1_fault 11 = .ok (.invokevirtual 232, 3) := dk_182 0 232 (dk_at dksX1_fault_0 11 rfl rfl)
theorem dX1_fault_14 : decode cX1_fault 14 = .ok (.ireturn, 1) := dk_172 (dk_at dksX1_fault_0 14 rfl rfl)
abbrev cX1_wordOf : ByteArray := prog_1_method_1_code
def yX1_wordOf : MethodName := ⟨RX1, "wordOf", "(I)Ljava/lang/String;"⟩
def dkwX1_wordOf_2 : List UInt8 := [18, 1, 176, 18, 3, 176, 18, 5, 176, 18, 7, 176, 18, 9, 176, 18, 11, 176, 18, 13, 176, 18, 15, 176]
abbrev dktX1_wordOf_2 : List UInt8 := dkwX1_wordOf_2 ++ []
def dkwX1_wordOf_1 : List UInt8 := [170, 0, 0, 0, 0, 0, 64, 0, 0, 0, 0, 0, 0, 0, 6, 0, 0, 0, 43, 0, 0, 0, 46, 0, 0, 0, 49, 0, 0, 0, 52, 0, 0, 0, 55, 0, 0, 0, 58, 0, 0, 0, 61]
abbrev dktX1_wordOf_1 : List UInt8 := dkwX1_wordOf_1 ++ dktX1_wordOf_2
def dkwX1_wordOf_0 : List UInt8 := [26]
abbrev dktX1_wordOf_0 : List UInt8 := dkwX1_wordOf_0 ++ dktX1_wordOf_1
theorem dksX1_wordOf_0 : cX1_wordOf.data.toList.drop 0 = dktX1_wordOf_0 := by decide +kernel
theorem dksX1_wordOf_1 : cX1_wordOf.data.toList.drop 1 = dktX1_wordOf_1 := dk_seg dksX1_wordOf_0 1 rfl rfl
theorem dksX1_wordOf_2 : cX1_wordOf.data.toList.drop 44 = dktX1_wordOf_2 := dk_seg dksX1_wordOf_1 43 rfl rfl
theorem dX1_wordOf_0 : decode cX1_wordOf 0 = .ok (.iload_n 0, 1) := dk_26 (dk_at dksX1_wordOf_0 0 rfl rfl)
theorem dX1_wordOf_1 : decode cX1_wordOf 1 = .ok (.tableswitch 64 0 6 #[43, 46, 49, 52, 55, 58, 61], 43) := by decide +kernel
theorem dX1_wordOf_44 : decode cX1_wordOf 44 = .ok (.ldc 1, 2) := dk_18 1 (dk_at dksX1_wordOf_2 0 rfl rfl)
theorem dX1_wordOf_46 : decode cX1_wordOf 46 = .ok (.areturn, 1) := dk_176 (dk_at dksX1_wordOf_2 2 rfl rfl)
theorem dX1_wordOf_47 : decode cX1_wordOf 47 = .ok (.ldc 3, 2) := dk_18 3 (dk_at dksX1_wordOf_2 3 rfl rfl)
theorem dX1_wordOf_49 : decode cX1_wordOf 49 = .ok (.areturn, 1) := dk_176 (dk_at dksX1_wordOf_2 5 rfl rfl)
theorem dX1_wordOf_50 : decode cX1_wordOf 50 = .ok (.ldc 5, 2) := dk_18 5 (dk_at dksX1_wordOf_2 6 rfl rfl)
theorem dX1_wordOf_52 : decode cX1_wordOf 52 = .ok (.areturn, 1) := dk_176 (dk_at dksX1_wordOf_2 8 rfl rfl)
theorem dX1_wordOf_53 : decode cX1_wordOf 53 = .ok (.ldc 7, 2) := dk_18 7 (dk_at dksX1_wordOf_2 9 rfl rfl)
theorem dX1_wordOf_55 : decode cX1_wordOf 55 = .ok (.areturn, 1) := dk_176 (dk_at dksX1_wordOf_2 11 rfl rfl)
theorem dX1_wordOf_56 : decode cX1_wordOf 56 = .ok (.ldc 9, 2) := dk_18 9 (dk_at dksX1_wordOf_2 12 rfl rfl)
theorem dX1_wordOf_58 : decode cX1_wordOf 58 = .ok (.areturn, 1) := dk_176 (dk_at dksX1_wordOf_2 14 rfl rfl)
theorem dX1_wordOf_59 : decode cX1_wordOf 59 = .ok (.ldc 11, 2) := dk_18 11 (dk_at dksX1_wordOf_2 15 rfl rfl)
theorem dX1_wordOf_61 : decode cX1_wordOf 61 = .ok (.areturn, 1) := dk_176 (dk_at dksX1_wordOf_2 17 rfl rfl)
theorem dX1_wordOf_62 : decode cX1_wordOf 62 = .ok (.ldc 13, 2) := dk_18 13 (dk_at dksX1_wordOf_2 18 rfl rfl)
theorem dX1_wordOf_64 : decode cX1_wordOf 64 = .ok (.areturn, 1) := dk_176 (dk_at dksX1_wordOf_2 20 rfl rfl)
theorem dX1_wordOf_65 : decode cX1_wordOf 65 = .ok (.ldc 15, 2) := dk_18 15 (dk_at dksX1_wordOf_2 21 rfl rfl)
theorem dX1_wordOf_67 : decode cX1_wordOf 67 = .ok (.areturn, 1) := dk_176 (dk_at dksX1_wordOf_2 23 rfl rfl)
abbrev cX1_begin : ByteArray := prog_1_method_11_code
def yX1_begin : MethodName := ⟨RX1, "begin", "(III)I"⟩
def dkwX1_begin_3 : List UInt8 := [180, 0, 88, 4, 96, 181, 0, 88, 42, 180, 0, 88, 172]
abbrev dktX1_begin_3 : List UInt8 := dkwX1_begin_3 ++ []
def dkwX1_begin_2 : List UInt8 := [167, 0, 4, 3, 184, 0, 69, 42, 187, 0, 74, 89, 27, 28, 29, 183, 0, 85, 181, 0, 65, 42, 89]
abbrev dktX1_begin_2 : List UInt8 := dkwX1_begin_2 ++ dktX1_begin_3
def dkwX1_begin_1 : List UInt8 := [184, 0, 78, 153, 0, 7, 4, 167, 0, 4, 3, 184, 0, 82, 42, 180, 0, 65, 199, 0, 7, 4]
abbrev dktX1_begin_1 : List UInt8 := dkwX1_begin_1 ++ dktX1_begin_2
def dkwX1_begin_0 : List UInt8 := [27, 16, 8, 184, 0, 61, 28, 16, 8, 184, 0, 61, 27, 28, 159, 0, 20, 29, 17, 1, 44, 17, 93, 192]
abbrev dktX1_begin_0 : List UInt8 := dkwX1_begin_0 ++ dktX1_begin_1
theorem dksX1_begin_0 : cX1_begin.data.toList.drop 0 = dktX1_begin_0 := by decide +kernel
theorem dksX1_begin_1 : cX1_begin.data.toList.drop 24 = dktX1_begin_1 := dk_seg dksX1_begin_0 24 rfl rfl
theorem dksX1_begin_2 : cX1_begin.data.toList.drop 46 = dktX1_begin_2 := dk_seg dksX1_begin_1 22 rfl rfl
theorem dksX1_begin_3 : cX1_begin.data.toList.drop 69 = dktX1_begin_3 := dk_seg dksX1_begin_2 23 rfl rfl
theorem dX1_begin_0 : decode cX1_begin 0 = .ok (.iload_n 1, 1) := dk_27 (dk_at dksX1_begin_0 0 rfl rfl)
theorem dX1_begin_1 : decode cX1_begin 1 = .ok (.bipush 8, 2) := dk_16 8 (dk_at dksX1_begin_0 1 rfl rfl)
theorem dX1_begin_3 : decode cX1_begin 3 = .ok (.invokestatic 61, 3) := dk_184 0 61 (dk_at dksX1_begin_0 3 rfl rfl)
theorem dX1_begin_6 : decode cX1_begin 6 = .ok (.iload_n 2, 1) := dk_28 (dk_at dksX1_begin_0 6 rfl rfl)
theorem dX1_begin_7 : decode cX1_begin 7 = .ok (.bipush 8, 2) := dk_16 8 (dk_at dksX1_begin_0 7 rfl rfl)
theorem dX1_begin_9 : decode cX1_begin 9 = .ok (.invokestatic 61, 3) := dk_184 0 61 (dk_at dksX1_begin_0 9 rfl rfl)
theorem dX1_begin_12 : decode cX1_begin 12 = .ok (.iload_n 1, 1) := dk_27 (dk_at dksX1_begin_0 12 rfl rfl)
theorem dX1_begin_13 : decode cX1_begin 13 = .ok (.iload_n 2, 1) := dk_28 (dk_at dksX1_begin_0 13 rfl rfl)
theorem dX1_begin_14 : decode cX1_begin 14 = .ok (.if_icmp .eq 20, 3) := dk_159 0 20 (dk_at dksX1_begin_0 14 rfl rfl)
theorem dX1_begin_17 : decode cX1_begin 17 = .ok (.iload_n 3, 1) := dk_29 (dk_at dksX1_begin_0 17 rfl rfl)
theorem dX1_begin_18 : decode cX1_begin 18 = .ok (.sipush 300, 3) := dk_17 1 44 (dk_at dksX1_begin_0 18 rfl rfl)
theorem dX1_begin_21 : decode cX1_begin 21 = .ok (.sipush 24000, 3) := dk_17 93 192 (dk_at dksX1_begin_0 21 rfl rfl)
theorem dX1_begin_24 : decode cX1_begin 24 = .ok (.invokestatic 78, 3) := dk_184 0 78 (dk_at dksX1_begin_1 0 rfl rfl)
theorem dX1_begin_27 : decode cX1_begin 27 = .ok (.ifCond .eq 7, 3) := dk_153 0 7 (dk_at dksX1_begin_1 3 rfl rfl)
theorem dX1_begin_30 : decode cX1_begin 30 = .ok (.iconst 1, 1) := dk_4 (dk_at dksX1_begin_1 6 rfl rfl)
theorem dX1_begin_31 : decode cX1_begin 31 = .ok (.goto 4, 3) := dk_167 0 4 (dk_at dksX1_begin_1 7 rfl rfl)
theorem dX1_begin_34 : decode cX1_begin 34 = .ok (.iconst 0, 1) := dk_3 (dk_at dksX1_begin_1 10 rfl rfl)
theorem dX1_begin_35 : decode cX1_begin 35 = .ok (.invokestatic 82, 3) := dk_184 0 82 (dk_at dksX1_begin_1 11 rfl rfl)
theorem dX1_begin_38 : decode cX1_begin 38 = .ok (.aload_n 0, 1) := dk_42 (dk_at dksX1_begin_1 14 rfl rfl)
theorem dX1_begin_39 : decode cX1_begin 39 = .ok (.getfield 65, 3) := dk_180 0 65 (dk_at dksX1_begin_1 15 rfl rfl)
theorem dX1_begin_42 : decode cX1_begin 42 = .ok (.ifnonnull 7, 3) := dk_199 0 7 (dk_at dksX1_begin_1 18 rfl rfl)
theorem dX1_begin_45 : decode cX1_begin 45 = .ok (.iconst 1, 1) := dk_4 (dk_at dksX1_begin_1 21 rfl rfl)
theorem dX1_begin_46 : decode cX1_begin 46 = .ok (.goto 4, 3) := dk_167 0 4 (dk_at dksX1_begin_2 0 rfl rfl)
theorem dX1_begin_49 : decode cX1_begin 49 = .ok (.iconst 0, 1) := dk_3 (dk_at dksX1_begin_2 3 rfl rfl)
theorem dX1_begin_50 : decode cX1_begin 50 = .ok (.invokestatic 69, 3) := dk_184 0 69 (dk_at dksX1_begin_2 4 rfl rfl)
theorem dX1_begin_53 : decode cX1_begin 53 = .ok (.aload_n 0, 1) := dk_42 (dk_at dksX1_begin_2 7 rfl rfl)
theorem dX1_begin_54 : decode cX1_begin 54 = .ok (.new 74, 3) := dk_187 0 74 (dk_at dksX1_begin_2 8 rfl rfl)
theorem dX1_begin_57 : decode cX1_begin 57 = .ok (.dup, 1) := dk_89 (dk_at dksX1_begin_2 11 rfl rfl)
theorem dX1_begin_58 : decode cX1_begin 58 = .ok (.iload_n 1, 1) := dk_27 (dk_at dksX1_begin_2 12 rfl rfl)
theorem dX1_begin_59 : decode cX1_begin 59 = .ok (.iload_n 2, 1) := dk_28 (dk_at dksX1_begin_2 13 rfl rfl)
theorem dX1_begin_60 : decode cX1_begin 60 = .ok (.iload_n 3, 1) := dk_29 (dk_at dksX1_begin_2 14 rfl rfl)
theorem dX1_begin_61 : decode cX1_begin 61 = .ok (.invokespecial 85, 3) := dk_183 0 85 (dk_at dksX1_begin_2 15 rfl rfl)
theorem dX1_begin_64 : decode cX1_begin 64 = .ok (.putfield 65, 3) := dk_181 0 65 (dk_at dksX1_begin_2 18 rfl rfl)
theorem dX1_begin_67 : decode cX1_begin 67 = .ok (.aload_n 0, 1) := dk_42 (dk_at dksX1_begin_2 21 rfl rfl)
theorem dX1_begin_68 : decode cX1_begin 68 = .ok (.dup, 1) := dk_89 (dk_at dksX1_begin_2 22 rfl rfl)
theorem dX1_begin_69 : decode cX1_begin 69 = .ok (.getfield 88, 3) := dk_180 0 88 (dk_at dksX1_begin_3 0 rfl rfl)
theorem dX1_begin_72 : decode cX1_begin 72 = .ok (.iconst 1, 1) := dk_4 (dk_at dksX1_begin_3 3 rfl rfl)
theorem dX1_begin_73 : decode cX1_begin 73 = .ok (.iadd, 1) := dk_96 (dk_at dksX1_begin_3 4 rfl rfl)
theorem dX1_begin_74 : decode cX1_begin 74 = .ok (.putfield 88, 3) := dk_181 0 88 (dk_at dksX1_begin_3 5 rfl rfl)
theorem dX1_begin_77 : decode cX1_begin 77 = .ok (.aload_n 0, 1) := dk_42 (dk_at dksX1_begin_3 8 rfl rfl)
theorem dX1_begin_78 : decode cX1_begin 78 = .ok (.getfield 88, 3) := dk_180 0 88 (dk_at dksX1_begin_3 9 rfl rfl)
theorem dX1_begin_81 : decode cX1_begin 81 = .ok (.ireturn, 1) := dk_172 (dk_at dksX1_begin_3 12 rfl rfl)
abbrev cX1_checkIndex : ByteArray := prog_1_method_5_code
def yX1_checkIndex : MethodName := ⟨RX1, "checkIndex", "(II)V"⟩
def dkwX1_checkIndex_0 : List UInt8 := [26, 155, 0, 8, 26, 27, 161, 0, 11, 187, 0, 58, 89, 183, 0, 60, 191, 177]
abbrev dktX1_checkIndex_0 : List UInt8 := dkwX1_checkIndex_0 ++ []
theorem dksX1_checkIndex_0 : cX1_checkIndex.data.toList.drop 0 = dktX1_checkIndex_0 := by decide +kernel
theorem dX1_checkIndex_0 : decode cX1_checkIndex 0 = .ok (.iload_n 0, 1) := dk_26 (dk_at dksX1_checkIndex_0 0 rfl rfl)
theorem dX1_checkIndex_1 : decode cX1_checkIndex 1 = .ok (.ifCond .lt 8, 3) := dk_155 0 8 (dk_at dksX1_checkIndex_0 1 rfl rfl)
theorem dX1_checkIndex_4 : decode cX1_checkIndex 4 = .ok (.iload_n 0, 1) := dk_26 (dk_at dksX1_checkIndex_0 4 rfl rfl)
theorem dX1_checkIndex_5 : decode cX1_checkIndex 5 = .ok (.iload_n 1, 1) := dk_27 (dk_at dksX1_checkIndex_0 5 rfl rfl)
theorem dX1_checkIndex_6 : decode cX1_checkIndex 6 = .ok (.if_icmp .lt 11, 3) := dk_161 0 11 (dk_at dksX1_checkIndex_0 6 rfl rfl)
theorem dX1_checkIndex_9 : decode cX1_checkIndex 9 = .ok (.new 58, 3) := dk_187 0 58 (dk_at dksX1_checkIndex_0 9 rfl rfl)
theorem dX1_checkIndex_12 : decode cX1_checkIndex 12 = .ok (.dup, 1) := dk_89 (dk_at dksX1_checkIndex_0 12 rfl rfl)
theorem dX1_checkIndex_13 : decode cX1_checkIndex 13 = .ok (.invokespecial 60, 3) := dk_183 0 60 (dk_at dksX1_checkIndex_0 13 rfl rfl)
theorem dX1_checkIndex_16 : decode cX1_checkIndex 16 = .ok (.athrow, 1) := dk_191 (dk_at dksX1_checkIndex_0 16 rfl rfl)
theorem dX1_checkIndex_17 : decode cX1_checkIndex 17 = .ok (.return_, 1) := dk_177 (dk_at dksX1_checkIndex_0 17 rfl rfl)
abbrev cX1_isIn : ByteArray := prog_1_method_6_code
def yX1_isIn : MethodName := ⟨RX1, "isIn", "(III)Z"⟩
def dkwX1_isIn_0 : List UInt8 := [26, 27, 161, 0, 12, 26, 28, 163, 0, 7, 4, 167, 0, 4, 3, 172]
abbrev dktX1_isIn_0 : List UInt8 := dkwX1_isIn_0 ++ []
theorem dksX1_isIn_0 : cX1_isIn.data.toList.drop 0 = dktX1_isIn_0 := by decide +kernel
theorem dX1_isIn_0 : decode cX1_isIn 0 = .ok (.iload_n 0, 1) := dk_26 (dk_at dksX1_isIn_0 0 rfl rfl)
theorem dX1_isIn_1 : decode cX1_isIn 1 = .ok (.iload_n 1, 1) := dk_27 (dk_at dksX1_isIn_0 1 rfl rfl)
theorem dX1_isIn_2 : decode cX1_isIn 2 = .ok (.if_icmp .lt 12, 3) := dk_161 0 12 (dk_at dksX1_isIn_0 2 rfl rfl)
theorem dX1_isIn_5 : decode cX1_isIn 5 = .ok (.iload_n 0, 1) := dk_26 (dk_at dksX1_isIn_0 5 rfl rfl)
theorem dX1_isIn_6 : decode cX1_isIn 6 = .ok (.iload_n 2, 1) := dk_28 (dk_at dksX1_isIn_0 6 rfl rfl)
theorem dX1_isIn_7 : decode cX1_isIn 7 = .ok (.if_icmp .gt 7, 3) := dk_163 0 7 (dk_at dksX1_isIn_0 7 rfl rfl)
theorem dX1_isIn_10 : decode cX1_isIn 10 = .ok (.iconst 1, 1) := dk_4 (dk_at dksX1_isIn_0 10 rfl rfl)
theorem dX1_isIn_11 : decode cX1_isIn 11 = .ok (.goto 4, 3) := dk_167 0 4 (dk_at dksX1_isIn_0 11 rfl rfl)
theorem dX1_isIn_14 : decode cX1_isIn 14 = .ok (.iconst 0, 1) := dk_3 (dk_at dksX1_isIn_0 14 rfl rfl)
theorem dX1_isIn_15 : decode cX1_isIn 15 = .ok (.ireturn, 1) := dk_172 (dk_at dksX1_isIn_0 15 rfl rfl)
abbrev cX1_checkArgument : ByteArray := prog_1_method_4_code
def yX1_checkArgument : MethodName := ⟨RX1, "checkArgument", "(Z)V"⟩
def dkwX1_checkArgument_0 : List UInt8 := [26, 154, 0, 11, 187, 0, 55, 89, 183, 0, 57, 191, 177]
abbrev dktX1_checkArgument_0 : List UInt8 := dkwX1_checkArgument_0 ++ []
theorem dksX1_checkArgument_0 : cX1_checkArgument.data.toList.drop 0 = dktX1_checkArgument_0 := by decide +kernel
theorem dX1_checkArgument_0 : decode cX1_checkArgument 0 = .ok (.iload_n 0, 1) := dk_26 (dk_at dksX1_checkArgument_0 0 rfl rfl)
theorem dX1_checkArgument_1 : decode cX1_checkArgument 1 = .ok (.ifCond .ne 11, 3) := dk_154 0 11 (dk_at dksX1_checkArgument_0 1 rfl rfl)
theorem dX1_checkArgument_4 : decode cX1_checkArgument 4 = .ok (.new 55, 3) := dk_187 0 55 (dk_at dksX1_checkArgument_0 4 rfl rfl)
theorem dX1_checkArgument_7 : decode cX1_checkArgument 7 = .ok (.dup, 1) := dk_89 (dk_at dksX1_checkArgument_0 7 rfl rfl)
theorem dX1_checkArgument_8 : decode cX1_checkArgument 8 = .ok (.invokespecial 57, 3) := dk_183 0 57 (dk_at dksX1_checkArgument_0 8 rfl rfl)
theorem dX1_checkArgument_11 : decode cX1_checkArgument 11 = .ok (.athrow, 1) := dk_191 (dk_at dksX1_checkArgument_0 11 rfl rfl)
theorem dX1_checkArgument_12 : decode cX1_checkArgument 12 = .ok (.return_, 1) := dk_177 (dk_at dksX1_checkArgument_0 12 rfl rfl)
abbrev cX1_checkState : ByteArray := prog_1_method_3_code
def yX1_checkState : MethodName := ⟨RX1, "checkState", "(Z)V"⟩
def dkwX1_checkState_0 : List UInt8 := [26, 154, 0, 11, 187, 0, 52, 89, 183, 0, 54, 191, 177]
abbrev dktX1_checkState_0 : List UInt8 := dkwX1_checkState_0 ++ []
theorem dksX1_checkState_0 : cX1_checkState.data.toList.drop 0 = dktX1_checkState_0 := by decide +kernel
theorem dX1_checkState_0 : decode cX1_checkState 0 = .ok (.iload_n 0, 1) := dk_26 (dk_at dksX1_checkState_0 0 rfl rfl)
theorem dX1_checkState_1 : decode cX1_checkState 1 = .ok (.ifCond .ne 11, 3) := dk_154 0 11 (dk_at dksX1_checkState_0 1 rfl rfl)
theorem dX1_checkState_4 : decode cX1_checkState 4 = .ok (.new 52, 3) := dk_187 0 52 (dk_at dksX1_checkState_0 4 rfl rfl)
theorem dX1_checkState_7 : decode cX1_checkState 7 = .ok (.dup, 1) := dk_89 (dk_at dksX1_checkState_0 7 rfl rfl)
theorem dX1_checkState_8 : decode cX1_checkState 8 = .ok (.invokespecial 54, 3) := dk_183 0 54 (dk_at dksX1_checkState_0 8 rfl rfl)
theorem dX1_checkState_11 : decode cX1_checkState 11 = .ok (.athrow, 1) := dk_191 (dk_at dksX1_checkState_0 11 rfl rfl)
theorem dX1_checkState_12 : decode cX1_checkState 12 = .ok (.return_, 1) := dk_177 (dk_at dksX1_checkState_0 12 rfl rfl)
abbrev cX1_raid : ByteArray := prog_1_method_12_code
def yX1_raid : MethodName := ⟨RX1, "raid", "(I)I"⟩
def dkwX1_raid_3 : List UInt8 := [185, 0, 122, 1, 0, 172]
abbrev dktX1_raid_3 : List UInt8 := dkwX1_raid_3 ++ []
def dkwX1_raid_2 : List UInt8 := [182, 0, 114, 153, 0, 7, 4, 167, 0, 4, 3, 184, 0, 69, 44, 45, 181, 0, 73, 44, 180, 0, 118]
abbrev dktX1_raid_2 : List UInt8 := dkwX1_raid_2 ++ dktX1_raid_3
def dkwX1_raid_1 : List UInt8 := [183, 0, 100, 78, 44, 182, 0, 103, 16, 60, 162, 0, 22, 45, 44, 182, 0, 107, 44, 180, 0, 111]
abbrev dktX1_raid_1 : List UInt8 := dkwX1_raid_1 ++ dktX1_raid_2
def dkwX1_raid_0 : List UInt8 := [27, 16, 10, 184, 0, 61, 42, 182, 0, 91, 77, 187, 0, 95, 89, 27, 187, 0, 97, 89, 183, 0, 99]
abbrev dktX1_raid_0 : List UInt8 := dkwX1_raid_0 ++ dktX1_raid_1
theorem dksX1_raid_0 : cX1_raid.data.toList.drop 0 = dktX1_raid_0 := by decide +kernel
theorem dksX1_raid_1 : cX1_raid.data.toList.drop 23 = dktX1_raid_1 := dk_seg dksX1_raid_0 23 rfl rfl
theorem dksX1_raid_2 : cX1_raid.data.toList.drop 45 = dktX1_raid_2 := dk_seg dksX1_raid_1 22 rfl rfl
theorem dksX1_raid_3 : cX1_raid.data.toList.drop 68 = dktX1_raid_3 := dk_seg dksX1_raid_2 23 rfl rfl
theorem dX1_raid_0 : decode cX1_raid 0 = .ok (.iload_n 1, 1) := dk_27 (dk_at dksX1_raid_0 0 rfl rfl)
theorem dX1_raid_1 : decode cX1_raid 1 = .ok (.bipush 10, 2) := dk_16 10 (dk_at dksX1_raid_0 1 rfl rfl)
theorem dX1_raid_3 : decode cX1_raid 3 = .ok (.invokestatic 61, 3) := dk_184 0 61 (dk_at dksX1_raid_0 3 rfl rfl)
theorem dX1_raid_6 : decode cX1_raid 6 = .ok (.aload_n 0, 1) := dk_42 (dk_at dksX1_raid_0 6 rfl rfl)
theorem dX1_raid_7 : decode cX1_raid 7 = .ok (.invokevirtual 91, 3) := dk_182 0 91 (dk_at dksX1_raid_0 7 rfl rfl)
theorem dX1_raid_10 : decode cX1_raid 10 = .ok (.astore_n 2, 1) := dk_77 (dk_at dksX1_raid_0 10 rfl rfl)
theorem dX1_raid_11 : decode cX1_raid 11 = .ok (.new 95, 3) := dk_187 0 95 (dk_at dksX1_raid_0 11 rfl rfl)
theorem dX1_raid_14 : decode cX1_raid 14 = .ok (.dup, 1) := dk_89 (dk_at dksX1_raid_0 14 rfl rfl)
theorem dX1_raid_15 : decode cX1_raid 15 = .ok (.iload_n 1, 1) := dk_27 (dk_at dksX1_raid_0 15 rfl rfl)
theorem dX1_raid_16 : decode cX1_raid 16 = .ok (.new 97, 3) := dk_187 0 97 (dk_at dksX1_raid_0 16 rfl rfl)
theorem dX1_raid_19 : decode cX1_raid 19 = .ok (.dup, 1) := dk_89 (dk_at dksX1_raid_0 19 rfl rfl)
theorem dX1_raid_20 : decode cX1_raid 20 = .ok (.invokespecial 99, 3) := dk_183 0 99 (dk_at dksX1_raid_0 20 rfl rfl)
theorem dX1_raid_23 : decode cX1_raid 23 = .ok (.invokespecial 100, 3) := dk_183 0 100 (dk_at dksX1_raid_1 0 rfl rfl)
theorem dX1_raid_26 : decode cX1_raid 26 = .ok (.astore_n 3, 1) := dk_78 (dk_at dksX1_raid_1 3 rfl rfl)
theorem dX1_raid_27 : decode cX1_raid 27 = .ok (.aload_n 2, 1) := dk_44 (dk_at dksX1_raid_1 4 rfl rfl)
theorem dX1_raid_28 : decode cX1_raid 28 = .ok (.invokevirtual 103, 3) := dk_182 0 103 (dk_at dksX1_raid_1 5 rfl rfl)
theorem dX1_raid_31 : decode cX1_raid 31 = .ok (.bipush 60, 2) := dk_16 60 (dk_at dksX1_raid_1 8 rfl rfl)
theorem dX1_raid_33 : decode cX1_raid 33 = .ok (.if_icmp .ge 22, 3) := dk_162 0 22 (dk_at dksX1_raid_1 10 rfl rfl)
theorem dX1_raid_36 : decode cX1_raid 36 = .ok (.aload_n 3, 1) := dk_45 (dk_at dksX1_raid_1 13 rfl rfl)
theorem dX1_raid_37 : decode cX1_raid 37 = .ok (.aload_n 2, 1) := dk_44 (dk_at dksX1_raid_1 14 rfl rfl)
theorem dX1_raid_38 : decode cX1_raid 38 = .ok (.invokevirtual 107, 3) := dk_182 0 107 (dk_at dksX1_raid_1 15 rfl rfl)
theorem dX1_raid_41 : decode cX1_raid 41 = .ok (.aload_n 2, 1) := dk_44 (dk_at dksX1_raid_1 18 rfl rfl)
theorem dX1_raid_42 : decode cX1_raid 42 = .ok (.getfield 111, 3) := dk_180 0 111 (dk_at dksX1_raid_1 19 rfl rfl)
theorem dX1_raid_45 : decode cX1_raid 45 = .ok (.invokevirtual 114, 3) := dk_182 0 114 (dk_at dksX1_raid_2 0 rfl rfl)
theorem dX1_raid_48 : decode cX1_raid 48 = .ok (.ifCond .eq 7, 3) := dk_153 0 7 (dk_at dksX1_raid_2 3 rfl rfl)
theorem dX1_raid_51 : decode cX1_raid 51 = .ok (.iconst 1, 1) := dk_4 (dk_at dksX1_raid_2 6 rfl rfl)
theorem dX1_raid_52 : decode cX1_raid 52 = .ok (.goto 4, 3) := dk_167 0 4 (dk_at dksX1_raid_2 7 rfl rfl)
theorem dX1_raid_55 : decode cX1_raid 55 = .ok (.iconst 0, 1) := dk_3 (dk_at dksX1_raid_2 10 rfl rfl)
theorem dX1_raid_56 : decode cX1_raid 56 = .ok (.invokestatic 69, 3) := dk_184 0 69 (dk_at dksX1_raid_2 11 rfl rfl)
theorem dX1_raid_59 : decode cX1_raid 59 = .ok (.aload_n 2, 1) := dk_44 (dk_at dksX1_raid_2 14 rfl rfl)
theorem dX1_raid_60 : decode cX1_raid 60 = .ok (.aload_n 3, 1) := dk_45 (dk_at dksX1_raid_2 15 rfl rfl)
theorem dX1_raid_61 : decode cX1_raid 61 = .ok (.putfield 73, 3) := dk_181 0 73 (dk_at dksX1_raid_2 16 rfl rfl)
theorem dX1_raid_64 : decode cX1_raid 64 = .ok (.aload_n 2, 1) := dk_44 (dk_at dksX1_raid_2 19 rfl rfl)
theorem dX1_raid_65 : decode cX1_raid 65 = .ok (.getfield 118, 3) := dk_180 0 118 (dk_at dksX1_raid_2 20 rfl rfl)
theorem dX1_raid_68 : decode cX1_raid 68 = .ok (.invokeinterface 122 1, 5) := by decide +kernel
theorem dX1_raid_73 : decode cX1_raid 73 = .ok (.ireturn, 1) := dk_172 (dk_at dksX1_raid_3 5 rfl rfl)
abbrev cX1_quiet : ByteArray := prog_1_method_9_code
def yX1_quiet : MethodName := ⟨RX1, "quiet", "()LRaidhall$Match;"⟩
def dkwX1_quiet_1 : List UInt8 := [184, 0, 69, 42, 180, 0, 65, 176]
abbrev dktX1_quiet_1 : List UInt8 := dkwX1_quiet_1 ++ []
def dkwX1_quiet_0 : List UInt8 := [42, 180, 0, 65, 198, 0, 17, 42, 180, 0, 65, 180, 0, 73, 199, 0, 7, 4, 167, 0, 4, 3]
abbrev dktX1_quiet_0 : List UInt8 := dkwX1_quiet_0 ++ dktX1_quiet_1
theorem dksX1_quiet_0 : cX1_quiet.data.toList.drop 0 = dktX1_quiet_0 := by decide +kernel
theorem dksX1_quiet_1 : cX1_quiet.data.toList.drop 22 = dktX1_quiet_1 := dk_seg dksX1_quiet_0 22 rfl rfl
theorem dX1_quiet_0 : decode cX1_quiet 0 = .ok (.aload_n 0, 1) := dk_42 (dk_at dksX1_quiet_0 0 rfl rfl)
theorem dX1_quiet_1 : decode cX1_quiet 1 = .ok (.getfield 65, 3) := dk_180 0 65 (dk_at dksX1_quiet_0 1 rfl rfl)
theorem dX1_quiet_4 : decode cX1_quiet 4 = .ok (.ifnull 17, 3) := dk_198 0 17 (dk_at dksX1_quiet_0 4 rfl rfl)
theorem dX1_quiet_7 : decode cX1_quiet 7 = .ok (.aload_n 0, 1) := dk_42 (dk_at dksX1_quiet_0 7 rfl rfl)
theorem dX1_quiet_8 : decode cX1_quiet 8 = .ok (.getfield 65, 3) := dk_180 0 65 (dk_at dksX1_quiet_0 8 rfl rfl)
theorem dX1_quiet_11 : decode cX1_quiet 11 = .ok (.getfield 73, 3) := dk_180 0 73 (dk_at dksX1_quiet_0 11 rfl rfl)
theorem dX1_quiet_14 : decode cX1_quiet 14 = .ok (.ifnonnull 7, 3) := dk_199 0 7 (dk_at dksX1_quiet_0 14 rfl rfl)
theorem dX1_quiet_17 : decode cX1_quiet 17 = .ok (.iconst 1, 1) := dk_4 (dk_at dksX1_quiet_0 17 rfl rfl)
theorem dX1_quiet_18 : decode cX1_quiet 18 = .ok (.goto 4, 3) := dk_167 0 4 (dk_at dksX1_quiet_0 18 rfl rfl)
theorem dX1_quiet_21 : decode cX1_quiet 21 = .ok (.iconst 0, 1) := dk_3 (dk_at dksX1_quiet_0 21 rfl rfl)
theorem dX1_quiet_22 : decode cX1_quiet 22 = .ok (.invokestatic 69, 3) := dk_184 0 69 (dk_at dksX1_quiet_1 0 rfl rfl)
theorem dX1_quiet_25 : decode cX1_quiet 25 = .ok (.aload_n 0, 1) := dk_42 (dk_at dksX1_quiet_1 3 rfl rfl)
theorem dX1_quiet_26 : decode cX1_quiet 26 = .ok (.getfield 65, 3) := dk_180 0 65 (dk_at dksX1_quiet_1 4 rfl rfl)
theorem dX1_quiet_29 : decode cX1_quiet 29 = .ok (.areturn, 1) := dk_176 (dk_at dksX1_quiet_1 7 rfl rfl)
abbrev cX1_step : ByteArray := prog_1_method_13_code
def yX1_step : MethodName := ⟨RX1, "step", "(III)I"⟩
def dkwX1_step_9 : List UInt8 := [180, 0, 157, 100, 46, 100, 167, 0, 4, 2, 172]
abbrev dktX1_step_9 : List UInt8 := dkwX1_step_9 ++ []
def dkwX1_step_8 : List UInt8 := [100, 104, 25, 8, 180, 0, 151, 4, 25, 5, 180, 0, 157, 100, 46, 96, 25, 5, 180, 0, 151, 4, 25, 5]
abbrev dktX1_step_8 : List UInt8 := dkwX1_step_8 ++ dktX1_step_9
def dkwX1_step_7 : List UInt8 := [16, 10, 25, 8, 180, 0, 151, 25, 5, 180, 0, 157, 46, 25, 5, 180, 0, 151, 25, 5, 180, 0, 157, 46]
abbrev dktX1_step_7 : List UInt8 := dkwX1_step_7 ++ dktX1_step_8
def dkwX1_step_6 : List UInt8 := [180, 0, 65, 25, 6, 182, 0, 148, 54, 7, 42, 180, 0, 65, 182, 0, 107, 58, 8, 21, 7, 153, 0, 60]
abbrev dktX1_step_6 : List UInt8 := dkwX1_step_6 ++ dktX1_step_7
def dkwX1_step_5 : List UInt8 := [154, 0, 5, 2, 172, 42, 180, 0, 65, 180, 0, 73, 58, 6, 42, 180, 0, 65, 1, 181, 0, 73, 42]
abbrev dktX1_step_5 : List UInt8 := dkwX1_step_5 ++ dktX1_step_6
def dkwX1_step_4 : List UInt8 := [180, 0, 65, 180, 0, 73, 180, 0, 137, 25, 4, 185, 0, 140, 2, 0, 87, 25, 4, 182, 0, 144]
abbrev dktX1_step_4 : List UInt8 := dkwX1_step_4 ++ dktX1_step_5
def dkwX1_step_3 : List UInt8 := [182, 0, 107, 58, 5, 42, 180, 0, 65, 180, 0, 73, 25, 5, 25, 4, 182, 0, 133, 184, 0, 69, 42]
abbrev dktX1_step_3 : List UInt8 := dkwX1_step_3 ++ dktX1_step_4
def dkwX1_step_2 : List UInt8 := [4, 167, 0, 4, 3, 184, 0, 69, 187, 0, 130, 89, 27, 28, 29, 183, 0, 132, 58, 4, 42, 180, 0, 65]
abbrev dktX1_step_2 : List UInt8 := dkwX1_step_2 ++ dktX1_step_3
def dkwX1_step_1 : List UInt8 := [167, 0, 4, 3, 184, 0, 82, 42, 180, 0, 65, 198, 0, 17, 42, 180, 0, 65, 180, 0, 73, 198, 0, 7]
abbrev dktX1_step_1 : List UInt8 := dkwX1_step_1 ++ dktX1_step_2
def dkwX1_step_0 : List UInt8 := [27, 28, 16, 6, 184, 0, 127, 153, 0, 18, 29, 4, 17, 1, 44, 184, 0, 78, 153, 0, 7, 4]
abbrev dktX1_step_0 : List UInt8 := dkwX1_step_0 ++ dktX1_step_1
theorem dksX1_step_0 : cX1_step.data.toList.drop 0 = dktX1_step_0 := by decide +kernel
theorem dksX1_step_1 : cX1_step.data.toList.drop 22 = dktX1_step_1 := dk_seg dksX1_step_0 22 rfl rfl
theorem dksX1_step_2 : cX1_step.data.toList.drop 46 = dktX1_step_2 := dk_seg dksX1_step_1 24 rfl rfl
theorem dksX1_step_3 : cX1_step.data.toList.drop 70 = dktX1_step_3 := dk_seg dksX1_step_2 24 rfl rfl
theorem dksX1_step_4 : cX1_step.data.toList.drop 93 = dktX1_step_4 := dk_seg dksX1_step_3 23 rfl rfl
theorem dksX1_step_5 : cX1_step.data.toList.drop 115 = dktX1_step_5 := dk_seg dksX1_step_4 22 rfl rfl
theorem dksX1_step_6 : cX1_step.data.toList.drop 138 = dktX1_step_6 := dk_seg dksX1_step_5 23 rfl rfl
theorem dksX1_step_7 : cX1_step.data.toList.drop 162 = dktX1_step_7 := dk_seg dksX1_step_6 24 rfl rfl
theorem dksX1_step_8 : cX1_step.data.toList.drop 186 = dktX1_step_8 := dk_seg dksX1_step_7 24 rfl rfl
theorem dksX1_step_9 : cX1_step.data.toList.drop 210 = dktX1_step_9 := dk_seg dksX1_step_8 24 rfl rfl
theorem dX1_step_0 : decode cX1_step 0 = .ok (.iload_n 1, 1) := dk_27 (dk_at dksX1_step_0 0 rfl rfl)
theorem dX1_step_1 : decode cX1_step 1 = .ok (.iload_n 2, 1) := dk_28 (dk_at dksX1_step_0 1 rfl rfl)
theorem dX1_step_2 : decode cX1_step 2 = .ok (.bipush 6, 2) := dk_16 6 (dk_at dksX1_step_0 2 rfl rfl)
theorem dX1_step_4 : decode cX1_step 4 = .ok (.invokestatic 127, 3) := dk_184 0 127 (dk_at dksX1_step_0 4 rfl rfl)
theorem dX1_step_7 : decode cX1_step 7 = .ok (.ifCond .eq 18, 3) := dk_153 0 18 (dk_at dksX1_step_0 7 rfl rfl)
theorem dX1_step_10 : decode cX1_step 10 = .ok (.iload_n 3, 1) := dk_29 (dk_at dksX1_step_0 10 rfl rfl)
theorem dX1_step_11 : decode cX1_step 11 = .ok (.iconst 1, 1) := dk_4 (dk_at dksX1_step_0 11 rfl rfl)
theorem dX1_step_12 : decode cX1_step 12 = .ok (.sipush 300, 3) := dk_17 1 44 (dk_at dksX1_step_0 12 rfl rfl)
theorem dX1_step_15 : decode cX1_step 15 = .ok (.invokestatic 78, 3) := dk_184 0 78 (dk_at dksX1_step_0 15 rfl rfl)
theorem dX1_step_18 : decode cX1_step 18 = .ok (.ifCond .eq 7, 3) := dk_153 0 7 (dk_at dksX1_step_0 18 rfl rfl)
theorem dX1_step_21 : decode cX1_step 21 = .ok (.iconst 1, 1) := dk_4 (dk_at dksX1_step_0 21 rfl rfl)
theorem dX1_step_22 : decode cX1_step 22 = .ok (.goto 4, 3) := dk_167 0 4 (dk_at dksX1_step_1 0 rfl rfl)
theorem dX1_step_25 : decode cX1_step 25 = .ok (.iconst 0, 1) := dk_3 (dk_at dksX1_step_1 3 rfl rfl)
theorem dX1_step_26 : decode cX1_step 26 = .ok (.invokestatic 82, 3) := dk_184 0 82 (dk_at dksX1_step_1 4 rfl rfl)
theorem dX1_step_29 : decode cX1_step 29 = .ok (.aload_n 0, 1) := dk_42 (dk_at dksX1_step_1 7 rfl rfl)
theorem dX1_step_30 : decode cX1_step 30 = .ok (.getfield 65, 3) := dk_180 0 65 (dk_at dksX1_step_1 8 rfl rfl)
theorem dX1_step_33 : decode cX1_step 33 = .ok (.ifnull 17, 3) := dk_198 0 17 (dk_at dksX1_step_1 11 rfl rfl)
theorem dX1_step_36 : decode cX1_step 36 = .ok (.aload_n 0, 1) := dk_42 (dk_at dksX1_step_1 14 rfl rfl)
theorem dX1_step_37 : decode cX1_step 37 = .ok (.getfield 65, 3) := dk_180 0 65 (dk_at dksX1_step_1 15 rfl rfl)
theorem dX1_step_40 : decode cX1_step 40 = .ok (.getfield 73, 3) := dk_180 0 73 (dk_at dksX1_step_1 18 rfl rfl)
theorem dX1_step_43 : decode cX1_step 43 = .ok (.ifnull 7, 3) := dk_198 0 7 (dk_at dksX1_step_1 21 rfl rfl)
theorem dX1_step_46 : decode cX1_step 46 = .ok (.iconst 1, 1) := dk_4 (dk_at dksX1_step_2 0 rfl rfl)
theorem dX1_step_47 : decode cX1_step 47 = .ok (.goto 4, 3) := dk_167 0 4 (dk_at dksX1_step_2 1 rfl rfl)
theorem dX1_step_50 : decode cX1_step 50 = .ok (.iconst 0, 1) := dk_3 (dk_at dksX1_step_2 4 rfl rfl)
theorem dX1_step_51 : decode cX1_step 51 = .ok (.invokestatic 69, 3) := dk_184 0 69 (dk_at dksX1_step_2 5 rfl rfl)
theorem dX1_step_54 : decode cX1_step 54 = .ok (.new 130, 3) := dk_187 0 130 (dk_at dksX1_step_2 8 rfl rfl)
theorem dX1_step_57 : decode cX1_step 57 = .ok (.dup, 1) := dk_89 (dk_at dksX1_step_2 11 rfl rfl)
theorem dX1_step_58 : decode cX1_step 58 = .ok (.iload_n 1, 1) := dk_27 (dk_at dksX1_step_2 12 rfl rfl)
theorem dX1_step_59 : decode cX1_step 59 = .ok (.iload_n 2, 1) := dk_28 (dk_at dksX1_step_2 13 rfl rfl)
theorem dX1_step_60 : decode cX1_step 60 = .ok (.iload_n 3, 1) := dk_29 (dk_at dksX1_step_2 14 rfl rfl)
theorem dX1_step_61 : decode cX1_step 61 = .ok (.invokespecial 132, 3) := dk_183 0 132 (dk_at dksX1_step_2 15 rfl rfl)
theorem dX1_step_64 : decode cX1_step 64 = .ok (.astore 4, 2) := dk_58 4 (dk_at dksX1_step_2 18 rfl rfl)
theorem dX1_step_66 : decode cX1_step 66 = .ok (.aload_n 0, 1) := dk_42 (dk_at dksX1_step_2 20 rfl rfl)
theorem dX1_step_67 : decode cX1_step 67 = .ok (.getfield 65, 3) := dk_180 0 65 (dk_at dksX1_step_2 21 rfl rfl)
theorem dX1_step_70 : decode cX1_step 70 = .ok (.invokevirtual 107, 3) := dk_182 0 107 (dk_at dksX1_step_3 0 rfl rfl)
theorem dX1_step_73 : decode cX1_step 73 = .ok (.astore 5, 2) := dk_58 5 (dk_at dksX1_step_3 3 rfl rfl)
theorem dX1_step_75 : decode cX1_step 75 = .ok (.aload_n 0, 1) := dk_42 (dk_at dksX1_step_3 5 rfl rfl)
theorem dX1_step_76 : decode cX1_step 76 = .ok (.getfield 65, 3) := dk_180 0 65 (dk_at dksX1_step_3 6 rfl rfl)
theorem dX1_step_79 : decode cX1_step 79 = .ok (.getfield 73, 3) := dk_180 0 73 (dk_at dksX1_step_3 9 rfl rfl)
theorem dX1_step_82 : decode cX1_step 82 = .ok (.aload 5, 2) := dk_25 5 (dk_at dksX1_step_3 12 rfl rfl)
theorem dX1_step_84 : decode cX1_step 84 = .ok (.aload 4, 2) := dk_25 4 (dk_at dksX1_step_3 14 rfl rfl)
theorem dX1_step_86 : decode cX1_step 86 = .ok (.invokevirtual 133, 3) := dk_182 0 133 (dk_at dksX1_step_3 16 rfl rfl)
theorem dX1_step_89 : decode cX1_step 89 = .ok (.invokestatic 69, 3) := dk_184 0 69 (dk_at dksX1_step_3 19 rfl rfl)
theorem dX1_step_92 : decode cX1_step 92 = .ok (.aload_n 0, 1) := dk_42 (dk_at dksX1_step_3 22 rfl rfl)
theorem dX1_step_93 : decode cX1_step 93 = .ok (.getfield 65, 3) := dk_180 0 65 (dk_at dksX1_step_4 0 rfl rfl)
theorem dX1_step_96 : decode cX1_step 96 = .ok (.getfield 73, 3) := dk_180 0 73 (dk_at dksX1_step_4 3 rfl rfl)
theorem dX1_step_99 : decode cX1_step 99 = .ok (.getfield 137, 3) := dk_180 0 137 (dk_at dksX1_step_4 6 rfl rfl)
theorem dX1_step_102 : decode cX1_step 102 = .ok (.aload 4, 2) := dk_25 4 (dk_at dksX1_step_4 9 rfl rfl)
theorem dX1_step_104 : decode cX1_step 104 = .ok (.invokeinterface 140 2, 5) := by decide +kernel
theorem dX1_step_109 : decode cX1_step 109 = .ok (.pop, 1) := dk_87 (dk_at dksX1_step_4 16 rfl rfl)
theorem dX1_step_110 : decode cX1_step 110 = .ok (.aload 4, 2) := dk_25 4 (dk_at dksX1_step_4 17 rfl rfl)
theorem dX1_step_112 : decode cX1_step 112 = .ok (.invokevirtual 144, 3) := dk_182 0 144 (dk_at dksX1_step_4 19 rfl rfl)
theorem dX1_step_115 : decode cX1_step 115 = .ok (.ifCond .ne 5, 3) := dk_154 0 5 (dk_at dksX1_step_5 0 rfl rfl)
theorem dX1_step_118 : decode cX1_step 118 = .ok (.iconst (-1), 1) := dk_2 (dk_at dksX1_step_5 3 rfl rfl)
theorem dX1_step_119 : decode cX1_step 119 = .ok (.ireturn, 1) := dk_172 (dk_at dksX1_step_5 4 rfl rfl)
theorem dX1_step_120 : decode cX1_step 120 = .ok (.aload_n 0, 1) := dk_42 (dk_at dksX1_step_5 5 rfl rfl)
theorem dX1_step_121 : decode cX1_step 121 = .ok (.getfield 65, 3) := dk_180 0 65 (dk_at dksX1_step_5 6 rfl rfl)
theorem dX1_step_124 : decode cX1_step 124 = .ok (.getfield 73, 3) := dk_180 0 73 (dk_at dksX1_step_5 9 rfl rfl)
theorem dX1_step_127 : decode cX1_step 127 = .ok (.astore 6, 2) := dk_58 6 (dk_at dksX1_step_5 12 rfl rfl)
theorem dX1_step_129 : decode cX1_step 129 = .ok (.aload_n 0, 1) := dk_42 (dk_at dksX1_step_5 14 rfl rfl)
theorem dX1_step_130 : decode cX1_step 130 = .ok (.getfield 65, 3) := dk_180 0 65 (dk_at dksX1_step_5 15 rfl rfl)
theorem dX1_step_133 : decode cX1_step 133 = .ok (.aconst_null, 1) := dk_1 (dk_at dksX1_step_5 18 rfl rfl)
theorem dX1_step_134 : decode cX1_step 134 = .ok (.putfield 73, 3) := dk_181 0 73 (dk_at dksX1_step_5 19 rfl rfl)
theorem dX1_step_137 : decode cX1_step 137 = .ok (.aload_n 0, 1) := dk_42 (dk_at dksX1_step_5 22 rfl rfl)
theorem dX1_step_138 : decode cX1_step 138 = .ok (.getfield 65, 3) := dk_180 0 65 (dk_at dksX1_step_6 0 rfl rfl)
theorem dX1_step_141 : decode cX1_step 141 = .ok (.aload 6, 2) := dk_25 6 (dk_at dksX1_step_6 3 rfl rfl)
theorem dX1_step_143 : decode cX1_step 143 = .ok (.invokevirtual 148, 3) := dk_182 0 148 (dk_at dksX1_step_6 5 rfl rfl)
theorem dX1_step_146 : decode cX1_step 146 = .ok (.istore 7, 2) := dk_54 7 (dk_at dksX1_step_6 8 rfl rfl)
theorem dX1_step_148 : decode cX1_step 148 = .ok (.aload_n 0, 1) := dk_42 (dk_at dksX1_step_6 10 rfl rfl)
theorem dX1_step_149 : decode cX1_step 149 = .ok (.getfield 65, 3) := dk_180 0 65 (dk_at dksX1_step_6 11 rfl rfl)
theorem dX1_step_152 : decode cX1_step 152 = .ok (.invokevirtual 107, 3) := dk_182 0 107 (dk_at dksX1_step_6 14 rfl rfl)
theorem dX1_step_155 : decode cX1_step 155 = .ok (.astore 8, 2) := dk_58 8 (dk_at dksX1_step_6 17 rfl rfl)
theorem dX1_step_157 : decode cX1_step 157 = .ok (.iload 7, 2) := dk_21 7 (dk_at dksX1_step_6 19 rfl rfl)
theorem dX1_step_159 : decode cX1_step 159 = .ok (.ifCond .eq 60, 3) := dk_153 0 60 (dk_at dksX1_step_6 21 rfl rfl)
theorem dX1_step_162 : decode cX1_step 162 = .ok (.bipush 10, 2) := dk_16 10 (dk_at dksX1_step_7 0 rfl rfl)
theorem dX1_step_164 : decode cX1_step 164 = .ok (.aload 8, 2) := dk_25 8 (dk_at dksX1_step_7 2 rfl rfl)
theorem dX1_step_166 : decode cX1_step 166 = .ok (.getfield 151, 3) := dk_180 0 151 (dk_at dksX1_step_7 4 rfl rfl)
theorem dX1_step_169 : decode cX1_step 169 = .ok (.aload 5, 2) := dk_25 5 (dk_at dksX1_step_7 7 rfl rfl)
theorem dX1_step_171 : decode cX1_step 171 = .ok (.getfield 157, 3) := dk_180 0 157 (dk_at dksX1_step_7 9 rfl rfl)
theorem dX1_step_174 : decode cX1_step 174 = .ok (.iaload, 1) := dk_46 (dk_at dksX1_step_7 12 rfl rfl)
theorem dX1_step_175 : decode cX1_step 175 = .ok (.aload 5, 2) := dk_25 5 (dk_at dksX1_step_7 13 rfl rfl)
theorem dX1_step_177 : decode cX1_step 177 = .ok (.getfield 151, 3) := dk_180 0 151 (dk_at dksX1_step_7 15 rfl rfl)
theorem dX1_step_180 : decode cX1_step 180 = .ok (.aload 5, 2) := dk_25 5 (dk_at dksX1_step_7 18 rfl rfl)
theorem dX1_step_182 : decode cX1_step 182 = .ok (.getfield 157, 3) := dk_180 0 157 (dk_at dksX1_step_7 20 rfl rfl)
theorem dX1_step_185 : decode cX1_step 185 = .ok (.iaload, 1) := dk_46 (dk_at dksX1_step_7 23 rfl rfl)
theorem dX1_step_186 : decode cX1_step 186 = .ok (.isub, 1) := dk_100 (dk_at dksX1_step_8 0 rfl rfl)
theorem dX1_step_187 : decode cX1_step 187 = .ok (.imul, 1) := dk_104 (dk_at dksX1_step_8 1 rfl rfl)
theorem dX1_step_188 : decode cX1_step 188 = .ok (.aload 8, 2) := dk_25 8 (dk_at dksX1_step_8 2 rfl rfl)
theorem dX1_step_190 : decode cX1_step 190 = .ok (.getfield 151, 3) := dk_180 0 151 (dk_at dksX1_step_8 4 rfl rfl)
theorem dX1_step_193 : decode cX1_step 193 = .ok (.iconst 1, 1) := dk_4 (dk_at dksX1_step_8 7 rfl rfl)
theorem dX1_step_194 : decode cX1_step 194 = .ok (.aload 5, 2) := dk_25 5 (dk_at dksX1_step_8 8 rfl rfl)
theorem dX1_step_196 : decode cX1_step 196 = .ok (.getfield 157, 3) := dk_180 0 157 (dk_at dksX1_step_8 10 rfl rfl)
theorem dX1_step_199 : decode cX1_step 199 = .ok (.isub, 1) := dk_100 (dk_at dksX1_step_8 13 rfl rfl)
theorem dX1_step_200 : decode cX1_step 200 = .ok (.iaload, 1) := dk_46 (dk_at dksX1_step_8 14 rfl rfl)
theorem dX1_step_201 : decode cX1_step 201 = .ok (.iadd, 1) := dk_96 (dk_at dksX1_step_8 15 rfl rfl)
theorem dX1_step_202 : decode cX1_step 202 = .ok (.aload 5, 2) := dk_25 5 (dk_at dksX1_step_8 16 rfl rfl)
theorem dX1_step_204 : decode cX1_step 204 = .ok (.getfield 151, 3) := dk_180 0 151 (dk_at dksX1_step_8 18 rfl rfl)
theorem dX1_step_207 : decode cX1_step 207 = .ok (.iconst 1, 1) := dk_4 (dk_at dksX1_step_8 21 rfl rfl)
theorem dX1_step_208 : decode cX1_step 208 = .ok (.aload 5, 2) := dk_25 5 (dk_at dksX1_step_8 22 rfl rfl)
theorem dX1_step_210 : decode cX1_step 210 = .ok (.getfield 157, 3) := dk_180 0 157 (dk_at dksX1_step_9 0 rfl rfl)
theorem dX1_step_213 : decode cX1_step 213 = .ok (.isub, 1) := dk_100 (dk_at dksX1_step_9 3 rfl rfl)
theorem dX1_step_214 : decode cX1_step 214 = .ok (.iaload, 1) := dk_46 (dk_at dksX1_step_9 4 rfl rfl)
theorem dX1_step_215 : decode cX1_step 215 = .ok (.isub, 1) := dk_100 (dk_at dksX1_step_9 5 rfl rfl)
theorem dX1_step_216 : decode cX1_step 216 = .ok (.goto 4, 3) := dk_167 0 4 (dk_at dksX1_step_9 6 rfl rfl)
theorem dX1_step_219 : decode cX1_step 219 = .ok (.iconst (-1), 1) := dk_2 (dk_at dksX1_step_9 9 rfl rfl)
theorem dX1_step_220 : decode cX1_step 220 = .ok (.ireturn, 1) := dk_172 (dk_at dksX1_step_9 10 rfl rfl)
abbrev cX1_isStep : ByteArray := prog_1_method_10_code
def yX1_isStep : MethodName := ⟨RX1, "isStep", "(III)Z"⟩
def dkwX1_isStep_1 : List UInt8 := [167, 0, 8, 27, 2, 160, 0, 7, 4, 167, 0, 4, 3, 172]
abbrev dktX1_isStep_1 : List UInt8 := dkwX1_isStep_1 ++ []
def dkwX1_isStep_0 : List UInt8 := [26, 3, 28, 184, 0, 78, 153, 0, 29, 26, 154, 0, 16, 27, 3, 16, 9, 184, 0, 78, 153, 0, 15]
abbrev dktX1_isStep_0 : List UInt8 := dkwX1_isStep_0 ++ dktX1_isStep_1
theorem dksX1_isStep_0 : cX1_isStep.data.toList.drop 0 = dktX1_isStep_0 := by decide +kernel
theorem dksX1_isStep_1 : cX1_isStep.data.toList.drop 23 = dktX1_isStep_1 := dk_seg dksX1_isStep_0 23 rfl rfl
theorem dX1_isStep_0 : decode cX1_isStep 0 = .ok (.iload_n 0, 1) := dk_26 (dk_at dksX1_isStep_0 0 rfl rfl)
theorem dX1_isStep_1 : decode cX1_isStep 1 = .ok (.iconst 0, 1) := dk_3 (dk_at dksX1_isStep_0 1 rfl rfl)
theorem dX1_isStep_2 : decode cX1_isStep 2 = .ok (.iload_n 2, 1) := dk_28 (dk_at dksX1_isStep_0 2 rfl rfl)
theorem dX1_isStep_3 : decode cX1_isStep 3 = .ok (.invokestatic 78, 3) := dk_184 0 78 (dk_at dksX1_isStep_0 3 rfl rfl)
theorem dX1_isStep_6 : decode cX1_isStep 6 = .ok (.ifCond .eq 29, 3) := dk_153 0 29 (dk_at dksX1_isStep_0 6 rfl rfl)
theorem dX1_isStep_9 : decode cX1_isStep 9 = .ok (.iload_n 0, 1) := dk_26 (dk_at dksX1_isStep_0 9 rfl rfl)
theorem dX1_isStep_10 : decode cX1_isStep 10 = .ok (.ifCond .ne 16, 3) := dk_154 0 16 (dk_at dksX1_isStep_0 10 rfl rfl)
theorem dX1_isStep_13 : decode cX1_isStep 13 = .ok (.iload_n 1, 1) := dk_27 (dk_at dksX1_isStep_0 13 rfl rfl)
theorem dX1_isStep_14 : decode cX1_isStep 14 = .ok (.iconst 0, 1) := dk_3 (dk_at dksX1_isStep_0 14 rfl rfl)
theorem dX1_isStep_15 : decode cX1_isStep 15 = .ok (.bipush 9, 2) := dk_16 9 (dk_at dksX1_isStep_0 15 rfl rfl)
theorem dX1_isStep_17 : decode cX1_isStep 17 = .ok (.invokestatic 78, 3) := dk_184 0 78 (dk_at dksX1_isStep_0 17 rfl rfl)
theorem dX1_isStep_20 : decode cX1_isStep 20 = .ok (.ifCond .eq 15, 3) := dk_153 0 15 (dk_at dksX1_isStep_0 20 rfl rfl)
theorem dX1_isStep_23 : decode cX1_isStep 23 = .ok (.goto 8, 3) := dk_167 0 8 (dk_at dksX1_isStep_1 0 rfl rfl)
theorem dX1_isStep_26 : decode cX1_isStep 26 = .ok (.iload_n 1, 1) := dk_27 (dk_at dksX1_isStep_1 3 rfl rfl)
theorem dX1_isStep_27 : decode cX1_isStep 27 = .ok (.iconst (-1), 1) := dk_2 (dk_at dksX1_isStep_1 4 rfl rfl)
theorem dX1_isStep_28 : decode cX1_isStep 28 = .ok (.if_icmp .ne 7, 3) := dk_160 0 7 (dk_at dksX1_isStep_1 5 rfl rfl)
theorem dX1_isStep_31 : decode cX1_isStep 31 = .ok (.iconst 1, 1) := dk_4 (dk_at dksX1_isStep_1 8 rfl rfl)
theorem dX1_isStep_32 : decode cX1_isStep 32 = .ok (.goto 4, 3) := dk_167 0 4 (dk_at dksX1_isStep_1 9 rfl rfl)
theorem dX1_isStep_35 : decode cX1_isStep 35 = .ok (.iconst 0, 1) := dk_3 (dk_at dksX1_isStep_1 12 rfl rfl)
theorem dX1_isStep_36 : decode cX1_isStep 36 = .ok (.ireturn, 1) := dk_172 (dk_at dksX1_isStep_1 13 rfl rfl)
abbrev cX1_card : ByteArray := prog_1_method_14_code
def yX1_card : MethodName := ⟨RX1, "card", "(III)I"⟩
def dkwX1_card_3 : List UInt8 := [184, 0, 69, 21, 6, 172]
abbrev dktX1_card_3 : List UInt8 := dkwX1_card_3 ++ []
def dkwX1_card_2 : List UInt8 := [182, 0, 103, 16, 60, 162, 0, 17, 25, 4, 25, 5, 182, 0, 148, 153, 0, 7, 4, 167, 0, 4, 3]
abbrev dktX1_card_2 : List UInt8 := dkwX1_card_2 ++ dktX1_card_3
def dkwX1_card_1 : List UInt8 := [27, 28, 29, 183, 0, 165, 58, 5, 25, 5, 25, 4, 182, 0, 107, 182, 0, 166, 54, 6, 25, 4]
abbrev dktX1_card_1 : List UInt8 := dkwX1_card_1 ++ dktX1_card_2
def dkwX1_card_0 : List UInt8 := [27, 28, 184, 0, 160, 29, 3, 5, 184, 0, 78, 184, 0, 82, 42, 182, 0, 91, 58, 4, 187, 0, 163, 89]
abbrev dktX1_card_0 : List UInt8 := dkwX1_card_0 ++ dktX1_card_1
theorem dksX1_card_0 : cX1_card.data.toList.drop 0 = dktX1_card_0 := by decide +kernel
theorem dksX1_card_1 : cX1_card.data.toList.drop 24 = dktX1_card_1 := dk_seg dksX1_card_0 24 rfl rfl
theorem dksX1_card_2 : cX1_card.data.toList.drop 46 = dktX1_card_2 := dk_seg dksX1_card_1 22 rfl rfl
theorem dksX1_card_3 : cX1_card.data.toList.drop 69 = dktX1_card_3 := dk_seg dksX1_card_2 23 rfl rfl
theorem dX1_card_0 : decode cX1_card 0 = .ok (.iload_n 1, 1) := dk_27 (dk_at dksX1_card_0 0 rfl rfl)
theorem dX1_card_1 : decode cX1_card 1 = .ok (.iload_n 2, 1) := dk_28 (dk_at dksX1_card_0 1 rfl rfl)
theorem dX1_card_2 : decode cX1_card 2 = .ok (.invokestatic 160, 3) := dk_184 0 160 (dk_at dksX1_card_0 2 rfl rfl)
theorem dX1_card_5 : decode cX1_card 5 = .ok (.iload_n 3, 1) := dk_29 (dk_at dksX1_card_0 5 rfl rfl)
theorem dX1_card_6 : decode cX1_card 6 = .ok (.iconst 0, 1) := dk_3 (dk_at dksX1_card_0 6 rfl rfl)
theorem dX1_card_7 : decode cX1_card 7 = .ok (.iconst 2, 1) := dk_5 (dk_at dksX1_card_0 7 rfl rfl)
theorem dX1_card_8 : decode cX1_card 8 = .ok (.invokestatic 78, 3) := dk_184 0 78 (dk_at dksX1_card_0 8 rfl rfl)
theorem dX1_card_11 : decode cX1_card 11 = .ok (.invokestatic 82, 3) := dk_184 0 82 (dk_at dksX1_card_0 11 rfl rfl)
theorem dX1_card_14 : decode cX1_card 14 = .ok (.aload_n 0, 1) := dk_42 (dk_at dksX1_card_0 14 rfl rfl)
theorem dX1_card_15 : decode cX1_card 15 = .ok (.invokevirtual 91, 3) := dk_182 0 91 (dk_at dksX1_card_0 15 rfl rfl)
theorem dX1_card_18 : decode cX1_card 18 = .ok (.astore 4, 2) := dk_58 4 (dk_at dksX1_card_0 18 rfl rfl)
theorem dX1_card_20 : decode cX1_card 20 = .ok (.new 163, 3) := dk_187 0 163 (dk_at dksX1_card_0 20 rfl rfl)
theorem dX1_card_23 : decode cX1_card 23 = .ok (.dup, 1) := dk_89 (dk_at dksX1_card_0 23 rfl rfl)
theorem dX1_card_24 : decode cX1_card 24 = .ok (.iload_n 1, 1) := dk_27 (dk_at dksX1_card_1 0 rfl rfl)
theorem dX1_card_25 : decode cX1_card 25 = .ok (.iload_n 2, 1) := dk_28 (dk_at dksX1_card_1 1 rfl rfl)
theorem dX1_card_26 : decode cX1_card 26 = .ok (.iload_n 3, 1) := dk_29 (dk_at dksX1_card_1 2 rfl rfl)
theorem dX1_card_27 : decode cX1_card 27 = .ok (.invokespecial 165, 3) := dk_183 0 165 (dk_at dksX1_card_1 3 rfl rfl)
theorem dX1_card_30 : decode cX1_card 30 = .ok (.astore 5, 2) := dk_58 5 (dk_at dksX1_card_1 6 rfl rfl)
theorem dX1_card_32 : decode cX1_card 32 = .ok (.aload 5, 2) := dk_25 5 (dk_at dksX1_card_1 8 rfl rfl)
theorem dX1_card_34 : decode cX1_card 34 = .ok (.aload 4, 2) := dk_25 4 (dk_at dksX1_card_1 10 rfl rfl)
theorem dX1_card_36 : decode cX1_card 36 = .ok (.invokevirtual 107, 3) := dk_182 0 107 (dk_at dksX1_card_1 12 rfl rfl)
theorem dX1_card_39 : decode cX1_card 39 = .ok (.invokevirtual 166, 3) := dk_182 0 166 (dk_at dksX1_card_1 15 rfl rfl)
theorem dX1_card_42 : decode cX1_card 42 = .ok (.istore 6, 2) := dk_54 6 (dk_at dksX1_card_1 18 rfl rfl)
theorem dX1_card_44 : decode cX1_card 44 = .ok (.aload 4, 2) := dk_25 4 (dk_at dksX1_card_1 20 rfl rfl)
theorem dX1_card_46 : decode cX1_card 46 = .ok (.invokevirtual 103, 3) := dk_182 0 103 (dk_at dksX1_card_2 0 rfl rfl)
theorem dX1_card_49 : decode cX1_card 49 = .ok (.bipush 60, 2) := dk_16 60 (dk_at dksX1_card_2 3 rfl rfl)
theorem dX1_card_51 : decode cX1_card 51 = .ok (.if_icmp .ge 17, 3) := dk_162 0 17 (dk_at dksX1_card_2 5 rfl rfl)
theorem dX1_card_54 : decode cX1_card 54 = .ok (.aload 4, 2) := dk_25 4 (dk_at dksX1_card_2 8 rfl rfl)
theorem dX1_card_56 : decode cX1_card 56 = .ok (.aload 5, 2) := dk_25 5 (dk_at dksX1_card_2 10 rfl rfl)
theorem dX1_card_58 : decode cX1_card 58 = .ok (.invokevirtual 148, 3) := dk_182 0 148 (dk_at dksX1_card_2 12 rfl rfl)
theorem dX1_card_61 : decode cX1_card 61 = .ok (.ifCond .eq 7, 3) := dk_153 0 7 (dk_at dksX1_card_2 15 rfl rfl)
theorem dX1_card_64 : decode cX1_card 64 = .ok (.iconst 1, 1) := dk_4 (dk_at dksX1_card_2 18 rfl rfl)
theorem dX1_card_65 : decode cX1_card 65 = .ok (.goto 4, 3) := dk_167 0 4 (dk_at dksX1_card_2 19 rfl rfl)
theorem dX1_card_68 : decode cX1_card 68 = .ok (.iconst 0, 1) := dk_3 (dk_at dksX1_card_2 22 rfl rfl)
theorem dX1_card_69 : decode cX1_card 69 = .ok (.invokestatic 69, 3) := dk_184 0 69 (dk_at dksX1_card_3 0 rfl rfl)
theorem dX1_card_72 : decode cX1_card 72 = .ok (.iload 6, 2) := dk_21 6 (dk_at dksX1_card_3 3 rfl rfl)
theorem dX1_card_74 : decode cX1_card 74 = .ok (.ireturn, 1) := dk_172 (dk_at dksX1_card_3 5 rfl rfl)
abbrev cX1_checkPlayer : ByteArray := prog_1_method_7_code
def yX1_checkPlayer : MethodName := ⟨RX1, "checkPlayer", "(II)V"⟩
def dkwX1_checkPlayer_0 : List UInt8 := [26, 5, 184, 0, 61, 27, 16, 10, 184, 0, 61, 177]
abbrev dktX1_checkPlayer_0 : List UInt8 := dkwX1_checkPlayer_0 ++ []
theorem dksX1_checkPlayer_0 : cX1_checkPlayer.data.toList.drop 0 = dktX1_checkPlayer_0 := by decide +kernel
theorem dX1_checkPlayer_0 : decode cX1_checkPlayer 0 = .ok (.iload_n 0, 1) := dk_26 (dk_at dksX1_checkPlayer_0 0 rfl rfl)
theorem dX1_checkPlayer_1 : decode cX1_checkPlayer 1 = .ok (.iconst 2, 1) := dk_5 (dk_at dksX1_checkPlayer_0 1 rfl rfl)
theorem dX1_checkPlayer_2 : decode cX1_checkPlayer 2 = .ok (.invokestatic 61, 3) := dk_184 0 61 (dk_at dksX1_checkPlayer_0 2 rfl rfl)
theorem dX1_checkPlayer_5 : decode cX1_checkPlayer 5 = .ok (.iload_n 1, 1) := dk_27 (dk_at dksX1_checkPlayer_0 5 rfl rfl)
theorem dX1_checkPlayer_6 : decode cX1_checkPlayer 6 = .ok (.bipush 10, 2) := dk_16 10 (dk_at dksX1_checkPlayer_0 6 rfl rfl)
theorem dX1_checkPlayer_8 : decode cX1_checkPlayer 8 = .ok (.invokestatic 61, 3) := dk_184 0 61 (dk_at dksX1_checkPlayer_0 8 rfl rfl)
theorem dX1_checkPlayer_11 : decode cX1_checkPlayer 11 = .ok (.return_, 1) := dk_177 (dk_at dksX1_checkPlayer_0 11 rfl rfl)
abbrev cX1_change : ByteArray := prog_1_method_15_code
def yX1_change : MethodName := ⟨RX1, "change", "(III)I"⟩
def dkwX1_change_2 : List UInt8 := [167, 0, 4, 3, 184, 0, 69, 25, 4, 182, 0, 107, 180, 0, 173, 27, 46, 172]
abbrev dktX1_change_2 : List UInt8 := dkwX1_change_2 ++ []
def dkwX1_change_1 : List UInt8 := [162, 0, 25, 25, 4, 187, 0, 170, 89, 27, 28, 29, 183, 0, 172, 182, 0, 148, 153, 0, 7, 4]
abbrev dktX1_change_1 : List UInt8 := dkwX1_change_1 ++ dktX1_change_2
def dkwX1_change_0 : List UInt8 := [27, 28, 184, 0, 160, 29, 16, 10, 184, 0, 61, 42, 182, 0, 91, 58, 4, 25, 4, 182, 0, 103, 16, 60]
abbrev dktX1_change_0 : List UInt8 := dkwX1_change_0 ++ dktX1_change_1
theorem dksX1_change_0 : cX1_change.data.toList.drop 0 = dktX1_change_0 := by decide +kernel
theorem dksX1_change_1 : cX1_change.data.toList.drop 24 = dktX1_change_1 := dk_seg dksX1_change_0 24 rfl rfl
theorem dksX1_change_2 : cX1_change.data.toList.drop 46 = dktX1_change_2 := dk_seg dksX1_change_1 22 rfl rfl
theorem dX1_change_0 : decode cX1_change 0 = .ok (.iload_n 1, 1) := dk_27 (dk_at dksX1_change_0 0 rfl rfl)
theorem dX1_change_1 : decode cX1_change 1 = .ok (.iload_n 2, 1) := dk_28 (dk_at dksX1_change_0 1 rfl rfl)
theorem dX1_change_2 : decode cX1_change 2 = .ok (.invokestatic 160, 3) := dk_184 0 160 (dk_at dksX1_change_0 2 rfl rfl)
theorem dX1_change_5 : decode cX1_change 5 = .ok (.iload_n 3, 1) := dk_29 (dk_at dksX1_change_0 5 rfl rfl)
theorem dX1_change_6 : decode cX1_change 6 = .ok (.bipush 10, 2) := dk_16 10 (dk_at dksX1_change_0 6 rfl rfl)
theorem dX1_change_8 : decode cX1_change 8 = .ok (.invokestatic 61, 3) := dk_184 0 61 (dk_at dksX1_change_0 8 rfl rfl)
theorem dX1_change_11 : decode cX1_change 11 = .ok (.aload_n 0, 1) := dk_42 (dk_at dksX1_change_0 11 rfl rfl)
theorem dX1_change_12 : decode cX1_change 12 = .ok (.invokevirtual 91, 3) := dk_182 0 91 (dk_at dksX1_change_0 12 rfl rfl)
theorem dX1_change_15 : decode cX1_change 15 = .ok (.astore 4, 2) := dk_58 4 (dk_at dksX1_change_0 15 rfl rfl)
theorem dX1_change_17 : decode cX1_change 17 = .ok (.aload 4, 2) := dk_25 4 (dk_at dksX1_change_0 17 rfl rfl)
theorem dX1_change_19 : decode cX1_change 19 = .ok (.invokevirtual 103, 3) := dk_182 0 103 (dk_at dksX1_change_0 19 rfl rfl)
theorem dX1_change_22 : decode cX1_change 22 = .ok (.bipush 60, 2) := dk_16 60 (dk_at dksX1_change_0 22 rfl rfl)
theorem dX1_change_24 : decode cX1_change 24 = .ok (.if_icmp .ge 25, 3) := dk_162 0 25 (dk_at dksX1_change_1 0 rfl rfl)
theorem dX1_change_27 : decode cX1_change 27 = .ok (.aload 4, 2) := dk_25 4 (dk_at dksX1_change_1 3 rfl rfl)
theorem dX1_change_29 : decode cX1_change 29 = .ok (.new 170, 3) := dk_187 0 170 (dk_at dksX1_change_1 5 rfl rfl)
theorem dX1_change_32 : decode cX1_change 32 = .ok (.dup, 1) := dk_89 (dk_at dksX1_change_1 8 rfl rfl)
theorem dX1_change_33 : decode cX1_change 33 = .ok (.iload_n 1, 1) := dk_27 (dk_at dksX1_change_1 9 rfl rfl)
theorem dX1_change_34 : decode cX1_change 34 = .ok (.iload_n 2, 1) := dk_28 (dk_at dksX1_change_1 10 rfl rfl)
theorem dX1_change_35 : decode cX1_change 35 = .ok (.iload_n 3, 1) := dk_29 (dk_at dksX1_change_1 11 rfl rfl)
theorem dX1_change_36 : decode cX1_change 36 = .ok (.invokespecial 172, 3) := dk_183 0 172 (dk_at dksX1_change_1 12 rfl rfl)
theorem dX1_change_39 : decode cX1_change 39 = .ok (.invokevirtual 148, 3) := dk_182 0 148 (dk_at dksX1_change_1 15 rfl rfl)
theorem dX1_change_42 : decode cX1_change 42 = .ok (.ifCond .eq 7, 3) := dk_153 0 7 (dk_at dksX1_change_1 18 rfl rfl)
theorem dX1_change_45 : decode cX1_change 45 = .ok (.iconst 1, 1) := dk_4 (dk_at dksX1_change_1 21 rfl rfl)
theorem dX1_change_46 : decode cX1_change 46 = .ok (.goto 4, 3) := dk_167 0 4 (dk_at dksX1_change_2 0 rfl rfl)
theorem dX1_change_49 : decode cX1_change 49 = .ok (.iconst 0, 1) := dk_3 (dk_at dksX1_change_2 3 rfl rfl)
theorem dX1_change_50 : decode cX1_change 50 = .ok (.invokestatic 69, 3) := dk_184 0 69 (dk_at dksX1_change_2 4 rfl rfl)
theorem dX1_change_53 : decode cX1_change 53 = .ok (.aload 4, 2) := dk_25 4 (dk_at dksX1_change_2 7 rfl rfl)
theorem dX1_change_55 : decode cX1_change 55 = .ok (.invokevirtual 107, 3) := dk_182 0 107 (dk_at dksX1_change_2 9 rfl rfl)
theorem dX1_change_58 : decode cX1_change 58 = .ok (.getfield 173, 3) := dk_180 0 173 (dk_at dksX1_change_2 12 rfl rfl)
theorem dX1_change_61 : decode cX1_change 61 = .ok (.iload_n 1, 1) := dk_27 (dk_at dksX1_change_2 15 rfl rfl)
theorem dX1_change_62 : decode cX1_change 62 = .ok (.iaload, 1) := dk_46 (dk_at dksX1_change_2 16 rfl rfl)
theorem dX1_change_63 : decode cX1_change 63 = .ok (.ireturn, 1) := dk_172 (dk_at dksX1_change_2 17 rfl rfl)
abbrev cX1_review : ByteArray := prog_1_method_17_code
def yX1_review : MethodName := ⟨RX1, "review", "(IIIII)I"⟩
def dkwX1_review_10 : List UInt8 := [180, 0, 184, 27, 21, 11, 158, 0, 7, 4, 167, 0, 4, 3, 84, 21, 11, 172]
abbrev dktX1_review_10 : List UInt8 := dkwX1_review_10 ++ []
def dkwX1_review_9 : List UInt8 := [185, 0, 176, 2, 0, 192, 0, 152, 185, 0, 196, 3, 0, 87, 132, 12, 1, 167, 255, 210, 42, 180, 0, 65]
abbrev dktX1_review_9 : List UInt8 := dkwX1_review_9 ++ dktX1_review_10
def dkwX1_review_8 : List UInt8 := [162, 0, 40, 42, 180, 0, 65, 180, 0, 200, 28, 4, 96, 21, 12, 96, 25, 8, 21, 12]
abbrev dktX1_review_8 : List UInt8 := dkwX1_review_8 ++ dktX1_review_9
def dkwX1_review_7 : List UInt8 := [180, 0, 118, 28, 25, 7, 185, 0, 196, 3, 0, 87, 3, 54, 12, 21, 12, 25, 8, 185, 0, 122, 1, 0]
abbrev dktX1_review_7 : List UInt8 := dkwX1_review_7 ++ dktX1_review_8
def dkwX1_review_6 : List UInt8 := [180, 0, 151, 27, 46, 100, 25, 10, 180, 0, 151, 4, 27, 100, 46, 96, 54, 11, 42, 180, 0, 65]
abbrev dktX1_review_6 : List UInt8 := dkwX1_review_6 ++ dktX1_review_7
def dkwX1_review_5 : List UInt8 := [182, 0, 107, 58, 10, 25, 9, 180, 0, 151, 27, 46, 25, 9, 180, 0, 151, 4, 27, 100, 46, 100, 25, 10]
abbrev dktX1_review_5 : List UInt8 := dkwX1_review_5 ++ dktX1_review_6
def dkwX1_review_4 : List UInt8 := [192, 0, 152, 58, 9, 25, 9, 198, 0, 7, 4, 167, 0, 4, 3, 184, 0, 69, 42, 180, 0, 65]
abbrev dktX1_review_4 : List UInt8 := dkwX1_review_4 ++ dktX1_review_5
def dkwX1_review_3 : List UInt8 := [25, 7, 182, 0, 192, 58, 8, 25, 8, 25, 8, 185, 0, 122, 1, 0, 4, 100, 185, 0, 176, 2, 0]
abbrev dktX1_review_3 : List UInt8 := dkwX1_review_3 ++ dktX1_review_4
def dkwX1_review_2 : List UInt8 := [167, 0, 4, 3, 184, 0, 69, 25, 6, 29, 21, 4, 21, 5, 182, 0, 188, 58, 7, 42, 180, 0, 65, 28]
abbrev dktX1_review_2 : List UInt8 := dkwX1_review_2 ++ dktX1_review_3
def dkwX1_review_1 : List UInt8 := [42, 180, 0, 65, 180, 0, 73, 199, 0, 19, 42, 180, 0, 65, 180, 0, 184, 27, 51, 153, 0, 7, 4]
abbrev dktX1_review_1 : List UInt8 := dkwX1_review_1 ++ dktX1_review_2
def dkwX1_review_0 : List UInt8 := [27, 5, 184, 0, 61, 42, 28, 29, 182, 0, 180, 58, 6, 21, 4, 21, 5, 8, 184, 0, 127, 184, 0, 82]
abbrev dktX1_review_0 : List UInt8 := dkwX1_review_0 ++ dktX1_review_1
theorem dksX1_review_0 : cX1_review.data.toList.drop 0 = dktX1_review_0 := by decide +kernel
theorem dksX1_review_1 : cX1_review.data.toList.drop 24 = dktX1_review_1 := dk_seg dksX1_review_0 24 rfl rfl
theorem dksX1_review_2 : cX1_review.data.toList.drop 47 = dktX1_review_2 := dk_seg dksX1_review_1 23 rfl rfl
theorem dksX1_review_3 : cX1_review.data.toList.drop 71 = dktX1_review_3 := dk_seg dksX1_review_2 24 rfl rfl
theorem dksX1_review_4 : cX1_review.data.toList.drop 94 = dktX1_review_4 := dk_seg dksX1_review_3 23 rfl rfl
theorem dksX1_review_5 : cX1_review.data.toList.drop 116 = dktX1_review_5 := dk_seg dksX1_review_4 22 rfl rfl
theorem dksX1_review_6 : cX1_review.data.toList.drop 140 = dktX1_review_6 := dk_seg dksX1_review_5 24 rfl rfl
theorem dksX1_review_7 : cX1_review.data.toList.drop 162 = dktX1_review_7 := dk_seg dksX1_review_6 22 rfl rfl
theorem dksX1_review_8 : cX1_review.data.toList.drop 186 = dktX1_review_8 := dk_seg dksX1_review_7 24 rfl rfl
theorem dksX1_review_9 : cX1_review.data.toList.drop 206 = dktX1_review_9 := dk_seg dksX1_review_8 20 rfl rfl
theorem dksX1_review_10 : cX1_review.data.toList.drop 230 = dktX1_review_10 := dk_seg dksX1_review_9 24 rfl rfl
theorem dX1_review_0 : decode cX1_review 0 = .ok (.iload_n 1, 1) := dk_27 (dk_at dksX1_review_0 0 rfl rfl)
theorem dX1_review_1 : decode cX1_review 1 = .ok (.iconst 2, 1) := dk_5 (dk_at dksX1_review_0 1 rfl rfl)
theorem dX1_review_2 : decode cX1_review 2 = .ok (.invokestatic 61, 3) := dk_184 0 61 (dk_at dksX1_review_0 2 rfl rfl)
theorem dX1_review_5 : decode cX1_review 5 = .ok (.aload_n 0, 1) := dk_42 (dk_at dksX1_review_0 5 rfl rfl)
theorem dX1_review_6 : decode cX1_review 6 = .ok (.iload_n 2, 1) := dk_28 (dk_at dksX1_review_0 6 rfl rfl)
theorem dX1_review_7 : decode cX1_review 7 = .ok (.iload_n 3, 1) := dk_29 (dk_at dksX1_review_0 7 rfl rfl)
theorem dX1_review_8 : decode cX1_review 8 = .ok (.invokevirtual 180, 3) := dk_182 0 180 (dk_at dksX1_review_0 8 rfl rfl)
theorem dX1_review_11 : decode cX1_review 11 = .ok (.astore 6, 2) := dk_58 6 (dk_at dksX1_review_0 11 rfl rfl)
theorem dX1_review_13 : decode cX1_review 13 = .ok (.iload 4, 2) := dk_21 4 (dk_at dksX1_review_0 13 rfl rfl)
theorem dX1_review_15 : decode cX1_review 15 = .ok (.iload 5, 2) := dk_21 5 (dk_at dksX1_review_0 15 rfl rfl)
theorem dX1_review_17 : decode cX1_review 17 = .ok (.iconst 5, 1) := dk_8 (dk_at dksX1_review_0 17 rfl rfl)
theorem dX1_review_18 : decode cX1_review 18 = .ok (.invokestatic 127, 3) := dk_184 0 127 (dk_at dksX1_review_0 18 rfl rfl)
theorem dX1_review_21 : decode cX1_review 21 = .ok (.invokestatic 82, 3) := dk_184 0 82 (dk_at dksX1_review_0 21 rfl rfl)
theorem dX1_review_24 : decode cX1_review 24 = .ok (.aload_n 0, 1) := dk_42 (dk_at dksX1_review_1 0 rfl rfl)
theorem dX1_review_25 : decode cX1_review 25 = .ok (.getfield 65, 3) := dk_180 0 65 (dk_at dksX1_review_1 1 rfl rfl)
theorem dX1_review_28 : decode cX1_review 28 = .ok (.getfield 73, 3) := dk_180 0 73 (dk_at dksX1_review_1 4 rfl rfl)
theorem dX1_review_31 : decode cX1_review 31 = .ok (.ifnonnull 19, 3) := dk_199 0 19 (dk_at dksX1_review_1 7 rfl rfl)
theorem dX1_review_34 : decode cX1_review 34 = .ok (.aload_n 0, 1) := dk_42 (dk_at dksX1_review_1 10 rfl rfl)
theorem dX1_review_35 : decode cX1_review 35 = .ok (.getfield 65, 3) := dk_180 0 65 (dk_at dksX1_review_1 11 rfl rfl)
theorem dX1_review_38 : decode cX1_review 38 = .ok (.getfield 184, 3) := dk_180 0 184 (dk_at dksX1_review_1 14 rfl rfl)
theorem dX1_review_41 : decode cX1_review 41 = .ok (.iload_n 1, 1) := dk_27 (dk_at dksX1_review_1 17 rfl rfl)
theorem dX1_review_42 : decode cX1_review 42 = .ok (.baload, 1) := dk_51 (dk_at dksX1_review_1 18 rfl rfl)
theorem dX1_review_43 : decode cX1_review 43 = .ok (.ifCond .eq 7, 3) := dk_153 0 7 (dk_at dksX1_review_1 19 rfl rfl)
theorem dX1_review_46 : decode cX1_review 46 = .ok (.iconst 1, 1) := dk_4 (dk_at dksX1_review_1 22 rfl rfl)
theorem dX1_review_47 : decode cX1_review 47 = .ok (.goto 4, 3) := dk_167 0 4 (dk_at dksX1_review_2 0 rfl rfl)
theorem dX1_review_50 : decode cX1_review 50 = .ok (.iconst 0, 1) := dk_3 (dk_at dksX1_review_2 3 rfl rfl)
theorem dX1_review_51 : decode cX1_review 51 = .ok (.invokestatic 69, 3) := dk_184 0 69 (dk_at dksX1_review_2 4 rfl rfl)
theorem dX1_review_54 : decode cX1_review 54 = .ok (.aload 6, 2) := dk_25 6 (dk_at dksX1_review_2 7 rfl rfl)
theorem dX1_review_56 : decode cX1_review 56 = .ok (.iload_n 3, 1) := dk_29 (dk_at dksX1_review_2 9 rfl rfl)
theorem dX1_review_57 : decode cX1_review 57 = .ok (.iload 4, 2) := dk_21 4 (dk_at dksX1_review_2 10 rfl rfl)
theorem dX1_review_59 : decode cX1_review 59 = .ok (.iload 5, 2) := dk_21 5 (dk_at dksX1_review_2 12 rfl rfl)
theorem dX1_review_61 : decode cX1_review 61 = .ok (.invokevirtual 188, 3) := dk_182 0 188 (dk_at dksX1_review_2 14 rfl rfl)
theorem dX1_review_64 : decode cX1_review 64 = .ok (.astore 7, 2) := dk_58 7 (dk_at dksX1_review_2 17 rfl rfl)
theorem dX1_review_66 : decode cX1_review 66 = .ok (.aload_n 0, 1) := dk_42 (dk_at dksX1_review_2 19 rfl rfl)
theorem dX1_review_67 : decode cX1_review 67 = .ok (.getfield 65, 3) := dk_180 0 65 (dk_at dksX1_review_2 20 rfl rfl)
theorem dX1_review_70 : decode cX1_review 70 = .ok (.iload_n 2, 1) := dk_28 (dk_at dksX1_review_2 23 rfl rfl)
theorem dX1_review_71 : decode cX1_review 71 = .ok (.aload 7, 2) := dk_25 7 (dk_at dksX1_review_3 0 rfl rfl)
theorem dX1_review_73 : decode cX1_review 73 = .ok (.invokevirtual 192, 3) := dk_182 0 192 (dk_at dksX1_review_3 2 rfl rfl)
theorem dX1_review_76 : decode cX1_review 76 = .ok (.astore 8, 2) := dk_58 8 (dk_at dksX1_review_3 5 rfl rfl)
theorem dX1_review_78 : decode cX1_review 78 = .ok (.aload 8, 2) := dk_25 8 (dk_at dksX1_review_3 7 rfl rfl)
theorem dX1_review_80 : decode cX1_review 80 = .ok (.aload 8, 2) := dk_25 8 (dk_at dksX1_review_3 9 rfl rfl)
theorem dX1_review_82 : decode cX1_review 82 = .ok (.invokeinterface 122 1, 5) := by decide +kernel
theorem dX1_review_87 : decode cX1_review 87 = .ok (.iconst 1, 1) := dk_4 (dk_at dksX1_review_3 16 rfl rfl)
theorem dX1_review_88 : decode cX1_review 88 = .ok (.isub, 1) := dk_100 (dk_at dksX1_review_3 17 rfl rfl)
theorem dX1_review_89 : decode cX1_review 89 = .ok (.invokeinterface 176 2, 5) := by decide +kernel
theorem dX1_review_94 : decode cX1_review 94 = .ok (.checkcast 152, 3) := dk_192 0 152 (dk_at dksX1_review_4 0 rfl rfl)
theorem dX1_review_97 : decode cX1_review 97 = .ok (.astore 9, 2) := dk_58 9 (dk_at dksX1_review_4 3 rfl rfl)
theorem dX1_review_99 : decode cX1_review 99 = .ok (.aload 9, 2) := dk_25 9 (dk_at dksX1_review_4 5 rfl rfl)
theorem dX1_review_101 : decode cX1_review 101 = .ok (.ifnull 7, 3) := dk_198 0 7 (dk_at dksX1_review_4 7 rfl rfl)
theorem dX1_review_104 : decode cX1_review 104 = .ok (.iconst 1, 1) := dk_4 (dk_at dksX1_review_4 10 rfl rfl)
theorem dX1_review_105 : decode cX1_review 105 = .ok (.goto 4, 3) := dk_167 0 4 (dk_at dksX1_review_4 11 rfl rfl)
theorem dX1_review_108 : decode cX1_review 108 = .ok (.iconst 0, 1) := dk_3 (dk_at dksX1_review_4 14 rfl rfl)
theorem dX1_review_109 : decode cX1_review 109 = .ok (.invokestatic 69, 3) := dk_184 0 69 (dk_at dksX1_review_4 15 rfl rfl)
theorem dX1_review_112 : decode cX1_review 112 = .ok (.aload_n 0, 1) := dk_42 (dk_at dksX1_review_4 18 rfl rfl)
theorem dX1_review_113 : decode cX1_review 113 = .ok (.getfield 65, 3) := dk_180 0 65 (dk_at dksX1_review_4 19 rfl rfl)
theorem dX1_review_116 : decode cX1_review 116 = .ok (.invokevirtual 107, 3) := dk_182 0 107 (dk_at dksX1_review_5 0 rfl rfl)
theorem dX1_review_119 : decode cX1_review 119 = .ok (.astore 10, 2) := dk_58 10 (dk_at dksX1_review_5 3 rfl rfl)
theorem dX1_review_121 : decode cX1_review 121 = .ok (.aload 9, 2) := dk_25 9 (dk_at dksX1_review_5 5 rfl rfl)
theorem dX1_review_123 : decode cX1_review 123 = .ok (.getfield 151, 3) := dk_180 0 151 (dk_at dksX1_review_5 7 rfl rfl)
theorem dX1_review_126 : decode cX1_review 126 = .ok (.iload_n 1, 1) := dk_27 (dk_at dksX1_review_5 10 rfl rfl)
theorem dX1_review_127 : decode cX1_review 127 = .ok (.iaload, 1) := dk_46 (dk_at dksX1_review_5 11 rfl rfl)
theorem dX1_review_128 : decode cX1_review 128 = .ok (.aload 9, 2) := dk_25 9 (dk_at dksX1_review_5 12 rfl rfl)
theorem dX1_review_130 : decode cX1_review 130 = .ok (.getfield 151, 3) := dk_180 0 151 (dk_at dksX1_review_5 14 rfl rfl)
theorem dX1_review_133 : decode cX1_review 133 = .ok (.iconst 1, 1) := dk_4 (dk_at dksX1_review_5 17 rfl rfl)
theorem dX1_review_134 : decode cX1_review 134 = .ok (.iload_n 1, 1) := dk_27 (dk_at dksX1_review_5 18 rfl rfl)
theorem dX1_review_135 : decode cX1_review 135 = .ok (.isub, 1) := dk_100 (dk_at dksX1_review_5 19 rfl rfl)
theorem dX1_review_136 : decode cX1_review 136 = .ok (.iaload, 1) := dk_46 (dk_at dksX1_review_5 20 rfl rfl)
theorem dX1_review_137 : decode cX1_review 137 = .ok (.isub, 1) := dk_100 (dk_at dksX1_review_5 21 rfl rfl)
theorem dX1_review_138 : decode cX1_review 138 = .ok (.aload 10, 2) := dk_25 10 (dk_at dksX1_review_5 22 rfl rfl)
theorem dX1_review_140 : decode cX1_review 140 = .ok (.getfield 151, 3) := dk_180 0 151 (dk_at dksX1_review_6 0 rfl rfl)
theorem dX1_review_143 : decode cX1_review 143 = .ok (.iload_n 1, 1) := dk_27 (dk_at dksX1_review_6 3 rfl rfl)
theorem dX1_review_144 : decode cX1_review 144 = .ok (.iaload, 1) := dk_46 (dk_at dksX1_review_6 4 rfl rfl)
theorem dX1_review_145 : decode cX1_review 145 = .ok (.isub, 1) := dk_100 (dk_at dksX1_review_6 5 rfl rfl)
theorem dX1_review_146 : decode cX1_review 146 = .ok (.aload 10, 2) := dk_25 10 (dk_at dksX1_review_6 6 rfl rfl)
theorem dX1_review_148 : decode cX1_review 148 = .ok (.getfield 151, 3) := dk_180 0 151 (dk_at dksX1_review_6 8 rfl rfl)
theorem dX1_review_151 : decode cX1_review 151 = .ok (.iconst 1, 1) := dk_4 (dk_at dksX1_review_6 11 rfl rfl)
theorem dX1_review_152 : decode cX1_review 152 = .ok (.iload_n 1, 1) := dk_27 (dk_at dksX1_review_6 12 rfl rfl)
theorem dX1_review_153 : decode cX1_review 153 = .ok (.isub, 1) := dk_100 (dk_at dksX1_review_6 13 rfl rfl)
theorem dX1_review_154 : decode cX1_review 154 = .ok (.iaload, 1) := dk_46 (dk_at dksX1_review_6 14 rfl rfl)
theorem dX1_review_155 : decode cX1_review 155 = .ok (.iadd, 1) := dk_96 (dk_at dksX1_review_6 15 rfl rfl)
theorem dX1_review_156 : decode cX1_review 156 = .ok (.istore 11, 2) := dk_54 11 (dk_at dksX1_review_6 16 rfl rfl)
theorem dX1_review_158 : decode cX1_review 158 = .ok (.aload_n 0, 1) := dk_42 (dk_at dksX1_review_6 18 rfl rfl)
theorem dX1_review_159 : decode cX1_review 159 = .ok (.getfield 65, 3) := dk_180 0 65 (dk_at dksX1_review_6 19 rfl rfl)
theorem dX1_review_162 : decode cX1_review 162 = .ok (.getfield 118, 3) := dk_180 0 118 (dk_at dksX1_review_7 0 rfl rfl)
theorem dX1_review_165 : decode cX1_review 165 = .ok (.iload_n 2, 1) := dk_28 (dk_at dksX1_review_7 3 rfl rfl)
theorem dX1_review_166 : decode cX1_review 166 = .ok (.aload 7, 2) := dk_25 7 (dk_at dksX1_review_7 4 rfl rfl)
theorem dX1_review_168 : decode cX1_review 168 = .ok (.invokeinterface 196 3, 5) := by decide +kernel
theorem dX1_review_173 : decode cX1_review 173 = .ok (.pop, 1) := dk_87 (dk_at dksX1_review_7 11 rfl rfl)
theorem dX1_review_174 : decode cX1_review 174 = .ok (.iconst 0, 1) := dk_3 (dk_at dksX1_review_7 12 rfl rfl)
theorem dX1_review_175 : decode cX1_review 175 = .ok (.istore 12, 2) := dk_54 12 (dk_at dksX1_review_7 13 rfl rfl)
theorem dX1_review_177 : decode cX1_review 177 = .ok (.iload 12, 2) := dk_21 12 (dk_at dksX1_review_7 15 rfl rfl)
theorem dX1_review_179 : decode cX1_review 179 = .ok (.aload 8, 2) := dk_25 8 (dk_at dksX1_review_7 17 rfl rfl)
theorem dX1_review_181 : decode cX1_review 181 = .ok (.invokeinterface 122 1, 5) := by decide +kernel
theorem dX1_review_186 : decode cX1_review 186 = .ok (.if_icmp .ge 40, 3) := dk_162 0 40 (dk_at dksX1_review_8 0 rfl rfl)
theorem dX1_review_189 : decode cX1_review 189 = .ok (.aload_n 0, 1) := dk_42 (dk_at dksX1_review_8 3 rfl rfl)
theorem dX1_review_190 : decode cX1_review 190 = .ok (.getfield 65, 3) := dk_180 0 65 (dk_at dksX1_review_8 4 rfl rfl)
theorem dX1_review_193 : decode cX1_review 193 = .ok (.getfield 200, 3) := dk_180 0 200 (dk_at dksX1_review_8 7 rfl rfl)
theorem dX1_review_196 : decode cX1_review 196 = .ok (.iload_n 2, 1) := dk_28 (dk_at dksX1_review_8 10 rfl rfl)
theorem dX1_review_197 : decode cX1_review 197 = .ok (.iconst 1, 1) := dk_4 (dk_at dksX1_review_8 11 rfl rfl)
theorem dX1_review_198 : decode cX1_review 198 = .ok (.iadd, 1) := dk_96 (dk_at dksX1_review_8 12 rfl rfl)
theorem dX1_review_199 : decode cX1_review 199 = .ok (.iload 12, 2) := dk_21 12 (dk_at dksX1_review_8 13 rfl rfl)
theorem dX1_review_201 : decode cX1_review 201 = .ok (.iadd, 1) := dk_96 (dk_at dksX1_review_8 15 rfl rfl)
theorem dX1_review_202 : decode cX1_review 202 = .ok (.aload 8, 2) := dk_25 8 (dk_at dksX1_review_8 16 rfl rfl)
theorem dX1_review_204 : decode cX1_review 204 = .ok (.iload 12, 2) := dk_21 12 (dk_at dksX1_review_8 18 rfl rfl)
theorem dX1_review_206 : decode cX1_review 206 = .ok (.invokeinterface 176 2, 5) := by decide +kernel
theorem dX1_review_211 : decode cX1_review 211 = .ok (.checkcast 152, 3) := dk_192 0 152 (dk_at dksX1_review_9 5 rfl rfl)
theorem dX1_review_214 : decode cX1_review 214 = .ok (.invokeinterface 196 3, 5) := by decide +kernel
theorem dX1_review_219 : decode cX1_review 219 = .ok (.pop, 1) := dk_87 (dk_at dksX1_review_9 13 rfl rfl)
theorem dX1_review_220 : decode cX1_review 220 = .ok (.iinc 12 1, 3) := dk_132 12 1 (dk_at dksX1_review_9 14 rfl rfl)
theorem dX1_review_223 : decode cX1_review 223 = .ok (.goto (-46), 3) := dk_167 255 210 (dk_at dksX1_review_9 17 rfl rfl)
theorem dX1_review_226 : decode cX1_review 226 = .ok (.aload_n 0, 1) := dk_42 (dk_at dksX1_review_9 20 rfl rfl)
theorem dX1_review_227 : decode cX1_review 227 = .ok (.getfield 65, 3) := dk_180 0 65 (dk_at dksX1_review_9 21 rfl rfl)
theorem dX1_review_230 : decode cX1_review 230 = .ok (.getfield 184, 3) := dk_180 0 184 (dk_at dksX1_review_10 0 rfl rfl)
theorem dX1_review_233 : decode cX1_review 233 = .ok (.iload_n 1, 1) := dk_27 (dk_at dksX1_review_10 3 rfl rfl)
theorem dX1_review_234 : decode cX1_review 234 = .ok (.iload 11, 2) := dk_21 11 (dk_at dksX1_review_10 4 rfl rfl)
theorem dX1_review_236 : decode cX1_review 236 = .ok (.ifCond .le 7, 3) := dk_158 0 7 (dk_at dksX1_review_10 6 rfl rfl)
theorem dX1_review_239 : decode cX1_review 239 = .ok (.iconst 1, 1) := dk_4 (dk_at dksX1_review_10 9 rfl rfl)
theorem dX1_review_240 : decode cX1_review 240 = .ok (.goto 4, 3) := dk_167 0 4 (dk_at dksX1_review_10 10 rfl rfl)
theorem dX1_review_243 : decode cX1_review 243 = .ok (.iconst 0, 1) := dk_3 (dk_at dksX1_review_10 13 rfl rfl)
theorem dX1_review_244 : decode cX1_review 244 = .ok (.bastore, 1) := dk_84 (dk_at dksX1_review_10 14 rfl rfl)
theorem dX1_review_245 : decode cX1_review 245 = .ok (.iload 11, 2) := dk_21 11 (dk_at dksX1_review_10 15 rfl rfl)
theorem dX1_review_247 : decode cX1_review 247 = .ok (.ireturn, 1) := dk_172 (dk_at dksX1_review_10 17 rfl rfl)
abbrev cX1_raidOf : ByteArray := prog_1_method_16_code
def yX1_raidOf : MethodName := ⟨RX1, "raidOf", "(II)LRaidhall$Raid;"⟩
def dkwX1_raidOf_3 : List UInt8 := [167, 0, 12, 45, 180, 0, 137, 185, 0, 122, 1, 0, 184, 0, 61, 45, 176]
abbrev dktX1_raidOf_3 : List UInt8 := dkwX1_raidOf_3 ++ []
def dkwX1_raidOf_2 : List UInt8 := [153, 0, 15, 25, 5, 192, 0, 95, 58, 4, 25, 4, 167, 0, 4, 1, 78, 28, 45, 199, 0, 7, 3]
abbrev dktX1_raidOf_2 : List UInt8 := dkwX1_raidOf_2 ++ dktX1_raidOf_3
def dkwX1_raidOf_1 : List UInt8 := [184, 0, 61, 42, 180, 0, 65, 180, 0, 118, 27, 185, 0, 176, 2, 0, 58, 5, 25, 5, 193, 0, 95]
abbrev dktX1_raidOf_1 : List UInt8 := dkwX1_raidOf_1 ++ dktX1_raidOf_2
def dkwX1_raidOf_0 : List UInt8 := [27, 42, 180, 0, 65, 199, 0, 7, 3, 167, 0, 15, 42, 180, 0, 65, 180, 0, 118, 185, 0, 122, 1, 0]
abbrev dktX1_raidOf_0 : List UInt8 := dkwX1_raidOf_0 ++ dktX1_raidOf_1
theorem dksX1_raidOf_0 : cX1_raidOf.data.toList.drop 0 = dktX1_raidOf_0 := by decide +kernel
theorem dksX1_raidOf_1 : cX1_raidOf.data.toList.drop 24 = dktX1_raidOf_1 := dk_seg dksX1_raidOf_0 24 rfl rfl
theorem dksX1_raidOf_2 : cX1_raidOf.data.toList.drop 47 = dktX1_raidOf_2 := dk_seg dksX1_raidOf_1 23 rfl rfl
theorem dksX1_raidOf_3 : cX1_raidOf.data.toList.drop 70 = dktX1_raidOf_3 := dk_seg dksX1_raidOf_2 23 rfl rfl
theorem dX1_raidOf_0 : decode cX1_raidOf 0 = .ok (.iload_n 1, 1) := dk_27 (dk_at dksX1_raidOf_0 0 rfl rfl)
theorem dX1_raidOf_1 : decode cX1_raidOf 1 = .ok (.aload_n 0, 1) := dk_42 (dk_at dksX1_raidOf_0 1 rfl rfl)
theorem dX1_raidOf_2 : decode cX1_raidOf 2 = .ok (.getfield 65, 3) := dk_180 0 65 (dk_at dksX1_raidOf_0 2 rfl rfl)
theorem dX1_raidOf_5 : decode cX1_raidOf 5 = .ok (.ifnonnull 7, 3) := dk_199 0 7 (dk_at dksX1_raidOf_0 5 rfl rfl)
theorem dX1_raidOf_8 : decode cX1_raidOf 8 = .ok (.iconst 0, 1) := dk_3 (dk_at dksX1_raidOf_0 8 rfl rfl)
theorem dX1_raidOf_9 : decode cX1_raidOf 9 = .ok (.goto 15, 3) := dk_167 0 15 (dk_at dksX1_raidOf_0 9 rfl rfl)
theorem dX1_raidOf_12 : decode cX1_raidOf 12 = .ok (.aload_n 0, 1) := dk_42 (dk_at dksX1_raidOf_0 12 rfl rfl)
theorem dX1_raidOf_13 : decode cX1_raidOf 13 = .ok (.getfield 65, 3) := dk_180 0 65 (dk_at dksX1_raidOf_0 13 rfl rfl)
theorem dX1_raidOf_16 : decode cX1_raidOf 16 = .ok (.getfield 118, 3) := dk_180 0 118 (dk_at dksX1_raidOf_0 16 rfl rfl)
theorem dX1_raidOf_19 : decode cX1_raidOf 19 = .ok (.invokeinterface 122 1, 5) := by decide +kernel
theorem dX1_raidOf_24 : decode cX1_raidOf 24 = .ok (.invokestatic 61, 3) := dk_184 0 61 (dk_at dksX1_raidOf_1 0 rfl rfl)
theorem dX1_raidOf_27 : decode cX1_raidOf 27 = .ok (.aload_n 0, 1) := dk_42 (dk_at dksX1_raidOf_1 3 rfl rfl)
theorem dX1_raidOf_28 : decode cX1_raidOf 28 = .ok (.getfield 65, 3) := dk_180 0 65 (dk_at dksX1_raidOf_1 4 rfl rfl)
theorem dX1_raidOf_31 : decode cX1_raidOf 31 = .ok (.getfield 118, 3) := dk_180 0 118 (dk_at dksX1_raidOf_1 7 rfl rfl)
theorem dX1_raidOf_34 : decode cX1_raidOf 34 = .ok (.iload_n 1, 1) := dk_27 (dk_at dksX1_raidOf_1 10 rfl rfl)
theorem dX1_raidOf_35 : decode cX1_raidOf 35 = .ok (.invokeinterface 176 2, 5) := by decide +kernel
theorem dX1_raidOf_40 : decode cX1_raidOf 40 = .ok (.astore 5, 2) := dk_58 5 (dk_at dksX1_raidOf_1 16 rfl rfl)
theorem dX1_raidOf_42 : decode cX1_raidOf 42 = .ok (.aload 5, 2) := dk_25 5 (dk_at dksX1_raidOf_1 18 rfl rfl)
theorem dX1_raidOf_44 : decode cX1_raidOf 44 = .ok (.instanceof 95, 3) := dk_193 0 95 (dk_at dksX1_raidOf_1 20 rfl rfl)
theorem dX1_raidOf_47 : decode cX1_raidOf 47 = .ok (.ifCond .eq 15, 3) := dk_153 0 15 (dk_at dksX1_raidOf_2 0 rfl rfl)
theorem dX1_raidOf_50 : decode cX1_raidOf 50 = .ok (.aload 5, 2) := dk_25 5 (dk_at dksX1_raidOf_2 3 rfl rfl)
theorem dX1_raidOf_52 : decode cX1_raidOf 52 = .ok (.checkcast 95, 3) := dk_192 0 95 (dk_at dksX1_raidOf_2 5 rfl rfl)
theorem dX1_raidOf_55 : decode cX1_raidOf 55 = .ok (.astore 4, 2) := dk_58 4 (dk_at dksX1_raidOf_2 8 rfl rfl)
theorem dX1_raidOf_57 : decode cX1_raidOf 57 = .ok (.aload 4, 2) := dk_25 4 (dk_at dksX1_raidOf_2 10 rfl rfl)
theorem dX1_raidOf_59 : decode cX1_raidOf 59 = .ok (.goto 4, 3) := dk_167 0 4 (dk_at dksX1_raidOf_2 12 rfl rfl)
theorem dX1_raidOf_62 : decode cX1_raidOf 62 = .ok (.aconst_null, 1) := dk_1 (dk_at dksX1_raidOf_2 15 rfl rfl)
theorem dX1_raidOf_63 : decode cX1_raidOf 63 = .ok (.astore_n 3, 1) := dk_78 (dk_at dksX1_raidOf_2 16 rfl rfl)
theorem dX1_raidOf_64 : decode cX1_raidOf 64 = .ok (.iload_n 2, 1) := dk_28 (dk_at dksX1_raidOf_2 17 rfl rfl)
theorem dX1_raidOf_65 : decode cX1_raidOf 65 = .ok (.aload_n 3, 1) := dk_45 (dk_at dksX1_raidOf_2 18 rfl rfl)
theorem dX1_raidOf_66 : decode cX1_raidOf 66 = .ok (.ifnonnull 7, 3) := dk_199 0 7 (dk_at dksX1_raidOf_2 19 rfl rfl)
theorem dX1_raidOf_69 : decode cX1_raidOf 69 = .ok (.iconst 0, 1) := dk_3 (dk_at dksX1_raidOf_2 22 rfl rfl)
theorem dX1_raidOf_70 : decode cX1_raidOf 70 = .ok (.goto 12, 3) := dk_167 0 12 (dk_at dksX1_raidOf_3 0 rfl rfl)
theorem dX1_raidOf_73 : decode cX1_raidOf 73 = .ok (.aload_n 3, 1) := dk_45 (dk_at dksX1_raidOf_3 3 rfl rfl)
theorem dX1_raidOf_74 : decode cX1_raidOf 74 = .ok (.getfield 137, 3) := dk_180 0 137 (dk_at dksX1_raidOf_3 4 rfl rfl)
theorem dX1_raidOf_77 : decode cX1_raidOf 77 = .ok (.invokeinterface 122 1, 5) := by decide +kernel
theorem dX1_raidOf_82 : decode cX1_raidOf 82 = .ok (.invokestatic 61, 3) := dk_184 0 61 (dk_at dksX1_raidOf_3 12 rfl rfl)
theorem dX1_raidOf_85 : decode cX1_raidOf 85 = .ok (.aload_n 3, 1) := dk_45 (dk_at dksX1_raidOf_3 15 rfl rfl)
theorem dX1_raidOf_86 : decode cX1_raidOf 86 = .ok (.areturn, 1) := dk_176 (dk_at dksX1_raidOf_3 16 rfl rfl)
abbrev cX1_wouldFall : ByteArray := prog_1_method_18_code
def yX1_wouldFall : MethodName := ⟨RX1, "wouldFall", "(IIII)I"⟩
def dkwX1_wouldFall_3 : List UInt8 := [172]
abbrev dktX1_wouldFall_3 : List UInt8 := dkwX1_wouldFall_3 ++ []
def dkwX1_wouldFall_2 : List UInt8 := [100, 185, 0, 176, 2, 0, 199, 0, 17, 27, 25, 6, 185, 0, 122, 1, 0, 96, 4, 100, 167, 0, 4, 2]
abbrev dktX1_wouldFall_2 : List UInt8 := dkwX1_wouldFall_2 ++ dktX1_wouldFall_3
def dkwX1_wouldFall_1 : List UInt8 := [25, 5, 28, 29, 21, 4, 182, 0, 188, 182, 0, 192, 58, 6, 25, 6, 25, 6, 185, 0, 122, 1, 0, 4]
abbrev dktX1_wouldFall_1 : List UInt8 := dkwX1_wouldFall_1 ++ dktX1_wouldFall_2
def dkwX1_wouldFall_0 : List UInt8 := [42, 27, 28, 182, 0, 180, 58, 5, 29, 21, 4, 8, 184, 0, 127, 184, 0, 82, 42, 180, 0, 65, 27]
abbrev dktX1_wouldFall_0 : List UInt8 := dkwX1_wouldFall_0 ++ dktX1_wouldFall_1
theorem dksX1_wouldFall_0 : cX1_wouldFall.data.toList.drop 0 = dktX1_wouldFall_0 := by decide +kernel
theorem dksX1_wouldFall_1 : cX1_wouldFall.data.toList.drop 23 = dktX1_wouldFall_1 := dk_seg dksX1_wouldFall_0 23 rfl rfl
theorem dksX1_wouldFall_2 : cX1_wouldFall.data.toList.drop 47 = dktX1_wouldFall_2 := dk_seg dksX1_wouldFall_1 24 rfl rfl
theorem dksX1_wouldFall_3 : cX1_wouldFall.data.toList.drop 71 = dktX1_wouldFall_3 := dk_seg dksX1_wouldFall_2 24 rfl rfl
theorem dX1_wouldFall_0 : decode cX1_wouldFall 0 = .ok (.aload_n 0, 1) := dk_42 (dk_at dksX1_wouldFall_0 0 rfl rfl)
theorem dX1_wouldFall_1 : decode cX1_wouldFall 1 = .ok (.iload_n 1, 1) := dk_27 (dk_at dksX1_wouldFall_0 1 rfl rfl)
theorem dX1_wouldFall_2 : decode cX1_wouldFall 2 = .ok (.iload_n 2, 1) := dk_28 (dk_at dksX1_wouldFall_0 2 rfl rfl)
theorem dX1_wouldFall_3 : decode cX1_wouldFall 3 = .ok (.invokevirtual 180, 3) := dk_182 0 180 (dk_at dksX1_wouldFall_0 3 rfl rfl)
theorem dX1_wouldFall_6 : decode cX1_wouldFall 6 = .ok (.astore 5, 2) := dk_58 5 (dk_at dksX1_wouldFall_0 6 rfl rfl)
theorem dX1_wouldFall_8 : decode cX1_wouldFall 8 = .ok (.iload_n 3, 1) := dk_29 (dk_at dksX1_wouldFall_0 8 rfl rfl)
theorem dX1_wouldFall_9 : decode cX1_wouldFall 9 = .ok (.iload 4, 2) := dk_21 4 (dk_at dksX1_wouldFall_0 9 rfl rfl)
theorem dX1_wouldFall_11 : decode cX1_wouldFall 11 = .ok (.iconst 5, 1) := dk_8 (dk_at dksX1_wouldFall_0 11 rfl rfl)
theorem dX1_wouldFall_12 : decode cX1_wouldFall 12 = .ok (.invokestatic 127, 3) := dk_184 0 127 (dk_at dksX1_wouldFall_0 12 rfl rfl)
theorem dX1_wouldFall_15 : decode cX1_wouldFall 15 = .ok (.invokestatic 82, 3) := dk_184 0 82 (dk_at dksX1_wouldFall_0 15 rfl rfl)
theorem dX1_wouldFall_18 : decode cX1_wouldFall 18 = .ok (.aload_n 0, 1) := dk_42 (dk_at dksX1_wouldFall_0 18 rfl rfl)
theorem dX1_wouldFall_19 : decode cX1_wouldFall 19 = .ok (.getfield 65, 3) := dk_180 0 65 (dk_at dksX1_wouldFall_0 19 rfl rfl)
theorem dX1_wouldFall_22 : decode cX1_wouldFall 22 = .ok (.iload_n 1, 1) := dk_27 (dk_at dksX1_wouldFall_0 22 rfl rfl)
theorem dX1_wouldFall_23 : decode cX1_wouldFall 23 = .ok (.aload 5, 2) := dk_25 5 (dk_at dksX1_wouldFall_1 0 rfl rfl)
theorem dX1_wouldFall_25 : decode cX1_wouldFall 25 = .ok (.iload_n 2, 1) := dk_28 (dk_at dksX1_wouldFall_1 2 rfl rfl)
theorem dX1_wouldFall_26 : decode cX1_wouldFall 26 = .ok (.iload_n 3, 1) := dk_29 (dk_at dksX1_wouldFall_1 3 rfl rfl)
theorem dX1_wouldFall_27 : decode cX1_wouldFall 27 = .ok (.iload 4, 2) := dk_21 4 (dk_at dksX1_wouldFall_1 4 rfl rfl)
theorem dX1_wouldFall_29 : decode cX1_wouldFall 29 = .ok (.invokevirtual 188, 3) := dk_182 0 188 (dk_at dksX1_wouldFall_1 6 rfl rfl)
theorem dX1_wouldFall_32 : decode cX1_wouldFall 32 = .ok (.invokevirtual 192, 3) := dk_182 0 192 (dk_at dksX1_wouldFall_1 9 rfl rfl)
theorem dX1_wouldFall_35 : decode cX1_wouldFall 35 = .ok (.astore 6, 2) := dk_58 6 (dk_at dksX1_wouldFall_1 12 rfl rfl)
theorem dX1_wouldFall_37 : decode cX1_wouldFall 37 = .ok (.aload 6, 2) := dk_25 6 (dk_at dksX1_wouldFall_1 14 rfl rfl)
theorem dX1_wouldFall_39 : decode cX1_wouldFall 39 = .ok (.aload 6, 2) := dk_25 6 (dk_at dksX1_wouldFall_1 16 rfl rfl)
theorem dX1_wouldFall_41 : decode cX1_wouldFall 41 = .ok (.invokeinterface 122 1, 5) := by decide +kernel
theorem dX1_wouldFall_46 : decode cX1_wouldFall 46 = .ok (.iconst 1, 1) := dk_4 (dk_at dksX1_wouldFall_1 23 rfl rfl)
theorem dX1_wouldFall_47 : decode cX1_wouldFall 47 = .ok (.isub, 1) := dk_100 (dk_at dksX1_wouldFall_2 0 rfl rfl)
theorem dX1_wouldFall_48 : decode cX1_wouldFall 48 = .ok (.invokeinterface 176 2, 5) := by decide +kernel
theorem dX1_wouldFall_53 : decode cX1_wouldFall 53 = .ok (.ifnonnull 17, 3) := dk_199 0 17 (dk_at dksX1_wouldFall_2 6 rfl rfl)
theorem dX1_wouldFall_56 : decode cX1_wouldFall 56 = .ok (.iload_n 1, 1) := dk_27 (dk_at dksX1_wouldFall_2 9 rfl rfl)
theorem dX1_wouldFall_57 : decode cX1_wouldFall 57 = .ok (.aload 6, 2) := dk_25 6 (dk_at dksX1_wouldFall_2 10 rfl rfl)
theorem dX1_wouldFall_59 : decode cX1_wouldFall 59 = .ok (.invokeinterface 122 1, 5) := by decide +kernel
theorem dX1_wouldFall_64 : decode cX1_wouldFall 64 = .ok (.iadd, 1) := dk_96 (dk_at dksX1_wouldFall_2 17 rfl rfl)
theorem dX1_wouldFall_65 : decode cX1_wouldFall 65 = .ok (.iconst 1, 1) := dk_4 (dk_at dksX1_wouldFall_2 18 rfl rfl)
theorem dX1_wouldFall_66 : decode cX1_wouldFall 66 = .ok (.isub, 1) := dk_100 (dk_at dksX1_wouldFall_2 19 rfl rfl)
theorem dX1_wouldFall_67 : decode cX1_wouldFall 67 = .ok (.goto 4, 3) := dk_167 0 4 (dk_at dksX1_wouldFall_2 20 rfl rfl)
theorem dX1_wouldFall_70 : decode cX1_wouldFall 70 = .ok (.iconst (-1), 1) := dk_2 (dk_at dksX1_wouldFall_2 23 rfl rfl)
theorem dX1_wouldFall_71 : decode cX1_wouldFall 71 = .ok (.ireturn, 1) := dk_172 (dk_at dksX1_wouldFall_3 0 rfl rfl)
abbrev cX1_takeBack : ByteArray := prog_1_method_19_code
def yX1_takeBack : MethodName := ⟨RX1, "takeBack", "(I)I"⟩
def dkwX1_takeBack_1 : List UInt8 := [180, 0, 65, 182, 0, 103, 27, 100, 61, 42, 180, 0, 65, 27, 182, 0, 203, 28, 172]
abbrev dktX1_takeBack_1 : List UInt8 := dkwX1_takeBack_1 ++ []
def dkwX1_takeBack_0 : List UInt8 := [27, 42, 180, 0, 65, 199, 0, 7, 3, 167, 0, 10, 42, 180, 0, 65, 182, 0, 103, 184, 0, 61, 42]
abbrev dktX1_takeBack_0 : List UInt8 := dkwX1_takeBack_0 ++ dktX1_takeBack_1
theorem dksX1_takeBack_0 : cX1_takeBack.data.toList.drop 0 = dktX1_takeBack_0 := by decide +kernel
theorem dksX1_takeBack_1 : cX1_takeBack.data.toList.drop 23 = dktX1_takeBack_1 := dk_seg dksX1_takeBack_0 23 rfl rfl
theorem dX1_takeBack_0 : decode cX1_takeBack 0 = .ok (.iload_n 1, 1) := dk_27 (dk_at dksX1_takeBack_0 0 rfl rfl)
theorem dX1_takeBack_1 : decode cX1_takeBack 1 = .ok (.aload_n 0, 1) := dk_42 (dk_at dksX1_takeBack_0 1 rfl rfl)
theorem dX1_takeBack_2 : decode cX1_takeBack 2 = .ok (.getfield 65, 3) := dk_180 0 65 (dk_at dksX1_takeBack_0 2 rfl rfl)
theorem dX1_takeBack_5 : decode cX1_takeBack 5 = .ok (.ifnonnull 7, 3) := dk_199 0 7 (dk_at dksX1_takeBack_0 5 rfl rfl)
theorem dX1_takeBack_8 : decode cX1_takeBack 8 = .ok (.iconst 0, 1) := dk_3 (dk_at dksX1_takeBack_0 8 rfl rfl)
theorem dX1_takeBack_9 : decode cX1_takeBack 9 = .ok (.goto 10, 3) := dk_167 0 10 (dk_at dksX1_takeBack_0 9 rfl rfl)
theorem dX1_takeBack_12 : decode cX1_takeBack 12 = .ok (.aload_n 0, 1) := dk_42 (dk_at dksX1_takeBack_0 12 rfl rfl)
theorem dX1_takeBack_13 : decode cX1_takeBack 13 = .ok (.getfield 65, 3) := dk_180 0 65 (dk_at dksX1_takeBack_0 13 rfl rfl)
theorem dX1_takeBack_16 : decode cX1_takeBack 16 = .ok (.invokevirtual 103, 3) := dk_182 0 103 (dk_at dksX1_takeBack_0 16 rfl rfl)
theorem dX1_takeBack_19 : decode cX1_takeBack 19 = .ok (.invokestatic 61, 3) := dk_184 0 61 (dk_at dksX1_takeBack_0 19 rfl rfl)
theorem dX1_takeBack_22 : decode cX1_takeBack 22 = .ok (.aload_n 0, 1) := dk_42 (dk_at dksX1_takeBack_0 22 rfl rfl)
theorem dX1_takeBack_23 : decode cX1_takeBack 23 = .ok (.getfield 65, 3) := dk_180 0 65 (dk_at dksX1_takeBack_1 0 rfl rfl)
theorem dX1_takeBack_26 : decode cX1_takeBack 26 = .ok (.invokevirtual 103, 3) := dk_182 0 103 (dk_at dksX1_takeBack_1 3 rfl rfl)
theorem dX1_takeBack_29 : decode cX1_takeBack 29 = .ok (.iload_n 1, 1) := dk_27 (dk_at dksX1_takeBack_1 6 rfl rfl)
theorem dX1_takeBack_30 : decode cX1_takeBack 30 = .ok (.isub, 1) := dk_100 (dk_at dksX1_takeBack_1 7 rfl rfl)
theorem dX1_takeBack_31 : decode cX1_takeBack 31 = .ok (.istore_n 2, 1) := dk_61 (dk_at dksX1_takeBack_1 8 rfl rfl)
theorem dX1_takeBack_32 : decode cX1_takeBack 32 = .ok (.aload_n 0, 1) := dk_42 (dk_at dksX1_takeBack_1 9 rfl rfl)
theorem dX1_takeBack_33 : decode cX1_takeBack 33 = .ok (.getfield 65, 3) := dk_180 0 65 (dk_at dksX1_takeBack_1 10 rfl rfl)
theorem dX1_takeBack_36 : decode cX1_takeBack 36 = .ok (.iload_n 1, 1) := dk_27 (dk_at dksX1_takeBack_1 13 rfl rfl)
theorem dX1_takeBack_37 : decode cX1_takeBack 37 = .ok (.invokevirtual 203, 3) := dk_182 0 203 (dk_at dksX1_takeBack_1 14 rfl rfl)
theorem dX1_takeBack_40 : decode cX1_takeBack 40 = .ok (.iload_n 2, 1) := dk_28 (dk_at dksX1_takeBack_1 17 rfl rfl)
theorem dX1_takeBack_41 : decode cX1_takeBack 41 = .ok (.ireturn, 1) := dk_172 (dk_at dksX1_takeBack_1 18 rfl rfl)
abbrev cX1_enter : ByteArray := prog_1_method_20_code
def yX1_enter : MethodName := ⟨RX1, "enter", "()I"⟩
def dkwX1_enter_4 : List UInt8 := [4, 46, 172]
abbrev dktX1_enter_4 : List UInt8 := dkwX1_enter_4 ++ []
def dkwX1_enter_3 : List UInt8 := [160, 0, 7, 2, 167, 0, 22, 43, 180, 0, 212, 44, 3, 46, 44, 4, 46, 164, 0, 7, 3, 167, 0, 4]
abbrev dktX1_enter_3 : List UInt8 := dkwX1_enter_3 ++ dktX1_enter_4
def dkwX1_enter_2 : List UInt8 := [4, 46, 50, 44, 4, 46, 44, 3, 46, 182, 0, 214, 42, 1, 181, 0, 65, 44, 3, 46, 44, 4, 46]
abbrev dktX1_enter_2 : List UInt8 := dkwX1_enter_2 ++ dktX1_enter_3
def dkwX1_enter_1 : List UInt8 := [43, 180, 0, 212, 3, 46, 50, 44, 3, 46, 44, 4, 46, 182, 0, 214, 42, 180, 0, 34, 43, 180, 0, 212]
abbrev dktX1_enter_1 : List UInt8 := dkwX1_enter_1 ++ dktX1_enter_2
def dkwX1_enter_0 : List UInt8 := [42, 182, 0, 206, 76, 43, 182, 0, 209, 184, 0, 69, 43, 182, 0, 107, 180, 0, 151, 77, 42, 180, 0, 34]
abbrev dktX1_enter_0 : List UInt8 := dkwX1_enter_0 ++ dktX1_enter_1
theorem dksX1_enter_0 : cX1_enter.data.toList.drop 0 = dktX1_enter_0 := by decide +kernel
theorem dksX1_enter_1 : cX1_enter.data.toList.drop 24 = dktX1_enter_1 := dk_seg dksX1_enter_0 24 rfl rfl
theorem dksX1_enter_2 : cX1_enter.data.toList.drop 48 = dktX1_enter_2 := dk_seg dksX1_enter_1 24 rfl rfl
theorem dksX1_enter_3 : cX1_enter.data.toList.drop 71 = dktX1_enter_3 := dk_seg dksX1_enter_2 23 rfl rfl
theorem dksX1_enter_4 : cX1_enter.data.toList.drop 95 = dktX1_enter_4 := dk_seg dksX1_enter_3 24 rfl rfl
theorem dX1_enter_0 : decode cX1_enter 0 = .ok (.aload_n 0, 1) := dk_42 (dk_at dksX1_enter_0 0 rfl rfl)
theorem dX1_enter_1 : decode cX1_enter 1 = .ok (.invokevirtual 206, 3) := dk_182 0 206 (dk_at dksX1_enter_0 1 rfl rfl)
theorem dX1_enter_4 : decode cX1_enter 4 = .ok (.astore_n 1, 1) := dk_76 (dk_at dksX1_enter_0 4 rfl rfl)
theorem dX1_enter_5 : decode cX1_enter 5 = .ok (.aload_n 1, 1) := dk_43 (dk_at dksX1_enter_0 5 rfl rfl)
theorem dX1_enter_6 : decode cX1_enter 6 = .ok (.invokevirtual 209, 3) := dk_182 0 209 (dk_at dksX1_enter_0 6 rfl rfl)
theorem dX1_enter_9 : decode cX1_enter 9 = .ok (.invokestatic 69, 3) := dk_184 0 69 (dk_at dksX1_enter_0 9 rfl rfl)
theorem dX1_enter_12 : decode cX1_enter 12 = .ok (.aload_n 1, 1) := dk_43 (dk_at dksX1_enter_0 12 rfl rfl)
theorem dX1_enter_13 : decode cX1_enter 13 = .ok (.invokevirtual 107, 3) := dk_182 0 107 (dk_at dksX1_enter_0 13 rfl rfl)
theorem dX1_enter_16 : decode cX1_enter 16 = .ok (.getfield 151, 3) := dk_180 0 151 (dk_at dksX1_enter_0 16 rfl rfl)
theorem dX1_enter_19 : decode cX1_enter 19 = .ok (.astore_n 2, 1) := dk_77 (dk_at dksX1_enter_0 19 rfl rfl)
theorem dX1_enter_20 : decode cX1_enter 20 = .ok (.aload_n 0, 1) := dk_42 (dk_at dksX1_enter_0 20 rfl rfl)
theorem dX1_enter_21 : decode cX1_enter 21 = .ok (.getfield 34, 3) := dk_180 0 34 (dk_at dksX1_enter_0 21 rfl rfl)
theorem dX1_enter_24 : decode cX1_enter 24 = .ok (.aload_n 1, 1) := dk_43 (dk_at dksX1_enter_1 0 rfl rfl)
theorem dX1_enter_25 : decode cX1_enter 25 = .ok (.getfield 212, 3) := dk_180 0 212 (dk_at dksX1_enter_1 1 rfl rfl)
theorem dX1_enter_28 : decode cX1_enter 28 = .ok (.iconst 0, 1) := dk_3 (dk_at dksX1_enter_1 4 rfl rfl)
theorem dX1_enter_29 : decode cX1_enter 29 = .ok (.iaload, 1) := dk_46 (dk_at dksX1_enter_1 5 rfl rfl)
theorem dX1_enter_30 : decode cX1_enter 30 = .ok (.aaload, 1) := dk_50 (dk_at dksX1_enter_1 6 rfl rfl)
theorem dX1_enter_31 : decode cX1_enter 31 = .ok (.aload_n 2, 1) := dk_44 (dk_at dksX1_enter_1 7 rfl rfl)
theorem dX1_enter_32 : decode cX1_enter 32 = .ok (.iconst 0, 1) := dk_3 (dk_at dksX1_enter_1 8 rfl rfl)
theorem dX1_enter_33 : decode cX1_enter 33 = .ok (.iaload, 1) := dk_46 (dk_at dksX1_enter_1 9 rfl rfl)
theorem dX1_enter_34 : decode cX1_enter 34 = .ok (.aload_n 2, 1) := dk_44 (dk_at dksX1_enter_1 10 rfl rfl)
theorem dX1_enter_35 : decode cX1_enter 35 = .ok (.iconst 1, 1) := dk_4 (dk_at dksX1_enter_1 11 rfl rfl)
theorem dX1_enter_36 : decode cX1_enter 36 = .ok (.iaload, 1) := dk_46 (dk_at dksX1_enter_1 12 rfl rfl)
theorem dX1_enter_37 : decode cX1_enter 37 = .ok (.invokevirtual 214, 3) := dk_182 0 214 (dk_at dksX1_enter_1 13 rfl rfl)
theorem dX1_enter_40 : decode cX1_enter 40 = .ok (.aload_n 0, 1) := dk_42 (dk_at dksX1_enter_1 16 rfl rfl)
theorem dX1_enter_41 : decode cX1_enter 41 = .ok (.getfield 34, 3) := dk_180 0 34 (dk_at dksX1_enter_1 17 rfl rfl)
theorem dX1_enter_44 : decode cX1_enter 44 = .ok (.aload_n 1, 1) := dk_43 (dk_at dksX1_enter_1 20 rfl rfl)
theorem dX1_enter_45 : decode cX1_enter 45 = .ok (.getfield 212, 3) := dk_180 0 212 (dk_at dksX1_enter_1 21 rfl rfl)
theorem dX1_enter_48 : decode cX1_enter 48 = .ok (.iconst 1, 1) := dk_4 (dk_at dksX1_enter_2 0 rfl rfl)
theorem dX1_enter_49 : decode cX1_enter 49 = .ok (.iaload, 1) := dk_46 (dk_at dksX1_enter_2 1 rfl rfl)
theorem dX1_enter_50 : decode cX1_enter 50 = .ok (.aaload, 1) := dk_50 (dk_at dksX1_enter_2 2 rfl rfl)
theorem dX1_enter_51 : decode cX1_enter 51 = .ok (.aload_n 2, 1) := dk_44 (dk_at dksX1_enter_2 3 rfl rfl)
theorem dX1_enter_52 : decode cX1_enter 52 = .ok (.iconst 1, 1) := dk_4 (dk_at dksX1_enter_2 4 rfl rfl)
theorem dX1_enter_53 : decode cX1_enter 53 = .ok (.iaload, 1) := dk_46 (dk_at dksX1_enter_2 5 rfl rfl)
theorem dX1_enter_54 : decode cX1_enter 54 = .ok (.aload_n 2, 1) := dk_44 (dk_at dksX1_enter_2 6 rfl rfl)
theorem dX1_enter_55 : decode cX1_enter 55 = .ok (.iconst 0, 1) := dk_3 (dk_at dksX1_enter_2 7 rfl rfl)
theorem dX1_enter_56 : decode cX1_enter 56 = .ok (.iaload, 1) := dk_46 (dk_at dksX1_enter_2 8 rfl rfl)
theorem dX1_enter_57 : decode cX1_enter 57 = .ok (.invokevirtual 214, 3) := dk_182 0 214 (dk_at dksX1_enter_2 9 rfl rfl)
theorem dX1_enter_60 : decode cX1_enter 60 = .ok (.aload_n 0, 1) := dk_42 (dk_at dksX1_enter_2 12 rfl rfl)
theorem dX1_enter_61 : decode cX1_enter 61 = .ok (.aconst_null, 1) := dk_1 (dk_at dksX1_enter_2 13 rfl rfl)
theorem dX1_enter_62 : decode cX1_enter 62 = .ok (.putfield 65, 3) := dk_181 0 65 (dk_at dksX1_enter_2 14 rfl rfl)
theorem dX1_enter_65 : decode cX1_enter 65 = .ok (.aload_n 2, 1) := dk_44 (dk_at dksX1_enter_2 17 rfl rfl)
theorem dX1_enter_66 : decode cX1_enter 66 = .ok (.iconst 0, 1) := dk_3 (dk_at dksX1_enter_2 18 rfl rfl)
theorem dX1_enter_67 : decode cX1_enter 67 = .ok (.iaload, 1) := dk_46 (dk_at dksX1_enter_2 19 rfl rfl)
theorem dX1_enter_68 : decode cX1_enter 68 = .ok (.aload_n 2, 1) := dk_44 (dk_at dksX1_enter_2 20 rfl rfl)
theorem dX1_enter_69 : decode cX1_enter 69 = .ok (.iconst 1, 1) := dk_4 (dk_at dksX1_enter_2 21 rfl rfl)
theorem dX1_enter_70 : decode cX1_enter 70 = .ok (.iaload, 1) := dk_46 (dk_at dksX1_enter_2 22 rfl rfl)
theorem dX1_enter_71 : decode cX1_enter 71 = .ok (.if_icmp .ne 7, 3) := dk_160 0 7 (dk_at dksX1_enter_3 0 rfl rfl)
theorem dX1_enter_74 : decode cX1_enter 74 = .ok (.iconst (-1), 1) := dk_2 (dk_at dksX1_enter_3 3 rfl rfl)
theorem dX1_enter_75 : decode cX1_enter 75 = .ok (.goto 22, 3) := dk_167 0 22 (dk_at dksX1_enter_3 4 rfl rfl)
theorem dX1_enter_78 : decode cX1_enter 78 = .ok (.aload_n 1, 1) := dk_43 (dk_at dksX1_enter_3 7 rfl rfl)
theorem dX1_enter_79 : decode cX1_enter 79 = .ok (.getfield 212, 3) := dk_180 0 212 (dk_at dksX1_enter_3 8 rfl rfl)
theorem dX1_enter_82 : decode cX1_enter 82 = .ok (.aload_n 2, 1) := dk_44 (dk_at dksX1_enter_3 11 rfl rfl)
theorem dX1_enter_83 : decode cX1_enter 83 = .ok (.iconst 0, 1) := dk_3 (dk_at dksX1_enter_3 12 rfl rfl)
theorem dX1_enter_84 : decode cX1_enter 84 = .ok (.iaload, 1) := dk_46 (dk_at dksX1_enter_3 13 rfl rfl)
theorem dX1_enter_85 : decode cX1_enter 85 = .ok (.aload_n 2, 1) := dk_44 (dk_at dksX1_enter_3 14 rfl rfl)
theorem dX1_enter_86 : decode cX1_enter 86 = .ok (.iconst 1, 1) := dk_4 (dk_at dksX1_enter_3 15 rfl rfl)
theorem dX1_enter_87 : decode cX1_enter 87 = .ok (.iaload, 1) := dk_46 (dk_at dksX1_enter_3 16 rfl rfl)
theorem dX1_enter_88 : decode cX1_enter 88 = .ok (.if_icmp .le 7, 3) := dk_164 0 7 (dk_at dksX1_enter_3 17 rfl rfl)
theorem dX1_enter_91 : decode cX1_enter 91 = .ok (.iconst 0, 1) := dk_3 (dk_at dksX1_enter_3 20 rfl rfl)
theorem dX1_enter_92 : decode cX1_enter 92 = .ok (.goto 4, 3) := dk_167 0 4 (dk_at dksX1_enter_3 21 rfl rfl)
theorem dX1_enter_95 : decode cX1_enter 95 = .ok (.iconst 1, 1) := dk_4 (dk_at dksX1_enter_4 0 rfl rfl)
theorem dX1_enter_96 : decode cX1_enter 96 = .ok (.iaload, 1) := dk_46 (dk_at dksX1_enter_4 1 rfl rfl)
theorem dX1_enter_97 : decode cX1_enter 97 = .ok (.ireturn, 1) := dk_172 (dk_at dksX1_enter_4 2 rfl rfl)
abbrev cX1_theMatch : ByteArray := prog_1_method_8_code
def yX1_theMatch : MethodName := ⟨RX1, "theMatch", "()LRaidhall$Match;"⟩
def dkwX1_theMatch_0 : List UInt8 := [42, 180, 0, 65, 198, 0, 7, 4, 167, 0, 4, 3, 184, 0, 69, 42, 180, 0, 65, 176]
abbrev dktX1_theMatch_0 : List UInt8 := dkwX1_theMatch_0 ++ []
theorem dksX1_theMatch_0 : cX1_theMatch.data.toList.drop 0 = dktX1_theMatch_0 := by decide +kernel
theorem dX1_theMatch_0 : decode cX1_theMatch 0 = .ok (.aload_n 0, 1) := dk_42 (dk_at dksX1_theMatch_0 0 rfl rfl)
theorem dX1_theMatch_1 : decode cX1_theMatch 1 = .ok (.getfield 65, 3) := dk_180 0 65 (dk_at dksX1_theMatch_0 1 rfl rfl)
theorem dX1_theMatch_4 : decode cX1_theMatch 4 = .ok (.ifnull 7, 3) := dk_198 0 7 (dk_at dksX1_theMatch_0 4 rfl rfl)
theorem dX1_theMatch_7 : decode cX1_theMatch 7 = .ok (.iconst 1, 1) := dk_4 (dk_at dksX1_theMatch_0 7 rfl rfl)
theorem dX1_theMatch_8 : decode cX1_theMatch 8 = .ok (.goto 4, 3) := dk_167 0 4 (dk_at dksX1_theMatch_0 8 rfl rfl)
theorem dX1_theMatch_11 : decode cX1_theMatch 11 = .ok (.iconst 0, 1) := dk_3 (dk_at dksX1_theMatch_0 11 rfl rfl)
theorem dX1_theMatch_12 : decode cX1_theMatch 12 = .ok (.invokestatic 69, 3) := dk_184 0 69 (dk_at dksX1_theMatch_0 12 rfl rfl)
theorem dX1_theMatch_15 : decode cX1_theMatch 15 = .ok (.aload_n 0, 1) := dk_42 (dk_at dksX1_theMatch_0 15 rfl rfl)
theorem dX1_theMatch_16 : decode cX1_theMatch 16 = .ok (.getfield 65, 3) := dk_180 0 65 (dk_at dksX1_theMatch_0 16 rfl rfl)
theorem dX1_theMatch_19 : decode cX1_theMatch 19 = .ok (.areturn, 1) := dk_176 (dk_at dksX1_theMatch_0 19 rfl rfl)
abbrev cX1_type : ByteArray := prog_1_method_21_code
def yX1_type : MethodName := ⟨RX1, "type", "(I)I"⟩
def dkwX1_type_2 : List UInt8 := [172]
abbrev dktX1_type_2 : List UInt8 := dkwX1_type_2 ++ []
def dkwX1_type_1 : List UInt8 := [167, 0, 4, 3, 184, 0, 69, 42, 180, 0, 26, 27, 146, 182, 0, 220, 87, 42, 180, 0, 26, 182, 0, 217]
abbrev dktX1_type_1 : List UInt8 := dkwX1_type_1 ++ dktX1_type_2
def dkwX1_type_0 : List UInt8 := [27, 16, 32, 16, 126, 184, 0, 78, 184, 0, 82, 42, 180, 0, 26, 182, 0, 217, 16, 60, 162, 0, 7, 4]
abbrev dktX1_type_0 : List UInt8 := dkwX1_type_0 ++ dktX1_type_1
theorem dksX1_type_0 : cX1_type.data.toList.drop 0 = dktX1_type_0 := by decide +kernel
theorem dksX1_type_1 : cX1_type.data.toList.drop 24 = dktX1_type_1 := dk_seg dksX1_type_0 24 rfl rfl
theorem dksX1_type_2 : cX1_type.data.toList.drop 48 = dktX1_type_2 := dk_seg dksX1_type_1 24 rfl rfl
theorem dX1_type_0 : decode cX1_type 0 = .ok (.iload_n 1, 1) := dk_27 (dk_at dksX1_type_0 0 rfl rfl)
theorem dX1_type_1 : decode cX1_type 1 = .ok (.bipush 32, 2) := dk_16 32 (dk_at dksX1_type_0 1 rfl rfl)
theorem dX1_type_3 : decode cX1_type 3 = .ok (.bipush 126, 2) := dk_16 126 (dk_at dksX1_type_0 3 rfl rfl)
theorem dX1_type_5 : decode cX1_type 5 = .ok (.invokestatic 78, 3) := dk_184 0 78 (dk_at dksX1_type_0 5 rfl rfl)
theorem dX1_type_8 : decode cX1_type 8 = .ok (.invokestatic 82, 3) := dk_184 0 82 (dk_at dksX1_type_0 8 rfl rfl)
theorem dX1_type_11 : decode cX1_type 11 = .ok (.aload_n 0, 1) := dk_42 (dk_at dksX1_type_0 11 rfl rfl)
theorem dX1_type_12 : decode cX1_type 12 = .ok (.getfield 26, 3) := dk_180 0 26 (dk_at dksX1_type_0 12 rfl rfl)
theorem dX1_type_15 : decode cX1_type 15 = .ok (.invokevirtual 217, 3) := dk_182 0 217 (dk_at dksX1_type_0 15 rfl rfl)
theorem dX1_type_18 : decode cX1_type 18 = .ok (.bipush 60, 2) := dk_16 60 (dk_at dksX1_type_0 18 rfl rfl)
theorem dX1_type_20 : decode cX1_type 20 = .ok (.if_icmp .ge 7, 3) := dk_162 0 7 (dk_at dksX1_type_0 20 rfl rfl)
theorem dX1_type_23 : decode cX1_type 23 = .ok (.iconst 1, 1) := dk_4 (dk_at dksX1_type_0 23 rfl rfl)
theorem dX1_type_24 : decode cX1_type 24 = .ok (.goto 4, 3) := dk_167 0 4 (dk_at dksX1_type_1 0 rfl rfl)
theorem dX1_type_27 : decode cX1_type 27 = .ok (.iconst 0, 1) := dk_3 (dk_at dksX1_type_1 3 rfl rfl)
theorem dX1_type_28 : decode cX1_type 28 = .ok (.invokestatic 69, 3) := dk_184 0 69 (dk_at dksX1_type_1 4 rfl rfl)
theorem dX1_type_31 : decode cX1_type 31 = .ok (.aload_n 0, 1) := dk_42 (dk_at dksX1_type_1 7 rfl rfl)
theorem dX1_type_32 : decode cX1_type 32 = .ok (.getfield 26, 3) := dk_180 0 26 (dk_at dksX1_type_1 8 rfl rfl)
theorem dX1_type_35 : decode cX1_type 35 = .ok (.iload_n 1, 1) := dk_27 (dk_at dksX1_type_1 11 rfl rfl)
theorem dX1_type_36 : decode cX1_type 36 = .ok (.i2c, 1) := dk_146 (dk_at dksX1_type_1 12 rfl rfl)
theorem dX1_type_37 : decode cX1_type 37 = .ok (.invokevirtual 220, 3) := dk_182 0 220 (dk_at dksX1_type_1 13 rfl rfl)
theorem dX1_type_40 : decode cX1_type 40 = .ok (.pop, 1) := dk_87 (dk_at dksX1_type_1 16 rfl rfl)
theorem dX1_type_41 : decode cX1_type 41 = .ok (.aload_n 0, 1) := dk_42 (dk_at dksX1_type_1 17 rfl rfl)
theorem dX1_type_42 : decode cX1_type 42 = .ok (.getfield 26, 3) := dk_180 0 26 (dk_at dksX1_type_1 18 rfl rfl)
theorem dX1_type_45 : decode cX1_type 45 = .ok (.invokevirtual 217, 3) := dk_182 0 217 (dk_at dksX1_type_1 21 rfl rfl)
theorem dX1_type_48 : decode cX1_type 48 = .ok (.ireturn, 1) := dk_172 (dk_at dksX1_type_2 0 rfl rfl)
abbrev cX1_run : ByteArray := prog_1_method_26_code
def yX1_run : MethodName := ⟨RX1, "run", "()I"⟩
def dkwX1_run_2 : List UInt8 := [28, 185, 0, 176, 2, 0, 192, 0, 245, 182, 1, 17, 153, 0, 9, 132, 2, 1, 167, 255, 220, 28, 172]
abbrev dktX1_run_2 : List UInt8 := dkwX1_run_2 ++ []
def dkwX1_run_1 : List UInt8 := [3, 184, 0, 69, 3, 61, 28, 43, 180, 1, 14, 185, 0, 122, 1, 0, 162, 0, 29, 42, 43, 180, 1, 14]
abbrev dktX1_run_1 : List UInt8 := dkwX1_run_1 ++ dktX1_run_2
def dkwX1_run_0 : List UInt8 := [187, 0, 227, 89, 42, 180, 0, 26, 183, 0, 229, 76, 43, 182, 0, 232, 2, 160, 0, 7, 4, 167, 0, 4]
abbrev dktX1_run_0 : List UInt8 := dkwX1_run_0 ++ dktX1_run_1
theorem dksX1_run_0 : cX1_run.data.toList.drop 0 = dktX1_run_0 := by decide +kernel
theorem dksX1_run_1 : cX1_run.data.toList.drop 24 = dktX1_run_1 := dk_seg dksX1_run_0 24 rfl rfl
theorem dksX1_run_2 : cX1_run.data.toList.drop 48 = dktX1_run_2 := dk_seg dksX1_run_1 24 rfl rfl
theorem dX1_run_0 : decode cX1_run 0 = .ok (.new 227, 3) := dk_187 0 227 (dk_at dksX1_run_0 0 rfl rfl)
theorem dX1_run_3 : decode cX1_run 3 = .ok (.dup, 1) := dk_89 (dk_at dksX1_run_0 3 rfl rfl)
theorem dX1_run_4 : decode cX1_run 4 = .ok (.aload_n 0, 1) := dk_42 (dk_at dksX1_run_0 4 rfl rfl)
theorem dX1_run_5 : decode cX1_run 5 = .ok (.getfield 26, 3) := dk_180 0 26 (dk_at dksX1_run_0 5 rfl rfl)
theorem dX1_run_8 : decode cX1_run 8 = .ok (.invokespecial 229, 3) := dk_183 0 229 (dk_at dksX1_run_0 8 rfl rfl)
theorem dX1_run_11 : decode cX1_run 11 = .ok (.astore_n 1, 1) := dk_76 (dk_at dksX1_run_0 11 rfl rfl)
theorem dX1_run_12 : decode cX1_run 12 = .ok (.aload_n 1, 1) := dk_43 (dk_at dksX1_run_0 12 rfl rfl)
theorem dX1_run_13 : decode cX1_run 13 = .ok (.invokevirtual 232, 3) := dk_182 0 232 (dk_at dksX1_run_0 13 rfl rfl)
theorem dX1_run_16 : decode cX1_run 16 = .ok (.iconst (-1), 1) := dk_2 (dk_at dksX1_run_0 16 rfl rfl)
theorem dX1_run_17 : decode cX1_run 17 = .ok (.if_icmp .ne 7, 3) := dk_160 0 7 (dk_at dksX1_run_0 17 rfl rfl)
theorem dX1_run_20 : decode cX1_run 20 = .ok (.iconst 1, 1) := dk_4 (dk_at dksX1_run_0 20 rfl rfl)
theorem dX1_run_21 : decode cX1_run 21 = .ok (.goto 4, 3) := dk_167 0 4 (dk_at dksX1_run_0 21 rfl rfl)
theorem dX1_run_24 : decode cX1_run 24 = .ok (.iconst 0, 1) := dk_3 (dk_at dksX1_run_1 0 rfl rfl)
theorem dX1_run_25 : decode cX1_run 25 = .ok (.invokestatic 69, 3) := dk_184 0 69 (dk_at dksX1_run_1 1 rfl rfl)
theorem dX1_run_28 : decode cX1_run 28 = .ok (.iconst 0, 1) := dk_3 (dk_at dksX1_run_1 4 rfl rfl)
theorem dX1_run_29 : decode cX1_run 29 = .ok (.istore_n 2, 1) := dk_61 (dk_at dksX1_run_1 5 rfl rfl)
theorem dX1_run_30 : decode cX1_run 30 = .ok (.iload_n 2, 1) := dk_28 (dk_at dksX1_run_1 6 rfl rfl)
theorem dX1_run_31 : decode cX1_run 31 = .ok (.aload_n 1, 1) := dk_43 (dk_at dksX1_run_1 7 rfl rfl)
theorem dX1_run_32 : decode cX1_run 32 = .ok (.getfield 270, 3) := dk_180 1 14 (dk_at dksX1_run_1 8 rfl rfl)
theorem dX1_run_35 : decode cX1_run 35 = .ok (.invokeinterface 122 1, 5) := by decide +kernel
theorem dX1_run_40 : decode cX1_run 40 = .ok (.if_icmp .ge 29, 3) := dk_162 0 29 (dk_at dksX1_run_1 16 rfl rfl)
theorem dX1_run_43 : decode cX1_run 43 = .ok (.aload_n 0, 1) := dk_42 (dk_at dksX1_run_1 19 rfl rfl)
theorem dX1_run_44 : decode cX1_run 44 = .ok (.aload_n 1, 1) := dk_43 (dk_at dksX1_run_1 20 rfl rfl)
theorem dX1_run_45 : decode cX1_run 45 = .ok (.getfield 270, 3) := dk_180 1 14 (dk_at dksX1_run_1 21 rfl rfl)
theorem dX1_run_48 : decode cX1_run 48 = .ok (.iload_n 2, 1) := dk_28 (dk_at dksX1_run_2 0 rfl rfl)
theorem dX1_run_49 : decode cX1_run 49 = .ok (.invokeinterface 176 2, 5) := by decide +kernel
theorem dX1_run_54 : decode cX1_run 54 = .ok (.checkcast 245, 3) := dk_192 0 245 (dk_at dksX1_run_2 6 rfl rfl)
theorem dX1_run_57 : decode cX1_run 57 = .ok (.invokevirtual 273, 3) := dk_182 1 17 (dk_at dksX1_run_2 9 rfl rfl)
theorem dX1_run_60 : decode cX1_run 60 = .ok (.ifCond .eq 9, 3) := dk_153 0 9 (dk_at dksX1_run_2 12 rfl rfl)
theorem dX1_run_63 : decode cX1_run 63 = .ok (.iinc 2 1, 3) := dk_132 2 1 (dk_at dksX1_run_2 15 rfl rfl)
theorem dX1_run_66 : decode cX1_run 66 = .ok (.goto (-36), 3) := dk_167 255 220 (dk_at dksX1_run_2 18 rfl rfl)
theorem dX1_run_69 : decode cX1_run 69 = .ok (.iload_n 2, 1) := dk_28 (dk_at dksX1_run_2 21 rfl rfl)
theorem dX1_run_70 : decode cX1_run 70 = .ok (.ireturn, 1) := dk_172 (dk_at dksX1_run_2 22 rfl rfl)
abbrev cX1_does : ByteArray := prog_1_method_25_code
def yX1_does : MethodName := ⟨RX1, "does", "(LRaidhall$Order;)Z"⟩
def dkwX1_does_5 : List UInt8 := [182, 0, 253, 43, 182, 1, 7, 182, 1, 10, 2, 161, 0, 7, 4, 167, 0, 4, 3, 172, 77, 3, 172]
abbrev dktX1_does_5 : List UInt8 := dkwX1_does_5 ++ []
def dkwX1_does_4 : List UInt8 := [182, 0, 253, 182, 1, 0, 155, 0, 7, 4, 167, 0, 4, 3, 172, 42, 43, 182, 0, 244, 184, 1, 3, 43]
abbrev dktX1_does_4 : List UInt8 := dkwX1_does_4 ++ dktX1_does_5
def dkwX1_does_3 : List UInt8 := [171, 0, 0, 0, 0, 0, 0, 37, 0, 0, 0, 1, 0, 0, 0, 0, 0, 0, 0, 20, 42, 43]
abbrev dktX1_does_3 : List UInt8 := dkwX1_does_3 ++ dktX1_does_4
def dkwX1_does_2 : List UInt8 := [153, 0, 5, 3, 62, 29]
abbrev dktX1_does_2 : List UInt8 := dkwX1_does_2 ++ dktX1_does_3
def dkwX1_does_1 : List UInt8 := [171, 0, 0, 0, 28, 0, 0, 0, 1, 0, 53, 75, 138, 0, 0, 0, 17, 44, 18, 15, 182, 0, 239]
abbrev dktX1_does_1 : List UInt8 := dkwX1_does_1 ++ dktX1_does_2
def dkwX1_does_0 : List UInt8 := [43, 182, 0, 244, 77, 2, 62, 44, 182, 0, 250]
abbrev dktX1_does_0 : List UInt8 := dkwX1_does_0 ++ dktX1_does_1
theorem dksX1_does_0 : cX1_does.data.toList.drop 0 = dktX1_does_0 := by decide +kernel
theorem dksX1_does_1 : cX1_does.data.toList.drop 11 = dktX1_does_1 := dk_seg dksX1_does_0 11 rfl rfl
theorem dksX1_does_2 : cX1_does.data.toList.drop 34 = dktX1_does_2 := dk_seg dksX1_does_1 23 rfl rfl
theorem dksX1_does_3 : cX1_does.data.toList.drop 40 = dktX1_does_3 := dk_seg dksX1_does_2 6 rfl rfl
theorem dksX1_does_4 : cX1_does.data.toList.drop 62 = dktX1_does_4 := dk_seg dksX1_does_3 22 rfl rfl
theorem dksX1_does_5 : cX1_does.data.toList.drop 86 = dktX1_does_5 := dk_seg dksX1_does_4 24 rfl rfl
theorem dX1_does_0 : decode cX1_does 0 = .ok (.aload_n 1, 1) := dk_43 (dk_at dksX1_does_0 0 rfl rfl)
theorem dX1_does_1 : decode cX1_does 1 = .ok (.invokevirtual 244, 3) := dk_182 0 244 (dk_at dksX1_does_0 1 rfl rfl)
theorem dX1_does_4 : decode cX1_does 4 = .ok (.astore_n 2, 1) := dk_77 (dk_at dksX1_does_0 4 rfl rfl)
theorem dX1_does_5 : decode cX1_does 5 = .ok (.iconst (-1), 1) := dk_2 (dk_at dksX1_does_0 5 rfl rfl)
theorem dX1_does_6 : decode cX1_does 6 = .ok (.istore_n 3, 1) := dk_62 (dk_at dksX1_does_0 6 rfl rfl)
theorem dX1_does_7 : decode cX1_does 7 = .ok (.aload_n 2, 1) := dk_44 (dk_at dksX1_does_0 7 rfl rfl)
theorem dX1_does_8 : decode cX1_does 8 = .ok (.invokevirtual 250, 3) := dk_182 0 250 (dk_at dksX1_does_0 8 rfl rfl)
theorem dX1_does_11 : decode cX1_does 11 = .ok (.lookupswitch 28 #[(3492746, 17)], 17) := by decide +kernel
theorem dX1_does_28 : decode cX1_does 28 = .ok (.aload_n 2, 1) := dk_44 (dk_at dksX1_does_1 17 rfl rfl)
theorem dX1_does_29 : decode cX1_does 29 = .ok (.ldc 15, 2) := dk_18 15 (dk_at dksX1_does_1 18 rfl rfl)
theorem dX1_does_31 : decode cX1_does 31 = .ok (.invokevirtual 239, 3) := dk_182 0 239 (dk_at dksX1_does_1 20 rfl rfl)
theorem dX1_does_34 : decode cX1_does 34 = .ok (.ifCond .eq 5, 3) := dk_153 0 5 (dk_at dksX1_does_2 0 rfl rfl)
theorem dX1_does_37 : decode cX1_does 37 = .ok (.iconst 0, 1) := dk_3 (dk_at dksX1_does_2 3 rfl rfl)
theorem dX1_does_38 : decode cX1_does 38 = .ok (.istore_n 3, 1) := dk_62 (dk_at dksX1_does_2 4 rfl rfl)
theorem dX1_does_39 : decode cX1_does 39 = .ok (.iload_n 3, 1) := dk_29 (dk_at dksX1_does_2 5 rfl rfl)
theorem dX1_does_40 : decode cX1_does 40 = .ok (.lookupswitch 37 #[(0, 20)], 20) := by decide +kernel
theorem dX1_does_60 : decode cX1_does 60 = .ok (.aload_n 0, 1) := dk_42 (dk_at dksX1_does_3 20 rfl rfl)
theorem dX1_does_61 : decode cX1_does 61 = .ok (.aload_n 1, 1) := dk_43 (dk_at dksX1_does_3 21 rfl rfl)
theorem dX1_does_62 : decode cX1_does 62 = .ok (.invokevirtual 253, 3) := dk_182 0 253 (dk_at dksX1_does_4 0 rfl rfl)
theorem dX1_does_65 : decode cX1_does 65 = .ok (.invokevirtual 256, 3) := dk_182 1 0 (dk_at dksX1_does_4 3 rfl rfl)
theorem dX1_does_68 : decode cX1_does 68 = .ok (.ifCond .lt 7, 3) := dk_155 0 7 (dk_at dksX1_does_4 6 rfl rfl)
theorem dX1_does_71 : decode cX1_does 71 = .ok (.iconst 1, 1) := dk_4 (dk_at dksX1_does_4 9 rfl rfl)
theorem dX1_does_72 : decode cX1_does 72 = .ok (.goto 4, 3) := dk_167 0 4 (dk_at dksX1_does_4 10 rfl rfl)
theorem dX1_does_75 : decode cX1_does 75 = .ok (.iconst 0, 1) := dk_3 (dk_at dksX1_does_4 13 rfl rfl)
theorem dX1_does_76 : decode cX1_does 76 = .ok (.ireturn, 1) := dk_172 (dk_at dksX1_does_4 14 rfl rfl)
theorem dX1_does_77 : decode cX1_does 77 = .ok (.aload_n 0, 1) := dk_42 (dk_at dksX1_does_4 15 rfl rfl)
theorem dX1_does_78 : decode cX1_does 78 = .ok (.aload_n 1, 1) := dk_43 (dk_at dksX1_does_4 16 rfl rfl)
theorem dX1_does_79 : decode cX1_does 79 = .ok (.invokevirtual 244, 3) := dk_182 0 244 (dk_at dksX1_does_4 17 rfl rfl)
theorem dX1_does_82 : decode cX1_does 82 = .ok (.invokestatic 259, 3) := dk_184 1 3 (dk_at dksX1_does_4 20 rfl rfl)
theorem dX1_does_85 : decode cX1_does 85 = .ok (.aload_n 1, 1) := dk_43 (dk_at dksX1_does_4 23 rfl rfl)
theorem dX1_does_86 : decode cX1_does 86 = .ok (.invokevirtual 253, 3) := dk_182 0 253 (dk_at dksX1_does_5 0 rfl rfl)
theorem dX1_does_89 : decode cX1_does 89 = .ok (.aload_n 1, 1) := dk_43 (dk_at dksX1_does_5 3 rfl rfl)
theorem dX1_does_90 : decode cX1_does 90 = .ok (.invokevirtual 263, 3) := dk_182 1 7 (dk_at dksX1_does_5 4 rfl rfl)
theorem dX1_does_93 : decode cX1_does 93 = .ok (.invokevirtual 266, 3) := dk_182 1 10 (dk_at dksX1_does_5 7 rfl rfl)
theorem dX1_does_96 : decode cX1_does 96 = .ok (.iconst (-1), 1) := dk_2 (dk_at dksX1_does_5 10 rfl rfl)
theorem dX1_does_97 : decode cX1_does 97 = .ok (.if_icmp .lt 7, 3) := dk_161 0 7 (dk_at dksX1_does_5 11 rfl rfl)
theorem dX1_does_100 : decode cX1_does 100 = .ok (.iconst 1, 1) := dk_4 (dk_at dksX1_does_5 14 rfl rfl)
theorem dX1_does_101 : decode cX1_does 101 = .ok (.goto 4, 3) := dk_167 0 4 (dk_at dksX1_does_5 15 rfl rfl)
theorem dX1_does_104 : decode cX1_does 104 = .ok (.iconst 0, 1) := dk_3 (dk_at dksX1_does_5 18 rfl rfl)
theorem dX1_does_105 : decode cX1_does 105 = .ok (.ireturn, 1) := dk_172 (dk_at dksX1_does_5 19 rfl rfl)
theorem dX1_does_106 : decode cX1_does 106 = .ok (.astore_n 2, 1) := dk_77 (dk_at dksX1_does_5 20 rfl rfl)
theorem dX1_does_107 : decode cX1_does 107 = .ok (.iconst 0, 1) := dk_3 (dk_at dksX1_does_5 21 rfl rfl)
theorem dX1_does_108 : decode cX1_does 108 = .ok (.ireturn, 1) := dk_172 (dk_at dksX1_does_5 22 rfl rfl)
abbrev cX1_kindOf : ByteArray := prog_1_method_24_code
def yX1_kindOf : MethodName := ⟨RX1, "kindOf", "(Ljava/lang/String;)I"⟩
def dkwX1_kindOf_0 : List UInt8 := [3, 60, 27, 184, 0, 235, 42, 182, 0, 239, 154, 0, 9, 132, 1, 1, 167, 255, 242, 27, 172]
abbrev dktX1_kindOf_0 : List UInt8 := dkwX1_kindOf_0 ++ []
theorem dksX1_kindOf_0 : cX1_kindOf.data.toList.drop 0 = dktX1_kindOf_0 := by decide +kernel
theorem dX1_kindOf_0 : decode cX1_kindOf 0 = .ok (.iconst 0, 1) := dk_3 (dk_at dksX1_kindOf_0 0 rfl rfl)
theorem dX1_kindOf_1 : decode cX1_kindOf 1 = .ok (.istore_n 1, 1) := dk_60 (dk_at dksX1_kindOf_0 1 rfl rfl)
theorem dX1_kindOf_2 : decode cX1_kindOf 2 = .ok (.iload_n 1, 1) := dk_27 (dk_at dksX1_kindOf_0 2 rfl rfl)
theorem dX1_kindOf_3 : decode cX1_kindOf 3 = .ok (.invokestatic 235, 3) := dk_184 0 235 (dk_at dksX1_kindOf_0 3 rfl rfl)
theorem dX1_kindOf_6 : decode cX1_kindOf 6 = .ok (.aload_n 0, 1) := dk_42 (dk_at dksX1_kindOf_0 6 rfl rfl)
theorem dX1_kindOf_7 : decode cX1_kindOf 7 = .ok (.invokevirtual 239, 3) := dk_182 0 239 (dk_at dksX1_kindOf_0 7 rfl rfl)
theorem dX1_kindOf_10 : decode cX1_kindOf 10 = .ok (.ifCond .ne 9, 3) := dk_154 0 9 (dk_at dksX1_kindOf_0 10 rfl rfl)
theorem dX1_kindOf_13 : decode cX1_kindOf 13 = .ok (.iinc 1 1, 3) := dk_132 1 1 (dk_at dksX1_kindOf_0 13 rfl rfl)
theorem dX1_kindOf_16 : decode cX1_kindOf 16 = .ok (.goto (-14), 3) := dk_167 255 242 (dk_at dksX1_kindOf_0 16 rfl rfl)
theorem dX1_kindOf_19 : decode cX1_kindOf 19 = .ok (.iload_n 1, 1) := dk_27 (dk_at dksX1_kindOf_0 19 rfl rfl)
theorem dX1_kindOf_20 : decode cX1_kindOf 20 = .ok (.ireturn, 1) := dk_172 (dk_at dksX1_kindOf_0 20 rfl rfl)
abbrev cX1_player : ByteArray := prog_1_method_27_code
def yX1_player : MethodName := ⟨RX1, "player", "(II)I"⟩
def dkwX1_player_0 : List UInt8 := [27, 28, 184, 0, 160, 42, 182, 0, 206, 182, 0, 107, 180, 1, 21, 27, 50, 28, 46, 172]
abbrev dktX1_player_0 : List UInt8 := dkwX1_player_0 ++ []
theorem dksX1_player_0 : cX1_player.data.toList.drop 0 = dktX1_player_0 := by decide +kernel
theorem dX1_player_0 : decode cX1_player 0 = .ok (.iload_n 1, 1) := dk_27 (dk_at dksX1_player_0 0 rfl rfl)
theorem dX1_player_1 : decode cX1_player 1 = .ok (.iload_n 2, 1) := dk_28 (dk_at dksX1_player_0 1 rfl rfl)
theorem dX1_player_2 : decode cX1_player 2 = .ok (.invokestatic 160, 3) := dk_184 0 160 (dk_at dksX1_player_0 2 rfl rfl)
theorem dX1_player_5 : decode cX1_player 5 = .ok (.aload_n 0, 1) := dk_42 (dk_at dksX1_player_0 5 rfl rfl)
theorem dX1_player_6 : decode cX1_player 6 = .ok (.invokevirtual 206, 3) := dk_182 0 206 (dk_at dksX1_player_0 6 rfl rfl)
theorem dX1_player_9 : decode cX1_player 9 = .ok (.invokevirtual 107, 3) := dk_182 0 107 (dk_at dksX1_player_0 9 rfl rfl)
theorem dX1_player_12 : decode cX1_player 12 = .ok (.getfield 277, 3) := dk_180 1 21 (dk_at dksX1_player_0 12 rfl rfl)
theorem dX1_player_15 : decode cX1_player 15 = .ok (.iload_n 1, 1) := dk_27 (dk_at dksX1_player_0 15 rfl rfl)
theorem dX1_player_16 : decode cX1_player 16 = .ok (.aaload, 1) := dk_50 (dk_at dksX1_player_0 16 rfl rfl)
theorem dX1_player_17 : decode cX1_player 17 = .ok (.iload_n 2, 1) := dk_28 (dk_at dksX1_player_0 17 rfl rfl)
theorem dX1_player_18 : decode cX1_player 18 = .ok (.iaload, 1) := dk_46 (dk_at dksX1_player_0 18 rfl rfl)
theorem dX1_player_19 : decode cX1_player 19 = .ok (.ireturn, 1) := dk_172 (dk_at dksX1_player_0 19 rfl rfl)
abbrev cX1_out : ByteArray := prog_1_method_28_code
def yX1_out : MethodName := ⟨RX1, "out", "(II)I"⟩
def dkwX1_out_2 : List UInt8 := [162, 0, 19, 45, 28, 185, 0, 176, 2, 0, 192, 1, 28, 182, 1, 30, 167, 0, 4, 2, 172]
abbrev dktX1_out_2 : List UInt8 := dkwX1_out_2 ++ []
def dkwX1_out_1 : List UInt8 := [182, 0, 107, 180, 1, 25, 27, 185, 0, 176, 2, 0, 192, 0, 123, 78, 28, 45, 185, 0, 122, 1, 0]
abbrev dktX1_out_1 : List UInt8 := dkwX1_out_1 ++ dktX1_out_2
def dkwX1_out_0 : List UInt8 := [27, 5, 184, 0, 61, 28, 156, 0, 7, 2, 167, 0, 4, 3, 4, 184, 0, 61, 42, 182, 0, 206]
abbrev dktX1_out_0 : List UInt8 := dkwX1_out_0 ++ dktX1_out_1
theorem dksX1_out_0 : cX1_out.data.toList.drop 0 = dktX1_out_0 := by decide +kernel
theorem dksX1_out_1 : cX1_out.data.toList.drop 22 = dktX1_out_1 := dk_seg dksX1_out_0 22 rfl rfl
theorem dksX1_out_2 : cX1_out.data.toList.drop 45 = dktX1_out_2 := dk_seg dksX1_out_1 23 rfl rfl
theorem dX1_out_0 : decode cX1_out 0 = .ok (.iload_n 1, 1) := dk_27 (dk_at dksX1_out_0 0 rfl rfl)
theorem dX1_out_1 : decode cX1_out 1 = .ok (.iconst 2, 1) := dk_5 (dk_at dksX1_out_0 1 rfl rfl)
theorem dX1_out_2 : decode cX1_out 2 = .ok (.invokestatic 61, 3) := dk_184 0 61 (dk_at dksX1_out_0 2 rfl rfl)
theorem dX1_out_5 : decode cX1_out 5 = .ok (.iload_n 2, 1) := dk_28 (dk_at dksX1_out_0 5 rfl rfl)
theorem dX1_out_6 : decode cX1_out 6 = .ok (.ifCond .ge 7, 3) := dk_156 0 7 (dk_at dksX1_out_0 6 rfl rfl)
theorem dX1_out_9 : decode cX1_out 9 = .ok (.iconst (-1), 1) := dk_2 (dk_at dksX1_out_0 9 rfl rfl)
theorem dX1_out_10 : decode cX1_out 10 = .ok (.goto 4, 3) := dk_167 0 4 (dk_at dksX1_out_0 10 rfl rfl)
theorem dX1_out_13 : decode cX1_out 13 = .ok (.iconst 0, 1) := dk_3 (dk_at dksX1_out_0 13 rfl rfl)
theorem dX1_out_14 : decode cX1_out 14 = .ok (.iconst 1, 1) := dk_4 (dk_at dksX1_out_0 14 rfl rfl)
theorem dX1_out_15 : decode cX1_out 15 = .ok (.invokestatic 61, 3) := dk_184 0 61 (dk_at dksX1_out_0 15 rfl rfl)
theorem dX1_out_18 : decode cX1_out 18 = .ok (.aload_n 0, 1) := dk_42 (dk_at dksX1_out_0 18 rfl rfl)
theorem dX1_out_19 : decode cX1_out 19 = .ok (.invokevirtual 206, 3) := dk_182 0 206 (dk_at dksX1_out_0 19 rfl rfl)
theorem dX1_out_22 : decode cX1_out 22 = .ok (.invokevirtual 107, 3) := dk_182 0 107 (dk_at dksX1_out_1 0 rfl rfl)
theorem dX1_out_25 : decode cX1_out 25 = .ok (.getfield 281, 3) := dk_180 1 25 (dk_at dksX1_out_1 3 rfl rfl)
theorem dX1_out_28 : decode cX1_out 28 = .ok (.iload_n 1, 1) := dk_27 (dk_at dksX1_out_1 6 rfl rfl)
theorem dX1_out_29 : decode cX1_out 29 = .ok (.invokeinterface 176 2, 5) := by decide +kernel
theorem dX1_out_34 : decode cX1_out 34 = .ok (.checkcast 123, 3) := dk_192 0 123 (dk_at dksX1_out_1 12 rfl rfl)
theorem dX1_out_37 : decode cX1_out 37 = .ok (.astore_n 3, 1) := dk_78 (dk_at dksX1_out_1 15 rfl rfl)
theorem dX1_out_38 : decode cX1_out 38 = .ok (.iload_n 2, 1) := dk_28 (dk_at dksX1_out_1 16 rfl rfl)
theorem dX1_out_39 : decode cX1_out 39 = .ok (.aload_n 3, 1) := dk_45 (dk_at dksX1_out_1 17 rfl rfl)
theorem dX1_out_40 : decode cX1_out 40 = .ok (.invokeinterface 122 1, 5) := by decide +kernel
theorem dX1_out_45 : decode cX1_out 45 = .ok (.if_icmp .ge 19, 3) := dk_162 0 19 (dk_at dksX1_out_2 0 rfl rfl)
theorem dX1_out_48 : decode cX1_out 48 = .ok (.aload_n 3, 1) := dk_45 (dk_at dksX1_out_2 3 rfl rfl)
theorem dX1_out_49 : decode cX1_out 49 = .ok (.iload_n 2, 1) := dk_28 (dk_at dksX1_out_2 4 rfl rfl)
theorem dX1_out_50 : decode cX1_out 50 = .ok (.invokeinterface 176 2, 5) := by decide +kernel
theorem dX1_out_55 : decode cX1_out 55 = .ok (.checkcast 284, 3) := dk_192 1 28 (dk_at dksX1_out_2 10 rfl rfl)
theorem dX1_out_58 : decode cX1_out 58 = .ok (.invokevirtual 286, 3) := dk_182 1 30 (dk_at dksX1_out_2 13 rfl rfl)
theorem dX1_out_61 : decode cX1_out 61 = .ok (.goto 4, 3) := dk_167 0 4 (dk_at dksX1_out_2 16 rfl rfl)
theorem dX1_out_64 : decode cX1_out 64 = .ok (.iconst (-1), 1) := dk_2 (dk_at dksX1_out_2 19 rfl rfl)
theorem dX1_out_65 : decode cX1_out 65 = .ok (.ireturn, 1) := dk_172 (dk_at dksX1_out_2 20 rfl rfl)
abbrev cX1_next : ByteArray := prog_1_method_29_code
def yX1_next : MethodName := ⟨RX1, "next", "(I)I"⟩
def dkwX1_next_2 : List UInt8 := [182, 1, 30, 172]
abbrev dktX1_next_2 : List UInt8 := dkwX1_next_2 ++ []
def dkwX1_next_1 : List UInt8 := [77, 44, 185, 1, 33, 1, 0, 153, 0, 7, 2, 167, 0, 16, 44, 3, 185, 0, 176, 2, 0, 192, 1, 28]
abbrev dktX1_next_1 : List UInt8 := dkwX1_next_1 ++ dktX1_next_2
def dkwX1_next_0 : List UInt8 := [27, 5, 184, 0, 61, 42, 182, 0, 206, 182, 0, 107, 180, 1, 25, 27, 185, 0, 176, 2, 0, 192, 0, 123]
abbrev dktX1_next_0 : List UInt8 := dkwX1_next_0 ++ dktX1_next_1
theorem dksX1_next_0 : cX1_next.data.toList.drop 0 = dktX1_next_0 := by decide +kernel
theorem dksX1_next_1 : cX1_next.data.toList.drop 24 = dktX1_next_1 := dk_seg dksX1_next_0 24 rfl rfl
theorem dksX1_next_2 : cX1_next.data.toList.drop 48 = dktX1_next_2 := dk_seg dksX1_next_1 24 rfl rfl
theorem dX1_next_0 : decode cX1_next 0 = .ok (.iload_n 1, 1) := dk_27 (dk_at dksX1_next_0 0 rfl rfl)
theorem dX1_next_1 : decode cX1_next 1 = .ok (.iconst 2, 1) := dk_5 (dk_at dksX1_next_0 1 rfl rfl)
theorem dX1_next_2 : decode cX1_next 2 = .ok (.invokestatic 61, 3) := dk_184 0 61 (dk_at dksX1_next_0 2 rfl rfl)
theorem dX1_next_5 : decode cX1_next 5 = .ok (.aload_n 0, 1) := dk_42 (dk_at dksX1_next_0 5 rfl rfl)
theorem dX1_next_6 : decode cX1_next 6 = .ok (.invokevirtual 206, 3) := dk_182 0 206 (dk_at dksX1_next_0 6 rfl rfl)
theorem dX1_next_9 : decode cX1_next 9 = .ok (.invokevirtual 107, 3) := dk_182 0 107 (dk_at dksX1_next_0 9 rfl rfl)
theorem dX1_next_12 : decode cX1_next 12 = .ok (.getfield 281, 3) := dk_180 1 25 (dk_at dksX1_next_0 12 rfl rfl)
theorem dX1_next_15 : decode cX1_next 15 = .ok (.iload_n 1, 1) := dk_27 (dk_at dksX1_next_0 15 rfl rfl)
theorem dX1_next_16 : decode cX1_next 16 = .ok (.invokeinterface 176 2, 5) := by decide +kernel
theorem dX1_next_21 : decode cX1_next 21 = .ok (.checkcast 123, 3) := dk_192 0 123 (dk_at dksX1_next_0 21 rfl rfl)
theorem dX1_next_24 : decode cX1_next 24 = .ok (.astore_n 2, 1) := dk_77 (dk_at dksX1_next_1 0 rfl rfl)
theorem dX1_next_25 : decode cX1_next 25 = .ok (.aload_n 2, 1) := dk_44 (dk_at dksX1_next_1 1 rfl rfl)
theorem dX1_next_26 : decode cX1_next 26 = .ok (.invokeinterface 289 1, 5) := by decide +kernel
theorem dX1_next_31 : decode cX1_next 31 = .ok (.ifCond .eq 7, 3) := dk_153 0 7 (dk_at dksX1_next_1 7 rfl rfl)
theorem dX1_next_34 : decode cX1_next 34 = .ok (.iconst (-1), 1) := dk_2 (dk_at dksX1_next_1 10 rfl rfl)
theorem dX1_next_35 : decode cX1_next 35 = .ok (.goto 16, 3) := dk_167 0 16 (dk_at dksX1_next_1 11 rfl rfl)
theorem dX1_next_38 : decode cX1_next 38 = .ok (.aload_n 2, 1) := dk_44 (dk_at dksX1_next_1 14 rfl rfl)
theorem dX1_next_39 : decode cX1_next 39 = .ok (.iconst 0, 1) := dk_3 (dk_at dksX1_next_1 15 rfl rfl)
theorem dX1_next_40 : decode cX1_next 40 = .ok (.invokeinterface 176 2, 5) := by decide +kernel
theorem dX1_next_45 : decode cX1_next 45 = .ok (.checkcast 284, 3) := dk_192 1 28 (dk_at dksX1_next_1 21 rfl rfl)
theorem dX1_next_48 : decode cX1_next 48 = .ok (.invokevirtual 286, 3) := dk_182 1 30 (dk_at dksX1_next_2 0 rfl rfl)
theorem dX1_next_51 : decode cX1_next 51 = .ok (.ireturn, 1) := dk_172 (dk_at dksX1_next_2 3 rfl rfl)
abbrev cX1_points : ByteArray := prog_1_method_30_code
def yX1_points : MethodName := ⟨RX1, "points", "(I)I"⟩
def dkwX1_points_0 : List UInt8 := [27, 5, 184, 0, 61, 42, 182, 0, 206, 182, 0, 107, 180, 0, 151, 27, 46, 172]
abbrev dktX1_points_0 : List UInt8 := dkwX1_points_0 ++ []
theorem dksX1_points_0 : cX1_points.data.toList.drop 0 = dktX1_points_0 := by decide +kernel
theorem dX1_points_0 : decode cX1_points 0 = .ok (.iload_n 1, 1) := dk_27 (dk_at dksX1_points_0 0 rfl rfl)
theorem dX1_points_1 : decode cX1_points 1 = .ok (.iconst 2, 1) := dk_5 (dk_at dksX1_points_0 1 rfl rfl)
theorem dX1_points_2 : decode cX1_points 2 = .ok (.invokestatic 61, 3) := dk_184 0 61 (dk_at dksX1_points_0 2 rfl rfl)
theorem dX1_points_5 : decode cX1_points 5 = .ok (.aload_n 0, 1) := dk_42 (dk_at dksX1_points_0 5 rfl rfl)
theorem dX1_points_6 : decode cX1_points 6 = .ok (.invokevirtual 206, 3) := dk_182 0 206 (dk_at dksX1_points_0 6 rfl rfl)
theorem dX1_points_9 : decode cX1_points 9 = .ok (.invokevirtual 107, 3) := dk_182 0 107 (dk_at dksX1_points_0 9 rfl rfl)
theorem dX1_points_12 : decode cX1_points 12 = .ok (.getfield 151, 3) := dk_180 0 151 (dk_at dksX1_points_0 12 rfl rfl)
theorem dX1_points_15 : decode cX1_points 15 = .ok (.iload_n 1, 1) := dk_27 (dk_at dksX1_points_0 15 rfl rfl)
theorem dX1_points_16 : decode cX1_points 16 = .ok (.iaload, 1) := dk_46 (dk_at dksX1_points_0 16 rfl rfl)
theorem dX1_points_17 : decode cX1_points 17 = .ok (.ireturn, 1) := dk_172 (dk_at dksX1_points_0 17 rfl rfl)
abbrev cX1_match : ByteArray := prog_1_method_31_code
def yX1_match : MethodName := ⟨RX1, "match", "(I)I"⟩
def dkwX1_match_5 : List UInt8 := [16, 6, 100, 46, 172]
abbrev dktX1_match_5 : List UInt8 := dkwX1_match_5 ++ []
def dkwX1_match_4 : List UInt8 := [167, 0, 4, 3, 172, 44, 182, 0, 209, 153, 0, 7, 4, 167, 0, 4, 3, 172, 44, 180, 0, 212, 27]
abbrev dktX1_match_4 : List UInt8 := dkwX1_match_4 ++ dktX1_match_5
def dkwX1_match_3 : List UInt8 := [180, 0, 73, 199, 0, 7, 3, 167, 0, 4, 4, 172, 44, 182, 0, 107, 182, 1, 38, 153, 0, 7, 4]
abbrev dktX1_match_3 : List UInt8 := dkwX1_match_3 ++ dktX1_match_4
def dkwX1_match_2 : List UInt8 := [44, 182, 0, 107, 180, 1, 36, 172, 44, 182, 0, 107, 180, 0, 157, 172, 44, 182, 0, 103, 172, 44]
abbrev dktX1_match_2 : List UInt8 := dkwX1_match_2 ++ dktX1_match_3
def dkwX1_match_1 : List UInt8 := [170, 0, 0, 0, 0, 0, 0, 103, 0, 0, 0, 0, 0, 0, 0, 5, 0, 0, 0, 40, 0, 0, 0, 48, 0, 0, 0, 56, 0, 0, 0, 61, 0, 0, 0, 74, 0, 0, 0, 90]
abbrev dktX1_match_1 : List UInt8 := dkwX1_match_1 ++ dktX1_match_2
def dkwX1_match_0 : List UInt8 := [27, 3, 16, 7, 184, 0, 78, 184, 0, 82, 42, 182, 0, 206, 77, 27]
abbrev dktX1_match_0 : List UInt8 := dkwX1_match_0 ++ dktX1_match_1
theorem dksX1_match_0 : cX1_match.data.toList.drop 0 = dktX1_match_0 := by decide +kernel
theorem dksX1_match_1 : cX1_match.data.toList.drop 16 = dktX1_match_1 := dk_seg dksX1_match_0 16 rfl rfl
theorem dksX1_match_2 : cX1_match.data.toList.drop 56 = dktX1_match_2 := dk_seg dksX1_match_1 40 rfl rfl
theorem dksX1_match_3 : cX1_match.data.toList.drop 78 = dktX1_match_3 := dk_seg dksX1_match_2 22 rfl rfl
theorem dksX1_match_4 : cX1_match.data.toList.drop 101 = dktX1_match_4 := dk_seg dksX1_match_3 23 rfl rfl
theorem dksX1_match_5 : cX1_match.data.toList.drop 124 = dktX1_match_5 := dk_seg dksX1_match_4 23 rfl rfl
theorem dX1_match_0 : decode cX1_match 0 = .ok (.iload_n 1, 1) := dk_27 (dk_at dksX1_match_0 0 rfl rfl)
theorem dX1_match_1 : decode cX1_match 1 = .ok (.iconst 0, 1) := dk_3 (dk_at dksX1_match_0 1 rfl rfl)
theorem dX1_match_2 : decode cX1_match 2 = .ok (.bipush 7, 2) := dk_16 7 (dk_at dksX1_match_0 2 rfl rfl)
theorem dX1_match_4 : decode cX1_match 4 = .ok (.invokestatic 78, 3) := dk_184 0 78 (dk_at dksX1_match_0 4 rfl rfl)
theorem dX1_match_7 : decode cX1_match 7 = .ok (.invokestatic 82, 3) := dk_184 0 82 (dk_at dksX1_match_0 7 rfl rfl)
theorem dX1_match_10 : decode cX1_match 10 = .ok (.aload_n 0, 1) := dk_42 (dk_at dksX1_match_0 10 rfl rfl)
theorem dX1_match_11 : decode cX1_match 11 = .ok (.invokevirtual 206, 3) := dk_182 0 206 (dk_at dksX1_match_0 11 rfl rfl)
theorem dX1_match_14 : decode cX1_match 14 = .ok (.astore_n 2, 1) := dk_77 (dk_at dksX1_match_0 14 rfl rfl)
theorem dX1_match_15 : decode cX1_match 15 = .ok (.iload_n 1, 1) := dk_27 (dk_at dksX1_match_0 15 rfl rfl)
theorem dX1_match_16 : decode cX1_match 16 = .ok (.tableswitch 103 0 5 #[40, 48, 56, 61, 74, 90], 40) := by decide +kernel
theorem dX1_match_56 : decode cX1_match 56 = .ok (.aload_n 2, 1) := dk_44 (dk_at dksX1_match_2 0 rfl rfl)
theorem dX1_match_57 : decode cX1_match 57 = .ok (.invokevirtual 107, 3) := dk_182 0 107 (dk_at dksX1_match_2 1 rfl rfl)
theorem dX1_match_60 : decode cX1_match 60 = .ok (.getfield 292, 3) := dk_180 1 36 (dk_at dksX1_match_2 4 rfl rfl)
theorem dX1_match_63 : decode cX1_match 63 = .ok (.ireturn, 1) := dk_172 (dk_at dksX1_match_2 7 rfl rfl)
theorem dX1_match_64 : decode cX1_match 64 = .ok (.aload_n 2, 1) := dk_44 (dk_at dksX1_match_2 8 rfl rfl)
theorem dX1_match_65 : decode cX1_match 65 = .ok (.invokevirtual 107, 3) := dk_182 0 107 (dk_at dksX1_match_2 9 rfl rfl)
theorem dX1_match_68 : decode cX1_match 68 = .ok (.getfield 157, 3) := dk_180 0 157 (dk_at dksX1_match_2 12 rfl rfl)
theorem dX1_match_71 : decode cX1_match 71 = .ok (.ireturn, 1) := dk_172 (dk_at dksX1_match_2 15 rfl rfl)
theorem dX1_match_72 : decode cX1_match 72 = .ok (.aload_n 2, 1) := dk_44 (dk_at dksX1_match_2 16 rfl rfl)
theorem dX1_match_73 : decode cX1_match 73 = .ok (.invokevirtual 103, 3) := dk_182 0 103 (dk_at dksX1_match_2 17 rfl rfl)
theorem dX1_match_76 : decode cX1_match 76 = .ok (.ireturn, 1) := dk_172 (dk_at dksX1_match_2 20 rfl rfl)
theorem dX1_match_77 : decode cX1_match 77 = .ok (.aload_n 2, 1) := dk_44 (dk_at dksX1_match_2 21 rfl rfl)
theorem dX1_match_78 : decode cX1_match 78 = .ok (.getfield 73, 3) := dk_180 0 73 (dk_at dksX1_match_3 0 rfl rfl)
theorem dX1_match_81 : decode cX1_match 81 = .ok (.ifnonnull 7, 3) := dk_199 0 7 (dk_at dksX1_match_3 3 rfl rfl)
theorem dX1_match_84 : decode cX1_match 84 = .ok (.iconst 0, 1) := dk_3 (dk_at dksX1_match_3 6 rfl rfl)
theorem dX1_match_85 : decode cX1_match 85 = .ok (.goto 4, 3) := dk_167 0 4 (dk_at dksX1_match_3 7 rfl rfl)
theorem dX1_match_88 : decode cX1_match 88 = .ok (.iconst 1, 1) := dk_4 (dk_at dksX1_match_3 10 rfl rfl)
theorem dX1_match_89 : decode cX1_match 89 = .ok (.ireturn, 1) := dk_172 (dk_at dksX1_match_3 11 rfl rfl)
theorem dX1_match_90 : decode cX1_match 90 = .ok (.aload_n 2, 1) := dk_44 (dk_at dksX1_match_3 12 rfl rfl)
theorem dX1_match_91 : decode cX1_match 91 = .ok (.invokevirtual 107, 3) := dk_182 0 107 (dk_at dksX1_match_3 13 rfl rfl)
theorem dX1_match_94 : decode cX1_match 94 = .ok (.invokevirtual 294, 3) := dk_182 1 38 (dk_at dksX1_match_3 16 rfl rfl)
theorem dX1_match_97 : decode cX1_match 97 = .ok (.ifCond .eq 7, 3) := dk_153 0 7 (dk_at dksX1_match_3 19 rfl rfl)
theorem dX1_match_100 : decode cX1_match 100 = .ok (.iconst 1, 1) := dk_4 (dk_at dksX1_match_3 22 rfl rfl)
theorem dX1_match_101 : decode cX1_match 101 = .ok (.goto 4, 3) := dk_167 0 4 (dk_at dksX1_match_4 0 rfl rfl)
theorem dX1_match_104 : decode cX1_match 104 = .ok (.iconst 0, 1) := dk_3 (dk_at dksX1_match_4 3 rfl rfl)
theorem dX1_match_105 : decode cX1_match 105 = .ok (.ireturn, 1) := dk_172 (dk_at dksX1_match_4 4 rfl rfl)
theorem dX1_match_106 : decode cX1_match 106 = .ok (.aload_n 2, 1) := dk_44 (dk_at dksX1_match_4 5 rfl rfl)
theorem dX1_match_107 : decode cX1_match 107 = .ok (.invokevirtual 209, 3) := dk_182 0 209 (dk_at dksX1_match_4 6 rfl rfl)
theorem dX1_match_110 : decode cX1_match 110 = .ok (.ifCond .eq 7, 3) := dk_153 0 7 (dk_at dksX1_match_4 9 rfl rfl)
theorem dX1_match_113 : decode cX1_match 113 = .ok (.iconst 1, 1) := dk_4 (dk_at dksX1_match_4 12 rfl rfl)
theorem dX1_match_114 : decode cX1_match 114 = .ok (.goto 4, 3) := dk_167 0 4 (dk_at dksX1_match_4 13 rfl rfl)
theorem dX1_match_117 : decode cX1_match 117 = .ok (.iconst 0, 1) := dk_3 (dk_at dksX1_match_4 16 rfl rfl)
theorem dX1_match_118 : decode cX1_match 118 = .ok (.ireturn, 1) := dk_172 (dk_at dksX1_match_4 17 rfl rfl)
theorem dX1_match_119 : decode cX1_match 119 = .ok (.aload_n 2, 1) := dk_44 (dk_at dksX1_match_4 18 rfl rfl)
theorem dX1_match_120 : decode cX1_match 120 = .ok (.getfield 212, 3) := dk_180 0 212 (dk_at dksX1_match_4 19 rfl rfl)
theorem dX1_match_123 : decode cX1_match 123 = .ok (.iload_n 1, 1) := dk_27 (dk_at dksX1_match_4 22 rfl rfl)
theorem dX1_match_124 : decode cX1_match 124 = .ok (.bipush 6, 2) := dk_16 6 (dk_at dksX1_match_5 0 rfl rfl)
theorem dX1_match_126 : decode cX1_match 126 = .ok (.isub, 1) := dk_100 (dk_at dksX1_match_5 2 rfl rfl)
theorem dX1_match_127 : decode cX1_match 127 = .ok (.iaload, 1) := dk_46 (dk_at dksX1_match_5 3 rfl rfl)
theorem dX1_match_128 : decode cX1_match 128 = .ok (.ireturn, 1) := dk_172 (dk_at dksX1_match_5 4 rfl rfl)
abbrev cX1_hasReview : ByteArray := prog_1_method_32_code
def yX1_hasReview : MethodName := ⟨RX1, "hasReview", "(I)Z"⟩
def dkwX1_hasReview_0 : List UInt8 := [27, 5, 184, 0, 61, 42, 182, 0, 206, 180, 0, 184, 27, 51, 172]
abbrev dktX1_hasReview_0 : List UInt8 := dkwX1_hasReview_0 ++ []
theorem dksX1_hasReview_0 : cX1_hasReview.data.toList.drop 0 = dktX1_hasReview_0 := by decide +kernel
theorem dX1_hasReview_0 : decode cX1_hasReview 0 = .ok (.iload_n 1, 1) := dk_27 (dk_at dksX1_hasReview_0 0 rfl rfl)
theorem dX1_hasReview_1 : decode cX1_hasReview 1 = .ok (.iconst 2, 1) := dk_5 (dk_at dksX1_hasReview_0 1 rfl rfl)
theorem dX1_hasReview_2 : decode cX1_hasReview 2 = .ok (.invokestatic 61, 3) := dk_184 0 61 (dk_at dksX1_hasReview_0 2 rfl rfl)
theorem dX1_hasReview_5 : decode cX1_hasReview 5 = .ok (.aload_n 0, 1) := dk_42 (dk_at dksX1_hasReview_0 5 rfl rfl)
theorem dX1_hasReview_6 : decode cX1_hasReview 6 = .ok (.invokevirtual 206, 3) := dk_182 0 206 (dk_at dksX1_hasReview_0 6 rfl rfl)
theorem dX1_hasReview_9 : decode cX1_hasReview 9 = .ok (.getfield 184, 3) := dk_180 0 184 (dk_at dksX1_hasReview_0 9 rfl rfl)
theorem dX1_hasReview_12 : decode cX1_hasReview 12 = .ok (.iload_n 1, 1) := dk_27 (dk_at dksX1_hasReview_0 12 rfl rfl)
theorem dX1_hasReview_13 : decode cX1_hasReview 13 = .ok (.baload, 1) := dk_51 (dk_at dksX1_hasReview_0 13 rfl rfl)
theorem dX1_hasReview_14 : decode cX1_hasReview 14 = .ok (.ireturn, 1) := dk_172 (dk_at dksX1_hasReview_0 14 rfl rfl)
abbrev cX1_matAfter : ByteArray := prog_1_method_34_code
def yX1_matAfter : MethodName := ⟨RX1, "matAfter", "(II)I"⟩
def dkwX1_matAfter_1 : List UInt8 := [28, 182, 1, 44, 172]
abbrev dktX1_matAfter_1 : List UInt8 := dkwX1_matAfter_1 ++ []
def dkwX1_matAfter_0 : List UInt8 := [42, 27, 28, 182, 1, 41, 42, 180, 0, 65, 180, 0, 200, 27, 4, 96, 185, 0, 176, 2, 0, 192, 0, 152]
abbrev dktX1_matAfter_0 : List UInt8 := dkwX1_matAfter_0 ++ dktX1_matAfter_1
theorem dksX1_matAfter_0 : cX1_matAfter.data.toList.drop 0 = dktX1_matAfter_0 := by decide +kernel
theorem dksX1_matAfter_1 : cX1_matAfter.data.toList.drop 24 = dktX1_matAfter_1 := dk_seg dksX1_matAfter_0 24 rfl rfl
theorem dX1_matAfter_0 : decode cX1_matAfter 0 = .ok (.aload_n 0, 1) := dk_42 (dk_at dksX1_matAfter_0 0 rfl rfl)
theorem dX1_matAfter_1 : decode cX1_matAfter 1 = .ok (.iload_n 1, 1) := dk_27 (dk_at dksX1_matAfter_0 1 rfl rfl)
theorem dX1_matAfter_2 : decode cX1_matAfter 2 = .ok (.iload_n 2, 1) := dk_28 (dk_at dksX1_matAfter_0 2 rfl rfl)
theorem dX1_matAfter_3 : decode cX1_matAfter 3 = .ok (.invokevirtual 297, 3) := dk_182 1 41 (dk_at dksX1_matAfter_0 3 rfl rfl)
theorem dX1_matAfter_6 : decode cX1_matAfter 6 = .ok (.aload_n 0, 1) := dk_42 (dk_at dksX1_matAfter_0 6 rfl rfl)
theorem dX1_matAfter_7 : decode cX1_matAfter 7 = .ok (.getfield 65, 3) := dk_180 0 65 (dk_at dksX1_matAfter_0 7 rfl rfl)
theorem dX1_matAfter_10 : decode cX1_matAfter 10 = .ok (.getfield 200, 3) := dk_180 0 200 (dk_at dksX1_matAfter_0 10 rfl rfl)
theorem dX1_matAfter_13 : decode cX1_matAfter 13 = .ok (.iload_n 1, 1) := dk_27 (dk_at dksX1_matAfter_0 13 rfl rfl)
theorem dX1_matAfter_14 : decode cX1_matAfter 14 = .ok (.iconst 1, 1) := dk_4 (dk_at dksX1_matAfter_0 14 rfl rfl)
theorem dX1_matAfter_15 : decode cX1_matAfter 15 = .ok (.iadd, 1) := dk_96 (dk_at dksX1_matAfter_0 15 rfl rfl)
theorem dX1_matAfter_16 : decode cX1_matAfter 16 = .ok (.invokeinterface 176 2, 5) := by decide +kernel
theorem dX1_matAfter_21 : decode cX1_matAfter 21 = .ok (.checkcast 152, 3) := dk_192 0 152 (dk_at dksX1_matAfter_0 21 rfl rfl)
theorem dX1_matAfter_24 : decode cX1_matAfter 24 = .ok (.iload_n 2, 1) := dk_28 (dk_at dksX1_matAfter_1 0 rfl rfl)
theorem dX1_matAfter_25 : decode cX1_matAfter 25 = .ok (.invokevirtual 300, 3) := dk_182 1 44 (dk_at dksX1_matAfter_1 1 rfl rfl)
theorem dX1_matAfter_28 : decode cX1_matAfter 28 = .ok (.ireturn, 1) := dk_172 (dk_at dksX1_matAfter_1 4 rfl rfl)
abbrev cX1_checkEvent : ByteArray := prog_1_method_33_code
def yX1_checkEvent : MethodName := ⟨RX1, "checkEvent", "(II)V"⟩
def dkwX1_checkEvent_1 : List UInt8 := [184, 0, 61, 28, 5, 184, 0, 61, 177]
abbrev dktX1_checkEvent_1 : List UInt8 := dkwX1_checkEvent_1 ++ []
def dkwX1_checkEvent_0 : List UInt8 := [27, 42, 180, 0, 65, 199, 0, 7, 3, 167, 0, 15, 42, 180, 0, 65, 180, 0, 118, 185, 0, 122, 1, 0]
abbrev dktX1_checkEvent_0 : List UInt8 := dkwX1_checkEvent_0 ++ dktX1_checkEvent_1
theorem dksX1_checkEvent_0 : cX1_checkEvent.data.toList.drop 0 = dktX1_checkEvent_0 := by decide +kernel
theorem dksX1_checkEvent_1 : cX1_checkEvent.data.toList.drop 24 = dktX1_checkEvent_1 := dk_seg dksX1_checkEvent_0 24 rfl rfl
theorem dX1_checkEvent_0 : decode cX1_checkEvent 0 = .ok (.iload_n 1, 1) := dk_27 (dk_at dksX1_checkEvent_0 0 rfl rfl)
theorem dX1_checkEvent_1 : decode cX1_checkEvent 1 = .ok (.aload_n 0, 1) := dk_42 (dk_at dksX1_checkEvent_0 1 rfl rfl)
theorem dX1_checkEvent_2 : decode cX1_checkEvent 2 = .ok (.getfield 65, 3) := dk_180 0 65 (dk_at dksX1_checkEvent_0 2 rfl rfl)
theorem dX1_checkEvent_5 : decode cX1_checkEvent 5 = .ok (.ifnonnull 7, 3) := dk_199 0 7 (dk_at dksX1_checkEvent_0 5 rfl rfl)
theorem dX1_checkEvent_8 : decode cX1_checkEvent 8 = .ok (.iconst 0, 1) := dk_3 (dk_at dksX1_checkEvent_0 8 rfl rfl)
theorem dX1_checkEvent_9 : decode cX1_checkEvent 9 = .ok (.goto 15, 3) := dk_167 0 15 (dk_at dksX1_checkEvent_0 9 rfl rfl)
theorem dX1_checkEvent_12 : decode cX1_checkEvent 12 = .ok (.aload_n 0, 1) := dk_42 (dk_at dksX1_checkEvent_0 12 rfl rfl)
theorem dX1_checkEvent_13 : decode cX1_checkEvent 13 = .ok (.getfield 65, 3) := dk_180 0 65 (dk_at dksX1_checkEvent_0 13 rfl rfl)
theorem dX1_checkEvent_16 : decode cX1_checkEvent 16 = .ok (.getfield 118, 3) := dk_180 0 118 (dk_at dksX1_checkEvent_0 16 rfl rfl)
theorem dX1_checkEvent_19 : decode cX1_checkEvent 19 = .ok (.invokeinterface 122 1, 5) := by decide +kernel
theorem dX1_checkEvent_24 : decode cX1_checkEvent 24 = .ok (.invokestatic 61, 3) := dk_184 0 61 (dk_at dksX1_checkEvent_1 0 rfl rfl)
theorem dX1_checkEvent_27 : decode cX1_checkEvent 27 = .ok (.iload_n 2, 1) := dk_28 (dk_at dksX1_checkEvent_1 3 rfl rfl)
theorem dX1_checkEvent_28 : decode cX1_checkEvent 28 = .ok (.iconst 2, 1) := dk_5 (dk_at dksX1_checkEvent_1 4 rfl rfl)
theorem dX1_checkEvent_29 : decode cX1_checkEvent 29 = .ok (.invokestatic 61, 3) := dk_184 0 61 (dk_at dksX1_checkEvent_1 5 rfl rfl)
theorem dX1_checkEvent_32 : decode cX1_checkEvent 32 = .ok (.return_, 1) := dk_177 (dk_at dksX1_checkEvent_1 8 rfl rfl)
abbrev cX1_matAnew : ByteArray := prog_1_method_35_code
def yX1_matAnew : MethodName := ⟨RX1, "matAnew", "(II)I"⟩
def dkwX1_matAnew_2 : List UInt8 := [132, 4, 1, 167, 255, 224, 45, 28, 182, 1, 44, 172]
abbrev dktX1_matAnew_2 : List UInt8 := dkwX1_matAnew_2 ++ []
def dkwX1_matAnew_1 : List UInt8 := [180, 0, 65, 180, 0, 118, 21, 4, 185, 0, 176, 2, 0, 192, 1, 48, 45, 185, 1, 50, 2, 0]
abbrev dktX1_matAnew_1 : List UInt8 := dkwX1_matAnew_1 ++ dktX1_matAnew_2
def dkwX1_matAnew_0 : List UInt8 := [42, 27, 28, 182, 1, 41, 187, 0, 152, 89, 183, 1, 47, 78, 3, 54, 4, 21, 4, 27, 163, 0, 32, 42]
abbrev dktX1_matAnew_0 : List UInt8 := dkwX1_matAnew_0 ++ dktX1_matAnew_1
theorem dksX1_matAnew_0 : cX1_matAnew.data.toList.drop 0 = dktX1_matAnew_0 := by decide +kernel
theorem dksX1_matAnew_1 : cX1_matAnew.data.toList.drop 24 = dktX1_matAnew_1 := dk_seg dksX1_matAnew_0 24 rfl rfl
theorem dksX1_matAnew_2 : cX1_matAnew.data.toList.drop 46 = dktX1_matAnew_2 := dk_seg dksX1_matAnew_1 22 rfl rfl
theorem dX1_matAnew_0 : decode cX1_matAnew 0 = .ok (.aload_n 0, 1) := dk_42 (dk_at dksX1_matAnew_0 0 rfl rfl)
theorem dX1_matAnew_1 : decode cX1_matAnew 1 = .ok (.iload_n 1, 1) := dk_27 (dk_at dksX1_matAnew_0 1 rfl rfl)
theorem dX1_matAnew_2 : decode cX1_matAnew 2 = .ok (.iload_n 2, 1) := dk_28 (dk_at dksX1_matAnew_0 2 rfl rfl)
theorem dX1_matAnew_3 : decode cX1_matAnew 3 = .ok (.invokevirtual 297, 3) := dk_182 1 41 (dk_at dksX1_matAnew_0 3 rfl rfl)
theorem dX1_matAnew_6 : decode cX1_matAnew 6 = .ok (.new 152, 3) := dk_187 0 152 (dk_at dksX1_matAnew_0 6 rfl rfl)
theorem dX1_matAnew_9 : decode cX1_matAnew 9 = .ok (.dup, 1) := dk_89 (dk_at dksX1_matAnew_0 9 rfl rfl)
theorem dX1_matAnew_10 : decode cX1_matAnew 10 = .ok (.invokespecial 303, 3) := dk_183 1 47 (dk_at dksX1_matAnew_0 10 rfl rfl)
theorem dX1_matAnew_13 : decode cX1_matAnew 13 = .ok (.astore_n 3, 1) := dk_78 (dk_at dksX1_matAnew_0 13 rfl rfl)
theorem dX1_matAnew_14 : decode cX1_matAnew 14 = .ok (.iconst 0, 1) := dk_3 (dk_at dksX1_matAnew_0 14 rfl rfl)
theorem dX1_matAnew_15 : decode cX1_matAnew 15 = .ok (.istore 4, 2) := dk_54 4 (dk_at dksX1_matAnew_0 15 rfl rfl)
theorem dX1_matAnew_17 : decode cX1_matAnew 17 = .ok (.iload 4, 2) := dk_21 4 (dk_at dksX1_matAnew_0 17 rfl rfl)
theorem dX1_matAnew_19 : decode cX1_matAnew 19 = .ok (.iload_n 1, 1) := dk_27 (dk_at dksX1_matAnew_0 19 rfl rfl)
theorem dX1_matAnew_20 : decode cX1_matAnew 20 = .ok (.if_icmp .gt 32, 3) := dk_163 0 32 (dk_at dksX1_matAnew_0 20 rfl rfl)
theorem dX1_matAnew_23 : decode cX1_matAnew 23 = .ok (.aload_n 0, 1) := dk_42 (dk_at dksX1_matAnew_0 23 rfl rfl)
theorem dX1_matAnew_24 : decode cX1_matAnew 24 = .ok (.getfield 65, 3) := dk_180 0 65 (dk_at dksX1_matAnew_1 0 rfl rfl)
theorem dX1_matAnew_27 : decode cX1_matAnew 27 = .ok (.getfield 118, 3) := dk_180 0 118 (dk_at dksX1_matAnew_1 3 rfl rfl)
theorem dX1_matAnew_30 : decode cX1_matAnew 30 = .ok (.iload 4, 2) := dk_21 4 (dk_at dksX1_matAnew_1 6 rfl rfl)
theorem dX1_matAnew_32 : decode cX1_matAnew 32 = .ok (.invokeinterface 176 2, 5) := by decide +kernel
theorem dX1_matAnew_37 : decode cX1_matAnew 37 = .ok (.checkcast 304, 3) := dk_192 1 48 (dk_at dksX1_matAnew_1 13 rfl rfl)
theorem dX1_matAnew_40 : decode cX1_matAnew 40 = .ok (.aload_n 3, 1) := dk_45 (dk_at dksX1_matAnew_1 16 rfl rfl)
theorem dX1_matAnew_41 : decode cX1_matAnew 41 = .ok (.invokeinterface 306 2, 5) := by decide +kernel
theorem dX1_matAnew_46 : decode cX1_matAnew 46 = .ok (.iinc 4 1, 3) := dk_132 4 1 (dk_at dksX1_matAnew_2 0 rfl rfl)
theorem dX1_matAnew_49 : decode cX1_matAnew 49 = .ok (.goto (-32), 3) := dk_167 255 224 (dk_at dksX1_matAnew_2 3 rfl rfl)
theorem dX1_matAnew_52 : decode cX1_matAnew 52 = .ok (.aload_n 3, 1) := dk_45 (dk_at dksX1_matAnew_2 6 rfl rfl)
theorem dX1_matAnew_53 : decode cX1_matAnew 53 = .ok (.iload_n 2, 1) := dk_28 (dk_at dksX1_matAnew_2 7 rfl rfl)
theorem dX1_matAnew_54 : decode cX1_matAnew 54 = .ok (.invokevirtual 300, 3) := dk_182 1 44 (dk_at dksX1_matAnew_2 8 rfl rfl)
theorem dX1_matAnew_57 : decode cX1_matAnew 57 = .ok (.ireturn, 1) := dk_172 (dk_at dksX1_matAnew_2 11 rfl rfl)
abbrev cX1_pointsAfter : ByteArray := prog_1_method_36_code
def yX1_pointsAfter : MethodName := ⟨RX1, "pointsAfter", "(II)I"⟩
def dkwX1_pointsAfter_1 : List UInt8 := [180, 0, 151, 28, 46, 172]
abbrev dktX1_pointsAfter_1 : List UInt8 := dkwX1_pointsAfter_1 ++ []
def dkwX1_pointsAfter_0 : List UInt8 := [42, 27, 28, 182, 1, 41, 42, 180, 0, 65, 180, 0, 200, 27, 4, 96, 185, 0, 176, 2, 0, 192, 0, 152]
abbrev dktX1_pointsAfter_0 : List UInt8 := dkwX1_pointsAfter_0 ++ dktX1_pointsAfter_1
theorem dksX1_pointsAfter_0 : cX1_pointsAfter.data.toList.drop 0 = dktX1_pointsAfter_0 := by decide +kernel
theorem dksX1_pointsAfter_1 : cX1_pointsAfter.data.toList.drop 24 = dktX1_pointsAfter_1 := dk_seg dksX1_pointsAfter_0 24 rfl rfl
theorem dX1_pointsAfter_0 : decode cX1_pointsAfter 0 = .ok (.aload_n 0, 1) := dk_42 (dk_at dksX1_pointsAfter_0 0 rfl rfl)
theorem dX1_pointsAfter_1 : decode cX1_pointsAfter 1 = .ok (.iload_n 1, 1) := dk_27 (dk_at dksX1_pointsAfter_0 1 rfl rfl)
theorem dX1_pointsAfter_2 : decode cX1_pointsAfter 2 = .ok (.iload_n 2, 1) := dk_28 (dk_at dksX1_pointsAfter_0 2 rfl rfl)
theorem dX1_pointsAfter_3 : decode cX1_pointsAfter 3 = .ok (.invokevirtual 297, 3) := dk_182 1 41 (dk_at dksX1_pointsAfter_0 3 rfl rfl)
theorem dX1_pointsAfter_6 : decode cX1_pointsAfter 6 = .ok (.aload_n 0, 1) := dk_42 (dk_at dksX1_pointsAfter_0 6 rfl rfl)
theorem dX1_pointsAfter_7 : decode cX1_pointsAfter 7 = .ok (.getfield 65, 3) := dk_180 0 65 (dk_at dksX1_pointsAfter_0 7 rfl rfl)
theorem dX1_pointsAfter_10 : decode cX1_pointsAfter 10 = .ok (.getfield 200, 3) := dk_180 0 200 (dk_at dksX1_pointsAfter_0 10 rfl rfl)
theorem dX1_pointsAfter_13 : decode cX1_pointsAfter 13 = .ok (.iload_n 1, 1) := dk_27 (dk_at dksX1_pointsAfter_0 13 rfl rfl)
theorem dX1_pointsAfter_14 : decode cX1_pointsAfter 14 = .ok (.iconst 1, 1) := dk_4 (dk_at dksX1_pointsAfter_0 14 rfl rfl)
theorem dX1_pointsAfter_15 : decode cX1_pointsAfter 15 = .ok (.iadd, 1) := dk_96 (dk_at dksX1_pointsAfter_0 15 rfl rfl)
theorem dX1_pointsAfter_16 : decode cX1_pointsAfter 16 = .ok (.invokeinterface 176 2, 5) := by decide +kernel
theorem dX1_pointsAfter_21 : decode cX1_pointsAfter 21 = .ok (.checkcast 152, 3) := dk_192 0 152 (dk_at dksX1_pointsAfter_0 21 rfl rfl)
theorem dX1_pointsAfter_24 : decode cX1_pointsAfter 24 = .ok (.getfield 151, 3) := dk_180 0 151 (dk_at dksX1_pointsAfter_1 0 rfl rfl)
theorem dX1_pointsAfter_27 : decode cX1_pointsAfter 27 = .ok (.iload_n 2, 1) := dk_28 (dk_at dksX1_pointsAfter_1 3 rfl rfl)
theorem dX1_pointsAfter_28 : decode cX1_pointsAfter 28 = .ok (.iaload, 1) := dk_46 (dk_at dksX1_pointsAfter_1 4 rfl rfl)
theorem dX1_pointsAfter_29 : decode cX1_pointsAfter 29 = .ok (.ireturn, 1) := dk_172 (dk_at dksX1_pointsAfter_1 5 rfl rfl)
abbrev cX1_raidPoints : ByteArray := prog_1_method_37_code
def yX1_raidPoints : MethodName := ⟨RX1, "raidPoints", "(II)I"⟩
def dkwX1_raidPoints_0 : List UInt8 := [27, 28, 184, 0, 160, 42, 182, 0, 206, 182, 0, 107, 180, 1, 54, 27, 50, 28, 46, 172]
abbrev dktX1_raidPoints_0 : List UInt8 := dkwX1_raidPoints_0 ++ []
theorem dksX1_raidPoints_0 : cX1_raidPoints.data.toList.drop 0 = dktX1_raidPoints_0 := by decide +kernel
theorem dX1_raidPoints_0 : decode cX1_raidPoints 0 = .ok (.iload_n 1, 1) := dk_27 (dk_at dksX1_raidPoints_0 0 rfl rfl)
theorem dX1_raidPoints_1 : decode cX1_raidPoints 1 = .ok (.iload_n 2, 1) := dk_28 (dk_at dksX1_raidPoints_0 1 rfl rfl)
theorem dX1_raidPoints_2 : decode cX1_raidPoints 2 = .ok (.invokestatic 160, 3) := dk_184 0 160 (dk_at dksX1_raidPoints_0 2 rfl rfl)
theorem dX1_raidPoints_5 : decode cX1_raidPoints 5 = .ok (.aload_n 0, 1) := dk_42 (dk_at dksX1_raidPoints_0 5 rfl rfl)
theorem dX1_raidPoints_6 : decode cX1_raidPoints 6 = .ok (.invokevirtual 206, 3) := dk_182 0 206 (dk_at dksX1_raidPoints_0 6 rfl rfl)
theorem dX1_raidPoints_9 : decode cX1_raidPoints 9 = .ok (.invokevirtual 107, 3) := dk_182 0 107 (dk_at dksX1_raidPoints_0 9 rfl rfl)
theorem dX1_raidPoints_12 : decode cX1_raidPoints 12 = .ok (.getfield 310, 3) := dk_180 1 54 (dk_at dksX1_raidPoints_0 12 rfl rfl)
theorem dX1_raidPoints_15 : decode cX1_raidPoints 15 = .ok (.iload_n 1, 1) := dk_27 (dk_at dksX1_raidPoints_0 15 rfl rfl)
theorem dX1_raidPoints_16 : decode cX1_raidPoints 16 = .ok (.aaload, 1) := dk_50 (dk_at dksX1_raidPoints_0 16 rfl rfl)
theorem dX1_raidPoints_17 : decode cX1_raidPoints 17 = .ok (.iload_n 2, 1) := dk_28 (dk_at dksX1_raidPoints_0 17 rfl rfl)
theorem dX1_raidPoints_18 : decode cX1_raidPoints 18 = .ok (.iaload, 1) := dk_46 (dk_at dksX1_raidPoints_0 18 rfl rfl)
theorem dX1_raidPoints_19 : decode cX1_raidPoints 19 = .ok (.ireturn, 1) := dk_172 (dk_at dksX1_raidPoints_0 19 rfl rfl)
abbrev cX1_club : ByteArray := prog_1_method_39_code
def yX1_club : MethodName := ⟨RX1, "club", "(II)I"⟩
def dkwX1_club_3 : List UInt8 := [172, 45, 180, 1, 74, 172, 42, 27, 182, 1, 77, 172, 187, 0, 55, 89, 183, 0, 57, 191]
abbrev dktX1_club_3 : List UInt8 := dkwX1_club_3 ++ []
def dkwX1_club_2 : List UInt8 := [45, 180, 1, 61, 172, 45, 180, 1, 62, 172, 45, 180, 1, 65, 172, 45, 180, 1, 68, 172, 45, 180, 1, 71]
abbrev dktX1_club_2 : List UInt8 := dkwX1_club_2 ++ dktX1_club_3
def dkwX1_club_1 : List UInt8 := [170, 0, 0, 0, 0, 78, 0, 0, 0, 0, 0, 0, 0, 6, 0, 0, 0, 42, 0, 0, 0, 47, 0, 0, 0, 52, 0, 0, 0, 57, 0, 0, 0, 62, 0, 0, 0, 67, 0, 0, 0, 72]
abbrev dktX1_club_1 : List UInt8 := dkwX1_club_1 ++ dktX1_club_2
def dkwX1_club_0 : List UInt8 := [27, 16, 8, 184, 0, 61, 42, 180, 0, 34, 27, 50, 78, 28]
abbrev dktX1_club_0 : List UInt8 := dkwX1_club_0 ++ dktX1_club_1
theorem dksX1_club_0 : cX1_club.data.toList.drop 0 = dktX1_club_0 := by decide +kernel
theorem dksX1_club_1 : cX1_club.data.toList.drop 14 = dktX1_club_1 := dk_seg dksX1_club_0 14 rfl rfl
theorem dksX1_club_2 : cX1_club.data.toList.drop 56 = dktX1_club_2 := dk_seg dksX1_club_1 42 rfl rfl
theorem dksX1_club_3 : cX1_club.data.toList.drop 80 = dktX1_club_3 := dk_seg dksX1_club_2 24 rfl rfl
theorem dX1_club_0 : decode cX1_club 0 = .ok (.iload_n 1, 1) := dk_27 (dk_at dksX1_club_0 0 rfl rfl)
theorem dX1_club_1 : decode cX1_club 1 = .ok (.bipush 8, 2) := dk_16 8 (dk_at dksX1_club_0 1 rfl rfl)
theorem dX1_club_3 : decode cX1_club 3 = .ok (.invokestatic 61, 3) := dk_184 0 61 (dk_at dksX1_club_0 3 rfl rfl)
theorem dX1_club_6 : decode cX1_club 6 = .ok (.aload_n 0, 1) := dk_42 (dk_at dksX1_club_0 6 rfl rfl)
theorem dX1_club_7 : decode cX1_club 7 = .ok (.getfield 34, 3) := dk_180 0 34 (dk_at dksX1_club_0 7 rfl rfl)
theorem dX1_club_10 : decode cX1_club 10 = .ok (.iload_n 1, 1) := dk_27 (dk_at dksX1_club_0 10 rfl rfl)
theorem dX1_club_11 : decode cX1_club 11 = .ok (.aaload, 1) := dk_50 (dk_at dksX1_club_0 11 rfl rfl)
theorem dX1_club_12 : decode cX1_club 12 = .ok (.astore_n 3, 1) := dk_78 (dk_at dksX1_club_0 12 rfl rfl)
theorem dX1_club_13 : decode cX1_club 13 = .ok (.iload_n 2, 1) := dk_28 (dk_at dksX1_club_0 13 rfl rfl)
theorem dX1_club_14 : decode cX1_club 14 = .ok (.tableswitch 78 0 6 #[42, 47, 52, 57, 62, 67, 72], 42) := by decide +kernel
theorem dX1_club_56 : decode cX1_club 56 = .ok (.aload_n 3, 1) := dk_45 (dk_at dksX1_club_2 0 rfl rfl)
theorem dX1_club_57 : decode cX1_club 57 = .ok (.getfield 317, 3) := dk_180 1 61 (dk_at dksX1_club_2 1 rfl rfl)
theorem dX1_club_60 : decode cX1_club 60 = .ok (.ireturn, 1) := dk_172 (dk_at dksX1_club_2 4 rfl rfl)
theorem dX1_club_61 : decode cX1_club 61 = .ok (.aload_n 3, 1) := dk_45 (dk_at dksX1_club_2 5 rfl rfl)
theorem dX1_club_62 : decode cX1_club 62 = .ok (.getfield 318, 3) := dk_180 1 62 (dk_at dksX1_club_2 6 rfl rfl)
theorem dX1_club_65 : decode cX1_club 65 = .ok (.ireturn, 1) := dk_172 (dk_at dksX1_club_2 9 rfl rfl)
theorem dX1_club_66 : decode cX1_club 66 = .ok (.aload_n 3, 1) := dk_45 (dk_at dksX1_club_2 10 rfl rfl)
theorem dX1_club_67 : decode cX1_club 67 = .ok (.getfield 321, 3) := dk_180 1 65 (dk_at dksX1_club_2 11 rfl rfl)
theorem dX1_club_70 : decode cX1_club 70 = .ok (.ireturn, 1) := dk_172 (dk_at dksX1_club_2 14 rfl rfl)
theorem dX1_club_71 : decode cX1_club 71 = .ok (.aload_n 3, 1) := dk_45 (dk_at dksX1_club_2 15 rfl rfl)
theorem dX1_club_72 : decode cX1_club 72 = .ok (.getfield 324, 3) := dk_180 1 68 (dk_at dksX1_club_2 16 rfl rfl)
theorem dX1_club_75 : decode cX1_club 75 = .ok (.ireturn, 1) := dk_172 (dk_at dksX1_club_2 19 rfl rfl)
theorem dX1_club_76 : decode cX1_club 76 = .ok (.aload_n 3, 1) := dk_45 (dk_at dksX1_club_2 20 rfl rfl)
theorem dX1_club_77 : decode cX1_club 77 = .ok (.getfield 327, 3) := dk_180 1 71 (dk_at dksX1_club_2 21 rfl rfl)
theorem dX1_club_80 : decode cX1_club 80 = .ok (.ireturn, 1) := dk_172 (dk_at dksX1_club_3 0 rfl rfl)
theorem dX1_club_81 : decode cX1_club 81 = .ok (.aload_n 3, 1) := dk_45 (dk_at dksX1_club_3 1 rfl rfl)
theorem dX1_club_82 : decode cX1_club 82 = .ok (.getfield 330, 3) := dk_180 1 74 (dk_at dksX1_club_3 2 rfl rfl)
theorem dX1_club_85 : decode cX1_club 85 = .ok (.ireturn, 1) := dk_172 (dk_at dksX1_club_3 5 rfl rfl)
theorem dX1_club_86 : decode cX1_club 86 = .ok (.aload_n 0, 1) := dk_42 (dk_at dksX1_club_3 6 rfl rfl)
theorem dX1_club_87 : decode cX1_club 87 = .ok (.iload_n 1, 1) := dk_27 (dk_at dksX1_club_3 7 rfl rfl)
theorem dX1_club_88 : decode cX1_club 88 = .ok (.invokevirtual 333, 3) := dk_182 1 77 (dk_at dksX1_club_3 8 rfl rfl)
theorem dX1_club_91 : decode cX1_club 91 = .ok (.ireturn, 1) := dk_172 (dk_at dksX1_club_3 11 rfl rfl)
theorem dX1_club_92 : decode cX1_club 92 = .ok (.new 55, 3) := dk_187 0 55 (dk_at dksX1_club_3 12 rfl rfl)
theorem dX1_club_95 : decode cX1_club 95 = .ok (.dup, 1) := dk_89 (dk_at dksX1_club_3 15 rfl rfl)
theorem dX1_club_96 : decode cX1_club 96 = .ok (.invokespecial 57, 3) := dk_183 0 57 (dk_at dksX1_club_3 16 rfl rfl)
theorem dX1_club_99 : decode cX1_club 99 = .ok (.athrow, 1) := dk_191 (dk_at dksX1_club_3 19 rfl rfl)
abbrev cX1_rankOf : ByteArray := prog_1_method_38_code
def yX1_rankOf : MethodName := ⟨RX1, "rankOf", "(I)I"⟩
def dkwX1_rankOf_2 : List UInt8 := [167, 0, 4, 3, 96, 61, 132, 3, 1, 167, 255, 207, 28, 172]
abbrev dktX1_rankOf_2 : List UInt8 := dkwX1_rankOf_2 ++ []
def dkwX1_rankOf_1 : List UInt8 := [182, 1, 57, 54, 4, 28, 21, 4, 157, 0, 13, 21, 4, 154, 0, 12, 29, 27, 162, 0, 7, 4]
abbrev dktX1_rankOf_1 : List UInt8 := dkwX1_rankOf_1 ++ dktX1_rankOf_2
def dkwX1_rankOf_0 : List UInt8 := [3, 61, 3, 62, 29, 16, 8, 162, 0, 49, 42, 180, 0, 34, 29, 50, 42, 180, 0, 34, 27, 50]
abbrev dktX1_rankOf_0 : List UInt8 := dkwX1_rankOf_0 ++ dktX1_rankOf_1
theorem dksX1_rankOf_0 : cX1_rankOf.data.toList.drop 0 = dktX1_rankOf_0 := by decide +kernel
theorem dksX1_rankOf_1 : cX1_rankOf.data.toList.drop 22 = dktX1_rankOf_1 := dk_seg dksX1_rankOf_0 22 rfl rfl
theorem dksX1_rankOf_2 : cX1_rankOf.data.toList.drop 44 = dktX1_rankOf_2 := dk_seg dksX1_rankOf_1 22 rfl rfl
theorem dX1_rankOf_0 : decode cX1_rankOf 0 = .ok (.iconst 0, 1) := dk_3 (dk_at dksX1_rankOf_0 0 rfl rfl)
theorem dX1_rankOf_1 : decode cX1_rankOf 1 = .ok (.istore_n 2, 1) := dk_61 (dk_at dksX1_rankOf_0 1 rfl rfl)
theorem dX1_rankOf_2 : decode cX1_rankOf 2 = .ok (.iconst 0, 1) := dk_3 (dk_at dksX1_rankOf_0 2 rfl rfl)
theorem dX1_rankOf_3 : decode cX1_rankOf 3 = .ok (.istore_n 3, 1) := dk_62 (dk_at dksX1_rankOf_0 3 rfl rfl)
theorem dX1_rankOf_4 : decode cX1_rankOf 4 = .ok (.iload_n 3, 1) := dk_29 (dk_at dksX1_rankOf_0 4 rfl rfl)
theorem dX1_rankOf_5 : decode cX1_rankOf 5 = .ok (.bipush 8, 2) := dk_16 8 (dk_at dksX1_rankOf_0 5 rfl rfl)
theorem dX1_rankOf_7 : decode cX1_rankOf 7 = .ok (.if_icmp .ge 49, 3) := dk_162 0 49 (dk_at dksX1_rankOf_0 7 rfl rfl)
theorem dX1_rankOf_10 : decode cX1_rankOf 10 = .ok (.aload_n 0, 1) := dk_42 (dk_at dksX1_rankOf_0 10 rfl rfl)
theorem dX1_rankOf_11 : decode cX1_rankOf 11 = .ok (.getfield 34, 3) := dk_180 0 34 (dk_at dksX1_rankOf_0 11 rfl rfl)
theorem dX1_rankOf_14 : decode cX1_rankOf 14 = .ok (.iload_n 3, 1) := dk_29 (dk_at dksX1_rankOf_0 14 rfl rfl)
theorem dX1_rankOf_15 : decode cX1_rankOf 15 = .ok (.aaload, 1) := dk_50 (dk_at dksX1_rankOf_0 15 rfl rfl)
theorem dX1_rankOf_16 : decode cX1_rankOf 16 = .ok (.aload_n 0, 1) := dk_42 (dk_at dksX1_rankOf_0 16 rfl rfl)
theorem dX1_rankOf_17 : decode cX1_rankOf 17 = .ok (.getfield 34, 3) := dk_180 0 34 (dk_at dksX1_rankOf_0 17 rfl rfl)
theorem dX1_rankOf_20 : decode cX1_rankOf 20 = .ok (.iload_n 1, 1) := dk_27 (dk_at dksX1_rankOf_0 20 rfl rfl)
theorem dX1_rankOf_21 : decode cX1_rankOf 21 = .ok (.aaload, 1) := dk_50 (dk_at dksX1_rankOf_0 21 rfl rfl)
theorem dX1_rankOf_22 : decode cX1_rankOf 22 = .ok (.invokevirtual 313, 3) := dk_182 1 57 (dk_at dksX1_rankOf_1 0 rfl rfl)
theorem dX1_rankOf_25 : decode cX1_rankOf 25 = .ok (.istore 4, 2) := dk_54 4 (dk_at dksX1_rankOf_1 3 rfl rfl)
theorem dX1_rankOf_27 : decode cX1_rankOf 27 = .ok (.iload_n 2, 1) := dk_28 (dk_at dksX1_rankOf_1 5 rfl rfl)
theorem dX1_rankOf_28 : decode cX1_rankOf 28 = .ok (.iload 4, 2) := dk_21 4 (dk_at dksX1_rankOf_1 6 rfl rfl)
theorem dX1_rankOf_30 : decode cX1_rankOf 30 = .ok (.ifCond .gt 13, 3) := dk_157 0 13 (dk_at dksX1_rankOf_1 8 rfl rfl)
theorem dX1_rankOf_33 : decode cX1_rankOf 33 = .ok (.iload 4, 2) := dk_21 4 (dk_at dksX1_rankOf_1 11 rfl rfl)
theorem dX1_rankOf_35 : decode cX1_rankOf 35 = .ok (.ifCond .ne 12, 3) := dk_154 0 12 (dk_at dksX1_rankOf_1 13 rfl rfl)
theorem dX1_rankOf_38 : decode cX1_rankOf 38 = .ok (.iload_n 3, 1) := dk_29 (dk_at dksX1_rankOf_1 16 rfl rfl)
theorem dX1_rankOf_39 : decode cX1_rankOf 39 = .ok (.iload_n 1, 1) := dk_27 (dk_at dksX1_rankOf_1 17 rfl rfl)
theorem dX1_rankOf_40 : decode cX1_rankOf 40 = .ok (.if_icmp .ge 7, 3) := dk_162 0 7 (dk_at dksX1_rankOf_1 18 rfl rfl)
theorem dX1_rankOf_43 : decode cX1_rankOf 43 = .ok (.iconst 1, 1) := dk_4 (dk_at dksX1_rankOf_1 21 rfl rfl)
theorem dX1_rankOf_44 : decode cX1_rankOf 44 = .ok (.goto 4, 3) := dk_167 0 4 (dk_at dksX1_rankOf_2 0 rfl rfl)
theorem dX1_rankOf_47 : decode cX1_rankOf 47 = .ok (.iconst 0, 1) := dk_3 (dk_at dksX1_rankOf_2 3 rfl rfl)
theorem dX1_rankOf_48 : decode cX1_rankOf 48 = .ok (.iadd, 1) := dk_96 (dk_at dksX1_rankOf_2 4 rfl rfl)
theorem dX1_rankOf_49 : decode cX1_rankOf 49 = .ok (.istore_n 2, 1) := dk_61 (dk_at dksX1_rankOf_2 5 rfl rfl)
theorem dX1_rankOf_50 : decode cX1_rankOf 50 = .ok (.iinc 3 1, 3) := dk_132 3 1 (dk_at dksX1_rankOf_2 6 rfl rfl)
theorem dX1_rankOf_53 : decode cX1_rankOf 53 = .ok (.goto (-49), 3) := dk_167 255 207 (dk_at dksX1_rankOf_2 9 rfl rfl)
theorem dX1_rankOf_56 : decode cX1_rankOf 56 = .ok (.iload_n 2, 1) := dk_28 (dk_at dksX1_rankOf_2 12 rfl rfl)
theorem dX1_rankOf_57 : decode cX1_rankOf 57 = .ok (.ireturn, 1) := dk_172 (dk_at dksX1_rankOf_2 13 rfl rfl)
abbrev cX1_right : ByteArray := prog_1_method_41_code
def yX1_right : MethodName := ⟨RX1, "right", "(II)I"⟩
def dkwX1_right_2 : List UInt8 := [54, 4, 45, 27, 181, 1, 99, 21, 4, 172]
abbrev dktX1_right_2 : List UInt8 := dkwX1_right_2 ++ []
def dkwX1_right_1 : List UInt8 := [165, 0, 15, 45, 180, 1, 96, 2, 160, 0, 7, 4, 167, 0, 4, 3, 184, 0, 69, 45, 180, 1, 99]
abbrev dktX1_right_1 : List UInt8 := dkwX1_right_1 ++ dktX1_right_2
def dkwX1_right_0 : List UInt8 := [27, 16, 8, 184, 0, 61, 28, 16, 24, 184, 0, 61, 42, 180, 0, 40, 28, 50, 78, 45, 42, 180, 1, 92]
abbrev dktX1_right_0 : List UInt8 := dkwX1_right_0 ++ dktX1_right_1
theorem dksX1_right_0 : cX1_right.data.toList.drop 0 = dktX1_right_0 := by decide +kernel
theorem dksX1_right_1 : cX1_right.data.toList.drop 24 = dktX1_right_1 := dk_seg dksX1_right_0 24 rfl rfl
theorem dksX1_right_2 : cX1_right.data.toList.drop 47 = dktX1_right_2 := dk_seg dksX1_right_1 23 rfl rfl
theorem dX1_right_0 : decode cX1_right 0 = .ok (.iload_n 1, 1) := dk_27 (dk_at dksX1_right_0 0 rfl rfl)
theorem dX1_right_1 : decode cX1_right 1 = .ok (.bipush 8, 2) := dk_16 8 (dk_at dksX1_right_0 1 rfl rfl)
theorem dX1_right_3 : decode cX1_right 3 = .ok (.invokestatic 61, 3) := dk_184 0 61 (dk_at dksX1_right_0 3 rfl rfl)
theorem dX1_right_6 : decode cX1_right 6 = .ok (.iload_n 2, 1) := dk_28 (dk_at dksX1_right_0 6 rfl rfl)
theorem dX1_right_7 : decode cX1_right 7 = .ok (.bipush 24, 2) := dk_16 24 (dk_at dksX1_right_0 7 rfl rfl)
theorem dX1_right_9 : decode cX1_right 9 = .ok (.invokestatic 61, 3) := dk_184 0 61 (dk_at dksX1_right_0 9 rfl rfl)
theorem dX1_right_12 : decode cX1_right 12 = .ok (.aload_n 0, 1) := dk_42 (dk_at dksX1_right_0 12 rfl rfl)
theorem dX1_right_13 : decode cX1_right 13 = .ok (.getfield 40, 3) := dk_180 0 40 (dk_at dksX1_right_0 13 rfl rfl)
theorem dX1_right_16 : decode cX1_right 16 = .ok (.iload_n 2, 1) := dk_28 (dk_at dksX1_right_0 16 rfl rfl)
theorem dX1_right_17 : decode cX1_right 17 = .ok (.aaload, 1) := dk_50 (dk_at dksX1_right_0 17 rfl rfl)
theorem dX1_right_18 : decode cX1_right 18 = .ok (.astore_n 3, 1) := dk_78 (dk_at dksX1_right_0 18 rfl rfl)
theorem dX1_right_19 : decode cX1_right 19 = .ok (.aload_n 3, 1) := dk_45 (dk_at dksX1_right_0 19 rfl rfl)
theorem dX1_right_20 : decode cX1_right 20 = .ok (.aload_n 0, 1) := dk_42 (dk_at dksX1_right_0 20 rfl rfl)
theorem dX1_right_21 : decode cX1_right 21 = .ok (.getfield 348, 3) := dk_180 1 92 (dk_at dksX1_right_0 21 rfl rfl)
theorem dX1_right_24 : decode cX1_right 24 = .ok (.if_acmp .eq 15, 3) := dk_165 0 15 (dk_at dksX1_right_1 0 rfl rfl)
theorem dX1_right_27 : decode cX1_right 27 = .ok (.aload_n 3, 1) := dk_45 (dk_at dksX1_right_1 3 rfl rfl)
theorem dX1_right_28 : decode cX1_right 28 = .ok (.getfield 352, 3) := dk_180 1 96 (dk_at dksX1_right_1 4 rfl rfl)
theorem dX1_right_31 : decode cX1_right 31 = .ok (.iconst (-1), 1) := dk_2 (dk_at dksX1_right_1 7 rfl rfl)
theorem dX1_right_32 : decode cX1_right 32 = .ok (.if_icmp .ne 7, 3) := dk_160 0 7 (dk_at dksX1_right_1 8 rfl rfl)
theorem dX1_right_35 : decode cX1_right 35 = .ok (.iconst 1, 1) := dk_4 (dk_at dksX1_right_1 11 rfl rfl)
theorem dX1_right_36 : decode cX1_right 36 = .ok (.goto 4, 3) := dk_167 0 4 (dk_at dksX1_right_1 12 rfl rfl)
theorem dX1_right_39 : decode cX1_right 39 = .ok (.iconst 0, 1) := dk_3 (dk_at dksX1_right_1 15 rfl rfl)
theorem dX1_right_40 : decode cX1_right 40 = .ok (.invokestatic 69, 3) := dk_184 0 69 (dk_at dksX1_right_1 16 rfl rfl)
theorem dX1_right_43 : decode cX1_right 43 = .ok (.aload_n 3, 1) := dk_45 (dk_at dksX1_right_1 19 rfl rfl)
theorem dX1_right_44 : decode cX1_right 44 = .ok (.getfield 355, 3) := dk_180 1 99 (dk_at dksX1_right_1 20 rfl rfl)
theorem dX1_right_47 : decode cX1_right 47 = .ok (.istore 4, 2) := dk_54 4 (dk_at dksX1_right_2 0 rfl rfl)
theorem dX1_right_49 : decode cX1_right 49 = .ok (.aload_n 3, 1) := dk_45 (dk_at dksX1_right_2 2 rfl rfl)
theorem dX1_right_50 : decode cX1_right 50 = .ok (.iload_n 1, 1) := dk_27 (dk_at dksX1_right_2 3 rfl rfl)
theorem dX1_right_51 : decode cX1_right 51 = .ok (.putfield 355, 3) := dk_181 1 99 (dk_at dksX1_right_2 4 rfl rfl)
theorem dX1_right_54 : decode cX1_right 54 = .ok (.iload 4, 2) := dk_21 4 (dk_at dksX1_right_2 7 rfl rfl)
theorem dX1_right_56 : decode cX1_right 56 = .ok (.ireturn, 1) := dk_172 (dk_at dksX1_right_2 9 rfl rfl)
abbrev cX1_call : ByteArray := prog_1_method_42_code
def yX1_call : MethodName := ⟨RX1, "call", "(I)I"⟩
def dkwX1_call_3 : List UInt8 := [182, 1, 112, 172]
abbrev dktX1_call_3 : List UInt8 := dkwX1_call_3 ++ []
def dkwX1_call_2 : List UInt8 := [181, 1, 102, 42, 2, 181, 0, 44, 42, 3, 181, 1, 105, 42, 3, 181, 1, 108, 42, 180, 1, 92]
abbrev dktX1_call_2 : List UInt8 := dkwX1_call_2 ++ dktX1_call_3
def dkwX1_call_1 : List UInt8 := [160, 0, 7, 4, 167, 0, 4, 3, 184, 0, 69, 42, 42, 180, 0, 40, 27, 50, 181, 1, 92, 42, 3]
abbrev dktX1_call_1 : List UInt8 := dkwX1_call_1 ++ dktX1_call_2
def dkwX1_call_0 : List UInt8 := [27, 16, 24, 184, 0, 61, 42, 180, 1, 92, 199, 0, 20, 42, 180, 0, 40, 27, 50, 180, 1, 96, 2]
abbrev dktX1_call_0 : List UInt8 := dkwX1_call_0 ++ dktX1_call_1
theorem dksX1_call_0 : cX1_call.data.toList.drop 0 = dktX1_call_0 := by decide +kernel
theorem dksX1_call_1 : cX1_call.data.toList.drop 23 = dktX1_call_1 := dk_seg dksX1_call_0 23 rfl rfl
theorem dksX1_call_2 : cX1_call.data.toList.drop 46 = dktX1_call_2 := dk_seg dksX1_call_1 23 rfl rfl
theorem dksX1_call_3 : cX1_call.data.toList.drop 68 = dktX1_call_3 := dk_seg dksX1_call_2 22 rfl rfl
theorem dX1_call_0 : decode cX1_call 0 = .ok (.iload_n 1, 1) := dk_27 (dk_at dksX1_call_0 0 rfl rfl)
theorem dX1_call_1 : decode cX1_call 1 = .ok (.bipush 24, 2) := dk_16 24 (dk_at dksX1_call_0 1 rfl rfl)
theorem dX1_call_3 : decode cX1_call 3 = .ok (.invokestatic 61, 3) := dk_184 0 61 (dk_at dksX1_call_0 3 rfl rfl)
theorem dX1_call_6 : decode cX1_call 6 = .ok (.aload_n 0, 1) := dk_42 (dk_at dksX1_call_0 6 rfl rfl)
theorem dX1_call_7 : decode cX1_call 7 = .ok (.getfield 348, 3) := dk_180 1 92 (dk_at dksX1_call_0 7 rfl rfl)
theorem dX1_call_10 : decode cX1_call 10 = .ok (.ifnonnull 20, 3) := dk_199 0 20 (dk_at dksX1_call_0 10 rfl rfl)
theorem dX1_call_13 : decode cX1_call 13 = .ok (.aload_n 0, 1) := dk_42 (dk_at dksX1_call_0 13 rfl rfl)
theorem dX1_call_14 : decode cX1_call 14 = .ok (.getfield 40, 3) := dk_180 0 40 (dk_at dksX1_call_0 14 rfl rfl)
theorem dX1_call_17 : decode cX1_call 17 = .ok (.iload_n 1, 1) := dk_27 (dk_at dksX1_call_0 17 rfl rfl)
theorem dX1_call_18 : decode cX1_call 18 = .ok (.aaload, 1) := dk_50 (dk_at dksX1_call_0 18 rfl rfl)
theorem dX1_call_19 : decode cX1_call 19 = .ok (.getfield 352, 3) := dk_180 1 96 (dk_at dksX1_call_0 19 rfl rfl)
theorem dX1_call_22 : decode cX1_call 22 = .ok (.iconst (-1), 1) := dk_2 (dk_at dksX1_call_0 22 rfl rfl)
theorem dX1_call_23 : decode cX1_call 23 = .ok (.if_icmp .ne 7, 3) := dk_160 0 7 (dk_at dksX1_call_1 0 rfl rfl)
theorem dX1_call_26 : decode cX1_call 26 = .ok (.iconst 1, 1) := dk_4 (dk_at dksX1_call_1 3 rfl rfl)
theorem dX1_call_27 : decode cX1_call 27 = .ok (.goto 4, 3) := dk_167 0 4 (dk_at dksX1_call_1 4 rfl rfl)
theorem dX1_call_30 : decode cX1_call 30 = .ok (.iconst 0, 1) := dk_3 (dk_at dksX1_call_1 7 rfl rfl)
theorem dX1_call_31 : decode cX1_call 31 = .ok (.invokestatic 69, 3) := dk_184 0 69 (dk_at dksX1_call_1 8 rfl rfl)
theorem dX1_call_34 : decode cX1_call 34 = .ok (.aload_n 0, 1) := dk_42 (dk_at dksX1_call_1 11 rfl rfl)
theorem dX1_call_35 : decode cX1_call 35 = .ok (.aload_n 0, 1) := dk_42 (dk_at dksX1_call_1 12 rfl rfl)
theorem dX1_call_36 : decode cX1_call 36 = .ok (.getfield 40, 3) := dk_180 0 40 (dk_at dksX1_call_1 13 rfl rfl)
theorem dX1_call_39 : decode cX1_call 39 = .ok (.iload_n 1, 1) := dk_27 (dk_at dksX1_call_1 16 rfl rfl)
theorem dX1_call_40 : decode cX1_call 40 = .ok (.aaload, 1) := dk_50 (dk_at dksX1_call_1 17 rfl rfl)
theorem dX1_call_41 : decode cX1_call 41 = .ok (.putfield 348, 3) := dk_181 1 92 (dk_at dksX1_call_1 18 rfl rfl)
theorem dX1_call_44 : decode cX1_call 44 = .ok (.aload_n 0, 1) := dk_42 (dk_at dksX1_call_1 21 rfl rfl)
theorem dX1_call_45 : decode cX1_call 45 = .ok (.iconst 0, 1) := dk_3 (dk_at dksX1_call_1 22 rfl rfl)
theorem dX1_call_46 : decode cX1_call 46 = .ok (.putfield 358, 3) := dk_181 1 102 (dk_at dksX1_call_2 0 rfl rfl)
theorem dX1_call_49 : decode cX1_call 49 = .ok (.aload_n 0, 1) := dk_42 (dk_at dksX1_call_2 3 rfl rfl)
theorem dX1_call_50 : decode cX1_call 50 = .ok (.iconst (-1), 1) := dk_2 (dk_at dksX1_call_2 4 rfl rfl)
theorem dX1_call_51 : decode cX1_call 51 = .ok (.putfield 44, 3) := dk_181 0 44 (dk_at dksX1_call_2 5 rfl rfl)
theorem dX1_call_54 : decode cX1_call 54 = .ok (.aload_n 0, 1) := dk_42 (dk_at dksX1_call_2 8 rfl rfl)
theorem dX1_call_55 : decode cX1_call 55 = .ok (.iconst 0, 1) := dk_3 (dk_at dksX1_call_2 9 rfl rfl)
theorem dX1_call_56 : decode cX1_call 56 = .ok (.putfield 361, 3) := dk_181 1 105 (dk_at dksX1_call_2 10 rfl rfl)
theorem dX1_call_59 : decode cX1_call 59 = .ok (.aload_n 0, 1) := dk_42 (dk_at dksX1_call_2 13 rfl rfl)
theorem dX1_call_60 : decode cX1_call 60 = .ok (.iconst 0, 1) := dk_3 (dk_at dksX1_call_2 14 rfl rfl)
theorem dX1_call_61 : decode cX1_call 61 = .ok (.putfield 364, 3) := dk_181 1 108 (dk_at dksX1_call_2 15 rfl rfl)
theorem dX1_call_64 : decode cX1_call 64 = .ok (.aload_n 0, 1) := dk_42 (dk_at dksX1_call_2 18 rfl rfl)
theorem dX1_call_65 : decode cX1_call 65 = .ok (.getfield 348, 3) := dk_180 1 92 (dk_at dksX1_call_2 19 rfl rfl)
theorem dX1_call_68 : decode cX1_call 68 = .ok (.invokevirtual 368, 3) := dk_182 1 112 (dk_at dksX1_call_3 0 rfl rfl)
theorem dX1_call_71 : decode cX1_call 71 = .ok (.ireturn, 1) := dk_172 (dk_at dksX1_call_3 3 rfl rfl)
abbrev cX1_bid : ByteArray := prog_1_method_43_code
def yX1_bid : MethodName := ⟨RX1, "bid", "(II)I"⟩
def dkwX1_bid_4 : List UInt8 := [181, 0, 44, 42, 28, 181, 1, 105, 42, 180, 1, 102, 172]
abbrev dktX1_bid_4 : List UInt8 := dkwX1_bid_4 ++ []
def dkwX1_bid_3 : List UInt8 := [153, 0, 7, 4, 167, 0, 4, 3, 184, 0, 69, 42, 89, 180, 1, 102, 4, 96, 181, 1, 102, 42, 27]
abbrev dktX1_bid_3 : List UInt8 := dkwX1_bid_3 ++ dktX1_bid_4
def dkwX1_bid_2 : List UInt8 := [153, 0, 13, 28, 42, 180, 1, 105, 8, 96, 161, 0, 20, 42, 27, 42, 180, 1, 92, 28, 182, 1, 115]
abbrev dktX1_bid_2 : List UInt8 := dkwX1_bid_2 ++ dktX1_bid_3
def dkwX1_bid_1 : List UInt8 := [42, 180, 1, 108, 154, 0, 48, 28, 42, 180, 1, 92, 182, 1, 112, 161, 0, 37, 42, 180, 1, 102]
abbrev dktX1_bid_1 : List UInt8 := dkwX1_bid_1 ++ dktX1_bid_2
def dkwX1_bid_0 : List UInt8 := [27, 16, 8, 184, 0, 61, 28, 4, 17, 3, 232, 184, 0, 78, 184, 0, 82, 42, 180, 1, 92, 198, 0, 55]
abbrev dktX1_bid_0 : List UInt8 := dkwX1_bid_0 ++ dktX1_bid_1
theorem dksX1_bid_0 : cX1_bid.data.toList.drop 0 = dktX1_bid_0 := by decide +kernel
theorem dksX1_bid_1 : cX1_bid.data.toList.drop 24 = dktX1_bid_1 := dk_seg dksX1_bid_0 24 rfl rfl
theorem dksX1_bid_2 : cX1_bid.data.toList.drop 46 = dktX1_bid_2 := dk_seg dksX1_bid_1 22 rfl rfl
theorem dksX1_bid_3 : cX1_bid.data.toList.drop 69 = dktX1_bid_3 := dk_seg dksX1_bid_2 23 rfl rfl
theorem dksX1_bid_4 : cX1_bid.data.toList.drop 92 = dktX1_bid_4 := dk_seg dksX1_bid_3 23 rfl rfl
theorem dX1_bid_0 : decode cX1_bid 0 = .ok (.iload_n 1, 1) := dk_27 (dk_at dksX1_bid_0 0 rfl rfl)
theorem dX1_bid_1 : decode cX1_bid 1 = .ok (.bipush 8, 2) := dk_16 8 (dk_at dksX1_bid_0 1 rfl rfl)
theorem dX1_bid_3 : decode cX1_bid 3 = .ok (.invokestatic 61, 3) := dk_184 0 61 (dk_at dksX1_bid_0 3 rfl rfl)
theorem dX1_bid_6 : decode cX1_bid 6 = .ok (.iload_n 2, 1) := dk_28 (dk_at dksX1_bid_0 6 rfl rfl)
theorem dX1_bid_7 : decode cX1_bid 7 = .ok (.iconst 1, 1) := dk_4 (dk_at dksX1_bid_0 7 rfl rfl)
theorem dX1_bid_8 : decode cX1_bid 8 = .ok (.sipush 1000, 3) := dk_17 3 232 (dk_at dksX1_bid_0 8 rfl rfl)
theorem dX1_bid_11 : decode cX1_bid 11 = .ok (.invokestatic 78, 3) := dk_184 0 78 (dk_at dksX1_bid_0 11 rfl rfl)
theorem dX1_bid_14 : decode cX1_bid 14 = .ok (.invokestatic 82, 3) := dk_184 0 82 (dk_at dksX1_bid_0 14 rfl rfl)
theorem dX1_bid_17 : decode cX1_bid 17 = .ok (.aload_n 0, 1) := dk_42 (dk_at dksX1_bid_0 17 rfl rfl)
theorem dX1_bid_18 : decode cX1_bid 18 = .ok (.getfield 348, 3) := dk_180 1 92 (dk_at dksX1_bid_0 18 rfl rfl)
theorem dX1_bid_21 : decode cX1_bid 21 = .ok (.ifnull 55, 3) := dk_198 0 55 (dk_at dksX1_bid_0 21 rfl rfl)
theorem dX1_bid_24 : decode cX1_bid 24 = .ok (.aload_n 0, 1) := dk_42 (dk_at dksX1_bid_1 0 rfl rfl)
theorem dX1_bid_25 : decode cX1_bid 25 = .ok (.getfield 364, 3) := dk_180 1 108 (dk_at dksX1_bid_1 1 rfl rfl)
theorem dX1_bid_28 : decode cX1_bid 28 = .ok (.ifCond .ne 48, 3) := dk_154 0 48 (dk_at dksX1_bid_1 4 rfl rfl)
theorem dX1_bid_31 : decode cX1_bid 31 = .ok (.iload_n 2, 1) := dk_28 (dk_at dksX1_bid_1 7 rfl rfl)
theorem dX1_bid_32 : decode cX1_bid 32 = .ok (.aload_n 0, 1) := dk_42 (dk_at dksX1_bid_1 8 rfl rfl)
theorem dX1_bid_33 : decode cX1_bid 33 = .ok (.getfield 348, 3) := dk_180 1 92 (dk_at dksX1_bid_1 9 rfl rfl)
theorem dX1_bid_36 : decode cX1_bid 36 = .ok (.invokevirtual 368, 3) := dk_182 1 112 (dk_at dksX1_bid_1 12 rfl rfl)
theorem dX1_bid_39 : decode cX1_bid 39 = .ok (.if_icmp .lt 37, 3) := dk_161 0 37 (dk_at dksX1_bid_1 15 rfl rfl)
theorem dX1_bid_42 : decode cX1_bid 42 = .ok (.aload_n 0, 1) := dk_42 (dk_at dksX1_bid_1 18 rfl rfl)
theorem dX1_bid_43 : decode cX1_bid 43 = .ok (.getfield 358, 3) := dk_180 1 102 (dk_at dksX1_bid_1 19 rfl rfl)
theorem dX1_bid_46 : decode cX1_bid 46 = .ok (.ifCond .eq 13, 3) := dk_153 0 13 (dk_at dksX1_bid_2 0 rfl rfl)
theorem dX1_bid_49 : decode cX1_bid 49 = .ok (.iload_n 2, 1) := dk_28 (dk_at dksX1_bid_2 3 rfl rfl)
theorem dX1_bid_50 : decode cX1_bid 50 = .ok (.aload_n 0, 1) := dk_42 (dk_at dksX1_bid_2 4 rfl rfl)
theorem dX1_bid_51 : decode cX1_bid 51 = .ok (.getfield 361, 3) := dk_180 1 105 (dk_at dksX1_bid_2 5 rfl rfl)
theorem dX1_bid_54 : decode cX1_bid 54 = .ok (.iconst 5, 1) := dk_8 (dk_at dksX1_bid_2 8 rfl rfl)
theorem dX1_bid_55 : decode cX1_bid 55 = .ok (.iadd, 1) := dk_96 (dk_at dksX1_bid_2 9 rfl rfl)
theorem dX1_bid_56 : decode cX1_bid 56 = .ok (.if_icmp .lt 20, 3) := dk_161 0 20 (dk_at dksX1_bid_2 10 rfl rfl)
theorem dX1_bid_59 : decode cX1_bid 59 = .ok (.aload_n 0, 1) := dk_42 (dk_at dksX1_bid_2 13 rfl rfl)
theorem dX1_bid_60 : decode cX1_bid 60 = .ok (.iload_n 1, 1) := dk_27 (dk_at dksX1_bid_2 14 rfl rfl)
theorem dX1_bid_61 : decode cX1_bid 61 = .ok (.aload_n 0, 1) := dk_42 (dk_at dksX1_bid_2 15 rfl rfl)
theorem dX1_bid_62 : decode cX1_bid 62 = .ok (.getfield 348, 3) := dk_180 1 92 (dk_at dksX1_bid_2 16 rfl rfl)
theorem dX1_bid_65 : decode cX1_bid 65 = .ok (.iload_n 2, 1) := dk_28 (dk_at dksX1_bid_2 19 rfl rfl)
theorem dX1_bid_66 : decode cX1_bid 66 = .ok (.invokevirtual 371, 3) := dk_182 1 115 (dk_at dksX1_bid_2 20 rfl rfl)
theorem dX1_bid_69 : decode cX1_bid 69 = .ok (.ifCond .eq 7, 3) := dk_153 0 7 (dk_at dksX1_bid_3 0 rfl rfl)
theorem dX1_bid_72 : decode cX1_bid 72 = .ok (.iconst 1, 1) := dk_4 (dk_at dksX1_bid_3 3 rfl rfl)
theorem dX1_bid_73 : decode cX1_bid 73 = .ok (.goto 4, 3) := dk_167 0 4 (dk_at dksX1_bid_3 4 rfl rfl)
theorem dX1_bid_76 : decode cX1_bid 76 = .ok (.iconst 0, 1) := dk_3 (dk_at dksX1_bid_3 7 rfl rfl)
theorem dX1_bid_77 : decode cX1_bid 77 = .ok (.invokestatic 69, 3) := dk_184 0 69 (dk_at dksX1_bid_3 8 rfl rfl)
theorem dX1_bid_80 : decode cX1_bid 80 = .ok (.aload_n 0, 1) := dk_42 (dk_at dksX1_bid_3 11 rfl rfl)
theorem dX1_bid_81 : decode cX1_bid 81 = .ok (.dup, 1) := dk_89 (dk_at dksX1_bid_3 12 rfl rfl)
theorem dX1_bid_82 : decode cX1_bid 82 = .ok (.getfield 358, 3) := dk_180 1 102 (dk_at dksX1_bid_3 13 rfl rfl)
theorem dX1_bid_85 : decode cX1_bid 85 = .ok (.iconst 1, 1) := dk_4 (dk_at dksX1_bid_3 16 rfl rfl)
theorem dX1_bid_86 : decode cX1_bid 86 = .ok (.iadd, 1) := dk_96 (dk_at dksX1_bid_3 17 rfl rfl)
theorem dX1_bid_87 : decode cX1_bid 87 = .ok (.putfield 358, 3) := dk_181 1 102 (dk_at dksX1_bid_3 18 rfl rfl)
theorem dX1_bid_90 : decode cX1_bid 90 = .ok (.aload_n 0, 1) := dk_42 (dk_at dksX1_bid_3 21 rfl rfl)
theorem dX1_bid_91 : decode cX1_bid 91 = .ok (.iload_n 1, 1) := dk_27 (dk_at dksX1_bid_3 22 rfl rfl)
theorem dX1_bid_92 : decode cX1_bid 92 = .ok (.putfield 44, 3) := dk_181 0 44 (dk_at dksX1_bid_4 0 rfl rfl)
theorem dX1_bid_95 : decode cX1_bid 95 = .ok (.aload_n 0, 1) := dk_42 (dk_at dksX1_bid_4 3 rfl rfl)
theorem dX1_bid_96 : decode cX1_bid 96 = .ok (.iload_n 2, 1) := dk_28 (dk_at dksX1_bid_4 4 rfl rfl)
theorem dX1_bid_97 : decode cX1_bid 97 = .ok (.putfield 361, 3) := dk_181 1 105 (dk_at dksX1_bid_4 5 rfl rfl)
theorem dX1_bid_100 : decode cX1_bid 100 = .ok (.aload_n 0, 1) := dk_42 (dk_at dksX1_bid_4 8 rfl rfl)
theorem dX1_bid_101 : decode cX1_bid 101 = .ok (.getfield 358, 3) := dk_180 1 102 (dk_at dksX1_bid_4 9 rfl rfl)
theorem dX1_bid_104 : decode cX1_bid 104 = .ok (.ireturn, 1) := dk_172 (dk_at dksX1_bid_4 12 rfl rfl)
abbrev cX1_canBid : ByteArray := prog_1_method_40_code
def yX1_canBid : MethodName := ⟨RX1, "canBid", "(ILRaidhall$Lot;I)Z"⟩
def dkwX1_canBid_2 : List UInt8 := [172]
abbrev dktX1_canBid_2 : List UInt8 := dkwX1_canBid_2 ++ []
def dkwX1_canBid_1 : List UInt8 := [162, 0, 23, 44, 182, 1, 86, 153, 0, 12, 25, 4, 180, 1, 89, 5, 162, 0, 7, 4, 167, 0, 4, 3]
abbrev dktX1_canBid_1 : List UInt8 := dkwX1_canBid_1 ++ dktX1_canBid_2
def dkwX1_canBid_0 : List UInt8 := [42, 180, 0, 34, 27, 50, 58, 4, 25, 4, 180, 1, 80, 29, 161, 0, 33, 25, 4, 180, 1, 83, 16, 6]
abbrev dktX1_canBid_0 : List UInt8 := dkwX1_canBid_0 ++ dktX1_canBid_1
theorem dksX1_canBid_0 : cX1_canBid.data.toList.drop 0 = dktX1_canBid_0 := by decide +kernel
theorem dksX1_canBid_1 : cX1_canBid.data.toList.drop 24 = dktX1_canBid_1 := dk_seg dksX1_canBid_0 24 rfl rfl
theorem dksX1_canBid_2 : cX1_canBid.data.toList.drop 48 = dktX1_canBid_2 := dk_seg dksX1_canBid_1 24 rfl rfl
theorem dX1_canBid_0 : decode cX1_canBid 0 = .ok (.aload_n 0, 1) := dk_42 (dk_at dksX1_canBid_0 0 rfl rfl)
theorem dX1_canBid_1 : decode cX1_canBid 1 = .ok (.getfield 34, 3) := dk_180 0 34 (dk_at dksX1_canBid_0 1 rfl rfl)
theorem dX1_canBid_4 : decode cX1_canBid 4 = .ok (.iload_n 1, 1) := dk_27 (dk_at dksX1_canBid_0 4 rfl rfl)
theorem dX1_canBid_5 : decode cX1_canBid 5 = .ok (.aaload, 1) := dk_50 (dk_at dksX1_canBid_0 5 rfl rfl)
theorem dX1_canBid_6 : decode cX1_canBid 6 = .ok (.astore 4, 2) := dk_58 4 (dk_at dksX1_canBid_0 6 rfl rfl)
theorem dX1_canBid_8 : decode cX1_canBid 8 = .ok (.aload 4, 2) := dk_25 4 (dk_at dksX1_canBid_0 8 rfl rfl)
theorem dX1_canBid_10 : decode cX1_canBid 10 = .ok (.getfield 336, 3) := dk_180 1 80 (dk_at dksX1_canBid_0 10 rfl rfl)
theorem dX1_canBid_13 : decode cX1_canBid 13 = .ok (.iload_n 3, 1) := dk_29 (dk_at dksX1_canBid_0 13 rfl rfl)
theorem dX1_canBid_14 : decode cX1_canBid 14 = .ok (.if_icmp .lt 33, 3) := dk_161 0 33 (dk_at dksX1_canBid_0 14 rfl rfl)
theorem dX1_canBid_17 : decode cX1_canBid 17 = .ok (.aload 4, 2) := dk_25 4 (dk_at dksX1_canBid_0 17 rfl rfl)
theorem dX1_canBid_19 : decode cX1_canBid 19 = .ok (.getfield 339, 3) := dk_180 1 83 (dk_at dksX1_canBid_0 19 rfl rfl)
theorem dX1_canBid_22 : decode cX1_canBid 22 = .ok (.bipush 6, 2) := dk_16 6 (dk_at dksX1_canBid_0 22 rfl rfl)
theorem dX1_canBid_24 : decode cX1_canBid 24 = .ok (.if_icmp .ge 23, 3) := dk_162 0 23 (dk_at dksX1_canBid_1 0 rfl rfl)
theorem dX1_canBid_27 : decode cX1_canBid 27 = .ok (.aload_n 2, 1) := dk_44 (dk_at dksX1_canBid_1 3 rfl rfl)
theorem dX1_canBid_28 : decode cX1_canBid 28 = .ok (.invokevirtual 342, 3) := dk_182 1 86 (dk_at dksX1_canBid_1 4 rfl rfl)
theorem dX1_canBid_31 : decode cX1_canBid 31 = .ok (.ifCond .eq 12, 3) := dk_153 0 12 (dk_at dksX1_canBid_1 7 rfl rfl)
theorem dX1_canBid_34 : decode cX1_canBid 34 = .ok (.aload 4, 2) := dk_25 4 (dk_at dksX1_canBid_1 10 rfl rfl)
theorem dX1_canBid_36 : decode cX1_canBid 36 = .ok (.getfield 345, 3) := dk_180 1 89 (dk_at dksX1_canBid_1 12 rfl rfl)
theorem dX1_canBid_39 : decode cX1_canBid 39 = .ok (.iconst 2, 1) := dk_5 (dk_at dksX1_canBid_1 15 rfl rfl)
theorem dX1_canBid_40 : decode cX1_canBid 40 = .ok (.if_icmp .ge 7, 3) := dk_162 0 7 (dk_at dksX1_canBid_1 16 rfl rfl)
theorem dX1_canBid_43 : decode cX1_canBid 43 = .ok (.iconst 1, 1) := dk_4 (dk_at dksX1_canBid_1 19 rfl rfl)
theorem dX1_canBid_44 : decode cX1_canBid 44 = .ok (.goto 4, 3) := dk_167 0 4 (dk_at dksX1_canBid_1 20 rfl rfl)
theorem dX1_canBid_47 : decode cX1_canBid 47 = .ok (.iconst 0, 1) := dk_3 (dk_at dksX1_canBid_1 23 rfl rfl)
theorem dX1_canBid_48 : decode cX1_canBid 48 = .ok (.ireturn, 1) := dk_172 (dk_at dksX1_canBid_2 0 rfl rfl)
abbrev cX1_hammer : ByteArray := prog_1_method_45_code
def yX1_hammer : MethodName := ⟨RX1, "hammer", "()I"⟩
def dkwX1_hammer_4 : List UInt8 := [167, 0, 11, 42, 42, 180, 0, 44, 182, 1, 122, 172]
abbrev dktX1_hammer_4 : List UInt8 := dkwX1_hammer_4 ++ []
def dkwX1_hammer_3 : List UInt8 := [182, 1, 115, 153, 0, 7, 4, 167, 0, 4, 3, 181, 1, 108, 42, 180, 1, 108, 153, 0, 7, 2]
abbrev dktX1_hammer_3 : List UInt8 := dkwX1_hammer_3 ++ dktX1_hammer_4
def dkwX1_hammer_2 : List UInt8 := [42, 180, 0, 44, 159, 0, 29, 42, 42, 180, 1, 92, 180, 1, 99, 42, 180, 1, 92, 42, 180, 1, 105]
abbrev dktX1_hammer_2 : List UInt8 := dkwX1_hammer_2 ++ dktX1_hammer_3
def dkwX1_hammer_1 : List UInt8 := [180, 1, 102, 158, 0, 54, 42, 180, 1, 92, 180, 1, 99, 2, 159, 0, 43, 42, 180, 1, 92, 180, 1, 99]
abbrev dktX1_hammer_1 : List UInt8 := dkwX1_hammer_1 ++ dktX1_hammer_2
def dkwX1_hammer_0 : List UInt8 := [42, 180, 1, 92, 198, 0, 14, 42, 180, 1, 108, 154, 0, 7, 4, 167, 0, 4, 3, 184, 0, 69, 42, 42]
abbrev dktX1_hammer_0 : List UInt8 := dkwX1_hammer_0 ++ dktX1_hammer_1
theorem dksX1_hammer_0 : cX1_hammer.data.toList.drop 0 = dktX1_hammer_0 := by decide +kernel
theorem dksX1_hammer_1 : cX1_hammer.data.toList.drop 24 = dktX1_hammer_1 := dk_seg dksX1_hammer_0 24 rfl rfl
theorem dksX1_hammer_2 : cX1_hammer.data.toList.drop 48 = dktX1_hammer_2 := dk_seg dksX1_hammer_1 24 rfl rfl
theorem dksX1_hammer_3 : cX1_hammer.data.toList.drop 71 = dktX1_hammer_3 := dk_seg dksX1_hammer_2 23 rfl rfl
theorem dksX1_hammer_4 : cX1_hammer.data.toList.drop 93 = dktX1_hammer_4 := dk_seg dksX1_hammer_3 22 rfl rfl
theorem dX1_hammer_0 : decode cX1_hammer 0 = .ok (.aload_n 0, 1) := dk_42 (dk_at dksX1_hammer_0 0 rfl rfl)
theorem dX1_hammer_1 : decode cX1_hammer 1 = .ok (.getfield 348, 3) := dk_180 1 92 (dk_at dksX1_hammer_0 1 rfl rfl)
theorem dX1_hammer_4 : decode cX1_hammer 4 = .ok (.ifnull 14, 3) := dk_198 0 14 (dk_at dksX1_hammer_0 4 rfl rfl)
theorem dX1_hammer_7 : decode cX1_hammer 7 = .ok (.aload_n 0, 1) := dk_42 (dk_at dksX1_hammer_0 7 rfl rfl)
theorem dX1_hammer_8 : decode cX1_hammer 8 = .ok (.getfield 364, 3) := dk_180 1 108 (dk_at dksX1_hammer_0 8 rfl rfl)
theorem dX1_hammer_11 : decode cX1_hammer 11 = .ok (.ifCond .ne 7, 3) := dk_154 0 7 (dk_at dksX1_hammer_0 11 rfl rfl)
theorem dX1_hammer_14 : decode cX1_hammer 14 = .ok (.iconst 1, 1) := dk_4 (dk_at dksX1_hammer_0 14 rfl rfl)
theorem dX1_hammer_15 : decode cX1_hammer 15 = .ok (.goto 4, 3) := dk_167 0 4 (dk_at dksX1_hammer_0 15 rfl rfl)
theorem dX1_hammer_18 : decode cX1_hammer 18 = .ok (.iconst 0, 1) := dk_3 (dk_at dksX1_hammer_0 18 rfl rfl)
theorem dX1_hammer_19 : decode cX1_hammer 19 = .ok (.invokestatic 69, 3) := dk_184 0 69 (dk_at dksX1_hammer_0 19 rfl rfl)
theorem dX1_hammer_22 : decode cX1_hammer 22 = .ok (.aload_n 0, 1) := dk_42 (dk_at dksX1_hammer_0 22 rfl rfl)
theorem dX1_hammer_23 : decode cX1_hammer 23 = .ok (.aload_n 0, 1) := dk_42 (dk_at dksX1_hammer_0 23 rfl rfl)
theorem dX1_hammer_24 : decode cX1_hammer 24 = .ok (.getfield 358, 3) := dk_180 1 102 (dk_at dksX1_hammer_1 0 rfl rfl)
theorem dX1_hammer_27 : decode cX1_hammer 27 = .ok (.ifCond .le 54, 3) := dk_158 0 54 (dk_at dksX1_hammer_1 3 rfl rfl)
theorem dX1_hammer_30 : decode cX1_hammer 30 = .ok (.aload_n 0, 1) := dk_42 (dk_at dksX1_hammer_1 6 rfl rfl)
theorem dX1_hammer_31 : decode cX1_hammer 31 = .ok (.getfield 348, 3) := dk_180 1 92 (dk_at dksX1_hammer_1 7 rfl rfl)
theorem dX1_hammer_34 : decode cX1_hammer 34 = .ok (.getfield 355, 3) := dk_180 1 99 (dk_at dksX1_hammer_1 10 rfl rfl)
theorem dX1_hammer_37 : decode cX1_hammer 37 = .ok (.iconst (-1), 1) := dk_2 (dk_at dksX1_hammer_1 13 rfl rfl)
theorem dX1_hammer_38 : decode cX1_hammer 38 = .ok (.if_icmp .eq 43, 3) := dk_159 0 43 (dk_at dksX1_hammer_1 14 rfl rfl)
theorem dX1_hammer_41 : decode cX1_hammer 41 = .ok (.aload_n 0, 1) := dk_42 (dk_at dksX1_hammer_1 17 rfl rfl)
theorem dX1_hammer_42 : decode cX1_hammer 42 = .ok (.getfield 348, 3) := dk_180 1 92 (dk_at dksX1_hammer_1 18 rfl rfl)
theorem dX1_hammer_45 : decode cX1_hammer 45 = .ok (.getfield 355, 3) := dk_180 1 99 (dk_at dksX1_hammer_1 21 rfl rfl)
theorem dX1_hammer_48 : decode cX1_hammer 48 = .ok (.aload_n 0, 1) := dk_42 (dk_at dksX1_hammer_2 0 rfl rfl)
theorem dX1_hammer_49 : decode cX1_hammer 49 = .ok (.getfield 44, 3) := dk_180 0 44 (dk_at dksX1_hammer_2 1 rfl rfl)
theorem dX1_hammer_52 : decode cX1_hammer 52 = .ok (.if_icmp .eq 29, 3) := dk_159 0 29 (dk_at dksX1_hammer_2 4 rfl rfl)
theorem dX1_hammer_55 : decode cX1_hammer 55 = .ok (.aload_n 0, 1) := dk_42 (dk_at dksX1_hammer_2 7 rfl rfl)
theorem dX1_hammer_56 : decode cX1_hammer 56 = .ok (.aload_n 0, 1) := dk_42 (dk_at dksX1_hammer_2 8 rfl rfl)
theorem dX1_hammer_57 : decode cX1_hammer 57 = .ok (.getfield 348, 3) := dk_180 1 92 (dk_at dksX1_hammer_2 9 rfl rfl)
theorem dX1_hammer_60 : decode cX1_hammer 60 = .ok (.getfield 355, 3) := dk_180 1 99 (dk_at dksX1_hammer_2 12 rfl rfl)
theorem dX1_hammer_63 : decode cX1_hammer 63 = .ok (.aload_n 0, 1) := dk_42 (dk_at dksX1_hammer_2 15 rfl rfl)
theorem dX1_hammer_64 : decode cX1_hammer 64 = .ok (.getfield 348, 3) := dk_180 1 92 (dk_at dksX1_hammer_2 16 rfl rfl)
theorem dX1_hammer_67 : decode cX1_hammer 67 = .ok (.aload_n 0, 1) := dk_42 (dk_at dksX1_hammer_2 19 rfl rfl)
theorem dX1_hammer_68 : decode cX1_hammer 68 = .ok (.getfield 361, 3) := dk_180 1 105 (dk_at dksX1_hammer_2 20 rfl rfl)
theorem dX1_hammer_71 : decode cX1_hammer 71 = .ok (.invokevirtual 371, 3) := dk_182 1 115 (dk_at dksX1_hammer_3 0 rfl rfl)
theorem dX1_hammer_74 : decode cX1_hammer 74 = .ok (.ifCond .eq 7, 3) := dk_153 0 7 (dk_at dksX1_hammer_3 3 rfl rfl)
theorem dX1_hammer_77 : decode cX1_hammer 77 = .ok (.iconst 1, 1) := dk_4 (dk_at dksX1_hammer_3 6 rfl rfl)
theorem dX1_hammer_78 : decode cX1_hammer 78 = .ok (.goto 4, 3) := dk_167 0 4 (dk_at dksX1_hammer_3 7 rfl rfl)
theorem dX1_hammer_81 : decode cX1_hammer 81 = .ok (.iconst 0, 1) := dk_3 (dk_at dksX1_hammer_3 10 rfl rfl)
theorem dX1_hammer_82 : decode cX1_hammer 82 = .ok (.putfield 364, 3) := dk_181 1 108 (dk_at dksX1_hammer_3 11 rfl rfl)
theorem dX1_hammer_85 : decode cX1_hammer 85 = .ok (.aload_n 0, 1) := dk_42 (dk_at dksX1_hammer_3 14 rfl rfl)
theorem dX1_hammer_86 : decode cX1_hammer 86 = .ok (.getfield 364, 3) := dk_180 1 108 (dk_at dksX1_hammer_3 15 rfl rfl)
theorem dX1_hammer_89 : decode cX1_hammer 89 = .ok (.ifCond .eq 7, 3) := dk_153 0 7 (dk_at dksX1_hammer_3 18 rfl rfl)
theorem dX1_hammer_92 : decode cX1_hammer 92 = .ok (.iconst (-1), 1) := dk_2 (dk_at dksX1_hammer_3 21 rfl rfl)
theorem dX1_hammer_93 : decode cX1_hammer 93 = .ok (.goto 11, 3) := dk_167 0 11 (dk_at dksX1_hammer_4 0 rfl rfl)
theorem dX1_hammer_96 : decode cX1_hammer 96 = .ok (.aload_n 0, 1) := dk_42 (dk_at dksX1_hammer_4 3 rfl rfl)
theorem dX1_hammer_97 : decode cX1_hammer 97 = .ok (.aload_n 0, 1) := dk_42 (dk_at dksX1_hammer_4 4 rfl rfl)
theorem dX1_hammer_98 : decode cX1_hammer 98 = .ok (.getfield 44, 3) := dk_180 0 44 (dk_at dksX1_hammer_4 5 rfl rfl)
theorem dX1_hammer_101 : decode cX1_hammer 101 = .ok (.invokevirtual 378, 3) := dk_182 1 122 (dk_at dksX1_hammer_4 8 rfl rfl)
theorem dX1_hammer_104 : decode cX1_hammer 104 = .ok (.ireturn, 1) := dk_172 (dk_at dksX1_hammer_4 11 rfl rfl)
abbrev cX1_sell : ByteArray := prog_1_method_44_code
def yX1_sell : MethodName := ⟨RX1, "sell", "(I)I"⟩
def dkwX1_sell_3 : List UInt8 := [167, 0, 4, 3, 96, 181, 1, 89, 42, 1, 181, 1, 92, 42, 3, 181, 1, 108, 27, 172]
abbrev dktX1_sell_3 : List UInt8 := dkwX1_sell_3 ++ []
def dkwX1_sell_2 : List UInt8 := [180, 1, 83, 4, 96, 181, 1, 83, 44, 89, 180, 1, 89, 42, 180, 1, 92, 182, 1, 86, 153, 0, 7, 4]
abbrev dktX1_sell_2 : List UInt8 := dkwX1_sell_2 ++ dktX1_sell_3
def dkwX1_sell_1 : List UInt8 := [42, 180, 1, 105, 181, 1, 119, 44, 89, 180, 1, 80, 42, 180, 1, 105, 100, 181, 1, 80, 44, 89]
abbrev dktX1_sell_1 : List UInt8 := dkwX1_sell_1 ++ dktX1_sell_2
def dkwX1_sell_0 : List UInt8 := [27, 2, 159, 0, 76, 42, 180, 0, 34, 27, 50, 77, 42, 180, 1, 92, 27, 181, 1, 96, 42, 180, 1, 92]
abbrev dktX1_sell_0 : List UInt8 := dkwX1_sell_0 ++ dktX1_sell_1
theorem dksX1_sell_0 : cX1_sell.data.toList.drop 0 = dktX1_sell_0 := by decide +kernel
theorem dksX1_sell_1 : cX1_sell.data.toList.drop 24 = dktX1_sell_1 := dk_seg dksX1_sell_0 24 rfl rfl
theorem dksX1_sell_2 : cX1_sell.data.toList.drop 46 = dktX1_sell_2 := dk_seg dksX1_sell_1 22 rfl rfl
theorem dksX1_sell_3 : cX1_sell.data.toList.drop 70 = dktX1_sell_3 := dk_seg dksX1_sell_2 24 rfl rfl
theorem dX1_sell_0 : decode cX1_sell 0 = .ok (.iload_n 1, 1) := dk_27 (dk_at dksX1_sell_0 0 rfl rfl)
theorem dX1_sell_1 : decode cX1_sell 1 = .ok (.iconst (-1), 1) := dk_2 (dk_at dksX1_sell_0 1 rfl rfl)
theorem dX1_sell_2 : decode cX1_sell 2 = .ok (.if_icmp .eq 76, 3) := dk_159 0 76 (dk_at dksX1_sell_0 2 rfl rfl)
theorem dX1_sell_5 : decode cX1_sell 5 = .ok (.aload_n 0, 1) := dk_42 (dk_at dksX1_sell_0 5 rfl rfl)
theorem dX1_sell_6 : decode cX1_sell 6 = .ok (.getfield 34, 3) := dk_180 0 34 (dk_at dksX1_sell_0 6 rfl rfl)
theorem dX1_sell_9 : decode cX1_sell 9 = .ok (.iload_n 1, 1) := dk_27 (dk_at dksX1_sell_0 9 rfl rfl)
theorem dX1_sell_10 : decode cX1_sell 10 = .ok (.aaload, 1) := dk_50 (dk_at dksX1_sell_0 10 rfl rfl)
theorem dX1_sell_11 : decode cX1_sell 11 = .ok (.astore_n 2, 1) := dk_77 (dk_at dksX1_sell_0 11 rfl rfl)
theorem dX1_sell_12 : decode cX1_sell 12 = .ok (.aload_n 0, 1) := dk_42 (dk_at dksX1_sell_0 12 rfl rfl)
theorem dX1_sell_13 : decode cX1_sell 13 = .ok (.getfield 348, 3) := dk_180 1 92 (dk_at dksX1_sell_0 13 rfl rfl)
theorem dX1_sell_16 : decode cX1_sell 16 = .ok (.iload_n 1, 1) := dk_27 (dk_at dksX1_sell_0 16 rfl rfl)
theorem dX1_sell_17 : decode cX1_sell 17 = .ok (.putfield 352, 3) := dk_181 1 96 (dk_at dksX1_sell_0 17 rfl rfl)
theorem dX1_sell_20 : decode cX1_sell 20 = .ok (.aload_n 0, 1) := dk_42 (dk_at dksX1_sell_0 20 rfl rfl)
theorem dX1_sell_21 : decode cX1_sell 21 = .ok (.getfield 348, 3) := dk_180 1 92 (dk_at dksX1_sell_0 21 rfl rfl)
theorem dX1_sell_24 : decode cX1_sell 24 = .ok (.aload_n 0, 1) := dk_42 (dk_at dksX1_sell_1 0 rfl rfl)
theorem dX1_sell_25 : decode cX1_sell 25 = .ok (.getfield 361, 3) := dk_180 1 105 (dk_at dksX1_sell_1 1 rfl rfl)
theorem dX1_sell_28 : decode cX1_sell 28 = .ok (.putfield 375, 3) := dk_181 1 119 (dk_at dksX1_sell_1 4 rfl rfl)
theorem dX1_sell_31 : decode cX1_sell 31 = .ok (.aload_n 2, 1) := dk_44 (dk_at dksX1_sell_1 7 rfl rfl)
theorem dX1_sell_32 : decode cX1_sell 32 = .ok (.dup, 1) := dk_89 (dk_at dksX1_sell_1 8 rfl rfl)
theorem dX1_sell_33 : decode cX1_sell 33 = .ok (.getfield 336, 3) := dk_180 1 80 (dk_at dksX1_sell_1 9 rfl rfl)
theorem dX1_sell_36 : decode cX1_sell 36 = .ok (.aload_n 0, 1) := dk_42 (dk_at dksX1_sell_1 12 rfl rfl)
theorem dX1_sell_37 : decode cX1_sell 37 = .ok (.getfield 361, 3) := dk_180 1 105 (dk_at dksX1_sell_1 13 rfl rfl)
theorem dX1_sell_40 : decode cX1_sell 40 = .ok (.isub, 1) := dk_100 (dk_at dksX1_sell_1 16 rfl rfl)
theorem dX1_sell_41 : decode cX1_sell 41 = .ok (.putfield 336, 3) := dk_181 1 80 (dk_at dksX1_sell_1 17 rfl rfl)
theorem dX1_sell_44 : decode cX1_sell 44 = .ok (.aload_n 2, 1) := dk_44 (dk_at dksX1_sell_1 20 rfl rfl)
theorem dX1_sell_45 : decode cX1_sell 45 = .ok (.dup, 1) := dk_89 (dk_at dksX1_sell_1 21 rfl rfl)
theorem dX1_sell_46 : decode cX1_sell 46 = .ok (.getfield 339, 3) := dk_180 1 83 (dk_at dksX1_sell_2 0 rfl rfl)
theorem dX1_sell_49 : decode cX1_sell 49 = .ok (.iconst 1, 1) := dk_4 (dk_at dksX1_sell_2 3 rfl rfl)
theorem dX1_sell_50 : decode cX1_sell 50 = .ok (.iadd, 1) := dk_96 (dk_at dksX1_sell_2 4 rfl rfl)
theorem dX1_sell_51 : decode cX1_sell 51 = .ok (.putfield 339, 3) := dk_181 1 83 (dk_at dksX1_sell_2 5 rfl rfl)
theorem dX1_sell_54 : decode cX1_sell 54 = .ok (.aload_n 2, 1) := dk_44 (dk_at dksX1_sell_2 8 rfl rfl)
theorem dX1_sell_55 : decode cX1_sell 55 = .ok (.dup, 1) := dk_89 (dk_at dksX1_sell_2 9 rfl rfl)
theorem dX1_sell_56 : decode cX1_sell 56 = .ok (.getfield 345, 3) := dk_180 1 89 (dk_at dksX1_sell_2 10 rfl rfl)
theorem dX1_sell_59 : decode cX1_sell 59 = .ok (.aload_n 0, 1) := dk_42 (dk_at dksX1_sell_2 13 rfl rfl)
theorem dX1_sell_60 : decode cX1_sell 60 = .ok (.getfield 348, 3) := dk_180 1 92 (dk_at dksX1_sell_2 14 rfl rfl)
theorem dX1_sell_63 : decode cX1_sell 63 = .ok (.invokevirtual 342, 3) := dk_182 1 86 (dk_at dksX1_sell_2 17 rfl rfl)
theorem dX1_sell_66 : decode cX1_sell 66 = .ok (.ifCond .eq 7, 3) := dk_153 0 7 (dk_at dksX1_sell_2 20 rfl rfl)
theorem dX1_sell_69 : decode cX1_sell 69 = .ok (.iconst 1, 1) := dk_4 (dk_at dksX1_sell_2 23 rfl rfl)
theorem dX1_sell_70 : decode cX1_sell 70 = .ok (.goto 4, 3) := dk_167 0 4 (dk_at dksX1_sell_3 0 rfl rfl)
theorem dX1_sell_73 : decode cX1_sell 73 = .ok (.iconst 0, 1) := dk_3 (dk_at dksX1_sell_3 3 rfl rfl)
theorem dX1_sell_74 : decode cX1_sell 74 = .ok (.iadd, 1) := dk_96 (dk_at dksX1_sell_3 4 rfl rfl)
theorem dX1_sell_75 : decode cX1_sell 75 = .ok (.putfield 345, 3) := dk_181 1 89 (dk_at dksX1_sell_3 5 rfl rfl)
theorem dX1_sell_78 : decode cX1_sell 78 = .ok (.aload_n 0, 1) := dk_42 (dk_at dksX1_sell_3 8 rfl rfl)
theorem dX1_sell_79 : decode cX1_sell 79 = .ok (.aconst_null, 1) := dk_1 (dk_at dksX1_sell_3 9 rfl rfl)
theorem dX1_sell_80 : decode cX1_sell 80 = .ok (.putfield 348, 3) := dk_181 1 92 (dk_at dksX1_sell_3 10 rfl rfl)
theorem dX1_sell_83 : decode cX1_sell 83 = .ok (.aload_n 0, 1) := dk_42 (dk_at dksX1_sell_3 13 rfl rfl)
theorem dX1_sell_84 : decode cX1_sell 84 = .ok (.iconst 0, 1) := dk_3 (dk_at dksX1_sell_3 14 rfl rfl)
theorem dX1_sell_85 : decode cX1_sell 85 = .ok (.putfield 364, 3) := dk_181 1 108 (dk_at dksX1_sell_3 15 rfl rfl)
theorem dX1_sell_88 : decode cX1_sell 88 = .ok (.iload_n 1, 1) := dk_27 (dk_at dksX1_sell_3 18 rfl rfl)
theorem dX1_sell_89 : decode cX1_sell 89 = .ok (.ireturn, 1) := dk_172 (dk_at dksX1_sell_3 19 rfl rfl)
abbrev cX1_answer : ByteArray := prog_1_method_46_code
def yX1_answer : MethodName := ⟨RX1, "answer", "(Z)I"⟩
def dkwX1_answer_1 : List UInt8 := [180, 0, 44, 61, 42, 180, 1, 92, 2, 181, 1, 99, 42, 28, 182, 1, 122, 172]
abbrev dktX1_answer_1 : List UInt8 := dkwX1_answer_1 ++ []
def dkwX1_answer_0 : List UInt8 := [42, 180, 1, 108, 184, 0, 69, 27, 153, 0, 13, 42, 180, 1, 92, 180, 1, 99, 167, 0, 7, 42]
abbrev dktX1_answer_0 : List UInt8 := dkwX1_answer_0 ++ dktX1_answer_1
theorem dksX1_answer_0 : cX1_answer.data.toList.drop 0 = dktX1_answer_0 := by decide +kernel
theorem dksX1_answer_1 : cX1_answer.data.toList.drop 22 = dktX1_answer_1 := dk_seg dksX1_answer_0 22 rfl rfl
theorem dX1_answer_0 : decode cX1_answer 0 = .ok (.aload_n 0, 1) := dk_42 (dk_at dksX1_answer_0 0 rfl rfl)
theorem dX1_answer_1 : decode cX1_answer 1 = .ok (.getfield 364, 3) := dk_180 1 108 (dk_at dksX1_answer_0 1 rfl rfl)
theorem dX1_answer_4 : decode cX1_answer 4 = .ok (.invokestatic 69, 3) := dk_184 0 69 (dk_at dksX1_answer_0 4 rfl rfl)
theorem dX1_answer_7 : decode cX1_answer 7 = .ok (.iload_n 1, 1) := dk_27 (dk_at dksX1_answer_0 7 rfl rfl)
theorem dX1_answer_8 : decode cX1_answer 8 = .ok (.ifCond .eq 13, 3) := dk_153 0 13 (dk_at dksX1_answer_0 8 rfl rfl)
theorem dX1_answer_11 : decode cX1_answer 11 = .ok (.aload_n 0, 1) := dk_42 (dk_at dksX1_answer_0 11 rfl rfl)
theorem dX1_answer_12 : decode cX1_answer 12 = .ok (.getfield 348, 3) := dk_180 1 92 (dk_at dksX1_answer_0 12 rfl rfl)
theorem dX1_answer_15 : decode cX1_answer 15 = .ok (.getfield 355, 3) := dk_180 1 99 (dk_at dksX1_answer_0 15 rfl rfl)
theorem dX1_answer_18 : decode cX1_answer 18 = .ok (.goto 7, 3) := dk_167 0 7 (dk_at dksX1_answer_0 18 rfl rfl)
theorem dX1_answer_21 : decode cX1_answer 21 = .ok (.aload_n 0, 1) := dk_42 (dk_at dksX1_answer_0 21 rfl rfl)
theorem dX1_answer_22 : decode cX1_answer 22 = .ok (.getfield 44, 3) := dk_180 0 44 (dk_at dksX1_answer_1 0 rfl rfl)
theorem dX1_answer_25 : decode cX1_answer 25 = .ok (.istore_n 2, 1) := dk_61 (dk_at dksX1_answer_1 3 rfl rfl)
theorem dX1_answer_26 : decode cX1_answer 26 = .ok (.aload_n 0, 1) := dk_42 (dk_at dksX1_answer_1 4 rfl rfl)
theorem dX1_answer_27 : decode cX1_answer 27 = .ok (.getfield 348, 3) := dk_180 1 92 (dk_at dksX1_answer_1 5 rfl rfl)
theorem dX1_answer_30 : decode cX1_answer 30 = .ok (.iconst (-1), 1) := dk_2 (dk_at dksX1_answer_1 8 rfl rfl)
theorem dX1_answer_31 : decode cX1_answer 31 = .ok (.putfield 355, 3) := dk_181 1 99 (dk_at dksX1_answer_1 9 rfl rfl)
theorem dX1_answer_34 : decode cX1_answer 34 = .ok (.aload_n 0, 1) := dk_42 (dk_at dksX1_answer_1 12 rfl rfl)
theorem dX1_answer_35 : decode cX1_answer 35 = .ok (.iload_n 2, 1) := dk_28 (dk_at dksX1_answer_1 13 rfl rfl)
theorem dX1_answer_36 : decode cX1_answer 36 = .ok (.invokevirtual 378, 3) := dk_182 1 122 (dk_at dksX1_answer_1 14 rfl rfl)
theorem dX1_answer_39 : decode cX1_answer 39 = .ok (.ireturn, 1) := dk_172 (dk_at dksX1_answer_1 17 rfl rfl)
abbrev cX1_lot : ByteArray := prog_1_method_47_code
def yX1_lot : MethodName := ⟨RX1, "lot", "(II)I"⟩
def dkwX1_lot_3 : List UInt8 := [180, 1, 102, 158, 0, 10, 42, 180, 1, 105, 167, 0, 4, 2, 172, 187, 0, 55, 89, 183, 0, 57, 191]
abbrev dktX1_lot_3 : List UInt8 := dkwX1_lot_3 ++ []
def dkwX1_lot_2 : List UInt8 := [45, 180, 1, 96, 172, 45, 180, 1, 119, 172, 45, 180, 1, 99, 172, 45, 42, 180, 1, 92, 166, 0, 17, 42]
abbrev dktX1_lot_2 : List UInt8 := dkwX1_lot_2 ++ dktX1_lot_3
def dkwX1_lot_1 : List UInt8 := [170, 0, 0, 0, 0, 69, 0, 0, 0, 0, 0, 0, 0, 3, 0, 0, 0, 30, 0, 0, 0, 35, 0, 0, 0, 40, 0, 0, 0, 45]
abbrev dktX1_lot_1 : List UInt8 := dkwX1_lot_1 ++ dktX1_lot_2
def dkwX1_lot_0 : List UInt8 := [27, 16, 24, 184, 0, 61, 42, 180, 0, 40, 27, 50, 78, 28]
abbrev dktX1_lot_0 : List UInt8 := dkwX1_lot_0 ++ dktX1_lot_1
theorem dksX1_lot_0 : cX1_lot.data.toList.drop 0 = dktX1_lot_0 := by decide +kernel
theorem dksX1_lot_1 : cX1_lot.data.toList.drop 14 = dktX1_lot_1 := dk_seg dksX1_lot_0 14 rfl rfl
theorem dksX1_lot_2 : cX1_lot.data.toList.drop 44 = dktX1_lot_2 := dk_seg dksX1_lot_1 30 rfl rfl
theorem dksX1_lot_3 : cX1_lot.data.toList.drop 68 = dktX1_lot_3 := dk_seg dksX1_lot_2 24 rfl rfl
theorem dX1_lot_0 : decode cX1_lot 0 = .ok (.iload_n 1, 1) := dk_27 (dk_at dksX1_lot_0 0 rfl rfl)
theorem dX1_lot_1 : decode cX1_lot 1 = .ok (.bipush 24, 2) := dk_16 24 (dk_at dksX1_lot_0 1 rfl rfl)
theorem dX1_lot_3 : decode cX1_lot 3 = .ok (.invokestatic 61, 3) := dk_184 0 61 (dk_at dksX1_lot_0 3 rfl rfl)
theorem dX1_lot_6 : decode cX1_lot 6 = .ok (.aload_n 0, 1) := dk_42 (dk_at dksX1_lot_0 6 rfl rfl)
theorem dX1_lot_7 : decode cX1_lot 7 = .ok (.getfield 40, 3) := dk_180 0 40 (dk_at dksX1_lot_0 7 rfl rfl)
theorem dX1_lot_10 : decode cX1_lot 10 = .ok (.iload_n 1, 1) := dk_27 (dk_at dksX1_lot_0 10 rfl rfl)
theorem dX1_lot_11 : decode cX1_lot 11 = .ok (.aaload, 1) := dk_50 (dk_at dksX1_lot_0 11 rfl rfl)
theorem dX1_lot_12 : decode cX1_lot 12 = .ok (.astore_n 3, 1) := dk_78 (dk_at dksX1_lot_0 12 rfl rfl)
theorem dX1_lot_13 : decode cX1_lot 13 = .ok (.iload_n 2, 1) := dk_28 (dk_at dksX1_lot_0 13 rfl rfl)
theorem dX1_lot_14 : decode cX1_lot 14 = .ok (.tableswitch 69 0 3 #[30, 35, 40, 45], 30) := by decide +kernel
theorem dX1_lot_44 : decode cX1_lot 44 = .ok (.aload_n 3, 1) := dk_45 (dk_at dksX1_lot_2 0 rfl rfl)
theorem dX1_lot_45 : decode cX1_lot 45 = .ok (.getfield 352, 3) := dk_180 1 96 (dk_at dksX1_lot_2 1 rfl rfl)
theorem dX1_lot_48 : decode cX1_lot 48 = .ok (.ireturn, 1) := dk_172 (dk_at dksX1_lot_2 4 rfl rfl)
theorem dX1_lot_49 : decode cX1_lot 49 = .ok (.aload_n 3, 1) := dk_45 (dk_at dksX1_lot_2 5 rfl rfl)
theorem dX1_lot_50 : decode cX1_lot 50 = .ok (.getfield 375, 3) := dk_180 1 119 (dk_at dksX1_lot_2 6 rfl rfl)
theorem dX1_lot_53 : decode cX1_lot 53 = .ok (.ireturn, 1) := dk_172 (dk_at dksX1_lot_2 9 rfl rfl)
theorem dX1_lot_54 : decode cX1_lot 54 = .ok (.aload_n 3, 1) := dk_45 (dk_at dksX1_lot_2 10 rfl rfl)
theorem dX1_lot_55 : decode cX1_lot 55 = .ok (.getfield 355, 3) := dk_180 1 99 (dk_at dksX1_lot_2 11 rfl rfl)
theorem dX1_lot_58 : decode cX1_lot 58 = .ok (.ireturn, 1) := dk_172 (dk_at dksX1_lot_2 14 rfl rfl)
theorem dX1_lot_59 : decode cX1_lot 59 = .ok (.aload_n 3, 1) := dk_45 (dk_at dksX1_lot_2 15 rfl rfl)
theorem dX1_lot_60 : decode cX1_lot 60 = .ok (.aload_n 0, 1) := dk_42 (dk_at dksX1_lot_2 16 rfl rfl)
theorem dX1_lot_61 : decode cX1_lot 61 = .ok (.getfield 348, 3) := dk_180 1 92 (dk_at dksX1_lot_2 17 rfl rfl)
theorem dX1_lot_64 : decode cX1_lot 64 = .ok (.if_acmp .ne 17, 3) := dk_166 0 17 (dk_at dksX1_lot_2 20 rfl rfl)
theorem dX1_lot_67 : decode cX1_lot 67 = .ok (.aload_n 0, 1) := dk_42 (dk_at dksX1_lot_2 23 rfl rfl)
theorem dX1_lot_68 : decode cX1_lot 68 = .ok (.getfield 358, 3) := dk_180 1 102 (dk_at dksX1_lot_3 0 rfl rfl)
theorem dX1_lot_71 : decode cX1_lot 71 = .ok (.ifCond .le 10, 3) := dk_158 0 10 (dk_at dksX1_lot_3 3 rfl rfl)
theorem dX1_lot_74 : decode cX1_lot 74 = .ok (.aload_n 0, 1) := dk_42 (dk_at dksX1_lot_3 6 rfl rfl)
theorem dX1_lot_75 : decode cX1_lot 75 = .ok (.getfield 361, 3) := dk_180 1 105 (dk_at dksX1_lot_3 7 rfl rfl)
theorem dX1_lot_78 : decode cX1_lot 78 = .ok (.goto 4, 3) := dk_167 0 4 (dk_at dksX1_lot_3 10 rfl rfl)
theorem dX1_lot_81 : decode cX1_lot 81 = .ok (.iconst (-1), 1) := dk_2 (dk_at dksX1_lot_3 13 rfl rfl)
theorem dX1_lot_82 : decode cX1_lot 82 = .ok (.ireturn, 1) := dk_172 (dk_at dksX1_lot_3 14 rfl rfl)
theorem dX1_lot_83 : decode cX1_lot 83 = .ok (.new 55, 3) := dk_187 0 55 (dk_at dksX1_lot_3 15 rfl rfl)
theorem dX1_lot_86 : decode cX1_lot 86 = .ok (.dup, 1) := dk_89 (dk_at dksX1_lot_3 18 rfl rfl)
theorem dX1_lot_87 : decode cX1_lot 87 = .ok (.invokespecial 57, 3) := dk_183 0 57 (dk_at dksX1_lot_3 19 rfl rfl)
theorem dX1_lot_90 : decode cX1_lot 90 = .ok (.athrow, 1) := dk_191 (dk_at dksX1_lot_3 22 rfl rfl)
abbrev cX1_squad : ByteArray := prog_1_method_48_code
def yX1_squad : MethodName := ⟨RX1, "squad", "(II)I"⟩
def dkwX1_squad_2 : List UInt8 := [45, 180, 1, 80, 172, 45, 180, 1, 83, 172, 45, 180, 1, 89, 172, 187, 0, 55, 89, 183, 0, 57, 191]
abbrev dktX1_squad_2 : List UInt8 := dkwX1_squad_2 ++ []
def dkwX1_squad_1 : List UInt8 := [170, 0, 0, 0, 0, 41, 0, 0, 0, 0, 0, 0, 0, 2, 0, 0, 0, 26, 0, 0, 0, 31, 0, 0, 0, 36]
abbrev dktX1_squad_1 : List UInt8 := dkwX1_squad_1 ++ dktX1_squad_2
def dkwX1_squad_0 : List UInt8 := [27, 16, 8, 184, 0, 61, 42, 180, 0, 34, 27, 50, 78, 28]
abbrev dktX1_squad_0 : List UInt8 := dkwX1_squad_0 ++ dktX1_squad_1
theorem dksX1_squad_0 : cX1_squad.data.toList.drop 0 = dktX1_squad_0 := by decide +kernel
theorem dksX1_squad_1 : cX1_squad.data.toList.drop 14 = dktX1_squad_1 := dk_seg dksX1_squad_0 14 rfl rfl
theorem dksX1_squad_2 : cX1_squad.data.toList.drop 40 = dktX1_squad_2 := dk_seg dksX1_squad_1 26 rfl rfl
theorem dX1_squad_0 : decode cX1_squad 0 = .ok (.iload_n 1, 1) := dk_27 (dk_at dksX1_squad_0 0 rfl rfl)
theorem dX1_squad_1 : decode cX1_squad 1 = .ok (.bipush 8, 2) := dk_16 8 (dk_at dksX1_squad_0 1 rfl rfl)
theorem dX1_squad_3 : decode cX1_squad 3 = .ok (.invokestatic 61, 3) := dk_184 0 61 (dk_at dksX1_squad_0 3 rfl rfl)
theorem dX1_squad_6 : decode cX1_squad 6 = .ok (.aload_n 0, 1) := dk_42 (dk_at dksX1_squad_0 6 rfl rfl)
theorem dX1_squad_7 : decode cX1_squad 7 = .ok (.getfield 34, 3) := dk_180 0 34 (dk_at dksX1_squad_0 7 rfl rfl)
theorem dX1_squad_10 : decode cX1_squad 10 = .ok (.iload_n 1, 1) := dk_27 (dk_at dksX1_squad_0 10 rfl rfl)
theorem dX1_squad_11 : decode cX1_squad 11 = .ok (.aaload, 1) := dk_50 (dk_at dksX1_squad_0 11 rfl rfl)
theorem dX1_squad_12 : decode cX1_squad 12 = .ok (.astore_n 3, 1) := dk_78 (dk_at dksX1_squad_0 12 rfl rfl)
theorem dX1_squad_13 : decode cX1_squad 13 = .ok (.iload_n 2, 1) := dk_28 (dk_at dksX1_squad_0 13 rfl rfl)
theorem dX1_squad_14 : decode cX1_squad 14 = .ok (.tableswitch 41 0 2 #[26, 31, 36], 26) := by decide +kernel
theorem dX1_squad_40 : decode cX1_squad 40 = .ok (.aload_n 3, 1) := dk_45 (dk_at dksX1_squad_2 0 rfl rfl)
theorem dX1_squad_41 : decode cX1_squad 41 = .ok (.getfield 336, 3) := dk_180 1 80 (dk_at dksX1_squad_2 1 rfl rfl)
theorem dX1_squad_44 : decode cX1_squad 44 = .ok (.ireturn, 1) := dk_172 (dk_at dksX1_squad_2 4 rfl rfl)
theorem dX1_squad_45 : decode cX1_squad 45 = .ok (.aload_n 3, 1) := dk_45 (dk_at dksX1_squad_2 5 rfl rfl)
theorem dX1_squad_46 : decode cX1_squad 46 = .ok (.getfield 339, 3) := dk_180 1 83 (dk_at dksX1_squad_2 6 rfl rfl)
theorem dX1_squad_49 : decode cX1_squad 49 = .ok (.ireturn, 1) := dk_172 (dk_at dksX1_squad_2 9 rfl rfl)
theorem dX1_squad_50 : decode cX1_squad 50 = .ok (.aload_n 3, 1) := dk_45 (dk_at dksX1_squad_2 10 rfl rfl)
theorem dX1_squad_51 : decode cX1_squad 51 = .ok (.getfield 345, 3) := dk_180 1 89 (dk_at dksX1_squad_2 11 rfl rfl)
theorem dX1_squad_54 : decode cX1_squad 54 = .ok (.ireturn, 1) := dk_172 (dk_at dksX1_squad_2 14 rfl rfl)
theorem dX1_squad_55 : decode cX1_squad 55 = .ok (.new 55, 3) := dk_187 0 55 (dk_at dksX1_squad_2 15 rfl rfl)
theorem dX1_squad_58 : decode cX1_squad 58 = .ok (.dup, 1) := dk_89 (dk_at dksX1_squad_2 18 rfl rfl)
theorem dX1_squad_59 : decode cX1_squad 59 = .ok (.invokespecial 57, 3) := dk_183 0 57 (dk_at dksX1_squad_2 19 rfl rfl)
theorem dX1_squad_62 : decode cX1_squad 62 = .ok (.athrow, 1) := dk_191 (dk_at dksX1_squad_2 22 rfl rfl)
theorem q65 : (Jvm.Cond.initialized "Raidhall") ∈ lw_all := lw_g (lw_at lw_m1 1 rfl) rfl
theorem q108 : (Jvm.Cond.instantiable "Raidhall" (10 : Nat)) ∈ lw_all := lw_g (lw_at lw_m1 44 rfl) rfl
theorem q110 : (Jvm.Cond.instanceMethod ({ cls := "Raidhall", name := "<init>", desc := "()V" } : Jvm.MethodName)) ∈ lw_all := lw_g (lw_at lw_m1 46 rfl) rfl
theorem q111 : (Jvm.Cond.code ({ cls := "Raidhall", name := "<init>", desc := "()V" } : Jvm.MethodName) prog_1_method_2_code (2 : Nat) (Option.none : Option Jvm.ClassFile.FieldType)) ∈ lw_all := lw_g (lw_at lw_m1 47 rfl) rfl
theorem q112 : (Jvm.Cond.methodLink "Raidhall" (17 : Nat) ({ cls := "java/lang/Object", name := "<init>", desc := "()V" } : Jvm.MethodName)) ∈ lw_all := lw_g (lw_at lw_m1 48 rfl) rfl
theorem q115 : (Jvm.Cond.classLink "Raidhall" (23 : Nat) "java/lang/StringBuilder") ∈ lw_all := lw_g (lw_at lw_m1 51 rfl) rfl
theorem q117 : (Jvm.Cond.methodLink "Raidhall" (25 : Nat) ({ cls := "java/lang/StringBuilder", name := "<init>", desc := "()V" } : Jvm.MethodName)) ∈ lw_all := lw_g (lw_at lw_m1 53 rfl) rfl
theorem q148 : (Jvm.Cond.classLink "Raidhall" (32 : Nat) "Raidhall$Club") ∈ lw_all := lw_g (lw_at lw_m1 84 rfl) rfl
theorem q150 : (Jvm.Cond.classLink "Raidhall" (38 : Nat) "Raidhall$Lot") ∈ lw_all := lw_g (lw_at lw_m1 86 rfl) rfl
theorem q153 : (Jvm.Cond.methodLinkNest "Raidhall" (48 : Nat) ({ cls := "Raidhall$Club", name := "<init>", desc := "()V" } : Jvm.MethodName) "Raidhall") ∈ lw_tbl := lw_at lw_m1 89 rfl
theorem q158 : (Jvm.Cond.fieldLinkNest "Raidhall" (317 : Nat) "Raidhall$Club" "matches" "I" "Raidhall") ∈ lw_tbl := lw_at lw_m1 94 rfl
theorem q160 : (Jvm.Cond.fieldLinkNest "Raidhall" (318 : Nat) "Raidhall$Club" "won" "I" "Raidhall") ∈ lw_tbl := lw_at lw_m1 96 rfl
theorem q162 : (Jvm.Cond.fieldLinkNest "Raidhall" (321 : Nat) "Raidhall$Club" "even" "I" "Raidhall") ∈ lw_tbl := lw_at lw_m1 98 rfl
theorem q164 : (Jvm.Cond.fieldLinkNest "Raidhall" (324 : Nat) "Raidhall$Club" "has" "I" "Raidhall") ∈ lw_tbl := lw_at lw_m1 100 rfl
theorem q166 : (Jvm.Cond.fieldLinkNest "Raidhall" (327 : Nat) "Raidhall$Club" "made" "I" "Raidhall") ∈ lw_tbl := lw_at lw_m1 102 rfl
theorem q168 : (Jvm.Cond.fieldLinkNest "Raidhall" (330 : Nat) "Raidhall$Club" "let" "I" "Raidhall") ∈ lw_tbl := lw_at lw_m1 104 rfl
theorem q170 : (Jvm.Cond.fieldLinkNest "Raidhall" (336 : Nat) "Raidhall$Club" "purse" "I" "Raidhall") ∈ lw_tbl := lw_at lw_m1 106 rfl
theorem q171 : (Jvm.Cond.fieldLinkNest "Raidhall" (339 : Nat) "Raidhall$Club" "squad" "I" "Raidhall") ∈ lw_tbl := lw_at lw_m1 107 rfl
theorem q172 : (Jvm.Cond.fieldLinkNest "Raidhall" (345 : Nat) "Raidhall$Club" "foreign" "I" "Raidhall") ∈ lw_tbl := lw_at lw_m1 108 rfl
theorem q193 : (Jvm.Cond.methodLink "Raidhall" (49 : Nat) ({ cls := "Raidhall$Lot", name := "<init>", desc := "(I)V" } : Jvm.MethodName)) ∈ lw_all := lw_g (lw_at lw_m1 129 rfl) rfl
theorem q199 : (Jvm.Cond.fieldLinkNest "Raidhall" (352 : Nat) "Raidhall$Lot" "club" "I" "Raidhall") ∈ lw_tbl := lw_at lw_m1 135 rfl
theorem q201 : (Jvm.Cond.fieldLinkNest "Raidhall" (375 : Nat) "Raidhall$Lot" "price" "I" "Raidhall") ∈ lw_tbl := lw_at lw_m1 137 rfl
theorem q203 : (Jvm.Cond.fieldLinkNest "Raidhall" (355 : Nat) "Raidhall$Lot" "right" "I" "Raidhall") ∈ lw_tbl := lw_at lw_m1 139 rfl
theorem q213 : (Jvm.Cond.fieldLink "Raidhall" (65 : Nat) "Raidhall" "match" "LRaidhall$Match;") ∈ lw_all := lw_g (lw_at lw_m1 149 rfl) rfl
theorem q214 : (Jvm.Cond.fieldLink "Raidhall" (88 : Nat) "Raidhall" "matches" "I") ∈ lw_all := lw_g (lw_at lw_m1 150 rfl) rfl
theorem q215 : (Jvm.Cond.fieldLink "Raidhall" (26 : Nat) "Raidhall" "pad" "Ljava/lang/StringBuilder;") ∈ lw_all := lw_g (lw_at lw_m1 151 rfl) rfl
theorem q216 : (Jvm.Cond.fieldLink "Raidhall" (34 : Nat) "Raidhall" "clubs" "[LRaidhall$Club;") ∈ lw_all := lw_g (lw_at lw_m1 152 rfl) rfl
theorem q217 : (Jvm.Cond.fieldLink "Raidhall" (40 : Nat) "Raidhall" "lots" "[LRaidhall$Lot;") ∈ lw_all := lw_g (lw_at lw_m1 153 rfl) rfl
theorem q218 : (Jvm.Cond.fieldLink "Raidhall" (348 : Nat) "Raidhall" "called" "LRaidhall$Lot;") ∈ lw_all := lw_g (lw_at lw_m1 154 rfl) rfl
theorem q219 : (Jvm.Cond.fieldLink "Raidhall" (358 : Nat) "Raidhall" "bids" "I") ∈ lw_all := lw_g (lw_at lw_m1 155 rfl) rfl
theorem q220 : (Jvm.Cond.fieldLink "Raidhall" (44 : Nat) "Raidhall" "bidder" "I") ∈ lw_all := lw_g (lw_at lw_m1 156 rfl) rfl
theorem q221 : (Jvm.Cond.fieldLink "Raidhall" (361 : Nat) "Raidhall" "highest" "I") ∈ lw_all := lw_g (lw_at lw_m1 157 rfl) rfl
theorem q222 : (Jvm.Cond.fieldLink "Raidhall" (364 : Nat) "Raidhall" "isAsked" "Z") ∈ lw_all := lw_g (lw_at lw_m1 158 rfl) rfl
theorem q223 : (Jvm.Cond.lays "Raidhall" "Raidhall" "match" "LRaidhall$Match;") ∈ lw_all := lw_g (lw_at lw_m1 159 rfl) rfl
theorem q224 : (Jvm.Cond.soleField "Raidhall" "match") ∈ lw_all := lw_g (lw_at lw_m1 160 rfl) rfl
theorem q225 : (Jvm.Cond.lays "Raidhall" "Raidhall" "matches" "I") ∈ lw_all := lw_g (lw_at lw_m1 161 rfl) rfl
theorem q226 : (Jvm.Cond.soleField "Raidhall" "matches") ∈ lw_all := lw_g (lw_at lw_m1 162 rfl) rfl
theorem q227 : (Jvm.Cond.laysFinal "Raidhall" "Raidhall" "pad" "Ljava/lang/StringBuilder;") ∈ lw_all := lw_g (lw_at lw_m1 163 rfl) rfl
theorem q228 : (Jvm.Cond.soleField "Raidhall" "pad") ∈ lw_all := lw_g (lw_at lw_m1 164 rfl) rfl
theorem q229 : (Jvm.Cond.laysFinal "Raidhall" "Raidhall" "clubs" "[LRaidhall$Club;") ∈ lw_all := lw_g (lw_at lw_m1 165 rfl) rfl
theorem q230 : (Jvm.Cond.soleField "Raidhall" "clubs") ∈ lw_all := lw_g (lw_at lw_m1 166 rfl) rfl
theorem q231 : (Jvm.Cond.laysFinal "Raidhall" "Raidhall" "lots" "[LRaidhall$Lot;") ∈ lw_all := lw_g (lw_at lw_m1 167 rfl) rfl
theorem q232 : (Jvm.Cond.soleField "Raidhall" "lots") ∈ lw_all := lw_g (lw_at lw_m1 168 rfl) rfl
theorem q233 : (Jvm.Cond.lays "Raidhall" "Raidhall" "called" "LRaidhall$Lot;") ∈ lw_all := lw_g (lw_at lw_m1 169 rfl) rfl
theorem q234 : (Jvm.Cond.soleField "Raidhall" "called") ∈ lw_all := lw_g (lw_at lw_m1 170 rfl) rfl
theorem q235 : (Jvm.Cond.lays "Raidhall" "Raidhall" "bids" "I") ∈ lw_all := lw_g (lw_at lw_m1 171 rfl) rfl
theorem q236 : (Jvm.Cond.soleField "Raidhall" "bids") ∈ lw_all := lw_g (lw_at lw_m1 172 rfl) rfl
theorem q237 : (Jvm.Cond.lays "Raidhall" "Raidhall" "bidder" "I") ∈ lw_all := lw_g (lw_at lw_m1 173 rfl) rfl
theorem q238 : (Jvm.Cond.soleField "Raidhall" "bidder") ∈ lw_all := lw_g (lw_at lw_m1 174 rfl) rfl
theorem q239 : (Jvm.Cond.lays "Raidhall" "Raidhall" "highest" "I") ∈ lw_all := lw_g (lw_at lw_m1 175 rfl) rfl
theorem q240 : (Jvm.Cond.soleField "Raidhall" "highest") ∈ lw_all := lw_g (lw_at lw_m1 176 rfl) rfl
theorem q241 : (Jvm.Cond.lays "Raidhall" "Raidhall" "isAsked" "Z") ∈ lw_all := lw_g (lw_at lw_m1 177 rfl) rfl
theorem q242 : (Jvm.Cond.soleField "Raidhall" "isAsked") ∈ lw_all := lw_g (lw_at lw_m1 178 rfl) rfl
theorem q243 : (Jvm.Cond.superclass "Raidhall" "java/lang/Object") ∈ lw_all := lw_g (lw_at lw_m1 179 rfl) rfl
theorem q245 : (Jvm.Cond.instanceMethod ({ cls := "Raidhall", name := "clear", desc := "()I" } : Jvm.MethodName)) ∈ lw_all := lw_g (lw_at lw_m1 181 rfl) rfl
theorem q246 : (Jvm.Cond.selects "Raidhall" ({ cls := "Raidhall", name := "clear", desc := "()I" } : Jvm.MethodName) ({ cls := "Raidhall", name := "clear", desc := "()I" } : Jvm.MethodName)) ∈ lw_all := lw_g (lw_at lw_m1 182 rfl) rfl
theorem q247 : (Jvm.Cond.code ({ cls := "Raidhall", name := "clear", desc := "()I" } : Jvm.MethodName) prog_1_method_22_code (2 : Nat) (Option.some Jvm.ClassFile.FieldType.int)) ∈ lw_all := lw_g (lw_at lw_m1 183 rfl) rfl
theorem q248 : (Jvm.Cond.methodLink "Raidhall" (217 : Nat) ({ cls := "java/lang/StringBuilder", name := "length", desc := "()I" } : Jvm.MethodName)) ∈ lw_all := lw_g (lw_at lw_m1 184 rfl) rfl
theorem q255 : (Jvm.Cond.methodLink "Raidhall" (224 : Nat) ({ cls := "java/lang/StringBuilder", name := "setLength", desc := "(I)V" } : Jvm.MethodName)) ∈ lw_all := lw_g (lw_at lw_m1 191 rfl) rfl
theorem q595 : (Jvm.Cond.instanceMethod ({ cls := "Raidhall", name := "fault", desc := "()I" } : Jvm.MethodName)) ∈ lw_all := lw_g (lw_at lw_m3 51 rfl) rfl
theorem q596 : (Jvm.Cond.selects "Raidhall" ({ cls := "Raidhall", name := "fault", desc := "()I" } : Jvm.MethodName) ({ cls := "Raidhall", name := "fault", desc := "()I" } : Jvm.MethodName)) ∈ lw_all := lw_g (lw_at lw_m3 52 rfl) rfl
theorem q597 : (Jvm.Cond.code ({ cls := "Raidhall", name := "fault", desc := "()I" } : Jvm.MethodName) prog_1_method_23_code (1 : Nat) (Option.some Jvm.ClassFile.FieldType.int)) ∈ lw_all := lw_g (lw_at lw_m3 53 rfl) rfl
theorem q598 : (Jvm.Cond.classLink "Raidhall" (227 : Nat) "Raidhall$Reader") ∈ lw_all := lw_g (lw_at lw_m3 54 rfl) rfl
theorem q600 : (Jvm.Cond.methodLink "Raidhall" (229 : Nat) ({ cls := "Raidhall$Reader", name := "<init>", desc := "(Ljava/lang/CharSequence;)V" } : Jvm.MethodName)) ∈ lw_all := lw_g (lw_at lw_m3 56 rfl) rfl
theorem q660 : (Jvm.Cond.static ({ cls := "Raidhall", name := "wordOf", desc := "(I)Ljava/lang/String;" } : Jvm.MethodName)) ∈ lw_all := lw_g (lw_at lw_m3 116 rfl) rfl
theorem q661 : (Jvm.Cond.code ({ cls := "Raidhall", name := "wordOf", desc := "(I)Ljava/lang/String;" } : Jvm.MethodName) prog_1_method_1_code (1 : Nat) (Option.some (Jvm.ClassFile.FieldType.object "java/lang/String"))) ∈ lw_all := lw_g (lw_at lw_m3 117 rfl) rfl
theorem q662 : (Jvm.Cond.stringRef "Raidhall" (1 : Nat) "touch") ∈ lw_tbl := lw_at lw_m3 118 rfl
theorem q663 : (Jvm.Cond.stringRef "Raidhall" (3 : Nat) "bonus") ∈ lw_tbl := lw_at lw_m3 119 rfl
theorem q664 : (Jvm.Cond.stringRef "Raidhall" (5 : Nat) "baulk") ∈ lw_tbl := lw_at lw_m3 120 rfl
theorem q665 : (Jvm.Cond.stringRef "Raidhall" (7 : Nat) "back") ∈ lw_tbl := lw_at lw_m3 121 rfl
theorem q666 : (Jvm.Cond.stringRef "Raidhall" (9 : Nat) "fall") ∈ lw_tbl := lw_at lw_m3 122 rfl
theorem q667 : (Jvm.Cond.stringRef "Raidhall" (11 : Nat) "line") ∈ lw_tbl := lw_at lw_m3 123 rfl
theorem q668 : (Jvm.Cond.stringRef "Raidhall" (13 : Nat) "time") ∈ lw_tbl := lw_at lw_m3 124 rfl
theorem q669 : (Jvm.Cond.stringRef "Raidhall" (15 : Nat) "raid") ∈ lw_tbl := lw_at lw_m3 125 rfl
theorem q968 : (Jvm.Cond.selects "Raidhall" ({ cls := "java/lang/Object", name := "getClass", desc := "()Ljava/lang/Class;" } : Jvm.MethodName) ({ cls := "java/lang/Object", name := "getClass", desc := "()Ljava/lang/Class;" } : Jvm.MethodName)) ∈ lw_all := lw_g (lw_at lw_m4 184 rfl) rfl
theorem q1003 : (Jvm.Cond.fieldLinkNest "Raidhall" (270 : Nat) "Raidhall$Reader" "orders" "Ljava/util/List;" "Raidhall") ∈ lw_tbl := lw_at lw_m4 219 rfl
theorem q1015 : (Jvm.Cond.methodLink "Raidhall" (232 : Nat) ({ cls := "Raidhall$Reader", name := "fault", desc := "()I" } : Jvm.MethodName)) ∈ lw_all := lw_g (lw_at lw_m4 231 rfl) rfl
theorem q1028 : (Jvm.Cond.instanceMethod ({ cls := "Raidhall", name := "begin", desc := "(III)I" } : Jvm.MethodName)) ∈ lw_all := lw_g (lw_at lw_m5 4 rfl) rfl
theorem q1029 : (Jvm.Cond.selects "Raidhall" ({ cls := "Raidhall", name := "begin", desc := "(III)I" } : Jvm.MethodName) ({ cls := "Raidhall", name := "begin", desc := "(III)I" } : Jvm.MethodName)) ∈ lw_all := lw_g (lw_at lw_m5 5 rfl) rfl
theorem q1030 : (Jvm.Cond.code ({ cls := "Raidhall", name := "begin", desc := "(III)I" } : Jvm.MethodName) prog_1_method_11_code (4 : Nat) (Option.some Jvm.ClassFile.FieldType.int)) ∈ lw_all := lw_g (lw_at lw_m5 6 rfl) rfl
theorem q1031 : (Jvm.Cond.methodLink "Raidhall" (61 : Nat) ({ cls := "Raidhall", name := "checkIndex", desc := "(II)V" } : Jvm.MethodName)) ∈ lw_all := lw_g (lw_at lw_m5 7 rfl) rfl
theorem q1032 : (Jvm.Cond.static ({ cls := "Raidhall", name := "checkIndex", desc := "(II)V" } : Jvm.MethodName)) ∈ lw_all := lw_g (lw_at lw_m5 8 rfl) rfl
theorem q1033 : (Jvm.Cond.code ({ cls := "Raidhall", name := "checkIndex", desc := "(II)V" } : Jvm.MethodName) prog_1_method_5_code (2 : Nat) (Option.none : Option Jvm.ClassFile.FieldType)) ∈ lw_all := lw_g (lw_at lw_m5 9 rfl) rfl
theorem q1034 : (Jvm.Cond.classLink "Raidhall" (58 : Nat) "java/lang/IndexOutOfBoundsException") ∈ lw_all := lw_g (lw_at lw_m5 10 rfl) rfl
theorem q1043 : (Jvm.Cond.methodLink "Raidhall" (60 : Nat) ({ cls := "java/lang/IndexOutOfBoundsException", name := "<init>", desc := "()V" } : Jvm.MethodName)) ∈ lw_all := lw_g (lw_at lw_m5 19 rfl) rfl
theorem q1055 : (Jvm.Cond.methodLink "Raidhall" (78 : Nat) ({ cls := "Raidhall", name := "isIn", desc := "(III)Z" } : Jvm.MethodName)) ∈ lw_all := lw_g (lw_at lw_m5 31 rfl) rfl
theorem q1056 : (Jvm.Cond.static ({ cls := "Raidhall", name := "isIn", desc := "(III)Z" } : Jvm.MethodName)) ∈ lw_all := lw_g (lw_at lw_m5 32 rfl) rfl
theorem q1057 : (Jvm.Cond.code ({ cls := "Raidhall", name := "isIn", desc := "(III)Z" } : Jvm.MethodName) prog_1_method_6_code (3 : Nat) (Option.some Jvm.ClassFile.FieldType.boolean)) ∈ lw_all := lw_g (lw_at lw_m5 33 rfl) rfl
theorem q1058 : (Jvm.Cond.methodLink "Raidhall" (82 : Nat) ({ cls := "Raidhall", name := "checkArgument", desc := "(Z)V" } : Jvm.MethodName)) ∈ lw_all := lw_g (lw_at lw_m5 34 rfl) rfl
theorem q1059 : (Jvm.Cond.static ({ cls := "Raidhall", name := "checkArgument", desc := "(Z)V" } : Jvm.MethodName)) ∈ lw_all := lw_g (lw_at lw_m5 35 rfl) rfl
theorem q1060 : (Jvm.Cond.code ({ cls := "Raidhall", name := "checkArgument", desc := "(Z)V" } : Jvm.MethodName) prog_1_method_4_code (1 : Nat) (Option.none : Option Jvm.ClassFile.FieldType)) ∈ lw_all := lw_g (lw_at lw_m5 36 rfl) rfl
theorem q1061 : (Jvm.Cond.classLink "Raidhall" (55 : Nat) "java/lang/IllegalArgumentException") ∈ lw_all := lw_g (lw_at lw_m5 37 rfl) rfl
theorem q1062 : (Jvm.Cond.methodLink "Raidhall" (57 : Nat) ({ cls := "java/lang/IllegalArgumentException", name := "<init>", desc := "()V" } : Jvm.MethodName)) ∈ lw_all := lw_g (lw_at lw_m5 38 rfl) rfl
theorem q1066 : (Jvm.Cond.methodLink "Raidhall" (69 : Nat) ({ cls := "Raidhall", name := "checkState", desc := "(Z)V" } : Jvm.MethodName)) ∈ lw_all := lw_g (lw_at lw_m5 42 rfl) rfl
theorem q1067 : (Jvm.Cond.static ({ cls := "Raidhall", name := "checkState", desc := "(Z)V" } : Jvm.MethodName)) ∈ lw_all := lw_g (lw_at lw_m5 43 rfl) rfl
theorem q1068 : (Jvm.Cond.code ({ cls := "Raidhall", name := "checkState", desc := "(Z)V" } : Jvm.MethodName) prog_1_method_3_code (1 : Nat) (Option.none : Option Jvm.ClassFile.FieldType)) ∈ lw_all := lw_g (lw_at lw_m5 44 rfl) rfl
theorem q1069 : (Jvm.Cond.classLink "Raidhall" (52 : Nat) "java/lang/IllegalStateException") ∈ lw_all := lw_g (lw_at lw_m5 45 rfl) rfl
theorem q1078 : (Jvm.Cond.methodLink "Raidhall" (54 : Nat) ({ cls := "java/lang/IllegalStateException", name := "<init>", desc := "()V" } : Jvm.MethodName)) ∈ lw_all := lw_g (lw_at lw_m5 54 rfl) rfl
theorem q1084 : (Jvm.Cond.classLink "Raidhall" (74 : Nat) "Raidhall$Match") ∈ lw_all := lw_g (lw_at lw_m5 60 rfl) rfl
theorem q1086 : (Jvm.Cond.methodLink "Raidhall" (85 : Nat) ({ cls := "Raidhall$Match", name := "<init>", desc := "(III)V" } : Jvm.MethodName)) ∈ lw_all := lw_g (lw_at lw_m5 62 rfl) rfl
theorem q1108 : (Jvm.Cond.fieldLinkNest "Raidhall" (277 : Nat) "Raidhall$Mats" "state" "[[I" "Raidhall") ∈ lw_tbl := lw_at lw_m5 84 rfl
theorem q1115 : (Jvm.Cond.fieldLinkNest "Raidhall" (310 : Nat) "Raidhall$Mats" "raided" "[[I" "Raidhall") ∈ lw_tbl := lw_at lw_m5 91 rfl
theorem q1117 : (Jvm.Cond.fieldLinkNest "Raidhall" (281 : Nat) "Raidhall$Mats" "outs" "Ljava/util/List;" "Raidhall") ∈ lw_tbl := lw_at lw_m5 93 rfl
theorem q1121 : (Jvm.Cond.fieldLinkNest "Raidhall" (151 : Nat) "Raidhall$Mats" "points" "[I" "Raidhall") ∈ lw_tbl := lw_at lw_m5 97 rfl
theorem q1126 : (Jvm.Cond.fieldLinkNest "Raidhall" (173 : Nat) "Raidhall$Mats" "changes" "[I" "Raidhall") ∈ lw_tbl := lw_at lw_m5 102 rfl
theorem q1131 : (Jvm.Cond.fieldLinkNest "Raidhall" (292 : Nat) "Raidhall$Mats" "time" "I" "Raidhall") ∈ lw_tbl := lw_at lw_m5 107 rfl
theorem q1134 : (Jvm.Cond.fieldLinkNest "Raidhall" (157 : Nat) "Raidhall$Mats" "turn" "I" "Raidhall") ∈ lw_tbl := lw_at lw_m5 110 rfl
theorem q1161 : (Jvm.Cond.fieldLinkNest "Raidhall" (212 : Nat) "Raidhall$Match" "clubs" "[I" "Raidhall") ∈ lw_tbl := lw_at lw_m5 137 rfl
theorem q1163 : (Jvm.Cond.fieldLinkNest "Raidhall" (111 : Nat) "Raidhall$Match" "tenths" "I" "Raidhall") ∈ lw_tbl := lw_at lw_m5 139 rfl
theorem q1165 : (Jvm.Cond.fieldLinkNest "Raidhall" (118 : Nat) "Raidhall$Match" "events" "Ljava/util/List;" "Raidhall") ∈ lw_tbl := lw_at lw_m5 141 rfl
theorem q1167 : (Jvm.Cond.fieldLinkNest "Raidhall" (200 : Nat) "Raidhall$Match" "mats" "Ljava/util/List;" "Raidhall") ∈ lw_tbl := lw_at lw_m5 143 rfl
theorem q1169 : (Jvm.Cond.fieldLinkNest "Raidhall" (184 : Nat) "Raidhall$Match" "hasReview" "[Z" "Raidhall") ∈ lw_tbl := lw_at lw_m5 145 rfl
theorem q1171 : (Jvm.Cond.fieldLinkNest "Raidhall" (73 : Nat) "Raidhall$Match" "raid" "LRaidhall$Raid;" "Raidhall") ∈ lw_tbl := lw_at lw_m5 147 rfl
theorem q1189 : (Jvm.Cond.instanceMethod ({ cls := "Raidhall", name := "raid", desc := "(I)I" } : Jvm.MethodName)) ∈ lw_all := lw_g (lw_at lw_m5 165 rfl) rfl
theorem q1190 : (Jvm.Cond.selects "Raidhall" ({ cls := "Raidhall", name := "raid", desc := "(I)I" } : Jvm.MethodName) ({ cls := "Raidhall", name := "raid", desc := "(I)I" } : Jvm.MethodName)) ∈ lw_all := lw_g (lw_at lw_m5 166 rfl) rfl
theorem q1191 : (Jvm.Cond.code ({ cls := "Raidhall", name := "raid", desc := "(I)I" } : Jvm.MethodName) prog_1_method_12_code (4 : Nat) (Option.some Jvm.ClassFile.FieldType.int)) ∈ lw_all := lw_g (lw_at lw_m5 167 rfl) rfl
theorem q1192 : (Jvm.Cond.methodLink "Raidhall" (91 : Nat) ({ cls := "Raidhall", name := "quiet", desc := "()LRaidhall$Match;" } : Jvm.MethodName)) ∈ lw_all := lw_g (lw_at lw_m5 168 rfl) rfl
theorem q1193 : (Jvm.Cond.privateMethod ({ cls := "Raidhall", name := "quiet", desc := "()LRaidhall$Match;" } : Jvm.MethodName)) ∈ lw_tbl := lw_at lw_m5 169 rfl
theorem q1194 : (Jvm.Cond.instanceMethod ({ cls := "Raidhall", name := "quiet", desc := "()LRaidhall$Match;" } : Jvm.MethodName)) ∈ lw_all := lw_g (lw_at lw_m5 170 rfl) rfl
theorem q1195 : (Jvm.Cond.code ({ cls := "Raidhall", name := "quiet", desc := "()LRaidhall$Match;" } : Jvm.MethodName) prog_1_method_9_code (1 : Nat) (Option.some (Jvm.ClassFile.FieldType.object "Raidhall$Match"))) ∈ lw_all := lw_g (lw_at lw_m5 171 rfl) rfl
theorem q1196 : (Jvm.Cond.classLink "Raidhall" (95 : Nat) "Raidhall$Raid") ∈ lw_all := lw_g (lw_at lw_m5 172 rfl) rfl
theorem q1198 : (Jvm.Cond.classLink "Raidhall" (97 : Nat) "java/util/ArrayList") ∈ lw_all := lw_g (lw_at lw_m5 174 rfl) rfl
theorem q1199 : (Jvm.Cond.methodLink "Raidhall" (99 : Nat) ({ cls := "java/util/ArrayList", name := "<init>", desc := "()V" } : Jvm.MethodName)) ∈ lw_all := lw_g (lw_at lw_m5 175 rfl) rfl
theorem q1200 : (Jvm.Cond.methodLink "Raidhall" (100 : Nat) ({ cls := "Raidhall$Raid", name := "<init>", desc := "(ILjava/util/List;)V" } : Jvm.MethodName)) ∈ lw_all := lw_g (lw_at lw_m5 176 rfl) rfl
theorem q1206 : (Jvm.Cond.fieldLinkNest "Raidhall" (137 : Nat) "Raidhall$Raid" "steps" "Ljava/util/List;" "Raidhall") ∈ lw_tbl := lw_at lw_m5 182 rfl
theorem q1212 : (Jvm.Cond.methodLink "Raidhall" (103 : Nat) ({ cls := "Raidhall$Match", name := "count", desc := "()I" } : Jvm.MethodName)) ∈ lw_all := lw_g (lw_at lw_m5 188 rfl) rfl
theorem q1225 : (Jvm.Cond.methodLink "Raidhall" (107 : Nat) ({ cls := "Raidhall$Match", name := "now", desc := "()LRaidhall$Mats;" } : Jvm.MethodName)) ∈ lw_all := lw_g (lw_at lw_m5 201 rfl) rfl
theorem q1246 : (Jvm.Cond.methodLink "Raidhall" (114 : Nat) ({ cls := "Raidhall$Raid", name := "stands", desc := "(LRaidhall$Mats;I)Z" } : Jvm.MethodName)) ∈ lw_all := lw_g (lw_at lw_m5 222 rfl) rfl
theorem q1349 : (Jvm.Cond.interfaceEntry "Raidhall" (122 : Nat)) ∈ lw_tbl := lw_at lw_m6 85 rfl
theorem q1350 : (Jvm.Cond.methodLink "Raidhall" (122 : Nat) ({ cls := "java/util/List", name := "size", desc := "()I" } : Jvm.MethodName)) ∈ lw_all := lw_g (lw_at lw_m6 86 rfl) rfl
theorem q1355 : (Jvm.Cond.instanceMethod ({ cls := "Raidhall", name := "step", desc := "(III)I" } : Jvm.MethodName)) ∈ lw_all := lw_g (lw_at lw_m6 91 rfl) rfl
theorem q1356 : (Jvm.Cond.selects "Raidhall" ({ cls := "Raidhall", name := "step", desc := "(III)I" } : Jvm.MethodName) ({ cls := "Raidhall", name := "step", desc := "(III)I" } : Jvm.MethodName)) ∈ lw_all := lw_g (lw_at lw_m6 92 rfl) rfl
theorem q1357 : (Jvm.Cond.code ({ cls := "Raidhall", name := "step", desc := "(III)I" } : Jvm.MethodName) prog_1_method_13_code (9 : Nat) (Option.some Jvm.ClassFile.FieldType.int)) ∈ lw_all := lw_g (lw_at lw_m6 93 rfl) rfl
theorem q1358 : (Jvm.Cond.methodLink "Raidhall" (127 : Nat) ({ cls := "Raidhall", name := "isStep", desc := "(III)Z" } : Jvm.MethodName)) ∈ lw_all := lw_g (lw_at lw_m6 94 rfl) rfl
theorem q1359 : (Jvm.Cond.static ({ cls := "Raidhall", name := "isStep", desc := "(III)Z" } : Jvm.MethodName)) ∈ lw_all := lw_g (lw_at lw_m6 95 rfl) rfl
theorem q1360 : (Jvm.Cond.code ({ cls := "Raidhall", name := "isStep", desc := "(III)Z" } : Jvm.MethodName) prog_1_method_10_code (3 : Nat) (Option.some Jvm.ClassFile.FieldType.boolean)) ∈ lw_all := lw_g (lw_at lw_m6 96 rfl) rfl
theorem q1361 : (Jvm.Cond.classLink "Raidhall" (130 : Nat) "Raidhall$Step") ∈ lw_all := lw_g (lw_at lw_m6 97 rfl) rfl
theorem q1363 : (Jvm.Cond.methodLinkNest "Raidhall" (132 : Nat) ({ cls := "Raidhall$Step", name := "<init>", desc := "(III)V" } : Jvm.MethodName) "Raidhall") ∈ lw_tbl := lw_at lw_m6 99 rfl
theorem q1377 : (Jvm.Cond.methodLink "Raidhall" (133 : Nat) ({ cls := "Raidhall$Raid", name := "can", desc := "(LRaidhall$Mats;LRaidhall$Step;)Z" } : Jvm.MethodName)) ∈ lw_all := lw_g (lw_at lw_m6 113 rfl) rfl
theorem q1378 : (Jvm.Cond.interfaceEntry "Raidhall" (140 : Nat)) ∈ lw_tbl := lw_at lw_m6 114 rfl
theorem q1379 : (Jvm.Cond.methodLink "Raidhall" (140 : Nat) ({ cls := "java/util/List", name := "add", desc := "(Ljava/lang/Object;)Z" } : Jvm.MethodName)) ∈ lw_all := lw_g (lw_at lw_m6 115 rfl) rfl
theorem q1380 : (Jvm.Cond.methodLink "Raidhall" (144 : Nat) ({ cls := "Raidhall$Step", name := "ends", desc := "()Z" } : Jvm.MethodName)) ∈ lw_all := lw_g (lw_at lw_m6 116 rfl) rfl
theorem q1381 : (Jvm.Cond.methodLink "Raidhall" (148 : Nat) ({ cls := "Raidhall$Match", name := "add", desc := "(LRaidhall$Event;)Z" } : Jvm.MethodName)) ∈ lw_all := lw_g (lw_at lw_m6 117 rfl) rfl
theorem q1563 : (Jvm.Cond.instanceMethod ({ cls := "Raidhall", name := "card", desc := "(III)I" } : Jvm.MethodName)) ∈ lw_all := lw_g (lw_at lw_m7 59 rfl) rfl
theorem q1564 : (Jvm.Cond.selects "Raidhall" ({ cls := "Raidhall", name := "card", desc := "(III)I" } : Jvm.MethodName) ({ cls := "Raidhall", name := "card", desc := "(III)I" } : Jvm.MethodName)) ∈ lw_all := lw_g (lw_at lw_m7 60 rfl) rfl
theorem q1565 : (Jvm.Cond.code ({ cls := "Raidhall", name := "card", desc := "(III)I" } : Jvm.MethodName) prog_1_method_14_code (7 : Nat) (Option.some Jvm.ClassFile.FieldType.int)) ∈ lw_all := lw_g (lw_at lw_m7 61 rfl) rfl
theorem q1566 : (Jvm.Cond.methodLink "Raidhall" (160 : Nat) ({ cls := "Raidhall", name := "checkPlayer", desc := "(II)V" } : Jvm.MethodName)) ∈ lw_all := lw_g (lw_at lw_m7 62 rfl) rfl
theorem q1567 : (Jvm.Cond.static ({ cls := "Raidhall", name := "checkPlayer", desc := "(II)V" } : Jvm.MethodName)) ∈ lw_all := lw_g (lw_at lw_m7 63 rfl) rfl
theorem q1568 : (Jvm.Cond.code ({ cls := "Raidhall", name := "checkPlayer", desc := "(II)V" } : Jvm.MethodName) prog_1_method_7_code (2 : Nat) (Option.none : Option Jvm.ClassFile.FieldType)) ∈ lw_all := lw_g (lw_at lw_m7 64 rfl) rfl
theorem q1569 : (Jvm.Cond.classLink "Raidhall" (163 : Nat) "Raidhall$Card") ∈ lw_all := lw_g (lw_at lw_m7 65 rfl) rfl
theorem q1571 : (Jvm.Cond.methodLinkNest "Raidhall" (165 : Nat) ({ cls := "Raidhall$Card", name := "<init>", desc := "(III)V" } : Jvm.MethodName) "Raidhall") ∈ lw_tbl := lw_at lw_m7 67 rfl
theorem q1585 : (Jvm.Cond.methodLink "Raidhall" (166 : Nat) ({ cls := "Raidhall$Card", name := "colourOn", desc := "(LRaidhall$Mats;)I" } : Jvm.MethodName)) ∈ lw_all := lw_g (lw_at lw_m7 81 rfl) rfl
theorem q1590 : (Jvm.Cond.instanceMethod ({ cls := "Raidhall", name := "change", desc := "(III)I" } : Jvm.MethodName)) ∈ lw_all := lw_g (lw_at lw_m7 86 rfl) rfl
theorem q1591 : (Jvm.Cond.selects "Raidhall" ({ cls := "Raidhall", name := "change", desc := "(III)I" } : Jvm.MethodName) ({ cls := "Raidhall", name := "change", desc := "(III)I" } : Jvm.MethodName)) ∈ lw_all := lw_g (lw_at lw_m7 87 rfl) rfl
theorem q1592 : (Jvm.Cond.code ({ cls := "Raidhall", name := "change", desc := "(III)I" } : Jvm.MethodName) prog_1_method_15_code (5 : Nat) (Option.some Jvm.ClassFile.FieldType.int)) ∈ lw_all := lw_g (lw_at lw_m7 88 rfl) rfl
theorem q1593 : (Jvm.Cond.classLink "Raidhall" (170 : Nat) "Raidhall$Change") ∈ lw_all := lw_g (lw_at lw_m7 89 rfl) rfl
theorem q1595 : (Jvm.Cond.methodLinkNest "Raidhall" (172 : Nat) ({ cls := "Raidhall$Change", name := "<init>", desc := "(III)V" } : Jvm.MethodName) "Raidhall") ∈ lw_tbl := lw_at lw_m7 91 rfl
theorem q1613 : (Jvm.Cond.instanceMethod ({ cls := "Raidhall", name := "review", desc := "(IIIII)I" } : Jvm.MethodName)) ∈ lw_all := lw_g (lw_at lw_m7 109 rfl) rfl
theorem q1614 : (Jvm.Cond.selects "Raidhall" ({ cls := "Raidhall", name := "review", desc := "(IIIII)I" } : Jvm.MethodName) ({ cls := "Raidhall", name := "review", desc := "(IIIII)I" } : Jvm.MethodName)) ∈ lw_all := lw_g (lw_at lw_m7 110 rfl) rfl
theorem q1615 : (Jvm.Cond.code ({ cls := "Raidhall", name := "review", desc := "(IIIII)I" } : Jvm.MethodName) prog_1_method_17_code (13 : Nat) (Option.some Jvm.ClassFile.FieldType.int)) ∈ lw_all := lw_g (lw_at lw_m7 111 rfl) rfl
theorem q1616 : (Jvm.Cond.methodLink "Raidhall" (180 : Nat) ({ cls := "Raidhall", name := "raidOf", desc := "(II)LRaidhall$Raid;" } : Jvm.MethodName)) ∈ lw_all := lw_g (lw_at lw_m7 112 rfl) rfl
theorem q1617 : (Jvm.Cond.privateMethod ({ cls := "Raidhall", name := "raidOf", desc := "(II)LRaidhall$Raid;" } : Jvm.MethodName)) ∈ lw_tbl := lw_at lw_m7 113 rfl
theorem q1618 : (Jvm.Cond.instanceMethod ({ cls := "Raidhall", name := "raidOf", desc := "(II)LRaidhall$Raid;" } : Jvm.MethodName)) ∈ lw_all := lw_g (lw_at lw_m7 114 rfl) rfl
theorem q1619 : (Jvm.Cond.code ({ cls := "Raidhall", name := "raidOf", desc := "(II)LRaidhall$Raid;" } : Jvm.MethodName) prog_1_method_16_code (6 : Nat) (Option.some (Jvm.ClassFile.FieldType.object "Raidhall$Raid"))) ∈ lw_all := lw_g (lw_at lw_m7 115 rfl) rfl
theorem q1620 : (Jvm.Cond.interfaceEntry "Raidhall" (176 : Nat)) ∈ lw_tbl := lw_at lw_m7 116 rfl
theorem q1621 : (Jvm.Cond.methodLink "Raidhall" (176 : Nat) ({ cls := "java/util/List", name := "get", desc := "(I)Ljava/lang/Object;" } : Jvm.MethodName)) ∈ lw_all := lw_g (lw_at lw_m7 117 rfl) rfl
theorem q1622 : (Jvm.Cond.methodLink "Raidhall" (188 : Nat) ({ cls := "Raidhall$Raid", name := "with", desc := "(III)LRaidhall$Raid;" } : Jvm.MethodName)) ∈ lw_all := lw_g (lw_at lw_m7 118 rfl) rfl
theorem q1637 : (Jvm.Cond.methodLink "Raidhall" (192 : Nat) ({ cls := "Raidhall$Match", name := "follow", desc := "(ILRaidhall$Raid;)Ljava/util/List;" } : Jvm.MethodName)) ∈ lw_all := lw_g (lw_at lw_m7 133 rfl) rfl
theorem q1642 : (Jvm.Cond.classLink "Raidhall" (152 : Nat) "Raidhall$Mats") ∈ lw_all := lw_g (lw_at lw_m7 138 rfl) rfl
theorem q1643 : (Jvm.Cond.interfaceEntry "Raidhall" (196 : Nat)) ∈ lw_tbl := lw_at lw_m7 139 rfl
theorem q1644 : (Jvm.Cond.methodLink "Raidhall" (196 : Nat) ({ cls := "java/util/List", name := "set", desc := "(ILjava/lang/Object;)Ljava/lang/Object;" } : Jvm.MethodName)) ∈ lw_all := lw_g (lw_at lw_m7 140 rfl) rfl
theorem q1649 : (Jvm.Cond.instanceMethod ({ cls := "Raidhall", name := "wouldFall", desc := "(IIII)I" } : Jvm.MethodName)) ∈ lw_all := lw_g (lw_at lw_m7 145 rfl) rfl
theorem q1650 : (Jvm.Cond.selects "Raidhall" ({ cls := "Raidhall", name := "wouldFall", desc := "(IIII)I" } : Jvm.MethodName) ({ cls := "Raidhall", name := "wouldFall", desc := "(IIII)I" } : Jvm.MethodName)) ∈ lw_all := lw_g (lw_at lw_m7 146 rfl) rfl
theorem q1651 : (Jvm.Cond.code ({ cls := "Raidhall", name := "wouldFall", desc := "(IIII)I" } : Jvm.MethodName) prog_1_method_18_code (7 : Nat) (Option.some Jvm.ClassFile.FieldType.int)) ∈ lw_all := lw_g (lw_at lw_m7 147 rfl) rfl
theorem q1656 : (Jvm.Cond.instanceMethod ({ cls := "Raidhall", name := "takeBack", desc := "(I)I" } : Jvm.MethodName)) ∈ lw_all := lw_g (lw_at lw_m7 152 rfl) rfl
theorem q1657 : (Jvm.Cond.selects "Raidhall" ({ cls := "Raidhall", name := "takeBack", desc := "(I)I" } : Jvm.MethodName) ({ cls := "Raidhall", name := "takeBack", desc := "(I)I" } : Jvm.MethodName)) ∈ lw_all := lw_g (lw_at lw_m7 153 rfl) rfl
theorem q1658 : (Jvm.Cond.code ({ cls := "Raidhall", name := "takeBack", desc := "(I)I" } : Jvm.MethodName) prog_1_method_19_code (3 : Nat) (Option.some Jvm.ClassFile.FieldType.int)) ∈ lw_all := lw_g (lw_at lw_m7 154 rfl) rfl
theorem q1659 : (Jvm.Cond.methodLink "Raidhall" (203 : Nat) ({ cls := "Raidhall$Match", name := "takeBack", desc := "(I)V" } : Jvm.MethodName)) ∈ lw_all := lw_g (lw_at lw_m7 155 rfl) rfl
theorem q1669 : (Jvm.Cond.instanceMethod ({ cls := "Raidhall", name := "enter", desc := "()I" } : Jvm.MethodName)) ∈ lw_all := lw_g (lw_at lw_m7 165 rfl) rfl
theorem q1670 : (Jvm.Cond.selects "Raidhall" ({ cls := "Raidhall", name := "enter", desc := "()I" } : Jvm.MethodName) ({ cls := "Raidhall", name := "enter", desc := "()I" } : Jvm.MethodName)) ∈ lw_all := lw_g (lw_at lw_m7 166 rfl) rfl
theorem q1671 : (Jvm.Cond.code ({ cls := "Raidhall", name := "enter", desc := "()I" } : Jvm.MethodName) prog_1_method_20_code (3 : Nat) (Option.some Jvm.ClassFile.FieldType.int)) ∈ lw_all := lw_g (lw_at lw_m7 167 rfl) rfl
theorem q1672 : (Jvm.Cond.methodLink "Raidhall" (206 : Nat) ({ cls := "Raidhall", name := "theMatch", desc := "()LRaidhall$Match;" } : Jvm.MethodName)) ∈ lw_all := lw_g (lw_at lw_m7 168 rfl) rfl
theorem q1673 : (Jvm.Cond.privateMethod ({ cls := "Raidhall", name := "theMatch", desc := "()LRaidhall$Match;" } : Jvm.MethodName)) ∈ lw_tbl := lw_at lw_m7 169 rfl
theorem q1674 : (Jvm.Cond.instanceMethod ({ cls := "Raidhall", name := "theMatch", desc := "()LRaidhall$Match;" } : Jvm.MethodName)) ∈ lw_all := lw_g (lw_at lw_m7 170 rfl) rfl
theorem q1675 : (Jvm.Cond.code ({ cls := "Raidhall", name := "theMatch", desc := "()LRaidhall$Match;" } : Jvm.MethodName) prog_1_method_8_code (1 : Nat) (Option.some (Jvm.ClassFile.FieldType.object "Raidhall$Match"))) ∈ lw_all := lw_g (lw_at lw_m7 171 rfl) rfl
theorem q1676 : (Jvm.Cond.methodLink "Raidhall" (209 : Nat) ({ cls := "Raidhall$Match", name := "isOver", desc := "()Z" } : Jvm.MethodName)) ∈ lw_all := lw_g (lw_at lw_m7 172 rfl) rfl
theorem q1680 : (Jvm.Cond.methodLink "Raidhall" (214 : Nat) ({ cls := "Raidhall$Club", name := "enter", desc := "(II)V" } : Jvm.MethodName)) ∈ lw_all := lw_g (lw_at lw_m7 176 rfl) rfl
theorem q1688 : (Jvm.Cond.instanceMethod ({ cls := "Raidhall", name := "type", desc := "(I)I" } : Jvm.MethodName)) ∈ lw_all := lw_g (lw_at lw_m7 184 rfl) rfl
theorem q1689 : (Jvm.Cond.selects "Raidhall" ({ cls := "Raidhall", name := "type", desc := "(I)I" } : Jvm.MethodName) ({ cls := "Raidhall", name := "type", desc := "(I)I" } : Jvm.MethodName)) ∈ lw_all := lw_g (lw_at lw_m7 185 rfl) rfl
theorem q1690 : (Jvm.Cond.code ({ cls := "Raidhall", name := "type", desc := "(I)I" } : Jvm.MethodName) prog_1_method_21_code (2 : Nat) (Option.some Jvm.ClassFile.FieldType.int)) ∈ lw_all := lw_g (lw_at lw_m7 186 rfl) rfl
theorem q1691 : (Jvm.Cond.methodLink "Raidhall" (220 : Nat) ({ cls := "java/lang/StringBuilder", name := "append", desc := "(C)Ljava/lang/StringBuilder;" } : Jvm.MethodName)) ∈ lw_all := lw_g (lw_at lw_m7 187 rfl) rfl
theorem q1696 : (Jvm.Cond.instanceMethod ({ cls := "Raidhall", name := "run", desc := "()I" } : Jvm.MethodName)) ∈ lw_all := lw_g (lw_at lw_m7 192 rfl) rfl
theorem q1697 : (Jvm.Cond.selects "Raidhall" ({ cls := "Raidhall", name := "run", desc := "()I" } : Jvm.MethodName) ({ cls := "Raidhall", name := "run", desc := "()I" } : Jvm.MethodName)) ∈ lw_all := lw_g (lw_at lw_m7 193 rfl) rfl
theorem q1698 : (Jvm.Cond.code ({ cls := "Raidhall", name := "run", desc := "()I" } : Jvm.MethodName) prog_1_method_26_code (3 : Nat) (Option.some Jvm.ClassFile.FieldType.int)) ∈ lw_all := lw_g (lw_at lw_m7 194 rfl) rfl
theorem q1699 : (Jvm.Cond.classLink "Raidhall" (245 : Nat) "Raidhall$Order") ∈ lw_all := lw_g (lw_at lw_m7 195 rfl) rfl
theorem q1700 : (Jvm.Cond.methodLink "Raidhall" (273 : Nat) ({ cls := "Raidhall", name := "does", desc := "(LRaidhall$Order;)Z" } : Jvm.MethodName)) ∈ lw_all := lw_g (lw_at lw_m7 196 rfl) rfl
theorem q1701 : (Jvm.Cond.privateMethod ({ cls := "Raidhall", name := "does", desc := "(LRaidhall$Order;)Z" } : Jvm.MethodName)) ∈ lw_tbl := lw_at lw_m7 197 rfl
theorem q1702 : (Jvm.Cond.instanceMethod ({ cls := "Raidhall", name := "does", desc := "(LRaidhall$Order;)Z" } : Jvm.MethodName)) ∈ lw_all := lw_g (lw_at lw_m7 198 rfl) rfl
theorem q1703 : (Jvm.Cond.codeWith ({ cls := "Raidhall", name := "does", desc := "(LRaidhall$Order;)Z" } : Jvm.MethodName) prog_1_method_25_code (4 : Nat) (Option.some Jvm.ClassFile.FieldType.boolean) [((0 : Nat), (76 : Nat), (106 : Nat), (55 : Nat)), ((0 : Nat), (76 : Nat), (106 : Nat), (52 : Nat)), ((77 : Nat), (105 : Nat), (106 : Nat), (55 : Nat)), ((77 : Nat), (105 : Nat), (106 : Nat), (52 : Nat))]) ∈ lw_all := lw_g (lw_at lw_m7 199 rfl) rfl
theorem q1704 : (Jvm.Cond.methodLink "Raidhall" (244 : Nat) ({ cls := "Raidhall$Order", name := "word", desc := "()Ljava/lang/String;" } : Jvm.MethodName)) ∈ lw_all := lw_g (lw_at lw_m7 200 rfl) rfl
theorem q1708 : (Jvm.Cond.methodLink "Raidhall" (250 : Nat) ({ cls := "java/lang/String", name := "hashCode", desc := "()I" } : Jvm.MethodName)) ∈ lw_all := lw_g (lw_at lw_m7 204 rfl) rfl
theorem q1709 : (Jvm.Cond.methodLink "Raidhall" (239 : Nat) ({ cls := "java/lang/String", name := "equals", desc := "(Ljava/lang/Object;)Z" } : Jvm.MethodName)) ∈ lw_all := lw_g (lw_at lw_m7 205 rfl) rfl
theorem q1710 : (Jvm.Cond.methodLink "Raidhall" (253 : Nat) ({ cls := "Raidhall$Order", name := "digit", desc := "()I" } : Jvm.MethodName)) ∈ lw_all := lw_g (lw_at lw_m7 206 rfl) rfl
theorem q1714 : (Jvm.Cond.methodLink "Raidhall" (256 : Nat) ({ cls := "Raidhall", name := "raid", desc := "(I)I" } : Jvm.MethodName)) ∈ lw_all := lw_g (lw_at lw_m7 210 rfl) rfl
theorem q1715 : (Jvm.Cond.methodLink "Raidhall" (259 : Nat) ({ cls := "Raidhall", name := "kindOf", desc := "(Ljava/lang/String;)I" } : Jvm.MethodName)) ∈ lw_all := lw_g (lw_at lw_m7 211 rfl) rfl
theorem q1716 : (Jvm.Cond.static ({ cls := "Raidhall", name := "kindOf", desc := "(Ljava/lang/String;)I" } : Jvm.MethodName)) ∈ lw_all := lw_g (lw_at lw_m7 212 rfl) rfl
theorem q1717 : (Jvm.Cond.code ({ cls := "Raidhall", name := "kindOf", desc := "(Ljava/lang/String;)I" } : Jvm.MethodName) prog_1_method_24_code (2 : Nat) (Option.some Jvm.ClassFile.FieldType.int)) ∈ lw_all := lw_g (lw_at lw_m7 213 rfl) rfl
theorem q1718 : (Jvm.Cond.methodLink "Raidhall" (235 : Nat) ({ cls := "Raidhall", name := "wordOf", desc := "(I)Ljava/lang/String;" } : Jvm.MethodName)) ∈ lw_all := lw_g (lw_at lw_m7 214 rfl) rfl
theorem q1719 : (Jvm.Cond.methodLink "Raidhall" (263 : Nat) ({ cls := "Raidhall$Order", name := "tenth", desc := "()I" } : Jvm.MethodName)) ∈ lw_all := lw_g (lw_at lw_m7 215 rfl) rfl
theorem q1723 : (Jvm.Cond.methodLink "Raidhall" (266 : Nat) ({ cls := "Raidhall", name := "step", desc := "(III)I" } : Jvm.MethodName)) ∈ lw_all := lw_g (lw_at lw_m7 219 rfl) rfl
theorem q1728 : (Jvm.Cond.instanceMethod ({ cls := "Raidhall", name := "player", desc := "(II)I" } : Jvm.MethodName)) ∈ lw_all := lw_g (lw_at lw_m7 224 rfl) rfl
theorem q1729 : (Jvm.Cond.selects "Raidhall" ({ cls := "Raidhall", name := "player", desc := "(II)I" } : Jvm.MethodName) ({ cls := "Raidhall", name := "player", desc := "(II)I" } : Jvm.MethodName)) ∈ lw_all := lw_g (lw_at lw_m7 225 rfl) rfl
theorem q1730 : (Jvm.Cond.code ({ cls := "Raidhall", name := "player", desc := "(II)I" } : Jvm.MethodName) prog_1_method_27_code (3 : Nat) (Option.some Jvm.ClassFile.FieldType.int)) ∈ lw_all := lw_g (lw_at lw_m7 226 rfl) rfl
theorem q1735 : (Jvm.Cond.instanceMethod ({ cls := "Raidhall", name := "out", desc := "(II)I" } : Jvm.MethodName)) ∈ lw_all := lw_g (lw_at lw_m7 231 rfl) rfl
theorem q1736 : (Jvm.Cond.selects "Raidhall" ({ cls := "Raidhall", name := "out", desc := "(II)I" } : Jvm.MethodName) ({ cls := "Raidhall", name := "out", desc := "(II)I" } : Jvm.MethodName)) ∈ lw_all := lw_g (lw_at lw_m7 232 rfl) rfl
theorem q1737 : (Jvm.Cond.code ({ cls := "Raidhall", name := "out", desc := "(II)I" } : Jvm.MethodName) prog_1_method_28_code (4 : Nat) (Option.some Jvm.ClassFile.FieldType.int)) ∈ lw_all := lw_g (lw_at lw_m7 233 rfl) rfl
theorem q1738 : (Jvm.Cond.classLink "Raidhall" (123 : Nat) "java/util/List") ∈ lw_all := lw_g (lw_at lw_m7 234 rfl) rfl
theorem q1739 : (Jvm.Cond.classLink "Raidhall" (284 : Nat) "java/lang/Integer") ∈ lw_all := lw_g (lw_at lw_m7 235 rfl) rfl
theorem q1740 : (Jvm.Cond.methodLink "Raidhall" (286 : Nat) ({ cls := "java/lang/Integer", name := "intValue", desc := "()I" } : Jvm.MethodName)) ∈ lw_all := lw_g (lw_at lw_m7 236 rfl) rfl
theorem q1745 : (Jvm.Cond.instanceMethod ({ cls := "Raidhall", name := "next", desc := "(I)I" } : Jvm.MethodName)) ∈ lw_all := lw_g (lw_at lw_m8 1 rfl) rfl
theorem q1746 : (Jvm.Cond.selects "Raidhall" ({ cls := "Raidhall", name := "next", desc := "(I)I" } : Jvm.MethodName) ({ cls := "Raidhall", name := "next", desc := "(I)I" } : Jvm.MethodName)) ∈ lw_all := lw_g (lw_at lw_m8 2 rfl) rfl
theorem q1747 : (Jvm.Cond.code ({ cls := "Raidhall", name := "next", desc := "(I)I" } : Jvm.MethodName) prog_1_method_29_code (3 : Nat) (Option.some Jvm.ClassFile.FieldType.int)) ∈ lw_all := lw_g (lw_at lw_m8 3 rfl) rfl
theorem q1748 : (Jvm.Cond.interfaceEntry "Raidhall" (289 : Nat)) ∈ lw_tbl := lw_at lw_m8 4 rfl
theorem q1749 : (Jvm.Cond.methodLink "Raidhall" (289 : Nat) ({ cls := "java/util/List", name := "isEmpty", desc := "()Z" } : Jvm.MethodName)) ∈ lw_all := lw_g (lw_at lw_m8 5 rfl) rfl
theorem q1754 : (Jvm.Cond.instanceMethod ({ cls := "Raidhall", name := "points", desc := "(I)I" } : Jvm.MethodName)) ∈ lw_all := lw_g (lw_at lw_m8 10 rfl) rfl
theorem q1755 : (Jvm.Cond.selects "Raidhall" ({ cls := "Raidhall", name := "points", desc := "(I)I" } : Jvm.MethodName) ({ cls := "Raidhall", name := "points", desc := "(I)I" } : Jvm.MethodName)) ∈ lw_all := lw_g (lw_at lw_m8 11 rfl) rfl
theorem q1756 : (Jvm.Cond.code ({ cls := "Raidhall", name := "points", desc := "(I)I" } : Jvm.MethodName) prog_1_method_30_code (2 : Nat) (Option.some Jvm.ClassFile.FieldType.int)) ∈ lw_all := lw_g (lw_at lw_m8 12 rfl) rfl
theorem q1761 : (Jvm.Cond.instanceMethod ({ cls := "Raidhall", name := "match", desc := "(I)I" } : Jvm.MethodName)) ∈ lw_all := lw_g (lw_at lw_m8 17 rfl) rfl
theorem q1762 : (Jvm.Cond.selects "Raidhall" ({ cls := "Raidhall", name := "match", desc := "(I)I" } : Jvm.MethodName) ({ cls := "Raidhall", name := "match", desc := "(I)I" } : Jvm.MethodName)) ∈ lw_all := lw_g (lw_at lw_m8 18 rfl) rfl
theorem q1763 : (Jvm.Cond.code ({ cls := "Raidhall", name := "match", desc := "(I)I" } : Jvm.MethodName) prog_1_method_31_code (3 : Nat) (Option.some Jvm.ClassFile.FieldType.int)) ∈ lw_all := lw_g (lw_at lw_m8 19 rfl) rfl
theorem q1764 : (Jvm.Cond.methodLink "Raidhall" (294 : Nat) ({ cls := "Raidhall$Mats", name := "isDoOrDie", desc := "()Z" } : Jvm.MethodName)) ∈ lw_all := lw_g (lw_at lw_m8 20 rfl) rfl
theorem q1769 : (Jvm.Cond.instanceMethod ({ cls := "Raidhall", name := "hasReview", desc := "(I)Z" } : Jvm.MethodName)) ∈ lw_all := lw_g (lw_at lw_m8 25 rfl) rfl
theorem q1770 : (Jvm.Cond.selects "Raidhall" ({ cls := "Raidhall", name := "hasReview", desc := "(I)Z" } : Jvm.MethodName) ({ cls := "Raidhall", name := "hasReview", desc := "(I)Z" } : Jvm.MethodName)) ∈ lw_all := lw_g (lw_at lw_m8 26 rfl) rfl
theorem q1771 : (Jvm.Cond.code ({ cls := "Raidhall", name := "hasReview", desc := "(I)Z" } : Jvm.MethodName) prog_1_method_32_code (2 : Nat) (Option.some Jvm.ClassFile.FieldType.boolean)) ∈ lw_all := lw_g (lw_at lw_m8 27 rfl) rfl
theorem q1776 : (Jvm.Cond.instanceMethod ({ cls := "Raidhall", name := "matAfter", desc := "(II)I" } : Jvm.MethodName)) ∈ lw_all := lw_g (lw_at lw_m8 32 rfl) rfl
theorem q1777 : (Jvm.Cond.selects "Raidhall" ({ cls := "Raidhall", name := "matAfter", desc := "(II)I" } : Jvm.MethodName) ({ cls := "Raidhall", name := "matAfter", desc := "(II)I" } : Jvm.MethodName)) ∈ lw_all := lw_g (lw_at lw_m8 33 rfl) rfl
theorem q1778 : (Jvm.Cond.code ({ cls := "Raidhall", name := "matAfter", desc := "(II)I" } : Jvm.MethodName) prog_1_method_34_code (3 : Nat) (Option.some Jvm.ClassFile.FieldType.int)) ∈ lw_all := lw_g (lw_at lw_m8 34 rfl) rfl
theorem q1779 : (Jvm.Cond.methodLink "Raidhall" (297 : Nat) ({ cls := "Raidhall", name := "checkEvent", desc := "(II)V" } : Jvm.MethodName)) ∈ lw_all := lw_g (lw_at lw_m8 35 rfl) rfl
theorem q1780 : (Jvm.Cond.privateMethod ({ cls := "Raidhall", name := "checkEvent", desc := "(II)V" } : Jvm.MethodName)) ∈ lw_tbl := lw_at lw_m8 36 rfl
theorem q1781 : (Jvm.Cond.instanceMethod ({ cls := "Raidhall", name := "checkEvent", desc := "(II)V" } : Jvm.MethodName)) ∈ lw_all := lw_g (lw_at lw_m8 37 rfl) rfl
theorem q1782 : (Jvm.Cond.code ({ cls := "Raidhall", name := "checkEvent", desc := "(II)V" } : Jvm.MethodName) prog_1_method_33_code (3 : Nat) (Option.none : Option Jvm.ClassFile.FieldType)) ∈ lw_all := lw_g (lw_at lw_m8 38 rfl) rfl
theorem q1783 : (Jvm.Cond.methodLink "Raidhall" (300 : Nat) ({ cls := "Raidhall$Mats", name := "on", desc := "(I)I" } : Jvm.MethodName)) ∈ lw_all := lw_g (lw_at lw_m8 39 rfl) rfl
theorem q1788 : (Jvm.Cond.instanceMethod ({ cls := "Raidhall", name := "matAnew", desc := "(II)I" } : Jvm.MethodName)) ∈ lw_all := lw_g (lw_at lw_m8 44 rfl) rfl
theorem q1789 : (Jvm.Cond.selects "Raidhall" ({ cls := "Raidhall", name := "matAnew", desc := "(II)I" } : Jvm.MethodName) ({ cls := "Raidhall", name := "matAnew", desc := "(II)I" } : Jvm.MethodName)) ∈ lw_all := lw_g (lw_at lw_m8 45 rfl) rfl
theorem q1790 : (Jvm.Cond.code ({ cls := "Raidhall", name := "matAnew", desc := "(II)I" } : Jvm.MethodName) prog_1_method_35_code (5 : Nat) (Option.some Jvm.ClassFile.FieldType.int)) ∈ lw_all := lw_g (lw_at lw_m8 46 rfl) rfl
theorem q1791 : (Jvm.Cond.methodLink "Raidhall" (303 : Nat) ({ cls := "Raidhall$Mats", name := "<init>", desc := "()V" } : Jvm.MethodName)) ∈ lw_all := lw_g (lw_at lw_m8 47 rfl) rfl
theorem q1792 : (Jvm.Cond.classLink "Raidhall" (304 : Nat) "Raidhall$Event") ∈ lw_all := lw_g (lw_at lw_m8 48 rfl) rfl
theorem q1793 : (Jvm.Cond.interfaceEntry "Raidhall" (306 : Nat)) ∈ lw_tbl := lw_at lw_m8 49 rfl
theorem q1794 : (Jvm.Cond.methodLink "Raidhall" (306 : Nat) ({ cls := "Raidhall$Event", name := "change", desc := "(LRaidhall$Mats;)V" } : Jvm.MethodName)) ∈ lw_all := lw_g (lw_at lw_m8 50 rfl) rfl
theorem q1799 : (Jvm.Cond.instanceMethod ({ cls := "Raidhall", name := "pointsAfter", desc := "(II)I" } : Jvm.MethodName)) ∈ lw_all := lw_g (lw_at lw_m8 55 rfl) rfl
theorem q1800 : (Jvm.Cond.selects "Raidhall" ({ cls := "Raidhall", name := "pointsAfter", desc := "(II)I" } : Jvm.MethodName) ({ cls := "Raidhall", name := "pointsAfter", desc := "(II)I" } : Jvm.MethodName)) ∈ lw_all := lw_g (lw_at lw_m8 56 rfl) rfl
theorem q1801 : (Jvm.Cond.code ({ cls := "Raidhall", name := "pointsAfter", desc := "(II)I" } : Jvm.MethodName) prog_1_method_36_code (3 : Nat) (Option.some Jvm.ClassFile.FieldType.int)) ∈ lw_all := lw_g (lw_at lw_m8 57 rfl) rfl
theorem q1806 : (Jvm.Cond.instanceMethod ({ cls := "Raidhall", name := "raidPoints", desc := "(II)I" } : Jvm.MethodName)) ∈ lw_all := lw_g (lw_at lw_m8 62 rfl) rfl
theorem q1807 : (Jvm.Cond.selects "Raidhall" ({ cls := "Raidhall", name := "raidPoints", desc := "(II)I" } : Jvm.MethodName) ({ cls := "Raidhall", name := "raidPoints", desc := "(II)I" } : Jvm.MethodName)) ∈ lw_all := lw_g (lw_at lw_m8 63 rfl) rfl
theorem q1808 : (Jvm.Cond.code ({ cls := "Raidhall", name := "raidPoints", desc := "(II)I" } : Jvm.MethodName) prog_1_method_37_code (3 : Nat) (Option.some Jvm.ClassFile.FieldType.int)) ∈ lw_all := lw_g (lw_at lw_m8 64 rfl) rfl
theorem q1813 : (Jvm.Cond.instanceMethod ({ cls := "Raidhall", name := "club", desc := "(II)I" } : Jvm.MethodName)) ∈ lw_all := lw_g (lw_at lw_m8 69 rfl) rfl
theorem q1814 : (Jvm.Cond.selects "Raidhall" ({ cls := "Raidhall", name := "club", desc := "(II)I" } : Jvm.MethodName) ({ cls := "Raidhall", name := "club", desc := "(II)I" } : Jvm.MethodName)) ∈ lw_all := lw_g (lw_at lw_m8 70 rfl) rfl
theorem q1815 : (Jvm.Cond.code ({ cls := "Raidhall", name := "club", desc := "(II)I" } : Jvm.MethodName) prog_1_method_39_code (4 : Nat) (Option.some Jvm.ClassFile.FieldType.int)) ∈ lw_all := lw_g (lw_at lw_m8 71 rfl) rfl
theorem q1816 : (Jvm.Cond.methodLink "Raidhall" (333 : Nat) ({ cls := "Raidhall", name := "rankOf", desc := "(I)I" } : Jvm.MethodName)) ∈ lw_all := lw_g (lw_at lw_m8 72 rfl) rfl
theorem q1817 : (Jvm.Cond.privateMethod ({ cls := "Raidhall", name := "rankOf", desc := "(I)I" } : Jvm.MethodName)) ∈ lw_tbl := lw_at lw_m8 73 rfl
theorem q1818 : (Jvm.Cond.instanceMethod ({ cls := "Raidhall", name := "rankOf", desc := "(I)I" } : Jvm.MethodName)) ∈ lw_all := lw_g (lw_at lw_m8 74 rfl) rfl
theorem q1819 : (Jvm.Cond.code ({ cls := "Raidhall", name := "rankOf", desc := "(I)I" } : Jvm.MethodName) prog_1_method_38_code (5 : Nat) (Option.some Jvm.ClassFile.FieldType.int)) ∈ lw_all := lw_g (lw_at lw_m8 75 rfl) rfl
theorem q1820 : (Jvm.Cond.methodLink "Raidhall" (313 : Nat) ({ cls := "Raidhall$Club", name := "compare", desc := "(LRaidhall$Club;)I" } : Jvm.MethodName)) ∈ lw_all := lw_g (lw_at lw_m8 76 rfl) rfl
theorem q1836 : (Jvm.Cond.instanceMethod ({ cls := "Raidhall", name := "right", desc := "(II)I" } : Jvm.MethodName)) ∈ lw_all := lw_g (lw_at lw_m8 92 rfl) rfl
theorem q1837 : (Jvm.Cond.selects "Raidhall" ({ cls := "Raidhall", name := "right", desc := "(II)I" } : Jvm.MethodName) ({ cls := "Raidhall", name := "right", desc := "(II)I" } : Jvm.MethodName)) ∈ lw_all := lw_g (lw_at lw_m8 93 rfl) rfl
theorem q1838 : (Jvm.Cond.code ({ cls := "Raidhall", name := "right", desc := "(II)I" } : Jvm.MethodName) prog_1_method_41_code (5 : Nat) (Option.some Jvm.ClassFile.FieldType.int)) ∈ lw_all := lw_g (lw_at lw_m8 94 rfl) rfl
theorem q1843 : (Jvm.Cond.instanceMethod ({ cls := "Raidhall", name := "call", desc := "(I)I" } : Jvm.MethodName)) ∈ lw_all := lw_g (lw_at lw_m8 99 rfl) rfl
theorem q1844 : (Jvm.Cond.selects "Raidhall" ({ cls := "Raidhall", name := "call", desc := "(I)I" } : Jvm.MethodName) ({ cls := "Raidhall", name := "call", desc := "(I)I" } : Jvm.MethodName)) ∈ lw_all := lw_g (lw_at lw_m8 100 rfl) rfl
theorem q1845 : (Jvm.Cond.code ({ cls := "Raidhall", name := "call", desc := "(I)I" } : Jvm.MethodName) prog_1_method_42_code (2 : Nat) (Option.some Jvm.ClassFile.FieldType.int)) ∈ lw_all := lw_g (lw_at lw_m8 101 rfl) rfl
theorem q1846 : (Jvm.Cond.methodLink "Raidhall" (368 : Nat) ({ cls := "Raidhall$Lot", name := "base", desc := "()I" } : Jvm.MethodName)) ∈ lw_all := lw_g (lw_at lw_m8 102 rfl) rfl
theorem q1854 : (Jvm.Cond.instanceMethod ({ cls := "Raidhall", name := "bid", desc := "(II)I" } : Jvm.MethodName)) ∈ lw_all := lw_g (lw_at lw_m8 110 rfl) rfl
theorem q1855 : (Jvm.Cond.selects "Raidhall" ({ cls := "Raidhall", name := "bid", desc := "(II)I" } : Jvm.MethodName) ({ cls := "Raidhall", name := "bid", desc := "(II)I" } : Jvm.MethodName)) ∈ lw_all := lw_g (lw_at lw_m8 111 rfl) rfl
theorem q1856 : (Jvm.Cond.code ({ cls := "Raidhall", name := "bid", desc := "(II)I" } : Jvm.MethodName) prog_1_method_43_code (3 : Nat) (Option.some Jvm.ClassFile.FieldType.int)) ∈ lw_all := lw_g (lw_at lw_m8 112 rfl) rfl
theorem q1857 : (Jvm.Cond.methodLink "Raidhall" (371 : Nat) ({ cls := "Raidhall", name := "canBid", desc := "(ILRaidhall$Lot;I)Z" } : Jvm.MethodName)) ∈ lw_all := lw_g (lw_at lw_m8 113 rfl) rfl
theorem q1858 : (Jvm.Cond.privateMethod ({ cls := "Raidhall", name := "canBid", desc := "(ILRaidhall$Lot;I)Z" } : Jvm.MethodName)) ∈ lw_tbl := lw_at lw_m8 114 rfl
theorem q1859 : (Jvm.Cond.instanceMethod ({ cls := "Raidhall", name := "canBid", desc := "(ILRaidhall$Lot;I)Z" } : Jvm.MethodName)) ∈ lw_all := lw_g (lw_at lw_m8 115 rfl) rfl
theorem q1860 : (Jvm.Cond.code ({ cls := "Raidhall", name := "canBid", desc := "(ILRaidhall$Lot;I)Z" } : Jvm.MethodName) prog_1_method_40_code (5 : Nat) (Option.some Jvm.ClassFile.FieldType.boolean)) ∈ lw_all := lw_g (lw_at lw_m8 116 rfl) rfl
theorem q1861 : (Jvm.Cond.methodLink "Raidhall" (342 : Nat) ({ cls := "Raidhall$Lot", name := "isForeign", desc := "()Z" } : Jvm.MethodName)) ∈ lw_all := lw_g (lw_at lw_m8 117 rfl) rfl
theorem q1869 : (Jvm.Cond.instanceMethod ({ cls := "Raidhall", name := "hammer", desc := "()I" } : Jvm.MethodName)) ∈ lw_all := lw_g (lw_at lw_m8 125 rfl) rfl
theorem q1870 : (Jvm.Cond.selects "Raidhall" ({ cls := "Raidhall", name := "hammer", desc := "()I" } : Jvm.MethodName) ({ cls := "Raidhall", name := "hammer", desc := "()I" } : Jvm.MethodName)) ∈ lw_all := lw_g (lw_at lw_m8 126 rfl) rfl
theorem q1871 : (Jvm.Cond.code ({ cls := "Raidhall", name := "hammer", desc := "()I" } : Jvm.MethodName) prog_1_method_45_code (1 : Nat) (Option.some Jvm.ClassFile.FieldType.int)) ∈ lw_all := lw_g (lw_at lw_m8 127 rfl) rfl
theorem q1872 : (Jvm.Cond.methodLink "Raidhall" (378 : Nat) ({ cls := "Raidhall", name := "sell", desc := "(I)I" } : Jvm.MethodName)) ∈ lw_all := lw_g (lw_at lw_m8 128 rfl) rfl
theorem q1873 : (Jvm.Cond.privateMethod ({ cls := "Raidhall", name := "sell", desc := "(I)I" } : Jvm.MethodName)) ∈ lw_tbl := lw_at lw_m8 129 rfl
theorem q1874 : (Jvm.Cond.instanceMethod ({ cls := "Raidhall", name := "sell", desc := "(I)I" } : Jvm.MethodName)) ∈ lw_all := lw_g (lw_at lw_m8 130 rfl) rfl
theorem q1875 : (Jvm.Cond.code ({ cls := "Raidhall", name := "sell", desc := "(I)I" } : Jvm.MethodName) prog_1_method_44_code (3 : Nat) (Option.some Jvm.ClassFile.FieldType.int)) ∈ lw_all := lw_g (lw_at lw_m8 131 rfl) rfl
theorem q1880 : (Jvm.Cond.instanceMethod ({ cls := "Raidhall", name := "answer", desc := "(Z)I" } : Jvm.MethodName)) ∈ lw_all := lw_g (lw_at lw_m8 136 rfl) rfl
theorem q1881 : (Jvm.Cond.selects "Raidhall" ({ cls := "Raidhall", name := "answer", desc := "(Z)I" } : Jvm.MethodName) ({ cls := "Raidhall", name := "answer", desc := "(Z)I" } : Jvm.MethodName)) ∈ lw_all := lw_g (lw_at lw_m8 137 rfl) rfl
theorem q1882 : (Jvm.Cond.code ({ cls := "Raidhall", name := "answer", desc := "(Z)I" } : Jvm.MethodName) prog_1_method_46_code (3 : Nat) (Option.some Jvm.ClassFile.FieldType.int)) ∈ lw_all := lw_g (lw_at lw_m8 138 rfl) rfl
theorem q1887 : (Jvm.Cond.instanceMethod ({ cls := "Raidhall", name := "lot", desc := "(II)I" } : Jvm.MethodName)) ∈ lw_all := lw_g (lw_at lw_m8 143 rfl) rfl
theorem q1888 : (Jvm.Cond.selects "Raidhall" ({ cls := "Raidhall", name := "lot", desc := "(II)I" } : Jvm.MethodName) ({ cls := "Raidhall", name := "lot", desc := "(II)I" } : Jvm.MethodName)) ∈ lw_all := lw_g (lw_at lw_m8 144 rfl) rfl
theorem q1889 : (Jvm.Cond.code ({ cls := "Raidhall", name := "lot", desc := "(II)I" } : Jvm.MethodName) prog_1_method_47_code (4 : Nat) (Option.some Jvm.ClassFile.FieldType.int)) ∈ lw_all := lw_g (lw_at lw_m8 145 rfl) rfl
theorem q1894 : (Jvm.Cond.instanceMethod ({ cls := "Raidhall", name := "squad", desc := "(II)I" } : Jvm.MethodName)) ∈ lw_all := lw_g (lw_at lw_m8 150 rfl) rfl
theorem q1895 : (Jvm.Cond.selects "Raidhall" ({ cls := "Raidhall", name := "squad", desc := "(II)I" } : Jvm.MethodName) ({ cls := "Raidhall", name := "squad", desc := "(II)I" } : Jvm.MethodName)) ∈ lw_all := lw_g (lw_at lw_m8 151 rfl) rfl
theorem q1896 : (Jvm.Cond.code ({ cls := "Raidhall", name := "squad", desc := "(II)I" } : Jvm.MethodName) prog_1_method_48_code (4 : Nat) (Option.some Jvm.ClassFile.FieldType.int)) ∈ lw_all := lw_g (lw_at lw_m8 152 rfl) rfl
theorem q2362 : (Jvm.Cond.castable "Raidhall" "java/lang/Object") ∈ lw_tbl := lw_at lw_m10 138 rfl
theorem in_X1 : ∀ w ∈ wsX10, w ∈ lw_all := lw_in wsX10 [223, 225, 227, 229, 231, 233, 235, 237, 239, 241] (by decide +kernel) (by decide +kernel)

/-! Raidhall$Change -/
set_option maxRecDepth 100000
def RX10 : String := "Raidhall$Change"
def TX10 : u_T := fun k => match k with
  | 0 => ("Raidhall$Change", "side", "I", true)
  | 1 => ("Raidhall$Change", "leaves", "I", true)
  | _ => ("Raidhall$Change", "comes", "I", true)
def tyX10 : Nat → FieldType := fun k => match k with
  | 0 => .int
  | 1 => .int
  | _ => .int
abbrev wsX100 : List Cond := u_ws RX10 TX10 3
theorem nmX10 : ∀ a, a < 3 → ∀ b, b < 3 → a ≠ b → (TX10 a).2.1 ≠ (TX10 b).2.1 := by decide +kernel
theorem tyX10_ok : ∀ k, k < 3 → parseFieldDescriptor (TX10 k).2.2.1 = some (tyX10 k) := by decide +kernel
abbrev cX10_stands : ByteArray := prog_3_method_2_code
def yX10_stands : MethodName := ⟨RX10, "stands", "(LRaidhall$Mats;I)Z"⟩
def dkwX10_stands_2 : List UInt8 := [162, 0, 7, 4, 167, 0, 4, 3, 172]
abbrev dktX10_stands_2 : List UInt8 := dkwX10_stands_2 ++ []
def dkwX10_stands_1 : List UInt8 := [180, 0, 9, 50, 42, 180, 0, 18, 46, 4, 160, 0, 20, 43, 180, 0, 27, 42, 180, 0, 9, 46, 8]
abbrev dktX10_stands_1 : List UInt8 := dkwX10_stands_1 ++ dktX10_stands_2
def dkwX10_stands_0 : List UInt8 := [43, 180, 0, 21, 42, 180, 0, 9, 50, 42, 180, 0, 15, 46, 154, 0, 38, 43, 180, 0, 21, 42]
abbrev dktX10_stands_0 : List UInt8 := dkwX10_stands_0 ++ dktX10_stands_1
theorem dksX10_stands_0 : cX10_stands.data.toList.drop 0 = dktX10_stands_0 := by decide +kernel
theorem dksX10_stands_1 : cX10_stands.data.toList.drop 22 = dktX10_stands_1 := dk_seg dksX10_stands_0 22 rfl rfl
theorem dksX10_stands_2 : cX10_stands.data.toList.drop 45 = dktX10_stands_2 := dk_seg dksX10_stands_1 23 rfl rfl
theorem dX10_stands_0 : decode cX10_stands 0 = .ok (.aload_n 1, 1) := dk_43 (dk_at dksX10_stands_0 0 rfl rfl)
theorem dX10_stands_1 : decode cX10_stands 1 = .ok (.getfield 21, 3) := dk_180 0 21 (dk_at dksX10_stands_0 1 rfl rfl)
theorem dX10_stands_4 : decode cX10_stands 4 = .ok (.aload_n 0, 1) := dk_42 (dk_at dksX10_stands_0 4 rfl rfl)
theorem dX10_stands_5 : decode cX10_stands 5 = .ok (.getfield 9, 3) := dk_180 0 9 (dk_at dksX10_stands_0 5 rfl rfl)
theorem dX10_stands_8 : decode cX10_stands 8 = .ok (.aaload, 1) := dk_50 (dk_at dksX10_stands_0 8 rfl rfl)
theorem dX10_stands_9 : decode cX10_stands 9 = .ok (.aload_n 0, 1) := dk_42 (dk_at dksX10_stands_0 9 rfl rfl)
theorem dX10_stands_10 : decode cX10_stands 10 = .ok (.getfield 15, 3) := dk_180 0 15 (dk_at dksX10_stands_0 10 rfl rfl)
theorem dX10_stands_13 : decode cX10_stands 13 = .ok (.iaload, 1) := dk_46 (dk_at dksX10_stands_0 13 rfl rfl)
theorem dX10_stands_14 : decode cX10_stands 14 = .ok (.ifCond .ne 38, 3) := dk_154 0 38 (dk_at dksX10_stands_0 14 rfl rfl)
theorem dX10_stands_17 : decode cX10_stands 17 = .ok (.aload_n 1, 1) := dk_43 (dk_at dksX10_stands_0 17 rfl rfl)
theorem dX10_stands_18 : decode cX10_stands 18 = .ok (.getfield 21, 3) := dk_180 0 21 (dk_at dksX10_stands_0 18 rfl rfl)
theorem dX10_stands_21 : decode cX10_stands 21 = .ok (.aload_n 0, 1) := dk_42 (dk_at dksX10_stands_0 21 rfl rfl)
theorem dX10_stands_22 : decode cX10_stands 22 = .ok (.getfield 9, 3) := dk_180 0 9 (dk_at dksX10_stands_1 0 rfl rfl)
theorem dX10_stands_25 : decode cX10_stands 25 = .ok (.aaload, 1) := dk_50 (dk_at dksX10_stands_1 3 rfl rfl)
theorem dX10_stands_26 : decode cX10_stands 26 = .ok (.aload_n 0, 1) := dk_42 (dk_at dksX10_stands_1 4 rfl rfl)
theorem dX10_stands_27 : decode cX10_stands 27 = .ok (.getfield 18, 3) := dk_180 0 18 (dk_at dksX10_stands_1 5 rfl rfl)
theorem dX10_stands_30 : decode cX10_stands 30 = .ok (.iaload, 1) := dk_46 (dk_at dksX10_stands_1 8 rfl rfl)
theorem dX10_stands_31 : decode cX10_stands 31 = .ok (.iconst 1, 1) := dk_4 (dk_at dksX10_stands_1 9 rfl rfl)
theorem dX10_stands_32 : decode cX10_stands 32 = .ok (.if_icmp .ne 20, 3) := dk_160 0 20 (dk_at dksX10_stands_1 10 rfl rfl)
theorem dX10_stands_35 : decode cX10_stands 35 = .ok (.aload_n 1, 1) := dk_43 (dk_at dksX10_stands_1 13 rfl rfl)
theorem dX10_stands_36 : decode cX10_stands 36 = .ok (.getfield 27, 3) := dk_180 0 27 (dk_at dksX10_stands_1 14 rfl rfl)
theorem dX10_stands_39 : decode cX10_stands 39 = .ok (.aload_n 0, 1) := dk_42 (dk_at dksX10_stands_1 17 rfl rfl)
theorem dX10_stands_40 : decode cX10_stands 40 = .ok (.getfield 9, 3) := dk_180 0 9 (dk_at dksX10_stands_1 18 rfl rfl)
theorem dX10_stands_43 : decode cX10_stands 43 = .ok (.iaload, 1) := dk_46 (dk_at dksX10_stands_1 21 rfl rfl)
theorem dX10_stands_44 : decode cX10_stands 44 = .ok (.iconst 5, 1) := dk_8 (dk_at dksX10_stands_1 22 rfl rfl)
theorem dX10_stands_45 : decode cX10_stands 45 = .ok (.if_icmp .ge 7, 3) := dk_162 0 7 (dk_at dksX10_stands_2 0 rfl rfl)
theorem dX10_stands_48 : decode cX10_stands 48 = .ok (.iconst 1, 1) := dk_4 (dk_at dksX10_stands_2 3 rfl rfl)
theorem dX10_stands_49 : decode cX10_stands 49 = .ok (.goto 4, 3) := dk_167 0 4 (dk_at dksX10_stands_2 4 rfl rfl)
theorem dX10_stands_52 : decode cX10_stands 52 = .ok (.iconst 0, 1) := dk_3 (dk_at dksX10_stands_2 7 rfl rfl)
theorem dX10_stands_53 : decode cX10_stands 53 = .ok (.ireturn, 1) := dk_172 (dk_at dksX10_stands_2 8 rfl rfl)
abbrev cX10_change : ByteArray := prog_3_method_3_code
def yX10_change : MethodName := ⟨RX10, "change", "(LRaidhall$Mats;)V"⟩
def dkwX10_change_1 : List UInt8 := [42, 180, 0, 18, 3, 79, 43, 180, 0, 27, 42, 180, 0, 9, 92, 46, 4, 96, 79, 177]
abbrev dktX10_change_1 : List UInt8 := dkwX10_change_1 ++ []
def dkwX10_change_0 : List UInt8 := [43, 180, 0, 21, 42, 180, 0, 9, 50, 42, 180, 0, 15, 4, 79, 43, 180, 0, 21, 42, 180, 0, 9, 50]
abbrev dktX10_change_0 : List UInt8 := dkwX10_change_0 ++ dktX10_change_1
theorem dksX10_change_0 : cX10_change.data.toList.drop 0 = dktX10_change_0 := by decide +kernel
theorem dksX10_change_1 : cX10_change.data.toList.drop 24 = dktX10_change_1 := dk_seg dksX10_change_0 24 rfl rfl
theorem dX10_change_0 : decode cX10_change 0 = .ok (.aload_n 1, 1) := dk_43 (dk_at dksX10_change_0 0 rfl rfl)
theorem dX10_change_1 : decode cX10_change 1 = .ok (.getfield 21, 3) := dk_180 0 21 (dk_at dksX10_change_0 1 rfl rfl)
theorem dX10_change_4 : decode cX10_change 4 = .ok (.aload_n 0, 1) := dk_42 (dk_at dksX10_change_0 4 rfl rfl)
theorem dX10_change_5 : decode cX10_change 5 = .ok (.getfield 9, 3) := dk_180 0 9 (dk_at dksX10_change_0 5 rfl rfl)
theorem dX10_change_8 : decode cX10_change 8 = .ok (.aaload, 1) := dk_50 (dk_at dksX10_change_0 8 rfl rfl)
theorem dX10_change_9 : decode cX10_change 9 = .ok (.aload_n 0, 1) := dk_42 (dk_at dksX10_change_0 9 rfl rfl)
theorem dX10_change_10 : decode cX10_change 10 = .ok (.getfield 15, 3) := dk_180 0 15 (dk_at dksX10_change_0 10 rfl rfl)
theorem dX10_change_13 : decode cX10_change 13 = .ok (.iconst 1, 1) := dk_4 (dk_at dksX10_change_0 13 rfl rfl)
theorem dX10_change_14 : decode cX10_change 14 = .ok (.iastore, 1) := dk_79 (dk_at dksX10_change_0 14 rfl rfl)
theorem dX10_change_15 : decode cX10_change 15 = .ok (.aload_n 1, 1) := dk_43 (dk_at dksX10_change_0 15 rfl rfl)
theorem dX10_change_16 : decode cX10_change 16 = .ok (.getfield 21, 3) := dk_180 0 21 (dk_at dksX10_change_0 16 rfl rfl)
theorem dX10_change_19 : decode cX10_change 19 = .ok (.aload_n 0, 1) := dk_42 (dk_at dksX10_change_0 19 rfl rfl)
theorem dX10_change_20 : decode cX10_change 20 = .ok (.getfield 9, 3) := dk_180 0 9 (dk_at dksX10_change_0 20 rfl rfl)
theorem dX10_change_23 : decode cX10_change 23 = .ok (.aaload, 1) := dk_50 (dk_at dksX10_change_0 23 rfl rfl)
theorem dX10_change_24 : decode cX10_change 24 = .ok (.aload_n 0, 1) := dk_42 (dk_at dksX10_change_1 0 rfl rfl)
theorem dX10_change_25 : decode cX10_change 25 = .ok (.getfield 18, 3) := dk_180 0 18 (dk_at dksX10_change_1 1 rfl rfl)
theorem dX10_change_28 : decode cX10_change 28 = .ok (.iconst 0, 1) := dk_3 (dk_at dksX10_change_1 4 rfl rfl)
theorem dX10_change_29 : decode cX10_change 29 = .ok (.iastore, 1) := dk_79 (dk_at dksX10_change_1 5 rfl rfl)
theorem dX10_change_30 : decode cX10_change 30 = .ok (.aload_n 1, 1) := dk_43 (dk_at dksX10_change_1 6 rfl rfl)
theorem dX10_change_31 : decode cX10_change 31 = .ok (.getfield 27, 3) := dk_180 0 27 (dk_at dksX10_change_1 7 rfl rfl)
theorem dX10_change_34 : decode cX10_change 34 = .ok (.aload_n 0, 1) := dk_42 (dk_at dksX10_change_1 10 rfl rfl)
theorem dX10_change_35 : decode cX10_change 35 = .ok (.getfield 9, 3) := dk_180 0 9 (dk_at dksX10_change_1 11 rfl rfl)
theorem dX10_change_38 : decode cX10_change 38 = .ok (.dup2, 1) := dk_92 (dk_at dksX10_change_1 14 rfl rfl)
theorem dX10_change_39 : decode cX10_change 39 = .ok (.iaload, 1) := dk_46 (dk_at dksX10_change_1 15 rfl rfl)
theorem dX10_change_40 : decode cX10_change 40 = .ok (.iconst 1, 1) := dk_4 (dk_at dksX10_change_1 16 rfl rfl)
theorem dX10_change_41 : decode cX10_change 41 = .ok (.iadd, 1) := dk_96 (dk_at dksX10_change_1 17 rfl rfl)
theorem dX10_change_42 : decode cX10_change 42 = .ok (.iastore, 1) := dk_79 (dk_at dksX10_change_1 18 rfl rfl)
theorem dX10_change_43 : decode cX10_change 43 = .ok (.return_, 1) := dk_177 (dk_at dksX10_change_1 19 rfl rfl)
abbrev cX10_init : ByteArray := prog_3_method_1_code
def yX10_init : MethodName := ⟨RX10, "<init>", "(III)V"⟩
def dkwX10_init_0 : List UInt8 := [42, 183, 0, 3, 42, 27, 181, 0, 9, 42, 28, 181, 0, 15, 42, 29, 181, 0, 18, 177]
abbrev dktX10_init_0 : List UInt8 := dkwX10_init_0 ++ []
theorem dksX10_init_0 : cX10_init.data.toList.drop 0 = dktX10_init_0 := by decide +kernel
theorem dX10_init_0 : decode cX10_init 0 = .ok (.aload_n 0, 1) := dk_42 (dk_at dksX10_init_0 0 rfl rfl)
theorem dX10_init_1 : decode cX10_init 1 = .ok (.invokespecial 3, 3) := dk_183 0 3 (dk_at dksX10_init_0 1 rfl rfl)
theorem dX10_init_4 : decode cX10_init 4 = .ok (.aload_n 0, 1) := dk_42 (dk_at dksX10_init_0 4 rfl rfl)
theorem dX10_init_5 : decode cX10_init 5 = .ok (.iload_n 1, 1) := dk_27 (dk_at dksX10_init_0 5 rfl rfl)
theorem dX10_init_6 : decode cX10_init 6 = .ok (.putfield 9, 3) := dk_181 0 9 (dk_at dksX10_init_0 6 rfl rfl)
theorem dX10_init_9 : decode cX10_init 9 = .ok (.aload_n 0, 1) := dk_42 (dk_at dksX10_init_0 9 rfl rfl)
theorem dX10_init_10 : decode cX10_init 10 = .ok (.iload_n 2, 1) := dk_28 (dk_at dksX10_init_0 10 rfl rfl)
theorem dX10_init_11 : decode cX10_init 11 = .ok (.putfield 15, 3) := dk_181 0 15 (dk_at dksX10_init_0 11 rfl rfl)
theorem dX10_init_14 : decode cX10_init 14 = .ok (.aload_n 0, 1) := dk_42 (dk_at dksX10_init_0 14 rfl rfl)
theorem dX10_init_15 : decode cX10_init 15 = .ok (.iload_n 3, 1) := dk_29 (dk_at dksX10_init_0 15 rfl rfl)
theorem dX10_init_16 : decode cX10_init 16 = .ok (.putfield 18, 3) := dk_181 0 18 (dk_at dksX10_init_0 16 rfl rfl)
theorem dX10_init_19 : decode cX10_init 19 = .ok (.return_, 1) := dk_177 (dk_at dksX10_init_0 19 rfl rfl)
theorem q99 : (Jvm.Cond.initialized "Raidhall$Change") ∈ lw_all := lw_g (lw_at lw_m1 35 rfl) rfl
theorem q970 : (Jvm.Cond.selects "Raidhall$Change" ({ cls := "java/lang/Object", name := "getClass", desc := "()Ljava/lang/Class;" } : Jvm.MethodName) ({ cls := "java/lang/Object", name := "getClass", desc := "()Ljava/lang/Class;" } : Jvm.MethodName)) ∈ lw_all := lw_g (lw_at lw_m4 186 rfl) rfl
theorem q1105 : (Jvm.Cond.fieldLinkNest "Raidhall$Change" (21 : Nat) "Raidhall$Mats" "state" "[[I" "Raidhall") ∈ lw_tbl := lw_at lw_m5 81 rfl
theorem q1125 : (Jvm.Cond.fieldLinkNest "Raidhall$Change" (27 : Nat) "Raidhall$Mats" "changes" "[I" "Raidhall") ∈ lw_tbl := lw_at lw_m5 101 rfl
theorem q1412 : (Jvm.Cond.castable "Raidhall$Change" "Raidhall$Event") ∈ lw_tbl := lw_at lw_m6 148 rfl
theorem q1413 : (Jvm.Cond.selects "Raidhall$Change" ({ cls := "Raidhall$Event", name := "stands", desc := "(LRaidhall$Mats;I)Z" } : Jvm.MethodName) ({ cls := "Raidhall$Change", name := "stands", desc := "(LRaidhall$Mats;I)Z" } : Jvm.MethodName)) ∈ lw_all := lw_g (lw_at lw_m6 149 rfl) rfl
theorem q1414 : (Jvm.Cond.unhidden "Raidhall$Change" "stands" "(LRaidhall$Mats;I)Z") ∈ lw_tbl := lw_at lw_m6 150 rfl
theorem q1415 : (Jvm.Cond.instanceMethod ({ cls := "Raidhall$Change", name := "stands", desc := "(LRaidhall$Mats;I)Z" } : Jvm.MethodName)) ∈ lw_all := lw_g (lw_at lw_m6 151 rfl) rfl
theorem q1416 : (Jvm.Cond.publicMethod ({ cls := "Raidhall$Change", name := "stands", desc := "(LRaidhall$Mats;I)Z" } : Jvm.MethodName)) ∈ lw_tbl := lw_at lw_m6 152 rfl
theorem q1417 : (Jvm.Cond.code ({ cls := "Raidhall$Change", name := "stands", desc := "(LRaidhall$Mats;I)Z" } : Jvm.MethodName) prog_3_method_2_code (3 : Nat) (Option.some Jvm.ClassFile.FieldType.boolean)) ∈ lw_all := lw_g (lw_at lw_m6 153 rfl) rfl
theorem q1496 : (Jvm.Cond.selects "Raidhall$Change" ({ cls := "Raidhall$Event", name := "change", desc := "(LRaidhall$Mats;)V" } : Jvm.MethodName) ({ cls := "Raidhall$Change", name := "change", desc := "(LRaidhall$Mats;)V" } : Jvm.MethodName)) ∈ lw_all := lw_g (lw_at lw_m6 232 rfl) rfl
theorem q1497 : (Jvm.Cond.unhidden "Raidhall$Change" "change" "(LRaidhall$Mats;)V") ∈ lw_tbl := lw_at lw_m6 233 rfl
theorem q1498 : (Jvm.Cond.instanceMethod ({ cls := "Raidhall$Change", name := "change", desc := "(LRaidhall$Mats;)V" } : Jvm.MethodName)) ∈ lw_all := lw_g (lw_at lw_m6 234 rfl) rfl
theorem q1499 : (Jvm.Cond.publicMethod ({ cls := "Raidhall$Change", name := "change", desc := "(LRaidhall$Mats;)V" } : Jvm.MethodName)) ∈ lw_tbl := lw_at lw_m6 235 rfl
theorem q1500 : (Jvm.Cond.code ({ cls := "Raidhall$Change", name := "change", desc := "(LRaidhall$Mats;)V" } : Jvm.MethodName) prog_3_method_3_code (2 : Nat) (Option.none : Option Jvm.ClassFile.FieldType)) ∈ lw_all := lw_g (lw_at lw_m6 236 rfl) rfl
theorem q1557 : (Jvm.Cond.unhidden "Raidhall$Change" "behind" "(LRaidhall$Mats;I)LRaidhall$Mats;") ∈ lw_tbl := lw_at lw_m7 53 rfl
theorem q1594 : (Jvm.Cond.instantiable "Raidhall$Change" (3 : Nat)) ∈ lw_all := lw_g (lw_at lw_m7 90 rfl) rfl
theorem q1596 : (Jvm.Cond.instanceMethod ({ cls := "Raidhall$Change", name := "<init>", desc := "(III)V" } : Jvm.MethodName)) ∈ lw_all := lw_g (lw_at lw_m7 92 rfl) rfl
theorem q1597 : (Jvm.Cond.code ({ cls := "Raidhall$Change", name := "<init>", desc := "(III)V" } : Jvm.MethodName) prog_3_method_1_code (4 : Nat) (Option.none : Option Jvm.ClassFile.FieldType)) ∈ lw_all := lw_g (lw_at lw_m7 93 rfl) rfl
theorem q1598 : (Jvm.Cond.methodLink "Raidhall$Change" (3 : Nat) ({ cls := "java/lang/Record", name := "<init>", desc := "()V" } : Jvm.MethodName)) ∈ lw_all := lw_g (lw_at lw_m7 94 rfl) rfl
theorem q1599 : (Jvm.Cond.fieldLink "Raidhall$Change" (9 : Nat) "Raidhall$Change" "side" "I") ∈ lw_all := lw_g (lw_at lw_m7 95 rfl) rfl
theorem q1600 : (Jvm.Cond.fieldLink "Raidhall$Change" (15 : Nat) "Raidhall$Change" "leaves" "I") ∈ lw_all := lw_g (lw_at lw_m7 96 rfl) rfl
theorem q1601 : (Jvm.Cond.fieldLink "Raidhall$Change" (18 : Nat) "Raidhall$Change" "comes" "I") ∈ lw_all := lw_g (lw_at lw_m7 97 rfl) rfl
theorem q1602 : (Jvm.Cond.laysFinal "Raidhall$Change" "Raidhall$Change" "side" "I") ∈ lw_all := lw_g (lw_at lw_m7 98 rfl) rfl
theorem q1603 : (Jvm.Cond.soleField "Raidhall$Change" "side") ∈ lw_all := lw_g (lw_at lw_m7 99 rfl) rfl
theorem q1604 : (Jvm.Cond.laysFinal "Raidhall$Change" "Raidhall$Change" "leaves" "I") ∈ lw_all := lw_g (lw_at lw_m7 100 rfl) rfl
theorem q1605 : (Jvm.Cond.soleField "Raidhall$Change" "leaves") ∈ lw_all := lw_g (lw_at lw_m7 101 rfl) rfl
theorem q1606 : (Jvm.Cond.laysFinal "Raidhall$Change" "Raidhall$Change" "comes" "I") ∈ lw_all := lw_g (lw_at lw_m7 102 rfl) rfl
theorem q1607 : (Jvm.Cond.soleField "Raidhall$Change" "comes") ∈ lw_all := lw_g (lw_at lw_m7 103 rfl) rfl
theorem q1608 : (Jvm.Cond.superclass "Raidhall$Change" "java/lang/Record") ∈ lw_all := lw_g (lw_at lw_m7 104 rfl) rfl
theorem q2377 : (Jvm.Cond.castable "Raidhall$Change" "java/lang/Object") ∈ lw_tbl := lw_at lw_m10 153 rfl
theorem in_X10 : ∀ w ∈ wsX100, w ∈ lw_all := lw_in wsX100 [1602, 1604, 1606] (by decide +kernel) (by decide +kernel)

/-! Raidhall$Reader -/
set_option maxRecDepth 100000
def RX11 : String := "Raidhall$Reader"
def TX11 : u_T := fun k => match k with
  | 0 => ("Raidhall$Reader", "text", "Ljava/lang/CharSequence;", true)
  | 1 => ("Raidhall$Reader", "orders", "Ljava/util/List;", true)
  | 2 => ("Raidhall$Reader", "at", "I", false)
  | _ => ("Raidhall$Reader", "isForm", "Z", false)
def tyX11 : Nat → FieldType := fun k => match k with
  | 0 => .object "java/lang/CharSequence"
  | 1 => .object "java/util/List"
  | 2 => .int
  | _ => .boolean
abbrev wsX110 : List Cond := u_ws RX11 TX11 4
theorem nmX11 : ∀ a, a < 4 → ∀ b, b < 4 → a ≠ b → (TX11 a).2.1 ≠ (TX11 b).2.1 := by decide +kernel
theorem tyX11_ok : ∀ k, k < 4 → parseFieldDescriptor (TX11 k).2.2.1 = some (tyX11 k) := by decide +kernel
abbrev cX11_init : ByteArray := prog_11_method_1_code
def yX11_init : MethodName := ⟨RX11, "<init>", "(Ljava/lang/CharSequence;)V"⟩
def dkwX11_init_2 : List UInt8 := [182, 0, 36, 167, 255, 232, 177]
abbrev dktX11_init_2 : List UInt8 := dkwX11_init_2 ++ []
def dkwX11_init_1 : List UInt8 := [181, 0, 22, 42, 180, 0, 18, 153, 0, 23, 42, 180, 0, 26, 43, 185, 0, 30, 1, 0, 162, 0, 10, 42]
abbrev dktX11_init_1 : List UInt8 := dkwX11_init_1 ++ dktX11_init_2
def dkwX11_init_0 : List UInt8 := [42, 183, 0, 3, 42, 187, 0, 9, 89, 183, 0, 11, 181, 0, 12, 42, 4, 181, 0, 18, 42, 43]
abbrev dktX11_init_0 : List UInt8 := dkwX11_init_0 ++ dktX11_init_1
theorem dksX11_init_0 : cX11_init.data.toList.drop 0 = dktX11_init_0 := by decide +kernel
theorem dksX11_init_1 : cX11_init.data.toList.drop 22 = dktX11_init_1 := dk_seg dksX11_init_0 22 rfl rfl
theorem dksX11_init_2 : cX11_init.data.toList.drop 46 = dktX11_init_2 := dk_seg dksX11_init_1 24 rfl rfl
theorem dX11_init_0 : decode cX11_init 0 = .ok (.aload_n 0, 1) := dk_42 (dk_at dksX11_init_0 0 rfl rfl)
theorem dX11_init_1 : decode cX11_init 1 = .ok (.invokespecial 3, 3) := dk_183 0 3 (dk_at dksX11_init_0 1 rfl rfl)
theorem dX11_init_4 : decode cX11_init 4 = .ok (.aload_n 0, 1) := dk_42 (dk_at dksX11_init_0 4 rfl rfl)
theorem dX11_init_5 : decode cX11_init 5 = .ok (.new 9, 3) := dk_187 0 9 (dk_at dksX11_init_0 5 rfl rfl)
theorem dX11_init_8 : decode cX11_init 8 = .ok (.dup, 1) := dk_89 (dk_at dksX11_init_0 8 rfl rfl)
theorem dX11_init_9 : decode cX11_init 9 = .ok (.invokespecial 11, 3) := dk_183 0 11 (dk_at dksX11_init_0 9 rfl rfl)
theorem dX11_init_12 : decode cX11_init 12 = .ok (.putfield 12, 3) := dk_181 0 12 (dk_at dksX11_init_0 12 rfl rfl)
theorem dX11_init_15 : decode cX11_init 15 = .ok (.aload_n 0, 1) := dk_42 (dk_at dksX11_init_0 15 rfl rfl)
theorem dX11_init_16 : decode cX11_init 16 = .ok (.iconst 1, 1) := dk_4 (dk_at dksX11_init_0 16 rfl rfl)
theorem dX11_init_17 : decode cX11_init 17 = .ok (.putfield 18, 3) := dk_181 0 18 (dk_at dksX11_init_0 17 rfl rfl)
theorem dX11_init_20 : decode cX11_init 20 = .ok (.aload_n 0, 1) := dk_42 (dk_at dksX11_init_0 20 rfl rfl)
theorem dX11_init_21 : decode cX11_init 21 = .ok (.aload_n 1, 1) := dk_43 (dk_at dksX11_init_0 21 rfl rfl)
theorem dX11_init_22 : decode cX11_init 22 = .ok (.putfield 22, 3) := dk_181 0 22 (dk_at dksX11_init_1 0 rfl rfl)
theorem dX11_init_25 : decode cX11_init 25 = .ok (.aload_n 0, 1) := dk_42 (dk_at dksX11_init_1 3 rfl rfl)
theorem dX11_init_26 : decode cX11_init 26 = .ok (.getfield 18, 3) := dk_180 0 18 (dk_at dksX11_init_1 4 rfl rfl)
theorem dX11_init_29 : decode cX11_init 29 = .ok (.ifCond .eq 23, 3) := dk_153 0 23 (dk_at dksX11_init_1 7 rfl rfl)
theorem dX11_init_32 : decode cX11_init 32 = .ok (.aload_n 0, 1) := dk_42 (dk_at dksX11_init_1 10 rfl rfl)
theorem dX11_init_33 : decode cX11_init 33 = .ok (.getfield 26, 3) := dk_180 0 26 (dk_at dksX11_init_1 11 rfl rfl)
theorem dX11_init_36 : decode cX11_init 36 = .ok (.aload_n 1, 1) := dk_43 (dk_at dksX11_init_1 14 rfl rfl)
theorem dX11_init_37 : decode cX11_init 37 = .ok (.invokeinterface 30 1, 5) := by decide +kernel
theorem dX11_init_42 : decode cX11_init 42 = .ok (.if_icmp .ge 10, 3) := dk_162 0 10 (dk_at dksX11_init_1 20 rfl rfl)
theorem dX11_init_45 : decode cX11_init 45 = .ok (.aload_n 0, 1) := dk_42 (dk_at dksX11_init_1 23 rfl rfl)
theorem dX11_init_46 : decode cX11_init 46 = .ok (.invokevirtual 36, 3) := dk_182 0 36 (dk_at dksX11_init_2 0 rfl rfl)
theorem dX11_init_49 : decode cX11_init 49 = .ok (.goto (-24), 3) := dk_167 255 232 (dk_at dksX11_init_2 3 rfl rfl)
theorem dX11_init_52 : decode cX11_init 52 = .ok (.return_, 1) := dk_177 (dk_at dksX11_init_2 6 rfl rfl)
abbrev cX11_read : ByteArray := prog_11_method_8_code
def yX11_read : MethodName := ⟨RX11, "read", "()V"⟩
def dkwX11_read_7 : List UInt8 := [153, 0, 23, 42, 180, 0, 12, 187, 0, 97, 89, 43, 28, 29, 183, 0, 99, 185, 0, 102, 2, 0, 87, 177]
abbrev dktX11_read_7 : List UInt8 := dkwX11_read_7 ++ []
def dkwX11_read_6 : List UInt8 := [62, 167, 0, 15, 42, 16, 64, 182, 0, 90, 87, 42, 182, 0, 94, 62, 42, 16, 59, 182, 0, 90]
abbrev dktX11_read_6 : List UInt8 := dkwX11_read_6 ++ dktX11_read_7
def dkwX11_read_5 : List UInt8 := [42, 182, 0, 77, 61, 167, 0, 35, 42, 182, 0, 77, 61, 42, 16, 64, 182, 0, 90, 87, 42, 182, 0, 94]
abbrev dktX11_read_5 : List UInt8 := dkwX11_read_5 ++ dktX11_read_6
def dkwX11_read_4 : List UInt8 := [171, 0, 0, 0, 53, 0, 0, 0, 2, 0, 0, 0, 0, 0, 0, 0, 25, 0, 0, 0, 1, 0, 0, 0, 33]
abbrev dktX11_read_4 : List UInt8 := dkwX11_read_4 ++ dktX11_read_5
def dkwX11_read_3 : List UInt8 := [153, 0, 6, 4, 54, 5, 21, 5]
abbrev dktX11_read_3 : List UInt8 := dkwX11_read_3 ++ dktX11_read_4
def dkwX11_read_2 : List UInt8 := [25, 4, 18, 86, 182, 0, 53, 153, 0, 22, 3, 54, 5, 167, 0, 16, 25, 4, 18, 88, 182, 0, 53]
abbrev dktX11_read_2 : List UInt8 := dkwX11_read_2 ++ dktX11_read_3
def dkwX11_read_1 : List UInt8 := [171, 0, 0, 0, 0, 0, 0, 57, 0, 0, 0, 2, 0, 53, 75, 138, 0, 0, 0, 28, 6, 150, 223, 63, 0, 0, 0, 44]
abbrev dktX11_read_1 : List UInt8 := dkwX11_read_1 ++ dktX11_read_2
def dkwX11_read_0 : List UInt8 := [42, 182, 0, 80, 76, 2, 61, 3, 62, 43, 58, 4, 2, 54, 5, 25, 4, 182, 0, 83]
abbrev dktX11_read_0 : List UInt8 := dkwX11_read_0 ++ dktX11_read_1
theorem dksX11_read_0 : cX11_read.data.toList.drop 0 = dktX11_read_0 := by decide +kernel
theorem dksX11_read_1 : cX11_read.data.toList.drop 20 = dktX11_read_1 := dk_seg dksX11_read_0 20 rfl rfl
theorem dksX11_read_2 : cX11_read.data.toList.drop 48 = dktX11_read_2 := dk_seg dksX11_read_1 28 rfl rfl
theorem dksX11_read_3 : cX11_read.data.toList.drop 71 = dktX11_read_3 := dk_seg dksX11_read_2 23 rfl rfl
theorem dksX11_read_4 : cX11_read.data.toList.drop 79 = dktX11_read_4 := dk_seg dksX11_read_3 8 rfl rfl
theorem dksX11_read_5 : cX11_read.data.toList.drop 104 = dktX11_read_5 := dk_seg dksX11_read_4 25 rfl rfl
theorem dksX11_read_6 : cX11_read.data.toList.drop 128 = dktX11_read_6 := dk_seg dksX11_read_5 24 rfl rfl
theorem dksX11_read_7 : cX11_read.data.toList.drop 150 = dktX11_read_7 := dk_seg dksX11_read_6 22 rfl rfl
theorem dX11_read_0 : decode cX11_read 0 = .ok (.aload_n 0, 1) := dk_42 (dk_at dksX11_read_0 0 rfl rfl)
theorem dX11_read_1 : decode cX11_read 1 = .ok (.invokevirtual 80, 3) := dk_182 0 80 (dk_at dksX11_read_0 1 rfl rfl)
theorem dX11_read_4 : decode cX11_read 4 = .ok (.astore_n 1, 1) := dk_76 (dk_at dksX11_read_0 4 rfl rfl)
theorem dX11_read_5 : decode cX11_read 5 = .ok (.iconst (-1), 1) := dk_2 (dk_at dksX11_read_0 5 rfl rfl)
theorem dX11_read_6 : decode cX11_read 6 = .ok (.istore_n 2, 1) := dk_61 (dk_at dksX11_read_0 6 rfl rfl)
theorem dX11_read_7 : decode cX11_read 7 = .ok (.iconst 0, 1) := dk_3 (dk_at dksX11_read_0 7 rfl rfl)
theorem dX11_read_8 : decode cX11_read 8 = .ok (.istore_n 3, 1) := dk_62 (dk_at dksX11_read_0 8 rfl rfl)
theorem dX11_read_9 : decode cX11_read 9 = .ok (.aload_n 1, 1) := dk_43 (dk_at dksX11_read_0 9 rfl rfl)
theorem dX11_read_10 : decode cX11_read 10 = .ok (.astore 4, 2) := dk_58 4 (dk_at dksX11_read_0 10 rfl rfl)
theorem dX11_read_12 : decode cX11_read 12 = .ok (.iconst (-1), 1) := dk_2 (dk_at dksX11_read_0 12 rfl rfl)
theorem dX11_read_13 : decode cX11_read 13 = .ok (.istore 5, 2) := dk_54 5 (dk_at dksX11_read_0 13 rfl rfl)
theorem dX11_read_15 : decode cX11_read 15 = .ok (.aload 4, 2) := dk_25 4 (dk_at dksX11_read_0 15 rfl rfl)
theorem dX11_read_17 : decode cX11_read 17 = .ok (.invokevirtual 83, 3) := dk_182 0 83 (dk_at dksX11_read_0 17 rfl rfl)
theorem dX11_read_20 : decode cX11_read 20 = .ok (.lookupswitch 57 #[(3492746, 28), (110550847, 44)], 28) := by decide +kernel
theorem dX11_read_48 : decode cX11_read 48 = .ok (.aload 4, 2) := dk_25 4 (dk_at dksX11_read_2 0 rfl rfl)
theorem dX11_read_50 : decode cX11_read 50 = .ok (.ldc 86, 2) := dk_18 86 (dk_at dksX11_read_2 2 rfl rfl)
theorem dX11_read_52 : decode cX11_read 52 = .ok (.invokevirtual 53, 3) := dk_182 0 53 (dk_at dksX11_read_2 4 rfl rfl)
theorem dX11_read_55 : decode cX11_read 55 = .ok (.ifCond .eq 22, 3) := dk_153 0 22 (dk_at dksX11_read_2 7 rfl rfl)
theorem dX11_read_58 : decode cX11_read 58 = .ok (.iconst 0, 1) := dk_3 (dk_at dksX11_read_2 10 rfl rfl)
theorem dX11_read_59 : decode cX11_read 59 = .ok (.istore 5, 2) := dk_54 5 (dk_at dksX11_read_2 11 rfl rfl)
theorem dX11_read_61 : decode cX11_read 61 = .ok (.goto 16, 3) := dk_167 0 16 (dk_at dksX11_read_2 13 rfl rfl)
theorem dX11_read_64 : decode cX11_read 64 = .ok (.aload 4, 2) := dk_25 4 (dk_at dksX11_read_2 16 rfl rfl)
theorem dX11_read_66 : decode cX11_read 66 = .ok (.ldc 88, 2) := dk_18 88 (dk_at dksX11_read_2 18 rfl rfl)
theorem dX11_read_68 : decode cX11_read 68 = .ok (.invokevirtual 53, 3) := dk_182 0 53 (dk_at dksX11_read_2 20 rfl rfl)
theorem dX11_read_71 : decode cX11_read 71 = .ok (.ifCond .eq 6, 3) := dk_153 0 6 (dk_at dksX11_read_3 0 rfl rfl)
theorem dX11_read_74 : decode cX11_read 74 = .ok (.iconst 1, 1) := dk_4 (dk_at dksX11_read_3 3 rfl rfl)
theorem dX11_read_75 : decode cX11_read 75 = .ok (.istore 5, 2) := dk_54 5 (dk_at dksX11_read_3 4 rfl rfl)
theorem dX11_read_77 : decode cX11_read 77 = .ok (.iload 5, 2) := dk_21 5 (dk_at dksX11_read_3 6 rfl rfl)
theorem dX11_read_79 : decode cX11_read 79 = .ok (.lookupswitch 53 #[(0, 25), (1, 33)], 25) := by decide +kernel
theorem dX11_read_104 : decode cX11_read 104 = .ok (.aload_n 0, 1) := dk_42 (dk_at dksX11_read_5 0 rfl rfl)
theorem dX11_read_105 : decode cX11_read 105 = .ok (.invokevirtual 77, 3) := dk_182 0 77 (dk_at dksX11_read_5 1 rfl rfl)
theorem dX11_read_108 : decode cX11_read 108 = .ok (.istore_n 2, 1) := dk_61 (dk_at dksX11_read_5 4 rfl rfl)
theorem dX11_read_109 : decode cX11_read 109 = .ok (.goto 35, 3) := dk_167 0 35 (dk_at dksX11_read_5 5 rfl rfl)
theorem dX11_read_112 : decode cX11_read 112 = .ok (.aload_n 0, 1) := dk_42 (dk_at dksX11_read_5 8 rfl rfl)
theorem dX11_read_113 : decode cX11_read 113 = .ok (.invokevirtual 77, 3) := dk_182 0 77 (dk_at dksX11_read_5 9 rfl rfl)
theorem dX11_read_116 : decode cX11_read 116 = .ok (.istore_n 2, 1) := dk_61 (dk_at dksX11_read_5 12 rfl rfl)
theorem dX11_read_117 : decode cX11_read 117 = .ok (.aload_n 0, 1) := dk_42 (dk_at dksX11_read_5 13 rfl rfl)
theorem dX11_read_118 : decode cX11_read 118 = .ok (.bipush 64, 2) := dk_16 64 (dk_at dksX11_read_5 14 rfl rfl)
theorem dX11_read_120 : decode cX11_read 120 = .ok (.invokevirtual 90, 3) := dk_182 0 90 (dk_at dksX11_read_5 16 rfl rfl)
theorem dX11_read_123 : decode cX11_read 123 = .ok (.pop, 1) := dk_87 (dk_at dksX11_read_5 19 rfl rfl)
theorem dX11_read_124 : decode cX11_read 124 = .ok (.aload_n 0, 1) := dk_42 (dk_at dksX11_read_5 20 rfl rfl)
theorem dX11_read_125 : decode cX11_read 125 = .ok (.invokevirtual 94, 3) := dk_182 0 94 (dk_at dksX11_read_5 21 rfl rfl)
theorem dX11_read_128 : decode cX11_read 128 = .ok (.istore_n 3, 1) := dk_62 (dk_at dksX11_read_6 0 rfl rfl)
theorem dX11_read_129 : decode cX11_read 129 = .ok (.goto 15, 3) := dk_167 0 15 (dk_at dksX11_read_6 1 rfl rfl)
theorem dX11_read_132 : decode cX11_read 132 = .ok (.aload_n 0, 1) := dk_42 (dk_at dksX11_read_6 4 rfl rfl)
theorem dX11_read_133 : decode cX11_read 133 = .ok (.bipush 64, 2) := dk_16 64 (dk_at dksX11_read_6 5 rfl rfl)
theorem dX11_read_135 : decode cX11_read 135 = .ok (.invokevirtual 90, 3) := dk_182 0 90 (dk_at dksX11_read_6 7 rfl rfl)
theorem dX11_read_138 : decode cX11_read 138 = .ok (.pop, 1) := dk_87 (dk_at dksX11_read_6 10 rfl rfl)
theorem dX11_read_139 : decode cX11_read 139 = .ok (.aload_n 0, 1) := dk_42 (dk_at dksX11_read_6 11 rfl rfl)
theorem dX11_read_140 : decode cX11_read 140 = .ok (.invokevirtual 94, 3) := dk_182 0 94 (dk_at dksX11_read_6 12 rfl rfl)
theorem dX11_read_143 : decode cX11_read 143 = .ok (.istore_n 3, 1) := dk_62 (dk_at dksX11_read_6 15 rfl rfl)
theorem dX11_read_144 : decode cX11_read 144 = .ok (.aload_n 0, 1) := dk_42 (dk_at dksX11_read_6 16 rfl rfl)
theorem dX11_read_145 : decode cX11_read 145 = .ok (.bipush 59, 2) := dk_16 59 (dk_at dksX11_read_6 17 rfl rfl)
theorem dX11_read_147 : decode cX11_read 147 = .ok (.invokevirtual 90, 3) := dk_182 0 90 (dk_at dksX11_read_6 19 rfl rfl)
theorem dX11_read_150 : decode cX11_read 150 = .ok (.ifCond .eq 23, 3) := dk_153 0 23 (dk_at dksX11_read_7 0 rfl rfl)
theorem dX11_read_153 : decode cX11_read 153 = .ok (.aload_n 0, 1) := dk_42 (dk_at dksX11_read_7 3 rfl rfl)
theorem dX11_read_154 : decode cX11_read 154 = .ok (.getfield 12, 3) := dk_180 0 12 (dk_at dksX11_read_7 4 rfl rfl)
theorem dX11_read_157 : decode cX11_read 157 = .ok (.new 97, 3) := dk_187 0 97 (dk_at dksX11_read_7 7 rfl rfl)
theorem dX11_read_160 : decode cX11_read 160 = .ok (.dup, 1) := dk_89 (dk_at dksX11_read_7 10 rfl rfl)
theorem dX11_read_161 : decode cX11_read 161 = .ok (.aload_n 1, 1) := dk_43 (dk_at dksX11_read_7 11 rfl rfl)
theorem dX11_read_162 : decode cX11_read 162 = .ok (.iload_n 2, 1) := dk_28 (dk_at dksX11_read_7 12 rfl rfl)
theorem dX11_read_163 : decode cX11_read 163 = .ok (.iload_n 3, 1) := dk_29 (dk_at dksX11_read_7 13 rfl rfl)
theorem dX11_read_164 : decode cX11_read 164 = .ok (.invokespecial 99, 3) := dk_183 0 99 (dk_at dksX11_read_7 14 rfl rfl)
theorem dX11_read_167 : decode cX11_read 167 = .ok (.invokeinterface 102 2, 5) := by decide +kernel
theorem dX11_read_172 : decode cX11_read 172 = .ok (.pop, 1) := dk_87 (dk_at dksX11_read_7 22 rfl rfl)
theorem dX11_read_173 : decode cX11_read 173 = .ok (.return_, 1) := dk_177 (dk_at dksX11_read_7 23 rfl rfl)
abbrev cX11_word : ByteArray := prog_11_method_6_code
def yX11_word : MethodName := ⟨RX11, "word", "()Ljava/lang/String;"⟩
def dkwX11_word_5 : List UInt8 := [180, 0, 26, 4, 96, 181, 0, 26, 167, 255, 140, 43, 182, 0, 60, 176]
abbrev dktX11_word_5 : List UInt8 := dkwX11_word_5 ++ []
def dkwX11_word_4 : List UInt8 := [153, 255, 171, 43, 42, 180, 0, 22, 42, 180, 0, 26, 185, 0, 39, 2, 0, 182, 0, 71, 87, 42, 89]
abbrev dktX11_word_4 : List UInt8 := dkwX11_word_4 ++ dktX11_word_5
def dkwX11_word_3 : List UInt8 := [182, 0, 71, 182, 0, 60, 184, 0, 74, 153, 0, 7, 4, 167, 0, 4, 3, 181, 0, 18, 42, 180, 0, 18]
abbrev dktX11_word_3 : List UInt8 := dkwX11_word_3 ++ dktX11_word_4
def dkwX11_word_2 : List UInt8 := [183, 0, 59, 43, 182, 0, 60, 182, 0, 67, 42, 180, 0, 22, 42, 180, 0, 26, 185, 0, 39, 2, 0]
abbrev dktX11_word_2 : List UInt8 := dkwX11_word_2 ++ dktX11_word_3
def dkwX11_word_1 : List UInt8 := [154, 0, 105, 42, 42, 180, 0, 26, 42, 180, 0, 22, 185, 0, 30, 1, 0, 162, 0, 46, 187, 0, 57, 89]
abbrev dktX11_word_1 : List UInt8 := dkwX11_word_1 ++ dktX11_word_2
def dkwX11_word_0 : List UInt8 := [187, 0, 57, 89, 183, 0, 59, 76, 42, 180, 0, 18, 153, 0, 115, 43, 182, 0, 60, 184, 0, 64]
abbrev dktX11_word_0 : List UInt8 := dkwX11_word_0 ++ dktX11_word_1
theorem dksX11_word_0 : cX11_word.data.toList.drop 0 = dktX11_word_0 := by decide +kernel
theorem dksX11_word_1 : cX11_word.data.toList.drop 22 = dktX11_word_1 := dk_seg dksX11_word_0 22 rfl rfl
theorem dksX11_word_2 : cX11_word.data.toList.drop 46 = dktX11_word_2 := dk_seg dksX11_word_1 24 rfl rfl
theorem dksX11_word_3 : cX11_word.data.toList.drop 69 = dktX11_word_3 := dk_seg dksX11_word_2 23 rfl rfl
theorem dksX11_word_4 : cX11_word.data.toList.drop 93 = dktX11_word_4 := dk_seg dksX11_word_3 24 rfl rfl
theorem dksX11_word_5 : cX11_word.data.toList.drop 116 = dktX11_word_5 := dk_seg dksX11_word_4 23 rfl rfl
theorem dX11_word_0 : decode cX11_word 0 = .ok (.new 57, 3) := dk_187 0 57 (dk_at dksX11_word_0 0 rfl rfl)
theorem dX11_word_3 : decode cX11_word 3 = .ok (.dup, 1) := dk_89 (dk_at dksX11_word_0 3 rfl rfl)
theorem dX11_word_4 : decode cX11_word 4 = .ok (.invokespecial 59, 3) := dk_183 0 59 (dk_at dksX11_word_0 4 rfl rfl)
theorem dX11_word_7 : decode cX11_word 7 = .ok (.astore_n 1, 1) := dk_76 (dk_at dksX11_word_0 7 rfl rfl)
theorem dX11_word_8 : decode cX11_word 8 = .ok (.aload_n 0, 1) := dk_42 (dk_at dksX11_word_0 8 rfl rfl)
theorem dX11_word_9 : decode cX11_word 9 = .ok (.getfield 18, 3) := dk_180 0 18 (dk_at dksX11_word_0 9 rfl rfl)
theorem dX11_word_12 : decode cX11_word 12 = .ok (.ifCond .eq 115, 3) := dk_153 0 115 (dk_at dksX11_word_0 12 rfl rfl)
theorem dX11_word_15 : decode cX11_word 15 = .ok (.aload_n 1, 1) := dk_43 (dk_at dksX11_word_0 15 rfl rfl)
theorem dX11_word_16 : decode cX11_word 16 = .ok (.invokevirtual 60, 3) := dk_182 0 60 (dk_at dksX11_word_0 16 rfl rfl)
theorem dX11_word_19 : decode cX11_word 19 = .ok (.invokestatic 64, 3) := dk_184 0 64 (dk_at dksX11_word_0 19 rfl rfl)
theorem dX11_word_22 : decode cX11_word 22 = .ok (.ifCond .ne 105, 3) := dk_154 0 105 (dk_at dksX11_word_1 0 rfl rfl)
theorem dX11_word_25 : decode cX11_word 25 = .ok (.aload_n 0, 1) := dk_42 (dk_at dksX11_word_1 3 rfl rfl)
theorem dX11_word_26 : decode cX11_word 26 = .ok (.aload_n 0, 1) := dk_42 (dk_at dksX11_word_1 4 rfl rfl)
theorem dX11_word_27 : decode cX11_word 27 = .ok (.getfield 26, 3) := dk_180 0 26 (dk_at dksX11_word_1 5 rfl rfl)
theorem dX11_word_30 : decode cX11_word 30 = .ok (.aload_n 0, 1) := dk_42 (dk_at dksX11_word_1 8 rfl rfl)
theorem dX11_word_31 : decode cX11_word 31 = .ok (.getfield 22, 3) := dk_180 0 22 (dk_at dksX11_word_1 9 rfl rfl)
theorem dX11_word_34 : decode cX11_word 34 = .ok (.invokeinterface 30 1, 5) := by decide +kernel
theorem dX11_word_39 : decode cX11_word 39 = .ok (.if_icmp .ge 46, 3) := dk_162 0 46 (dk_at dksX11_word_1 17 rfl rfl)
theorem dX11_word_42 : decode cX11_word 42 = .ok (.new 57, 3) := dk_187 0 57 (dk_at dksX11_word_1 20 rfl rfl)
theorem dX11_word_45 : decode cX11_word 45 = .ok (.dup, 1) := dk_89 (dk_at dksX11_word_1 23 rfl rfl)
theorem dX11_word_46 : decode cX11_word 46 = .ok (.invokespecial 59, 3) := dk_183 0 59 (dk_at dksX11_word_2 0 rfl rfl)
theorem dX11_word_49 : decode cX11_word 49 = .ok (.aload_n 1, 1) := dk_43 (dk_at dksX11_word_2 3 rfl rfl)
theorem dX11_word_50 : decode cX11_word 50 = .ok (.invokevirtual 60, 3) := dk_182 0 60 (dk_at dksX11_word_2 4 rfl rfl)
theorem dX11_word_53 : decode cX11_word 53 = .ok (.invokevirtual 67, 3) := dk_182 0 67 (dk_at dksX11_word_2 7 rfl rfl)
theorem dX11_word_56 : decode cX11_word 56 = .ok (.aload_n 0, 1) := dk_42 (dk_at dksX11_word_2 10 rfl rfl)
theorem dX11_word_57 : decode cX11_word 57 = .ok (.getfield 22, 3) := dk_180 0 22 (dk_at dksX11_word_2 11 rfl rfl)
theorem dX11_word_60 : decode cX11_word 60 = .ok (.aload_n 0, 1) := dk_42 (dk_at dksX11_word_2 14 rfl rfl)
theorem dX11_word_61 : decode cX11_word 61 = .ok (.getfield 26, 3) := dk_180 0 26 (dk_at dksX11_word_2 15 rfl rfl)
theorem dX11_word_64 : decode cX11_word 64 = .ok (.invokeinterface 39 2, 5) := by decide +kernel
theorem dX11_word_69 : decode cX11_word 69 = .ok (.invokevirtual 71, 3) := dk_182 0 71 (dk_at dksX11_word_3 0 rfl rfl)
theorem dX11_word_72 : decode cX11_word 72 = .ok (.invokevirtual 60, 3) := dk_182 0 60 (dk_at dksX11_word_3 3 rfl rfl)
theorem dX11_word_75 : decode cX11_word 75 = .ok (.invokestatic 74, 3) := dk_184 0 74 (dk_at dksX11_word_3 6 rfl rfl)
theorem dX11_word_78 : decode cX11_word 78 = .ok (.ifCond .eq 7, 3) := dk_153 0 7 (dk_at dksX11_word_3 9 rfl rfl)
theorem dX11_word_81 : decode cX11_word 81 = .ok (.iconst 1, 1) := dk_4 (dk_at dksX11_word_3 12 rfl rfl)
theorem dX11_word_82 : decode cX11_word 82 = .ok (.goto 4, 3) := dk_167 0 4 (dk_at dksX11_word_3 13 rfl rfl)
theorem dX11_word_85 : decode cX11_word 85 = .ok (.iconst 0, 1) := dk_3 (dk_at dksX11_word_3 16 rfl rfl)
theorem dX11_word_86 : decode cX11_word 86 = .ok (.putfield 18, 3) := dk_181 0 18 (dk_at dksX11_word_3 17 rfl rfl)
theorem dX11_word_89 : decode cX11_word 89 = .ok (.aload_n 0, 1) := dk_42 (dk_at dksX11_word_3 20 rfl rfl)
theorem dX11_word_90 : decode cX11_word 90 = .ok (.getfield 18, 3) := dk_180 0 18 (dk_at dksX11_word_3 21 rfl rfl)
theorem dX11_word_93 : decode cX11_word 93 = .ok (.ifCond .eq (-85), 3) := dk_153 255 171 (dk_at dksX11_word_4 0 rfl rfl)
theorem dX11_word_96 : decode cX11_word 96 = .ok (.aload_n 1, 1) := dk_43 (dk_at dksX11_word_4 3 rfl rfl)
theorem dX11_word_97 : decode cX11_word 97 = .ok (.aload_n 0, 1) := dk_42 (dk_at dksX11_word_4 4 rfl rfl)
theorem dX11_word_98 : decode cX11_word 98 = .ok (.getfield 22, 3) := dk_180 0 22 (dk_at dksX11_word_4 5 rfl rfl)
theorem dX11_word_101 : decode cX11_word 101 = .ok (.aload_n 0, 1) := dk_42 (dk_at dksX11_word_4 8 rfl rfl)
theorem dX11_word_102 : decode cX11_word 102 = .ok (.getfield 26, 3) := dk_180 0 26 (dk_at dksX11_word_4 9 rfl rfl)
theorem dX11_word_105 : decode cX11_word 105 = .ok (.invokeinterface 39 2, 5) := by decide +kernel
theorem dX11_word_110 : decode cX11_word 110 = .ok (.invokevirtual 71, 3) := dk_182 0 71 (dk_at dksX11_word_4 17 rfl rfl)
theorem dX11_word_113 : decode cX11_word 113 = .ok (.pop, 1) := dk_87 (dk_at dksX11_word_4 20 rfl rfl)
theorem dX11_word_114 : decode cX11_word 114 = .ok (.aload_n 0, 1) := dk_42 (dk_at dksX11_word_4 21 rfl rfl)
theorem dX11_word_115 : decode cX11_word 115 = .ok (.dup, 1) := dk_89 (dk_at dksX11_word_4 22 rfl rfl)
theorem dX11_word_116 : decode cX11_word 116 = .ok (.getfield 26, 3) := dk_180 0 26 (dk_at dksX11_word_5 0 rfl rfl)
theorem dX11_word_119 : decode cX11_word 119 = .ok (.iconst 1, 1) := dk_4 (dk_at dksX11_word_5 3 rfl rfl)
theorem dX11_word_120 : decode cX11_word 120 = .ok (.iadd, 1) := dk_96 (dk_at dksX11_word_5 4 rfl rfl)
theorem dX11_word_121 : decode cX11_word 121 = .ok (.putfield 26, 3) := dk_181 0 26 (dk_at dksX11_word_5 5 rfl rfl)
theorem dX11_word_124 : decode cX11_word 124 = .ok (.goto (-116), 3) := dk_167 255 140 (dk_at dksX11_word_5 8 rfl rfl)
theorem dX11_word_127 : decode cX11_word 127 = .ok (.aload_n 1, 1) := dk_43 (dk_at dksX11_word_5 11 rfl rfl)
theorem dX11_word_128 : decode cX11_word 128 = .ok (.invokevirtual 60, 3) := dk_182 0 60 (dk_at dksX11_word_5 12 rfl rfl)
theorem dX11_word_131 : decode cX11_word 131 = .ok (.areturn, 1) := dk_176 (dk_at dksX11_word_5 15 rfl rfl)
abbrev cX11_isWord : ByteArray := prog_11_method_5_code
def yX11_isWord : MethodName := ⟨RX11, "isWord", "(Ljava/lang/String;)Z"⟩
def dkwX11_isWord_1 : List UInt8 := [167, 255, 236, 27, 172]
abbrev dktX11_isWord_1 : List UInt8 := dkwX11_isWord_1 ++ []
def dkwX11_isWord_0 : List UInt8 := [3, 60, 3, 61, 28, 16, 8, 162, 0, 20, 27, 28, 184, 0, 43, 42, 182, 0, 53, 128, 60, 132, 2, 1]
abbrev dktX11_isWord_0 : List UInt8 := dkwX11_isWord_0 ++ dktX11_isWord_1
theorem dksX11_isWord_0 : cX11_isWord.data.toList.drop 0 = dktX11_isWord_0 := by decide +kernel
theorem dksX11_isWord_1 : cX11_isWord.data.toList.drop 24 = dktX11_isWord_1 := dk_seg dksX11_isWord_0 24 rfl rfl
theorem dX11_isWord_0 : decode cX11_isWord 0 = .ok (.iconst 0, 1) := dk_3 (dk_at dksX11_isWord_0 0 rfl rfl)
theorem dX11_isWord_1 : decode cX11_isWord 1 = .ok (.istore_n 1, 1) := dk_60 (dk_at dksX11_isWord_0 1 rfl rfl)
theorem dX11_isWord_2 : decode cX11_isWord 2 = .ok (.iconst 0, 1) := dk_3 (dk_at dksX11_isWord_0 2 rfl rfl)
theorem dX11_isWord_3 : decode cX11_isWord 3 = .ok (.istore_n 2, 1) := dk_61 (dk_at dksX11_isWord_0 3 rfl rfl)
theorem dX11_isWord_4 : decode cX11_isWord 4 = .ok (.iload_n 2, 1) := dk_28 (dk_at dksX11_isWord_0 4 rfl rfl)
theorem dX11_isWord_5 : decode cX11_isWord 5 = .ok (.bipush 8, 2) := dk_16 8 (dk_at dksX11_isWord_0 5 rfl rfl)
theorem dX11_isWord_7 : decode cX11_isWord 7 = .ok (.if_icmp .ge 20, 3) := dk_162 0 20 (dk_at dksX11_isWord_0 7 rfl rfl)
theorem dX11_isWord_10 : decode cX11_isWord 10 = .ok (.iload_n 1, 1) := dk_27 (dk_at dksX11_isWord_0 10 rfl rfl)
theorem dX11_isWord_11 : decode cX11_isWord 11 = .ok (.iload_n 2, 1) := dk_28 (dk_at dksX11_isWord_0 11 rfl rfl)
theorem dX11_isWord_12 : decode cX11_isWord 12 = .ok (.invokestatic 43, 3) := dk_184 0 43 (dk_at dksX11_isWord_0 12 rfl rfl)
theorem dX11_isWord_15 : decode cX11_isWord 15 = .ok (.aload_n 0, 1) := dk_42 (dk_at dksX11_isWord_0 15 rfl rfl)
theorem dX11_isWord_16 : decode cX11_isWord 16 = .ok (.invokevirtual 53, 3) := dk_182 0 53 (dk_at dksX11_isWord_0 16 rfl rfl)
theorem dX11_isWord_19 : decode cX11_isWord 19 = .ok (.ior, 1) := dk_128 (dk_at dksX11_isWord_0 19 rfl rfl)
theorem dX11_isWord_20 : decode cX11_isWord 20 = .ok (.istore_n 1, 1) := dk_60 (dk_at dksX11_isWord_0 20 rfl rfl)
theorem dX11_isWord_21 : decode cX11_isWord 21 = .ok (.iinc 2 1, 3) := dk_132 2 1 (dk_at dksX11_isWord_0 21 rfl rfl)
theorem dX11_isWord_24 : decode cX11_isWord 24 = .ok (.goto (-20), 3) := dk_167 255 236 (dk_at dksX11_isWord_1 0 rfl rfl)
theorem dX11_isWord_27 : decode cX11_isWord 27 = .ok (.iload_n 1, 1) := dk_27 (dk_at dksX11_isWord_1 3 rfl rfl)
theorem dX11_isWord_28 : decode cX11_isWord 28 = .ok (.ireturn, 1) := dk_172 (dk_at dksX11_isWord_1 4 rfl rfl)
abbrev cX11_begins : ByteArray := prog_11_method_4_code
def yX11_begins : MethodName := ⟨RX11, "begins", "(Ljava/lang/String;)Z"⟩
def dkwX11_begins_1 : List UInt8 := [167, 255, 236, 27, 172]
abbrev dktX11_begins_1 : List UInt8 := dkwX11_begins_1 ++ []
def dkwX11_begins_0 : List UInt8 := [3, 60, 3, 61, 28, 16, 8, 162, 0, 20, 27, 28, 184, 0, 43, 42, 182, 0, 47, 128, 60, 132, 2, 1]
abbrev dktX11_begins_0 : List UInt8 := dkwX11_begins_0 ++ dktX11_begins_1
theorem dksX11_begins_0 : cX11_begins.data.toList.drop 0 = dktX11_begins_0 := by decide +kernel
theorem dksX11_begins_1 : cX11_begins.data.toList.drop 24 = dktX11_begins_1 := dk_seg dksX11_begins_0 24 rfl rfl
theorem dX11_begins_0 : decode cX11_begins 0 = .ok (.iconst 0, 1) := dk_3 (dk_at dksX11_begins_0 0 rfl rfl)
theorem dX11_begins_1 : decode cX11_begins 1 = .ok (.istore_n 1, 1) := dk_60 (dk_at dksX11_begins_0 1 rfl rfl)
theorem dX11_begins_2 : decode cX11_begins 2 = .ok (.iconst 0, 1) := dk_3 (dk_at dksX11_begins_0 2 rfl rfl)
theorem dX11_begins_3 : decode cX11_begins 3 = .ok (.istore_n 2, 1) := dk_61 (dk_at dksX11_begins_0 3 rfl rfl)
theorem dX11_begins_4 : decode cX11_begins 4 = .ok (.iload_n 2, 1) := dk_28 (dk_at dksX11_begins_0 4 rfl rfl)
theorem dX11_begins_5 : decode cX11_begins 5 = .ok (.bipush 8, 2) := dk_16 8 (dk_at dksX11_begins_0 5 rfl rfl)
theorem dX11_begins_7 : decode cX11_begins 7 = .ok (.if_icmp .ge 20, 3) := dk_162 0 20 (dk_at dksX11_begins_0 7 rfl rfl)
theorem dX11_begins_10 : decode cX11_begins 10 = .ok (.iload_n 1, 1) := dk_27 (dk_at dksX11_begins_0 10 rfl rfl)
theorem dX11_begins_11 : decode cX11_begins 11 = .ok (.iload_n 2, 1) := dk_28 (dk_at dksX11_begins_0 11 rfl rfl)
theorem dX11_begins_12 : decode cX11_begins 12 = .ok (.invokestatic 43, 3) := dk_184 0 43 (dk_at dksX11_begins_0 12 rfl rfl)
theorem dX11_begins_15 : decode cX11_begins 15 = .ok (.aload_n 0, 1) := dk_42 (dk_at dksX11_begins_0 15 rfl rfl)
theorem dX11_begins_16 : decode cX11_begins 16 = .ok (.invokevirtual 47, 3) := dk_182 0 47 (dk_at dksX11_begins_0 16 rfl rfl)
theorem dX11_begins_19 : decode cX11_begins 19 = .ok (.ior, 1) := dk_128 (dk_at dksX11_begins_0 19 rfl rfl)
theorem dX11_begins_20 : decode cX11_begins 20 = .ok (.istore_n 1, 1) := dk_60 (dk_at dksX11_begins_0 20 rfl rfl)
theorem dX11_begins_21 : decode cX11_begins 21 = .ok (.iinc 2 1, 3) := dk_132 2 1 (dk_at dksX11_begins_0 21 rfl rfl)
theorem dX11_begins_24 : decode cX11_begins 24 = .ok (.goto (-20), 3) := dk_167 255 236 (dk_at dksX11_begins_1 0 rfl rfl)
theorem dX11_begins_27 : decode cX11_begins 27 = .ok (.iload_n 1, 1) := dk_27 (dk_at dksX11_begins_1 3 rfl rfl)
theorem dX11_begins_28 : decode cX11_begins 28 = .ok (.ireturn, 1) := dk_172 (dk_at dksX11_begins_1 4 rfl rfl)
abbrev cX11_digit : ByteArray := prog_11_method_3_code
def yX11_digit : MethodName := ⟨RX11, "digit", "()I"⟩
def dkwX11_digit_4 : List UInt8 := [180, 0, 22, 42, 180, 0, 26, 4, 100, 185, 0, 39, 2, 0, 16, 48, 100, 167, 0, 4, 3, 172]
abbrev dktX11_digit_4 : List UInt8 := dkwX11_digit_4 ++ []
def dkwX11_digit_3 : List UInt8 := [42, 89, 180, 0, 26, 27, 153, 0, 7, 4, 167, 0, 4, 3, 96, 181, 0, 26, 27, 153, 0, 24, 42]
abbrev dktX11_digit_3 : List UInt8 := dkwX11_digit_3 ++ dktX11_digit_4
def dkwX11_digit_2 : List UInt8 := [180, 0, 26, 185, 0, 39, 2, 0, 16, 57, 163, 0, 7, 4, 167, 0, 4, 3, 60, 42, 27, 181, 0, 18]
abbrev dktX11_digit_2 : List UInt8 := dkwX11_digit_2 ++ dktX11_digit_3
def dkwX11_digit_1 : List UInt8 := [180, 0, 22, 42, 180, 0, 26, 185, 0, 39, 2, 0, 16, 48, 161, 0, 25, 42, 180, 0, 22, 42]
abbrev dktX11_digit_1 : List UInt8 := dkwX11_digit_1 ++ dktX11_digit_2
def dkwX11_digit_0 : List UInt8 := [42, 180, 0, 18, 153, 0, 59, 42, 180, 0, 26, 42, 180, 0, 22, 185, 0, 30, 1, 0, 162, 0, 43, 42]
abbrev dktX11_digit_0 : List UInt8 := dkwX11_digit_0 ++ dktX11_digit_1
theorem dksX11_digit_0 : cX11_digit.data.toList.drop 0 = dktX11_digit_0 := by decide +kernel
theorem dksX11_digit_1 : cX11_digit.data.toList.drop 24 = dktX11_digit_1 := dk_seg dksX11_digit_0 24 rfl rfl
theorem dksX11_digit_2 : cX11_digit.data.toList.drop 46 = dktX11_digit_2 := dk_seg dksX11_digit_1 22 rfl rfl
theorem dksX11_digit_3 : cX11_digit.data.toList.drop 70 = dktX11_digit_3 := dk_seg dksX11_digit_2 24 rfl rfl
theorem dksX11_digit_4 : cX11_digit.data.toList.drop 93 = dktX11_digit_4 := dk_seg dksX11_digit_3 23 rfl rfl
theorem dX11_digit_0 : decode cX11_digit 0 = .ok (.aload_n 0, 1) := dk_42 (dk_at dksX11_digit_0 0 rfl rfl)
theorem dX11_digit_1 : decode cX11_digit 1 = .ok (.getfield 18, 3) := dk_180 0 18 (dk_at dksX11_digit_0 1 rfl rfl)
theorem dX11_digit_4 : decode cX11_digit 4 = .ok (.ifCond .eq 59, 3) := dk_153 0 59 (dk_at dksX11_digit_0 4 rfl rfl)
theorem dX11_digit_7 : decode cX11_digit 7 = .ok (.aload_n 0, 1) := dk_42 (dk_at dksX11_digit_0 7 rfl rfl)
theorem dX11_digit_8 : decode cX11_digit 8 = .ok (.getfield 26, 3) := dk_180 0 26 (dk_at dksX11_digit_0 8 rfl rfl)
theorem dX11_digit_11 : decode cX11_digit 11 = .ok (.aload_n 0, 1) := dk_42 (dk_at dksX11_digit_0 11 rfl rfl)
theorem dX11_digit_12 : decode cX11_digit 12 = .ok (.getfield 22, 3) := dk_180 0 22 (dk_at dksX11_digit_0 12 rfl rfl)
theorem dX11_digit_15 : decode cX11_digit 15 = .ok (.invokeinterface 30 1, 5) := by decide +kernel
theorem dX11_digit_20 : decode cX11_digit 20 = .ok (.if_icmp .ge 43, 3) := dk_162 0 43 (dk_at dksX11_digit_0 20 rfl rfl)
theorem dX11_digit_23 : decode cX11_digit 23 = .ok (.aload_n 0, 1) := dk_42 (dk_at dksX11_digit_0 23 rfl rfl)
theorem dX11_digit_24 : decode cX11_digit 24 = .ok (.getfield 22, 3) := dk_180 0 22 (dk_at dksX11_digit_1 0 rfl rfl)
theorem dX11_digit_27 : decode cX11_digit 27 = .ok (.aload_n 0, 1) := dk_42 (dk_at dksX11_digit_1 3 rfl rfl)
theorem dX11_digit_28 : decode cX11_digit 28 = .ok (.getfield 26, 3) := dk_180 0 26 (dk_at dksX11_digit_1 4 rfl rfl)
theorem dX11_digit_31 : decode cX11_digit 31 = .ok (.invokeinterface 39 2, 5) := by decide +kernel
theorem dX11_digit_36 : decode cX11_digit 36 = .ok (.bipush 48, 2) := dk_16 48 (dk_at dksX11_digit_1 12 rfl rfl)
theorem dX11_digit_38 : decode cX11_digit 38 = .ok (.if_icmp .lt 25, 3) := dk_161 0 25 (dk_at dksX11_digit_1 14 rfl rfl)
theorem dX11_digit_41 : decode cX11_digit 41 = .ok (.aload_n 0, 1) := dk_42 (dk_at dksX11_digit_1 17 rfl rfl)
theorem dX11_digit_42 : decode cX11_digit 42 = .ok (.getfield 22, 3) := dk_180 0 22 (dk_at dksX11_digit_1 18 rfl rfl)
theorem dX11_digit_45 : decode cX11_digit 45 = .ok (.aload_n 0, 1) := dk_42 (dk_at dksX11_digit_1 21 rfl rfl)
theorem dX11_digit_46 : decode cX11_digit 46 = .ok (.getfield 26, 3) := dk_180 0 26 (dk_at dksX11_digit_2 0 rfl rfl)
theorem dX11_digit_49 : decode cX11_digit 49 = .ok (.invokeinterface 39 2, 5) := by decide +kernel
theorem dX11_digit_54 : decode cX11_digit 54 = .ok (.bipush 57, 2) := dk_16 57 (dk_at dksX11_digit_2 8 rfl rfl)
theorem dX11_digit_56 : decode cX11_digit 56 = .ok (.if_icmp .gt 7, 3) := dk_163 0 7 (dk_at dksX11_digit_2 10 rfl rfl)
theorem dX11_digit_59 : decode cX11_digit 59 = .ok (.iconst 1, 1) := dk_4 (dk_at dksX11_digit_2 13 rfl rfl)
theorem dX11_digit_60 : decode cX11_digit 60 = .ok (.goto 4, 3) := dk_167 0 4 (dk_at dksX11_digit_2 14 rfl rfl)
theorem dX11_digit_63 : decode cX11_digit 63 = .ok (.iconst 0, 1) := dk_3 (dk_at dksX11_digit_2 17 rfl rfl)
theorem dX11_digit_64 : decode cX11_digit 64 = .ok (.istore_n 1, 1) := dk_60 (dk_at dksX11_digit_2 18 rfl rfl)
theorem dX11_digit_65 : decode cX11_digit 65 = .ok (.aload_n 0, 1) := dk_42 (dk_at dksX11_digit_2 19 rfl rfl)
theorem dX11_digit_66 : decode cX11_digit 66 = .ok (.iload_n 1, 1) := dk_27 (dk_at dksX11_digit_2 20 rfl rfl)
theorem dX11_digit_67 : decode cX11_digit 67 = .ok (.putfield 18, 3) := dk_181 0 18 (dk_at dksX11_digit_2 21 rfl rfl)
theorem dX11_digit_70 : decode cX11_digit 70 = .ok (.aload_n 0, 1) := dk_42 (dk_at dksX11_digit_3 0 rfl rfl)
theorem dX11_digit_71 : decode cX11_digit 71 = .ok (.dup, 1) := dk_89 (dk_at dksX11_digit_3 1 rfl rfl)
theorem dX11_digit_72 : decode cX11_digit 72 = .ok (.getfield 26, 3) := dk_180 0 26 (dk_at dksX11_digit_3 2 rfl rfl)
theorem dX11_digit_75 : decode cX11_digit 75 = .ok (.iload_n 1, 1) := dk_27 (dk_at dksX11_digit_3 5 rfl rfl)
theorem dX11_digit_76 : decode cX11_digit 76 = .ok (.ifCond .eq 7, 3) := dk_153 0 7 (dk_at dksX11_digit_3 6 rfl rfl)
theorem dX11_digit_79 : decode cX11_digit 79 = .ok (.iconst 1, 1) := dk_4 (dk_at dksX11_digit_3 9 rfl rfl)
theorem dX11_digit_80 : decode cX11_digit 80 = .ok (.goto 4, 3) := dk_167 0 4 (dk_at dksX11_digit_3 10 rfl rfl)
theorem dX11_digit_83 : decode cX11_digit 83 = .ok (.iconst 0, 1) := dk_3 (dk_at dksX11_digit_3 13 rfl rfl)
theorem dX11_digit_84 : decode cX11_digit 84 = .ok (.iadd, 1) := dk_96 (dk_at dksX11_digit_3 14 rfl rfl)
theorem dX11_digit_85 : decode cX11_digit 85 = .ok (.putfield 26, 3) := dk_181 0 26 (dk_at dksX11_digit_3 15 rfl rfl)
theorem dX11_digit_88 : decode cX11_digit 88 = .ok (.iload_n 1, 1) := dk_27 (dk_at dksX11_digit_3 18 rfl rfl)
theorem dX11_digit_89 : decode cX11_digit 89 = .ok (.ifCond .eq 24, 3) := dk_153 0 24 (dk_at dksX11_digit_3 19 rfl rfl)
theorem dX11_digit_92 : decode cX11_digit 92 = .ok (.aload_n 0, 1) := dk_42 (dk_at dksX11_digit_3 22 rfl rfl)
theorem dX11_digit_93 : decode cX11_digit 93 = .ok (.getfield 22, 3) := dk_180 0 22 (dk_at dksX11_digit_4 0 rfl rfl)
theorem dX11_digit_96 : decode cX11_digit 96 = .ok (.aload_n 0, 1) := dk_42 (dk_at dksX11_digit_4 3 rfl rfl)
theorem dX11_digit_97 : decode cX11_digit 97 = .ok (.getfield 26, 3) := dk_180 0 26 (dk_at dksX11_digit_4 4 rfl rfl)
theorem dX11_digit_100 : decode cX11_digit 100 = .ok (.iconst 1, 1) := dk_4 (dk_at dksX11_digit_4 7 rfl rfl)
theorem dX11_digit_101 : decode cX11_digit 101 = .ok (.isub, 1) := dk_100 (dk_at dksX11_digit_4 8 rfl rfl)
theorem dX11_digit_102 : decode cX11_digit 102 = .ok (.invokeinterface 39 2, 5) := by decide +kernel
theorem dX11_digit_107 : decode cX11_digit 107 = .ok (.bipush 48, 2) := dk_16 48 (dk_at dksX11_digit_4 14 rfl rfl)
theorem dX11_digit_109 : decode cX11_digit 109 = .ok (.isub, 1) := dk_100 (dk_at dksX11_digit_4 16 rfl rfl)
theorem dX11_digit_110 : decode cX11_digit 110 = .ok (.goto 4, 3) := dk_167 0 4 (dk_at dksX11_digit_4 17 rfl rfl)
theorem dX11_digit_113 : decode cX11_digit 113 = .ok (.iconst 0, 1) := dk_3 (dk_at dksX11_digit_4 20 rfl rfl)
theorem dX11_digit_114 : decode cX11_digit 114 = .ok (.ireturn, 1) := dk_172 (dk_at dksX11_digit_4 21 rfl rfl)
abbrev cX11_isAt : ByteArray := prog_11_method_2_code
def yX11_isAt : MethodName := ⟨RX11, "isAt", "(C)Z"⟩
def dkwX11_isAt_2 : List UInt8 := [181, 0, 18, 42, 89, 180, 0, 26, 28, 153, 0, 7, 4, 167, 0, 4, 3, 96, 181, 0, 26, 28, 172]
abbrev dktX11_isAt_2 : List UInt8 := dkwX11_isAt_2 ++ []
def dkwX11_isAt_1 : List UInt8 := [180, 0, 22, 42, 180, 0, 26, 185, 0, 39, 2, 0, 27, 160, 0, 7, 4, 167, 0, 4, 3, 61, 42, 28]
abbrev dktX11_isAt_1 : List UInt8 := dkwX11_isAt_1 ++ dktX11_isAt_2
def dkwX11_isAt_0 : List UInt8 := [42, 180, 0, 18, 153, 0, 40, 42, 180, 0, 26, 42, 180, 0, 22, 185, 0, 30, 1, 0, 162, 0, 24, 42]
abbrev dktX11_isAt_0 : List UInt8 := dkwX11_isAt_0 ++ dktX11_isAt_1
theorem dksX11_isAt_0 : cX11_isAt.data.toList.drop 0 = dktX11_isAt_0 := by decide +kernel
theorem dksX11_isAt_1 : cX11_isAt.data.toList.drop 24 = dktX11_isAt_1 := dk_seg dksX11_isAt_0 24 rfl rfl
theorem dksX11_isAt_2 : cX11_isAt.data.toList.drop 48 = dktX11_isAt_2 := dk_seg dksX11_isAt_1 24 rfl rfl
theorem dX11_isAt_0 : decode cX11_isAt 0 = .ok (.aload_n 0, 1) := dk_42 (dk_at dksX11_isAt_0 0 rfl rfl)
theorem dX11_isAt_1 : decode cX11_isAt 1 = .ok (.getfield 18, 3) := dk_180 0 18 (dk_at dksX11_isAt_0 1 rfl rfl)
theorem dX11_isAt_4 : decode cX11_isAt 4 = .ok (.ifCond .eq 40, 3) := dk_153 0 40 (dk_at dksX11_isAt_0 4 rfl rfl)
theorem dX11_isAt_7 : decode cX11_isAt 7 = .ok (.aload_n 0, 1) := dk_42 (dk_at dksX11_isAt_0 7 rfl rfl)
theorem dX11_isAt_8 : decode cX11_isAt 8 = .ok (.getfield 26, 3) := dk_180 0 26 (dk_at dksX11_isAt_0 8 rfl rfl)
theorem dX11_isAt_11 : decode cX11_isAt 11 = .ok (.aload_n 0, 1) := dk_42 (dk_at dksX11_isAt_0 11 rfl rfl)
theorem dX11_isAt_12 : decode cX11_isAt 12 = .ok (.getfield 22, 3) := dk_180 0 22 (dk_at dksX11_isAt_0 12 rfl rfl)
theorem dX11_isAt_15 : decode cX11_isAt 15 = .ok (.invokeinterface 30 1, 5) := by decide +kernel
theorem dX11_isAt_20 : decode cX11_isAt 20 = .ok (.if_icmp .ge 24, 3) := dk_162 0 24 (dk_at dksX11_isAt_0 20 rfl rfl)
theorem dX11_isAt_23 : decode cX11_isAt 23 = .ok (.aload_n 0, 1) := dk_42 (dk_at dksX11_isAt_0 23 rfl rfl)
theorem dX11_isAt_24 : decode cX11_isAt 24 = .ok (.getfield 22, 3) := dk_180 0 22 (dk_at dksX11_isAt_1 0 rfl rfl)
theorem dX11_isAt_27 : decode cX11_isAt 27 = .ok (.aload_n 0, 1) := dk_42 (dk_at dksX11_isAt_1 3 rfl rfl)
theorem dX11_isAt_28 : decode cX11_isAt 28 = .ok (.getfield 26, 3) := dk_180 0 26 (dk_at dksX11_isAt_1 4 rfl rfl)
theorem dX11_isAt_31 : decode cX11_isAt 31 = .ok (.invokeinterface 39 2, 5) := by decide +kernel
theorem dX11_isAt_36 : decode cX11_isAt 36 = .ok (.iload_n 1, 1) := dk_27 (dk_at dksX11_isAt_1 12 rfl rfl)
theorem dX11_isAt_37 : decode cX11_isAt 37 = .ok (.if_icmp .ne 7, 3) := dk_160 0 7 (dk_at dksX11_isAt_1 13 rfl rfl)
theorem dX11_isAt_40 : decode cX11_isAt 40 = .ok (.iconst 1, 1) := dk_4 (dk_at dksX11_isAt_1 16 rfl rfl)
theorem dX11_isAt_41 : decode cX11_isAt 41 = .ok (.goto 4, 3) := dk_167 0 4 (dk_at dksX11_isAt_1 17 rfl rfl)
theorem dX11_isAt_44 : decode cX11_isAt 44 = .ok (.iconst 0, 1) := dk_3 (dk_at dksX11_isAt_1 20 rfl rfl)
theorem dX11_isAt_45 : decode cX11_isAt 45 = .ok (.istore_n 2, 1) := dk_61 (dk_at dksX11_isAt_1 21 rfl rfl)
theorem dX11_isAt_46 : decode cX11_isAt 46 = .ok (.aload_n 0, 1) := dk_42 (dk_at dksX11_isAt_1 22 rfl rfl)
theorem dX11_isAt_47 : decode cX11_isAt 47 = .ok (.iload_n 2, 1) := dk_28 (dk_at dksX11_isAt_1 23 rfl rfl)
theorem dX11_isAt_48 : decode cX11_isAt 48 = .ok (.putfield 18, 3) := dk_181 0 18 (dk_at dksX11_isAt_2 0 rfl rfl)
theorem dX11_isAt_51 : decode cX11_isAt 51 = .ok (.aload_n 0, 1) := dk_42 (dk_at dksX11_isAt_2 3 rfl rfl)
theorem dX11_isAt_52 : decode cX11_isAt 52 = .ok (.dup, 1) := dk_89 (dk_at dksX11_isAt_2 4 rfl rfl)
theorem dX11_isAt_53 : decode cX11_isAt 53 = .ok (.getfield 26, 3) := dk_180 0 26 (dk_at dksX11_isAt_2 5 rfl rfl)
theorem dX11_isAt_56 : decode cX11_isAt 56 = .ok (.iload_n 2, 1) := dk_28 (dk_at dksX11_isAt_2 8 rfl rfl)
theorem dX11_isAt_57 : decode cX11_isAt 57 = .ok (.ifCond .eq 7, 3) := dk_153 0 7 (dk_at dksX11_isAt_2 9 rfl rfl)
theorem dX11_isAt_60 : decode cX11_isAt 60 = .ok (.iconst 1, 1) := dk_4 (dk_at dksX11_isAt_2 12 rfl rfl)
theorem dX11_isAt_61 : decode cX11_isAt 61 = .ok (.goto 4, 3) := dk_167 0 4 (dk_at dksX11_isAt_2 13 rfl rfl)
theorem dX11_isAt_64 : decode cX11_isAt 64 = .ok (.iconst 0, 1) := dk_3 (dk_at dksX11_isAt_2 16 rfl rfl)
theorem dX11_isAt_65 : decode cX11_isAt 65 = .ok (.iadd, 1) := dk_96 (dk_at dksX11_isAt_2 17 rfl rfl)
theorem dX11_isAt_66 : decode cX11_isAt 66 = .ok (.putfield 26, 3) := dk_181 0 26 (dk_at dksX11_isAt_2 18 rfl rfl)
theorem dX11_isAt_69 : decode cX11_isAt 69 = .ok (.iload_n 2, 1) := dk_28 (dk_at dksX11_isAt_2 21 rfl rfl)
theorem dX11_isAt_70 : decode cX11_isAt 70 = .ok (.ireturn, 1) := dk_172 (dk_at dksX11_isAt_2 22 rfl rfl)
abbrev cX11_number : ByteArray := prog_11_method_7_code
def yX11_number : MethodName := ⟨RX11, "number", "()I"⟩
def dkwX11_number_2 : List UInt8 := [16, 59, 159, 0, 19, 16, 10, 27, 104, 42, 182, 0, 77, 96, 60, 132, 2, 1, 167, 255, 197, 27, 172]
abbrev dktX11_number_2 : List UInt8 := dkwX11_number_2 ++ []
def dkwX11_number_1 : List UInt8 := [180, 0, 22, 185, 0, 30, 1, 0, 162, 0, 37, 42, 180, 0, 22, 42, 180, 0, 26, 185, 0, 39, 2, 0]
abbrev dktX11_number_1 : List UInt8 := dkwX11_number_1 ++ dktX11_number_2
def dkwX11_number_0 : List UInt8 := [42, 182, 0, 77, 60, 3, 61, 28, 5, 162, 0, 60, 42, 180, 0, 18, 153, 0, 53, 42, 180, 0, 26, 42]
abbrev dktX11_number_0 : List UInt8 := dkwX11_number_0 ++ dktX11_number_1
theorem dksX11_number_0 : cX11_number.data.toList.drop 0 = dktX11_number_0 := by decide +kernel
theorem dksX11_number_1 : cX11_number.data.toList.drop 24 = dktX11_number_1 := dk_seg dksX11_number_0 24 rfl rfl
theorem dksX11_number_2 : cX11_number.data.toList.drop 48 = dktX11_number_2 := dk_seg dksX11_number_1 24 rfl rfl
theorem dX11_number_0 : decode cX11_number 0 = .ok (.aload_n 0, 1) := dk_42 (dk_at dksX11_number_0 0 rfl rfl)
theorem dX11_number_1 : decode cX11_number 1 = .ok (.invokevirtual 77, 3) := dk_182 0 77 (dk_at dksX11_number_0 1 rfl rfl)
theorem dX11_number_4 : decode cX11_number 4 = .ok (.istore_n 1, 1) := dk_60 (dk_at dksX11_number_0 4 rfl rfl)
theorem dX11_number_5 : decode cX11_number 5 = .ok (.iconst 0, 1) := dk_3 (dk_at dksX11_number_0 5 rfl rfl)
theorem dX11_number_6 : decode cX11_number 6 = .ok (.istore_n 2, 1) := dk_61 (dk_at dksX11_number_0 6 rfl rfl)
theorem dX11_number_7 : decode cX11_number 7 = .ok (.iload_n 2, 1) := dk_28 (dk_at dksX11_number_0 7 rfl rfl)
theorem dX11_number_8 : decode cX11_number 8 = .ok (.iconst 2, 1) := dk_5 (dk_at dksX11_number_0 8 rfl rfl)
theorem dX11_number_9 : decode cX11_number 9 = .ok (.if_icmp .ge 60, 3) := dk_162 0 60 (dk_at dksX11_number_0 9 rfl rfl)
theorem dX11_number_12 : decode cX11_number 12 = .ok (.aload_n 0, 1) := dk_42 (dk_at dksX11_number_0 12 rfl rfl)
theorem dX11_number_13 : decode cX11_number 13 = .ok (.getfield 18, 3) := dk_180 0 18 (dk_at dksX11_number_0 13 rfl rfl)
theorem dX11_number_16 : decode cX11_number 16 = .ok (.ifCond .eq 53, 3) := dk_153 0 53 (dk_at dksX11_number_0 16 rfl rfl)
theorem dX11_number_19 : decode cX11_number 19 = .ok (.aload_n 0, 1) := dk_42 (dk_at dksX11_number_0 19 rfl rfl)
theorem dX11_number_20 : decode cX11_number 20 = .ok (.getfield 26, 3) := dk_180 0 26 (dk_at dksX11_number_0 20 rfl rfl)
theorem dX11_number_23 : decode cX11_number 23 = .ok (.aload_n 0, 1) := dk_42 (dk_at dksX11_number_0 23 rfl rfl)
theorem dX11_number_24 : decode cX11_number 24 = .ok (.getfield 22, 3) := dk_180 0 22 (dk_at dksX11_number_1 0 rfl rfl)
theorem dX11_number_27 : decode cX11_number 27 = .ok (.invokeinterface 30 1, 5) := by decide +kernel
theorem dX11_number_32 : decode cX11_number 32 = .ok (.if_icmp .ge 37, 3) := dk_162 0 37 (dk_at dksX11_number_1 8 rfl rfl)
theorem dX11_number_35 : decode cX11_number 35 = .ok (.aload_n 0, 1) := dk_42 (dk_at dksX11_number_1 11 rfl rfl)
theorem dX11_number_36 : decode cX11_number 36 = .ok (.getfield 22, 3) := dk_180 0 22 (dk_at dksX11_number_1 12 rfl rfl)
theorem dX11_number_39 : decode cX11_number 39 = .ok (.aload_n 0, 1) := dk_42 (dk_at dksX11_number_1 15 rfl rfl)
theorem dX11_number_40 : decode cX11_number 40 = .ok (.getfield 26, 3) := dk_180 0 26 (dk_at dksX11_number_1 16 rfl rfl)
theorem dX11_number_43 : decode cX11_number 43 = .ok (.invokeinterface 39 2, 5) := by decide +kernel
theorem dX11_number_48 : decode cX11_number 48 = .ok (.bipush 59, 2) := dk_16 59 (dk_at dksX11_number_2 0 rfl rfl)
theorem dX11_number_50 : decode cX11_number 50 = .ok (.if_icmp .eq 19, 3) := dk_159 0 19 (dk_at dksX11_number_2 2 rfl rfl)
theorem dX11_number_53 : decode cX11_number 53 = .ok (.bipush 10, 2) := dk_16 10 (dk_at dksX11_number_2 5 rfl rfl)
theorem dX11_number_55 : decode cX11_number 55 = .ok (.iload_n 1, 1) := dk_27 (dk_at dksX11_number_2 7 rfl rfl)
theorem dX11_number_56 : decode cX11_number 56 = .ok (.imul, 1) := dk_104 (dk_at dksX11_number_2 8 rfl rfl)
theorem dX11_number_57 : decode cX11_number 57 = .ok (.aload_n 0, 1) := dk_42 (dk_at dksX11_number_2 9 rfl rfl)
theorem dX11_number_58 : decode cX11_number 58 = .ok (.invokevirtual 77, 3) := dk_182 0 77 (dk_at dksX11_number_2 10 rfl rfl)
theorem dX11_number_61 : decode cX11_number 61 = .ok (.iadd, 1) := dk_96 (dk_at dksX11_number_2 13 rfl rfl)
theorem dX11_number_62 : decode cX11_number 62 = .ok (.istore_n 1, 1) := dk_60 (dk_at dksX11_number_2 14 rfl rfl)
theorem dX11_number_63 : decode cX11_number 63 = .ok (.iinc 2 1, 3) := dk_132 2 1 (dk_at dksX11_number_2 15 rfl rfl)
theorem dX11_number_66 : decode cX11_number 66 = .ok (.goto (-59), 3) := dk_167 255 197 (dk_at dksX11_number_2 18 rfl rfl)
theorem dX11_number_69 : decode cX11_number 69 = .ok (.iload_n 1, 1) := dk_27 (dk_at dksX11_number_2 21 rfl rfl)
theorem dX11_number_70 : decode cX11_number 70 = .ok (.ireturn, 1) := dk_172 (dk_at dksX11_number_2 22 rfl rfl)
abbrev cX11_fault : ByteArray := prog_11_method_9_code
def yX11_fault : MethodName := ⟨RX11, "fault", "()I"⟩
def dkwX11_fault_0 : List UInt8 := [42, 180, 0, 18, 153, 0, 7, 2, 167, 0, 7, 42, 180, 0, 26, 172]
abbrev dktX11_fault_0 : List UInt8 := dkwX11_fault_0 ++ []
theorem dksX11_fault_0 : cX11_fault.data.toList.drop 0 = dktX11_fault_0 := by decide +kernel
theorem dX11_fault_0 : decode cX11_fault 0 = .ok (.aload_n 0, 1) := dk_42 (dk_at dksX11_fault_0 0 rfl rfl)
theorem dX11_fault_1 : decode cX11_fault 1 = .ok (.getfield 18, 3) := dk_180 0 18 (dk_at dksX11_fault_0 1 rfl rfl)
theorem dX11_fault_4 : decode cX11_fault 4 = .ok (.ifCond .eq 7, 3) := dk_153 0 7 (dk_at dksX11_fault_0 4 rfl rfl)
theorem dX11_fault_7 : decode cX11_fault 7 = .ok (.iconst (-1), 1) := dk_2 (dk_at dksX11_fault_0 7 rfl rfl)
theorem dX11_fault_8 : decode cX11_fault 8 = .ok (.goto 7, 3) := dk_167 0 7 (dk_at dksX11_fault_0 8 rfl rfl)
theorem dX11_fault_11 : decode cX11_fault 11 = .ok (.aload_n 0, 1) := dk_42 (dk_at dksX11_fault_0 11 rfl rfl)
theorem dX11_fault_12 : decode cX11_fault 12 = .ok (.getfield 26, 3) := dk_180 0 26 (dk_at dksX11_fault_0 12 rfl rfl)
theorem dX11_fault_15 : decode cX11_fault 15 = .ok (.ireturn, 1) := dk_172 (dk_at dksX11_fault_0 15 rfl rfl)
theorem q102 : (Jvm.Cond.initialized "Raidhall$Reader") ∈ lw_all := lw_g (lw_at lw_m1 38 rfl) rfl
theorem q599 : (Jvm.Cond.instantiable "Raidhall$Reader" (4 : Nat)) ∈ lw_all := lw_g (lw_at lw_m3 55 rfl) rfl
theorem q601 : (Jvm.Cond.instanceMethod ({ cls := "Raidhall$Reader", name := "<init>", desc := "(Ljava/lang/CharSequence;)V" } : Jvm.MethodName)) ∈ lw_all := lw_g (lw_at lw_m3 57 rfl) rfl
theorem q602 : (Jvm.Cond.code ({ cls := "Raidhall$Reader", name := "<init>", desc := "(Ljava/lang/CharSequence;)V" } : Jvm.MethodName) prog_11_method_1_code (2 : Nat) (Option.none : Option Jvm.ClassFile.FieldType)) ∈ lw_all := lw_g (lw_at lw_m3 58 rfl) rfl
theorem q603 : (Jvm.Cond.methodLink "Raidhall$Reader" (3 : Nat) ({ cls := "java/lang/Object", name := "<init>", desc := "()V" } : Jvm.MethodName)) ∈ lw_all := lw_g (lw_at lw_m3 59 rfl) rfl
theorem q604 : (Jvm.Cond.classLink "Raidhall$Reader" (9 : Nat) "java/util/ArrayList") ∈ lw_all := lw_g (lw_at lw_m3 60 rfl) rfl
theorem q606 : (Jvm.Cond.methodLink "Raidhall$Reader" (11 : Nat) ({ cls := "java/util/ArrayList", name := "<init>", desc := "()V" } : Jvm.MethodName)) ∈ lw_all := lw_g (lw_at lw_m3 62 rfl) rfl
theorem q633 : (Jvm.Cond.interfaceEntry "Raidhall$Reader" (30 : Nat)) ∈ lw_tbl := lw_at lw_m3 89 rfl
theorem q634 : (Jvm.Cond.methodLink "Raidhall$Reader" (30 : Nat) ({ cls := "java/lang/CharSequence", name := "length", desc := "()I" } : Jvm.MethodName)) ∈ lw_all := lw_g (lw_at lw_m3 90 rfl) rfl
theorem q645 : (Jvm.Cond.methodLink "Raidhall$Reader" (36 : Nat) ({ cls := "Raidhall$Reader", name := "read", desc := "()V" } : Jvm.MethodName)) ∈ lw_all := lw_g (lw_at lw_m3 101 rfl) rfl
theorem q646 : (Jvm.Cond.privateMethod ({ cls := "Raidhall$Reader", name := "read", desc := "()V" } : Jvm.MethodName)) ∈ lw_tbl := lw_at lw_m3 102 rfl
theorem q647 : (Jvm.Cond.instanceMethod ({ cls := "Raidhall$Reader", name := "read", desc := "()V" } : Jvm.MethodName)) ∈ lw_all := lw_g (lw_at lw_m3 103 rfl) rfl
theorem q648 : (Jvm.Cond.code ({ cls := "Raidhall$Reader", name := "read", desc := "()V" } : Jvm.MethodName) prog_11_method_8_code (6 : Nat) (Option.none : Option Jvm.ClassFile.FieldType)) ∈ lw_all := lw_g (lw_at lw_m3 104 rfl) rfl
theorem q649 : (Jvm.Cond.methodLink "Raidhall$Reader" (80 : Nat) ({ cls := "Raidhall$Reader", name := "word", desc := "()Ljava/lang/String;" } : Jvm.MethodName)) ∈ lw_all := lw_g (lw_at lw_m3 105 rfl) rfl
theorem q650 : (Jvm.Cond.privateMethod ({ cls := "Raidhall$Reader", name := "word", desc := "()Ljava/lang/String;" } : Jvm.MethodName)) ∈ lw_tbl := lw_at lw_m3 106 rfl
theorem q651 : (Jvm.Cond.instanceMethod ({ cls := "Raidhall$Reader", name := "word", desc := "()Ljava/lang/String;" } : Jvm.MethodName)) ∈ lw_all := lw_g (lw_at lw_m3 107 rfl) rfl
theorem q652 : (Jvm.Cond.code ({ cls := "Raidhall$Reader", name := "word", desc := "()Ljava/lang/String;" } : Jvm.MethodName) prog_11_method_6_code (2 : Nat) (Option.some (Jvm.ClassFile.FieldType.object "java/lang/String"))) ∈ lw_all := lw_g (lw_at lw_m3 108 rfl) rfl
theorem q653 : (Jvm.Cond.classLink "Raidhall$Reader" (57 : Nat) "java/lang/StringBuilder") ∈ lw_all := lw_g (lw_at lw_m3 109 rfl) rfl
theorem q654 : (Jvm.Cond.methodLink "Raidhall$Reader" (59 : Nat) ({ cls := "java/lang/StringBuilder", name := "<init>", desc := "()V" } : Jvm.MethodName)) ∈ lw_all := lw_g (lw_at lw_m3 110 rfl) rfl
theorem q655 : (Jvm.Cond.methodLink "Raidhall$Reader" (60 : Nat) ({ cls := "java/lang/StringBuilder", name := "toString", desc := "()Ljava/lang/String;" } : Jvm.MethodName)) ∈ lw_all := lw_g (lw_at lw_m3 111 rfl) rfl
theorem q656 : (Jvm.Cond.methodLink "Raidhall$Reader" (64 : Nat) ({ cls := "Raidhall$Reader", name := "isWord", desc := "(Ljava/lang/String;)Z" } : Jvm.MethodName)) ∈ lw_all := lw_g (lw_at lw_m3 112 rfl) rfl
theorem q657 : (Jvm.Cond.static ({ cls := "Raidhall$Reader", name := "isWord", desc := "(Ljava/lang/String;)Z" } : Jvm.MethodName)) ∈ lw_all := lw_g (lw_at lw_m3 113 rfl) rfl
theorem q658 : (Jvm.Cond.code ({ cls := "Raidhall$Reader", name := "isWord", desc := "(Ljava/lang/String;)Z" } : Jvm.MethodName) prog_11_method_5_code (3 : Nat) (Option.some Jvm.ClassFile.FieldType.boolean)) ∈ lw_all := lw_g (lw_at lw_m3 114 rfl) rfl
theorem q659 : (Jvm.Cond.methodLinkNest "Raidhall$Reader" (43 : Nat) ({ cls := "Raidhall", name := "wordOf", desc := "(I)Ljava/lang/String;" } : Jvm.MethodName) "Raidhall") ∈ lw_tbl := lw_at lw_m3 115 rfl
theorem q670 : (Jvm.Cond.methodLink "Raidhall$Reader" (53 : Nat) ({ cls := "java/lang/String", name := "equals", desc := "(Ljava/lang/Object;)Z" } : Jvm.MethodName)) ∈ lw_all := lw_g (lw_at lw_m3 126 rfl) rfl
theorem q678 : (Jvm.Cond.methodLink "Raidhall$Reader" (67 : Nat) ({ cls := "java/lang/StringBuilder", name := "append", desc := "(Ljava/lang/String;)Ljava/lang/StringBuilder;" } : Jvm.MethodName)) ∈ lw_all := lw_g (lw_at lw_m3 134 rfl) rfl
theorem q679 : (Jvm.Cond.interfaceEntry "Raidhall$Reader" (39 : Nat)) ∈ lw_tbl := lw_at lw_m3 135 rfl
theorem q680 : (Jvm.Cond.methodLink "Raidhall$Reader" (39 : Nat) ({ cls := "java/lang/CharSequence", name := "charAt", desc := "(I)C" } : Jvm.MethodName)) ∈ lw_all := lw_g (lw_at lw_m3 136 rfl) rfl
theorem q719 : (Jvm.Cond.methodLink "Raidhall$Reader" (71 : Nat) ({ cls := "java/lang/StringBuilder", name := "append", desc := "(C)Ljava/lang/StringBuilder;" } : Jvm.MethodName)) ∈ lw_all := lw_g (lw_at lw_m3 175 rfl) rfl
theorem q732 : (Jvm.Cond.methodLink "Raidhall$Reader" (74 : Nat) ({ cls := "Raidhall$Reader", name := "begins", desc := "(Ljava/lang/String;)Z" } : Jvm.MethodName)) ∈ lw_all := lw_g (lw_at lw_m3 188 rfl) rfl
theorem q733 : (Jvm.Cond.static ({ cls := "Raidhall$Reader", name := "begins", desc := "(Ljava/lang/String;)Z" } : Jvm.MethodName)) ∈ lw_all := lw_g (lw_at lw_m3 189 rfl) rfl
theorem q734 : (Jvm.Cond.code ({ cls := "Raidhall$Reader", name := "begins", desc := "(Ljava/lang/String;)Z" } : Jvm.MethodName) prog_11_method_4_code (3 : Nat) (Option.some Jvm.ClassFile.FieldType.boolean)) ∈ lw_all := lw_g (lw_at lw_m3 190 rfl) rfl
theorem q735 : (Jvm.Cond.methodLink "Raidhall$Reader" (47 : Nat) ({ cls := "java/lang/String", name := "startsWith", desc := "(Ljava/lang/String;)Z" } : Jvm.MethodName)) ∈ lw_all := lw_g (lw_at lw_m3 191 rfl) rfl
theorem q849 : (Jvm.Cond.methodLink "Raidhall$Reader" (83 : Nat) ({ cls := "java/lang/String", name := "hashCode", desc := "()I" } : Jvm.MethodName)) ∈ lw_all := lw_g (lw_at lw_m4 65 rfl) rfl
theorem q906 : (Jvm.Cond.stringRef "Raidhall$Reader" (86 : Nat) "raid") ∈ lw_tbl := lw_at lw_m4 122 rfl
theorem q907 : (Jvm.Cond.stringRef "Raidhall$Reader" (88 : Nat) "touch") ∈ lw_tbl := lw_at lw_m4 123 rfl
theorem q908 : (Jvm.Cond.methodLink "Raidhall$Reader" (77 : Nat) ({ cls := "Raidhall$Reader", name := "digit", desc := "()I" } : Jvm.MethodName)) ∈ lw_all := lw_g (lw_at lw_m4 124 rfl) rfl
theorem q909 : (Jvm.Cond.privateMethod ({ cls := "Raidhall$Reader", name := "digit", desc := "()I" } : Jvm.MethodName)) ∈ lw_tbl := lw_at lw_m4 125 rfl
theorem q910 : (Jvm.Cond.instanceMethod ({ cls := "Raidhall$Reader", name := "digit", desc := "()I" } : Jvm.MethodName)) ∈ lw_all := lw_g (lw_at lw_m4 126 rfl) rfl
theorem q911 : (Jvm.Cond.code ({ cls := "Raidhall$Reader", name := "digit", desc := "()I" } : Jvm.MethodName) prog_11_method_3_code (2 : Nat) (Option.some Jvm.ClassFile.FieldType.int)) ∈ lw_all := lw_g (lw_at lw_m4 127 rfl) rfl
theorem q912 : (Jvm.Cond.methodLink "Raidhall$Reader" (90 : Nat) ({ cls := "Raidhall$Reader", name := "isAt", desc := "(C)Z" } : Jvm.MethodName)) ∈ lw_all := lw_g (lw_at lw_m4 128 rfl) rfl
theorem q913 : (Jvm.Cond.privateMethod ({ cls := "Raidhall$Reader", name := "isAt", desc := "(C)Z" } : Jvm.MethodName)) ∈ lw_tbl := lw_at lw_m4 129 rfl
theorem q914 : (Jvm.Cond.instanceMethod ({ cls := "Raidhall$Reader", name := "isAt", desc := "(C)Z" } : Jvm.MethodName)) ∈ lw_all := lw_g (lw_at lw_m4 130 rfl) rfl
theorem q915 : (Jvm.Cond.code ({ cls := "Raidhall$Reader", name := "isAt", desc := "(C)Z" } : Jvm.MethodName) prog_11_method_2_code (3 : Nat) (Option.some Jvm.ClassFile.FieldType.boolean)) ∈ lw_all := lw_g (lw_at lw_m4 131 rfl) rfl
theorem q916 : (Jvm.Cond.methodLink "Raidhall$Reader" (94 : Nat) ({ cls := "Raidhall$Reader", name := "number", desc := "()I" } : Jvm.MethodName)) ∈ lw_all := lw_g (lw_at lw_m4 132 rfl) rfl
theorem q917 : (Jvm.Cond.privateMethod ({ cls := "Raidhall$Reader", name := "number", desc := "()I" } : Jvm.MethodName)) ∈ lw_tbl := lw_at lw_m4 133 rfl
theorem q918 : (Jvm.Cond.instanceMethod ({ cls := "Raidhall$Reader", name := "number", desc := "()I" } : Jvm.MethodName)) ∈ lw_all := lw_g (lw_at lw_m4 134 rfl) rfl
theorem q919 : (Jvm.Cond.code ({ cls := "Raidhall$Reader", name := "number", desc := "()I" } : Jvm.MethodName) prog_11_method_7_code (3 : Nat) (Option.some Jvm.ClassFile.FieldType.int)) ∈ lw_all := lw_g (lw_at lw_m4 135 rfl) rfl
theorem q920 : (Jvm.Cond.classLink "Raidhall$Reader" (97 : Nat) "Raidhall$Order") ∈ lw_all := lw_g (lw_at lw_m4 136 rfl) rfl
theorem q922 : (Jvm.Cond.methodLinkNest "Raidhall$Reader" (99 : Nat) ({ cls := "Raidhall$Order", name := "<init>", desc := "(Ljava/lang/String;II)V" } : Jvm.MethodName) "Raidhall") ∈ lw_tbl := lw_at lw_m4 138 rfl
theorem q939 : (Jvm.Cond.interfaceEntry "Raidhall$Reader" (102 : Nat)) ∈ lw_tbl := lw_at lw_m4 155 rfl
theorem q940 : (Jvm.Cond.methodLink "Raidhall$Reader" (102 : Nat) ({ cls := "java/util/List", name := "add", desc := "(Ljava/lang/Object;)Z" } : Jvm.MethodName)) ∈ lw_all := lw_g (lw_at lw_m4 156 rfl) rfl
theorem q977 : (Jvm.Cond.selects "Raidhall$Reader" ({ cls := "java/lang/Object", name := "getClass", desc := "()Ljava/lang/Class;" } : Jvm.MethodName) ({ cls := "java/lang/Object", name := "getClass", desc := "()Ljava/lang/Class;" } : Jvm.MethodName)) ∈ lw_all := lw_g (lw_at lw_m4 193 rfl) rfl
theorem q1001 : (Jvm.Cond.fieldLink "Raidhall$Reader" (22 : Nat) "Raidhall$Reader" "text" "Ljava/lang/CharSequence;") ∈ lw_all := lw_g (lw_at lw_m4 217 rfl) rfl
theorem q1002 : (Jvm.Cond.fieldLink "Raidhall$Reader" (12 : Nat) "Raidhall$Reader" "orders" "Ljava/util/List;") ∈ lw_all := lw_g (lw_at lw_m4 218 rfl) rfl
theorem q1004 : (Jvm.Cond.fieldLink "Raidhall$Reader" (26 : Nat) "Raidhall$Reader" "at" "I") ∈ lw_all := lw_g (lw_at lw_m4 220 rfl) rfl
theorem q1005 : (Jvm.Cond.fieldLink "Raidhall$Reader" (18 : Nat) "Raidhall$Reader" "isForm" "Z") ∈ lw_all := lw_g (lw_at lw_m4 221 rfl) rfl
theorem q1006 : (Jvm.Cond.laysFinal "Raidhall$Reader" "Raidhall$Reader" "text" "Ljava/lang/CharSequence;") ∈ lw_all := lw_g (lw_at lw_m4 222 rfl) rfl
theorem q1007 : (Jvm.Cond.soleField "Raidhall$Reader" "text") ∈ lw_all := lw_g (lw_at lw_m4 223 rfl) rfl
theorem q1008 : (Jvm.Cond.laysFinal "Raidhall$Reader" "Raidhall$Reader" "orders" "Ljava/util/List;") ∈ lw_all := lw_g (lw_at lw_m4 224 rfl) rfl
theorem q1009 : (Jvm.Cond.soleField "Raidhall$Reader" "orders") ∈ lw_all := lw_g (lw_at lw_m4 225 rfl) rfl
theorem q1010 : (Jvm.Cond.lays "Raidhall$Reader" "Raidhall$Reader" "at" "I") ∈ lw_all := lw_g (lw_at lw_m4 226 rfl) rfl
theorem q1011 : (Jvm.Cond.soleField "Raidhall$Reader" "at") ∈ lw_all := lw_g (lw_at lw_m4 227 rfl) rfl
theorem q1012 : (Jvm.Cond.lays "Raidhall$Reader" "Raidhall$Reader" "isForm" "Z") ∈ lw_all := lw_g (lw_at lw_m4 228 rfl) rfl
theorem q1013 : (Jvm.Cond.soleField "Raidhall$Reader" "isForm") ∈ lw_all := lw_g (lw_at lw_m4 229 rfl) rfl
theorem q1014 : (Jvm.Cond.superclass "Raidhall$Reader" "java/lang/Object") ∈ lw_all := lw_g (lw_at lw_m4 230 rfl) rfl
theorem q1016 : (Jvm.Cond.instanceMethod ({ cls := "Raidhall$Reader", name := "fault", desc := "()I" } : Jvm.MethodName)) ∈ lw_all := lw_g (lw_at lw_m4 232 rfl) rfl
theorem q1017 : (Jvm.Cond.selects "Raidhall$Reader" ({ cls := "Raidhall$Reader", name := "fault", desc := "()I" } : Jvm.MethodName) ({ cls := "Raidhall$Reader", name := "fault", desc := "()I" } : Jvm.MethodName)) ∈ lw_all := lw_g (lw_at lw_m4 233 rfl) rfl
theorem q1018 : (Jvm.Cond.code ({ cls := "Raidhall$Reader", name := "fault", desc := "()I" } : Jvm.MethodName) prog_11_method_9_code (1 : Nat) (Option.some Jvm.ClassFile.FieldType.int)) ∈ lw_all := lw_g (lw_at lw_m4 234 rfl) rfl
theorem q2380 : (Jvm.Cond.castable "Raidhall$Reader" "java/lang/Object") ∈ lw_tbl := lw_at lw_m10 156 rfl
theorem in_X11 : ∀ w ∈ wsX110, w ∈ lw_all := lw_in wsX110 [1006, 1008, 1010, 1012] (by decide +kernel) (by decide +kernel)

/-! Raidhall$Order -/
set_option maxRecDepth 100000
def RX12 : String := "Raidhall$Order"
def TX12 : u_T := fun k => match k with
  | 0 => ("Raidhall$Order", "word", "Ljava/lang/String;", true)
  | 1 => ("Raidhall$Order", "digit", "I", true)
  | _ => ("Raidhall$Order", "tenth", "I", true)
def tyX12 : Nat → FieldType := fun k => match k with
  | 0 => .object "java/lang/String"
  | 1 => .int
  | _ => .int
abbrev wsX120 : List Cond := u_ws RX12 TX12 3
theorem nmX12 : ∀ a, a < 3 → ∀ b, b < 3 → a ≠ b → (TX12 a).2.1 ≠ (TX12 b).2.1 := by decide +kernel
theorem tyX12_ok : ∀ k, k < 3 → parseFieldDescriptor (TX12 k).2.2.1 = some (tyX12 k) := by decide +kernel
abbrev cX12_init : ByteArray := prog_9_method_1_code
def yX12_init : MethodName := ⟨RX12, "<init>", "(Ljava/lang/String;II)V"⟩
def dkwX12_init_0 : List UInt8 := [42, 183, 0, 1, 42, 43, 181, 0, 7, 42, 28, 181, 0, 13, 42, 29, 181, 0, 17, 177]
abbrev dktX12_init_0 : List UInt8 := dkwX12_init_0 ++ []
theorem dksX12_init_0 : cX12_init.data.toList.drop 0 = dktX12_init_0 := by decide +kernel
theorem dX12_init_0 : decode cX12_init 0 = .ok (.aload_n 0, 1) := dk_42 (dk_at dksX12_init_0 0 rfl rfl)
theorem dX12_init_1 : decode cX12_init 1 = .ok (.invokespecial 1, 3) := dk_183 0 1 (dk_at dksX12_init_0 1 rfl rfl)
theorem dX12_init_4 : decode cX12_init 4 = .ok (.aload_n 0, 1) := dk_42 (dk_at dksX12_init_0 4 rfl rfl)
theorem dX12_init_5 : decode cX12_init 5 = .ok (.aload_n 1, 1) := dk_43 (dk_at dksX12_init_0 5 rfl rfl)
theorem dX12_init_6 : decode cX12_init 6 = .ok (.putfield 7, 3) := dk_181 0 7 (dk_at dksX12_init_0 6 rfl rfl)
theorem dX12_init_9 : decode cX12_init 9 = .ok (.aload_n 0, 1) := dk_42 (dk_at dksX12_init_0 9 rfl rfl)
theorem dX12_init_10 : decode cX12_init 10 = .ok (.iload_n 2, 1) := dk_28 (dk_at dksX12_init_0 10 rfl rfl)
theorem dX12_init_11 : decode cX12_init 11 = .ok (.putfield 13, 3) := dk_181 0 13 (dk_at dksX12_init_0 11 rfl rfl)
theorem dX12_init_14 : decode cX12_init 14 = .ok (.aload_n 0, 1) := dk_42 (dk_at dksX12_init_0 14 rfl rfl)
theorem dX12_init_15 : decode cX12_init 15 = .ok (.iload_n 3, 1) := dk_29 (dk_at dksX12_init_0 15 rfl rfl)
theorem dX12_init_16 : decode cX12_init 16 = .ok (.putfield 17, 3) := dk_181 0 17 (dk_at dksX12_init_0 16 rfl rfl)
theorem dX12_init_19 : decode cX12_init 19 = .ok (.return_, 1) := dk_177 (dk_at dksX12_init_0 19 rfl rfl)
abbrev cX12_word : ByteArray := prog_9_method_5_code
def yX12_word : MethodName := ⟨RX12, "word", "()Ljava/lang/String;"⟩
theorem dX12_word_0 : decode cX12_word 0 = .ok (.aload_n 0, 1) := by decide +kernel
theorem dX12_word_1 : decode cX12_word 1 = .ok (.getfield 7, 3) := by decide +kernel
theorem dX12_word_4 : decode cX12_word 4 = .ok (.areturn, 1) := by decide +kernel
abbrev cX12_digit : ByteArray := prog_9_method_6_code
def yX12_digit : MethodName := ⟨RX12, "digit", "()I"⟩
theorem dX12_digit_0 : decode cX12_digit 0 = .ok (.aload_n 0, 1) := by decide +kernel
theorem dX12_digit_1 : decode cX12_digit 1 = .ok (.getfield 13, 3) := by decide +kernel
theorem dX12_digit_4 : decode cX12_digit 4 = .ok (.ireturn, 1) := by decide +kernel
abbrev cX12_tenth : ByteArray := prog_9_method_7_code
def yX12_tenth : MethodName := ⟨RX12, "tenth", "()I"⟩
theorem dX12_tenth_0 : decode cX12_tenth 0 = .ok (.aload_n 0, 1) := by decide +kernel
theorem dX12_tenth_1 : decode cX12_tenth 1 = .ok (.getfield 17, 3) := by decide +kernel
theorem dX12_tenth_4 : decode cX12_tenth 4 = .ok (.ireturn, 1) := by decide +kernel
theorem q106 : (Jvm.Cond.initialized "Raidhall$Order") ∈ lw_all := lw_g (lw_at lw_m1 42 rfl) rfl
theorem q921 : (Jvm.Cond.instantiable "Raidhall$Order" (3 : Nat)) ∈ lw_all := lw_g (lw_at lw_m4 137 rfl) rfl
theorem q923 : (Jvm.Cond.instanceMethod ({ cls := "Raidhall$Order", name := "<init>", desc := "(Ljava/lang/String;II)V" } : Jvm.MethodName)) ∈ lw_all := lw_g (lw_at lw_m4 139 rfl) rfl
theorem q924 : (Jvm.Cond.code ({ cls := "Raidhall$Order", name := "<init>", desc := "(Ljava/lang/String;II)V" } : Jvm.MethodName) prog_9_method_1_code (4 : Nat) (Option.none : Option Jvm.ClassFile.FieldType)) ∈ lw_all := lw_g (lw_at lw_m4 140 rfl) rfl
theorem q925 : (Jvm.Cond.methodLink "Raidhall$Order" (1 : Nat) ({ cls := "java/lang/Record", name := "<init>", desc := "()V" } : Jvm.MethodName)) ∈ lw_all := lw_g (lw_at lw_m4 141 rfl) rfl
theorem q929 : (Jvm.Cond.fieldLink "Raidhall$Order" (7 : Nat) "Raidhall$Order" "word" "Ljava/lang/String;") ∈ lw_all := lw_g (lw_at lw_m4 145 rfl) rfl
theorem q930 : (Jvm.Cond.fieldLink "Raidhall$Order" (13 : Nat) "Raidhall$Order" "digit" "I") ∈ lw_all := lw_g (lw_at lw_m4 146 rfl) rfl
theorem q931 : (Jvm.Cond.fieldLink "Raidhall$Order" (17 : Nat) "Raidhall$Order" "tenth" "I") ∈ lw_all := lw_g (lw_at lw_m4 147 rfl) rfl
theorem q932 : (Jvm.Cond.laysFinal "Raidhall$Order" "Raidhall$Order" "word" "Ljava/lang/String;") ∈ lw_all := lw_g (lw_at lw_m4 148 rfl) rfl
theorem q933 : (Jvm.Cond.soleField "Raidhall$Order" "word") ∈ lw_all := lw_g (lw_at lw_m4 149 rfl) rfl
theorem q934 : (Jvm.Cond.laysFinal "Raidhall$Order" "Raidhall$Order" "digit" "I") ∈ lw_all := lw_g (lw_at lw_m4 150 rfl) rfl
theorem q935 : (Jvm.Cond.soleField "Raidhall$Order" "digit") ∈ lw_all := lw_g (lw_at lw_m4 151 rfl) rfl
theorem q936 : (Jvm.Cond.laysFinal "Raidhall$Order" "Raidhall$Order" "tenth" "I") ∈ lw_all := lw_g (lw_at lw_m4 152 rfl) rfl
theorem q937 : (Jvm.Cond.soleField "Raidhall$Order" "tenth") ∈ lw_all := lw_g (lw_at lw_m4 153 rfl) rfl
theorem q938 : (Jvm.Cond.superclass "Raidhall$Order" "java/lang/Record") ∈ lw_all := lw_g (lw_at lw_m4 154 rfl) rfl
theorem q975 : (Jvm.Cond.selects "Raidhall$Order" ({ cls := "java/lang/Object", name := "getClass", desc := "()Ljava/lang/Class;" } : Jvm.MethodName) ({ cls := "java/lang/Object", name := "getClass", desc := "()Ljava/lang/Class;" } : Jvm.MethodName)) ∈ lw_all := lw_g (lw_at lw_m4 191 rfl) rfl
theorem q1705 : (Jvm.Cond.instanceMethod ({ cls := "Raidhall$Order", name := "word", desc := "()Ljava/lang/String;" } : Jvm.MethodName)) ∈ lw_all := lw_g (lw_at lw_m7 201 rfl) rfl
theorem q1706 : (Jvm.Cond.selects "Raidhall$Order" ({ cls := "Raidhall$Order", name := "word", desc := "()Ljava/lang/String;" } : Jvm.MethodName) ({ cls := "Raidhall$Order", name := "word", desc := "()Ljava/lang/String;" } : Jvm.MethodName)) ∈ lw_all := lw_g (lw_at lw_m7 202 rfl) rfl
theorem q1707 : (Jvm.Cond.code ({ cls := "Raidhall$Order", name := "word", desc := "()Ljava/lang/String;" } : Jvm.MethodName) prog_9_method_5_code (1 : Nat) (Option.some (Jvm.ClassFile.FieldType.object "java/lang/String"))) ∈ lw_all := lw_g (lw_at lw_m7 203 rfl) rfl
theorem q1711 : (Jvm.Cond.instanceMethod ({ cls := "Raidhall$Order", name := "digit", desc := "()I" } : Jvm.MethodName)) ∈ lw_all := lw_g (lw_at lw_m7 207 rfl) rfl
theorem q1712 : (Jvm.Cond.selects "Raidhall$Order" ({ cls := "Raidhall$Order", name := "digit", desc := "()I" } : Jvm.MethodName) ({ cls := "Raidhall$Order", name := "digit", desc := "()I" } : Jvm.MethodName)) ∈ lw_all := lw_g (lw_at lw_m7 208 rfl) rfl
theorem q1713 : (Jvm.Cond.code ({ cls := "Raidhall$Order", name := "digit", desc := "()I" } : Jvm.MethodName) prog_9_method_6_code (1 : Nat) (Option.some Jvm.ClassFile.FieldType.int)) ∈ lw_all := lw_g (lw_at lw_m7 209 rfl) rfl
theorem q1720 : (Jvm.Cond.instanceMethod ({ cls := "Raidhall$Order", name := "tenth", desc := "()I" } : Jvm.MethodName)) ∈ lw_all := lw_g (lw_at lw_m7 216 rfl) rfl
theorem q1721 : (Jvm.Cond.selects "Raidhall$Order" ({ cls := "Raidhall$Order", name := "tenth", desc := "()I" } : Jvm.MethodName) ({ cls := "Raidhall$Order", name := "tenth", desc := "()I" } : Jvm.MethodName)) ∈ lw_all := lw_g (lw_at lw_m7 217 rfl) rfl
theorem q1722 : (Jvm.Cond.code ({ cls := "Raidhall$Order", name := "tenth", desc := "()I" } : Jvm.MethodName) prog_9_method_7_code (1 : Nat) (Option.some Jvm.ClassFile.FieldType.int)) ∈ lw_all := lw_g (lw_at lw_m7 218 rfl) rfl
theorem q2383 : (Jvm.Cond.castable "Raidhall$Order" "java/lang/Object") ∈ lw_tbl := lw_at lw_m10 159 rfl
theorem in_X12 : ∀ w ∈ wsX120, w ∈ lw_all := lw_in wsX120 [932, 934, 936] (by decide +kernel) (by decide +kernel)

/-! Raidhall$Event -/
set_option maxRecDepth 100000
def RX13 : String := "Raidhall$Event"
abbrev cX13_behind : ByteArray := prog_5_method_3_code
def yX13_behind : MethodName := ⟨RX13, "behind", "(LRaidhall$Mats;I)LRaidhall$Mats;"⟩
def dkwX13_behind_1 : List UInt8 := [185, 0, 13, 2, 0, 45, 176]
abbrev dktX13_behind_1 : List UInt8 := dkwX13_behind_1 ++ []
def dkwX13_behind_0 : List UInt8 := [42, 43, 28, 185, 0, 1, 3, 0, 154, 0, 5, 1, 176, 187, 0, 7, 89, 43, 183, 0, 9, 78, 42, 45]
abbrev dktX13_behind_0 : List UInt8 := dkwX13_behind_0 ++ dktX13_behind_1
theorem dksX13_behind_0 : cX13_behind.data.toList.drop 0 = dktX13_behind_0 := by decide +kernel
theorem dksX13_behind_1 : cX13_behind.data.toList.drop 24 = dktX13_behind_1 := dk_seg dksX13_behind_0 24 rfl rfl
theorem dX13_behind_0 : decode cX13_behind 0 = .ok (.aload_n 0, 1) := dk_42 (dk_at dksX13_behind_0 0 rfl rfl)
theorem dX13_behind_1 : decode cX13_behind 1 = .ok (.aload_n 1, 1) := dk_43 (dk_at dksX13_behind_0 1 rfl rfl)
theorem dX13_behind_2 : decode cX13_behind 2 = .ok (.iload_n 2, 1) := dk_28 (dk_at dksX13_behind_0 2 rfl rfl)
theorem dX13_behind_3 : decode cX13_behind 3 = .ok (.invokeinterface 1 3, 5) := by decide +kernel
theorem dX13_behind_8 : decode cX13_behind 8 = .ok (.ifCond .ne 5, 3) := dk_154 0 5 (dk_at dksX13_behind_0 8 rfl rfl)
theorem dX13_behind_11 : decode cX13_behind 11 = .ok (.aconst_null, 1) := dk_1 (dk_at dksX13_behind_0 11 rfl rfl)
theorem dX13_behind_12 : decode cX13_behind 12 = .ok (.areturn, 1) := dk_176 (dk_at dksX13_behind_0 12 rfl rfl)
theorem dX13_behind_13 : decode cX13_behind 13 = .ok (.new 7, 3) := dk_187 0 7 (dk_at dksX13_behind_0 13 rfl rfl)
theorem dX13_behind_16 : decode cX13_behind 16 = .ok (.dup, 1) := dk_89 (dk_at dksX13_behind_0 16 rfl rfl)
theorem dX13_behind_17 : decode cX13_behind 17 = .ok (.aload_n 1, 1) := dk_43 (dk_at dksX13_behind_0 17 rfl rfl)
theorem dX13_behind_18 : decode cX13_behind 18 = .ok (.invokespecial 9, 3) := dk_183 0 9 (dk_at dksX13_behind_0 18 rfl rfl)
theorem dX13_behind_21 : decode cX13_behind 21 = .ok (.astore_n 3, 1) := dk_78 (dk_at dksX13_behind_0 21 rfl rfl)
theorem dX13_behind_22 : decode cX13_behind 22 = .ok (.aload_n 0, 1) := dk_42 (dk_at dksX13_behind_0 22 rfl rfl)
theorem dX13_behind_23 : decode cX13_behind 23 = .ok (.aload_n 3, 1) := dk_45 (dk_at dksX13_behind_0 23 rfl rfl)
theorem dX13_behind_24 : decode cX13_behind 24 = .ok (.invokeinterface 13 2, 5) := by decide +kernel
theorem dX13_behind_29 : decode cX13_behind 29 = .ok (.aload_n 3, 1) := dk_45 (dk_at dksX13_behind_1 5 rfl rfl)
theorem dX13_behind_30 : decode cX13_behind 30 = .ok (.areturn, 1) := dk_176 (dk_at dksX13_behind_1 6 rfl rfl)
theorem q1388 : (Jvm.Cond.interfaceMethod "Raidhall$Event" "Raidhall$Event" "behind" "(LRaidhall$Mats;I)LRaidhall$Mats;") ∈ lw_tbl := lw_at lw_m6 124 rfl
theorem q1389 : (Jvm.Cond.declares ({ cls := "Raidhall$Event", name := "behind", desc := "(LRaidhall$Mats;I)LRaidhall$Mats;" } : Jvm.MethodName)) ∈ lw_tbl := lw_at lw_m6 125 rfl
theorem q1392 : (Jvm.Cond.instanceMethod ({ cls := "Raidhall$Event", name := "behind", desc := "(LRaidhall$Mats;I)LRaidhall$Mats;" } : Jvm.MethodName)) ∈ lw_all := lw_g (lw_at lw_m6 128 rfl) rfl
theorem q1393 : (Jvm.Cond.publicMethod ({ cls := "Raidhall$Event", name := "behind", desc := "(LRaidhall$Mats;I)LRaidhall$Mats;" } : Jvm.MethodName)) ∈ lw_tbl := lw_at lw_m6 129 rfl
theorem q1394 : (Jvm.Cond.code ({ cls := "Raidhall$Event", name := "behind", desc := "(LRaidhall$Mats;I)LRaidhall$Mats;" } : Jvm.MethodName) prog_5_method_3_code (4 : Nat) (Option.some (Jvm.ClassFile.FieldType.object "Raidhall$Mats"))) ∈ lw_all := lw_g (lw_at lw_m6 130 rfl) rfl
theorem q1395 : (Jvm.Cond.interfaceEntry "Raidhall$Event" (1 : Nat)) ∈ lw_tbl := lw_at lw_m6 131 rfl
theorem q1396 : (Jvm.Cond.methodLink "Raidhall$Event" (1 : Nat) ({ cls := "Raidhall$Event", name := "stands", desc := "(LRaidhall$Mats;I)Z" } : Jvm.MethodName)) ∈ lw_all := lw_g (lw_at lw_m6 132 rfl) rfl
theorem q1397 : (Jvm.Cond.interfaceMethod "Raidhall$Event" "Raidhall$Event" "stands" "(LRaidhall$Mats;I)Z") ∈ lw_tbl := lw_at lw_m6 133 rfl
theorem q1398 : (Jvm.Cond.declares ({ cls := "Raidhall$Event", name := "stands", desc := "(LRaidhall$Mats;I)Z" } : Jvm.MethodName)) ∈ lw_tbl := lw_at lw_m6 134 rfl
theorem q1422 : (Jvm.Cond.classLink "Raidhall$Event" (7 : Nat) "Raidhall$Mats") ∈ lw_all := lw_g (lw_at lw_m6 158 rfl) rfl
theorem q1423 : (Jvm.Cond.methodLink "Raidhall$Event" (9 : Nat) ({ cls := "Raidhall$Mats", name := "<init>", desc := "(LRaidhall$Mats;)V" } : Jvm.MethodName)) ∈ lw_all := lw_g (lw_at lw_m6 159 rfl) rfl
theorem q1453 : (Jvm.Cond.interfaceEntry "Raidhall$Event" (13 : Nat)) ∈ lw_tbl := lw_at lw_m6 189 rfl
theorem q1454 : (Jvm.Cond.methodLink "Raidhall$Event" (13 : Nat) ({ cls := "Raidhall$Event", name := "change", desc := "(LRaidhall$Mats;)V" } : Jvm.MethodName)) ∈ lw_all := lw_g (lw_at lw_m6 190 rfl) rfl
theorem q1455 : (Jvm.Cond.interfaceMethod "Raidhall$Event" "Raidhall$Event" "change" "(LRaidhall$Mats;)V") ∈ lw_tbl := lw_at lw_m6 191 rfl
theorem q1456 : (Jvm.Cond.declares ({ cls := "Raidhall$Event", name := "change", desc := "(LRaidhall$Mats;)V" } : Jvm.MethodName)) ∈ lw_tbl := lw_at lw_m6 192 rfl
theorem q2357 : (Jvm.Cond.initialized "Raidhall$Event") ∈ lw_all := lw_g (lw_at lw_m10 133 rfl) rfl

/-! Raidhall$Club -/
set_option maxRecDepth 100000
def RX2 : String := "Raidhall$Club"
def TX2 : u_T := fun k => match k with
  | 0 => ("Raidhall$Club", "matches", "I", false)
  | 1 => ("Raidhall$Club", "won", "I", false)
  | 2 => ("Raidhall$Club", "even", "I", false)
  | 3 => ("Raidhall$Club", "has", "I", false)
  | 4 => ("Raidhall$Club", "made", "I", false)
  | 5 => ("Raidhall$Club", "let", "I", false)
  | 6 => ("Raidhall$Club", "purse", "I", false)
  | 7 => ("Raidhall$Club", "squad", "I", false)
  | _ => ("Raidhall$Club", "foreign", "I", false)
def tyX2 : Nat → FieldType := fun k => match k with
  | 0 => .int
  | 1 => .int
  | 2 => .int
  | 3 => .int
  | 4 => .int
  | 5 => .int
  | 6 => .int
  | 7 => .int
  | _ => .int
abbrev wsX20 : List Cond := u_ws RX2 TX2 9
theorem nmX2 : ∀ a, a < 9 → ∀ b, b < 9 → a ≠ b → (TX2 a).2.1 ≠ (TX2 b).2.1 := by decide +kernel
theorem tyX2_ok : ∀ k, k < 9 → parseFieldDescriptor (TX2 k).2.2.1 = some (tyX2 k) := by decide +kernel
abbrev cX2_init : ByteArray := prog_4_method_1_code
def yX2_init : MethodName := ⟨RX2, "<init>", "()V"⟩
def dkwX2_init_0 : List UInt8 := [42, 183, 0, 3, 42, 17, 3, 232, 181, 0, 9, 177]
abbrev dktX2_init_0 : List UInt8 := dkwX2_init_0 ++ []
theorem dksX2_init_0 : cX2_init.data.toList.drop 0 = dktX2_init_0 := by decide +kernel
theorem dX2_init_0 : decode cX2_init 0 = .ok (.aload_n 0, 1) := dk_42 (dk_at dksX2_init_0 0 rfl rfl)
theorem dX2_init_1 : decode cX2_init 1 = .ok (.invokespecial 3, 3) := dk_183 0 3 (dk_at dksX2_init_0 1 rfl rfl)
theorem dX2_init_4 : decode cX2_init 4 = .ok (.aload_n 0, 1) := dk_42 (dk_at dksX2_init_0 4 rfl rfl)
theorem dX2_init_5 : decode cX2_init 5 = .ok (.sipush 1000, 3) := dk_17 3 232 (dk_at dksX2_init_0 5 rfl rfl)
theorem dX2_init_8 : decode cX2_init 8 = .ok (.putfield 9, 3) := dk_181 0 9 (dk_at dksX2_init_0 8 rfl rfl)
theorem dX2_init_11 : decode cX2_init 11 = .ok (.return_, 1) := dk_177 (dk_at dksX2_init_0 11 rfl rfl)
abbrev cX2_enter : ByteArray := prog_4_method_5_code
def yX2_enter : MethodName := ⟨RX2, "enter", "(II)V"⟩
def dkwX2_enter_4 : List UInt8 := [16, 7, 163, 0, 7, 4, 167, 0, 4, 3, 96, 181, 0, 15, 177]
abbrev dktX2_enter_4 : List UInt8 := dkwX2_enter_4 ++ []
def dkwX2_enter_3 : List UInt8 := [180, 0, 15, 27, 28, 164, 0, 7, 8, 167, 0, 25, 27, 28, 160, 0, 7, 6, 167, 0, 16, 28, 27, 100]
abbrev dktX2_enter_3 : List UInt8 := dkwX2_enter_3 ++ dktX2_enter_4
def dkwX2_enter_2 : List UInt8 := [181, 0, 34, 42, 89, 180, 0, 37, 27, 28, 160, 0, 7, 4, 167, 0, 4, 3, 96, 181, 0, 37, 42, 89]
abbrev dktX2_enter_2 : List UInt8 := dkwX2_enter_2 ++ dktX2_enter_3
def dkwX2_enter_1 : List UInt8 := [180, 0, 25, 28, 96, 181, 0, 25, 42, 89, 180, 0, 34, 27, 28, 164, 0, 7, 4, 167, 0, 4, 3, 96]
abbrev dktX2_enter_1 : List UInt8 := dkwX2_enter_1 ++ dktX2_enter_2
def dkwX2_enter_0 : List UInt8 := [42, 89, 180, 0, 31, 4, 96, 181, 0, 31, 42, 89, 180, 0, 28, 27, 96, 181, 0, 28, 42, 89]
abbrev dktX2_enter_0 : List UInt8 := dkwX2_enter_0 ++ dktX2_enter_1
theorem dksX2_enter_0 : cX2_enter.data.toList.drop 0 = dktX2_enter_0 := by decide +kernel
theorem dksX2_enter_1 : cX2_enter.data.toList.drop 22 = dktX2_enter_1 := dk_seg dksX2_enter_0 22 rfl rfl
theorem dksX2_enter_2 : cX2_enter.data.toList.drop 46 = dktX2_enter_2 := dk_seg dksX2_enter_1 24 rfl rfl
theorem dksX2_enter_3 : cX2_enter.data.toList.drop 70 = dktX2_enter_3 := dk_seg dksX2_enter_2 24 rfl rfl
theorem dksX2_enter_4 : cX2_enter.data.toList.drop 94 = dktX2_enter_4 := dk_seg dksX2_enter_3 24 rfl rfl
theorem dX2_enter_0 : decode cX2_enter 0 = .ok (.aload_n 0, 1) := dk_42 (dk_at dksX2_enter_0 0 rfl rfl)
theorem dX2_enter_1 : decode cX2_enter 1 = .ok (.dup, 1) := dk_89 (dk_at dksX2_enter_0 1 rfl rfl)
theorem dX2_enter_2 : decode cX2_enter 2 = .ok (.getfield 31, 3) := dk_180 0 31 (dk_at dksX2_enter_0 2 rfl rfl)
theorem dX2_enter_5 : decode cX2_enter 5 = .ok (.iconst 1, 1) := dk_4 (dk_at dksX2_enter_0 5 rfl rfl)
theorem dX2_enter_6 : decode cX2_enter 6 = .ok (.iadd, 1) := dk_96 (dk_at dksX2_enter_0 6 rfl rfl)
theorem dX2_enter_7 : decode cX2_enter 7 = .ok (.putfield 31, 3) := dk_181 0 31 (dk_at dksX2_enter_0 7 rfl rfl)
theorem dX2_enter_10 : decode cX2_enter 10 = .ok (.aload_n 0, 1) := dk_42 (dk_at dksX2_enter_0 10 rfl rfl)
theorem dX2_enter_11 : decode cX2_enter 11 = .ok (.dup, 1) := dk_89 (dk_at dksX2_enter_0 11 rfl rfl)
theorem dX2_enter_12 : decode cX2_enter 12 = .ok (.getfield 28, 3) := dk_180 0 28 (dk_at dksX2_enter_0 12 rfl rfl)
theorem dX2_enter_15 : decode cX2_enter 15 = .ok (.iload_n 1, 1) := dk_27 (dk_at dksX2_enter_0 15 rfl rfl)
theorem dX2_enter_16 : decode cX2_enter 16 = .ok (.iadd, 1) := dk_96 (dk_at dksX2_enter_0 16 rfl rfl)
theorem dX2_enter_17 : decode cX2_enter 17 = .ok (.putfield 28, 3) := dk_181 0 28 (dk_at dksX2_enter_0 17 rfl rfl)
theorem dX2_enter_20 : decode cX2_enter 20 = .ok (.aload_n 0, 1) := dk_42 (dk_at dksX2_enter_0 20 rfl rfl)
theorem dX2_enter_21 : decode cX2_enter 21 = .ok (.dup, 1) := dk_89 (dk_at dksX2_enter_0 21 rfl rfl)
theorem dX2_enter_22 : decode cX2_enter 22 = .ok (.getfield 25, 3) := dk_180 0 25 (dk_at dksX2_enter_1 0 rfl rfl)
theorem dX2_enter_25 : decode cX2_enter 25 = .ok (.iload_n 2, 1) := dk_28 (dk_at dksX2_enter_1 3 rfl rfl)
theorem dX2_enter_26 : decode cX2_enter 26 = .ok (.iadd, 1) := dk_96 (dk_at dksX2_enter_1 4 rfl rfl)
theorem dX2_enter_27 : decode cX2_enter 27 = .ok (.putfield 25, 3) := dk_181 0 25 (dk_at dksX2_enter_1 5 rfl rfl)
theorem dX2_enter_30 : decode cX2_enter 30 = .ok (.aload_n 0, 1) := dk_42 (dk_at dksX2_enter_1 8 rfl rfl)
theorem dX2_enter_31 : decode cX2_enter 31 = .ok (.dup, 1) := dk_89 (dk_at dksX2_enter_1 9 rfl rfl)
theorem dX2_enter_32 : decode cX2_enter 32 = .ok (.getfield 34, 3) := dk_180 0 34 (dk_at dksX2_enter_1 10 rfl rfl)
theorem dX2_enter_35 : decode cX2_enter 35 = .ok (.iload_n 1, 1) := dk_27 (dk_at dksX2_enter_1 13 rfl rfl)
theorem dX2_enter_36 : decode cX2_enter 36 = .ok (.iload_n 2, 1) := dk_28 (dk_at dksX2_enter_1 14 rfl rfl)
theorem dX2_enter_37 : decode cX2_enter 37 = .ok (.if_icmp .le 7, 3) := dk_164 0 7 (dk_at dksX2_enter_1 15 rfl rfl)
theorem dX2_enter_40 : decode cX2_enter 40 = .ok (.iconst 1, 1) := dk_4 (dk_at dksX2_enter_1 18 rfl rfl)
theorem dX2_enter_41 : decode cX2_enter 41 = .ok (.goto 4, 3) := dk_167 0 4 (dk_at dksX2_enter_1 19 rfl rfl)
theorem dX2_enter_44 : decode cX2_enter 44 = .ok (.iconst 0, 1) := dk_3 (dk_at dksX2_enter_1 22 rfl rfl)
theorem dX2_enter_45 : decode cX2_enter 45 = .ok (.iadd, 1) := dk_96 (dk_at dksX2_enter_1 23 rfl rfl)
theorem dX2_enter_46 : decode cX2_enter 46 = .ok (.putfield 34, 3) := dk_181 0 34 (dk_at dksX2_enter_2 0 rfl rfl)
theorem dX2_enter_49 : decode cX2_enter 49 = .ok (.aload_n 0, 1) := dk_42 (dk_at dksX2_enter_2 3 rfl rfl)
theorem dX2_enter_50 : decode cX2_enter 50 = .ok (.dup, 1) := dk_89 (dk_at dksX2_enter_2 4 rfl rfl)
theorem dX2_enter_51 : decode cX2_enter 51 = .ok (.getfield 37, 3) := dk_180 0 37 (dk_at dksX2_enter_2 5 rfl rfl)
theorem dX2_enter_54 : decode cX2_enter 54 = .ok (.iload_n 1, 1) := dk_27 (dk_at dksX2_enter_2 8 rfl rfl)
theorem dX2_enter_55 : decode cX2_enter 55 = .ok (.iload_n 2, 1) := dk_28 (dk_at dksX2_enter_2 9 rfl rfl)
theorem dX2_enter_56 : decode cX2_enter 56 = .ok (.if_icmp .ne 7, 3) := dk_160 0 7 (dk_at dksX2_enter_2 10 rfl rfl)
theorem dX2_enter_59 : decode cX2_enter 59 = .ok (.iconst 1, 1) := dk_4 (dk_at dksX2_enter_2 13 rfl rfl)
theorem dX2_enter_60 : decode cX2_enter 60 = .ok (.goto 4, 3) := dk_167 0 4 (dk_at dksX2_enter_2 14 rfl rfl)
theorem dX2_enter_63 : decode cX2_enter 63 = .ok (.iconst 0, 1) := dk_3 (dk_at dksX2_enter_2 17 rfl rfl)
theorem dX2_enter_64 : decode cX2_enter 64 = .ok (.iadd, 1) := dk_96 (dk_at dksX2_enter_2 18 rfl rfl)
theorem dX2_enter_65 : decode cX2_enter 65 = .ok (.putfield 37, 3) := dk_181 0 37 (dk_at dksX2_enter_2 19 rfl rfl)
theorem dX2_enter_68 : decode cX2_enter 68 = .ok (.aload_n 0, 1) := dk_42 (dk_at dksX2_enter_2 22 rfl rfl)
theorem dX2_enter_69 : decode cX2_enter 69 = .ok (.dup, 1) := dk_89 (dk_at dksX2_enter_2 23 rfl rfl)
theorem dX2_enter_70 : decode cX2_enter 70 = .ok (.getfield 15, 3) := dk_180 0 15 (dk_at dksX2_enter_3 0 rfl rfl)
theorem dX2_enter_73 : decode cX2_enter 73 = .ok (.iload_n 1, 1) := dk_27 (dk_at dksX2_enter_3 3 rfl rfl)
theorem dX2_enter_74 : decode cX2_enter 74 = .ok (.iload_n 2, 1) := dk_28 (dk_at dksX2_enter_3 4 rfl rfl)
theorem dX2_enter_75 : decode cX2_enter 75 = .ok (.if_icmp .le 7, 3) := dk_164 0 7 (dk_at dksX2_enter_3 5 rfl rfl)
theorem dX2_enter_78 : decode cX2_enter 78 = .ok (.iconst 5, 1) := dk_8 (dk_at dksX2_enter_3 8 rfl rfl)
theorem dX2_enter_79 : decode cX2_enter 79 = .ok (.goto 25, 3) := dk_167 0 25 (dk_at dksX2_enter_3 9 rfl rfl)
theorem dX2_enter_82 : decode cX2_enter 82 = .ok (.iload_n 1, 1) := dk_27 (dk_at dksX2_enter_3 12 rfl rfl)
theorem dX2_enter_83 : decode cX2_enter 83 = .ok (.iload_n 2, 1) := dk_28 (dk_at dksX2_enter_3 13 rfl rfl)
theorem dX2_enter_84 : decode cX2_enter 84 = .ok (.if_icmp .ne 7, 3) := dk_160 0 7 (dk_at dksX2_enter_3 14 rfl rfl)
theorem dX2_enter_87 : decode cX2_enter 87 = .ok (.iconst 3, 1) := dk_6 (dk_at dksX2_enter_3 17 rfl rfl)
theorem dX2_enter_88 : decode cX2_enter 88 = .ok (.goto 16, 3) := dk_167 0 16 (dk_at dksX2_enter_3 18 rfl rfl)
theorem dX2_enter_91 : decode cX2_enter 91 = .ok (.iload_n 2, 1) := dk_28 (dk_at dksX2_enter_3 21 rfl rfl)
theorem dX2_enter_92 : decode cX2_enter 92 = .ok (.iload_n 1, 1) := dk_27 (dk_at dksX2_enter_3 22 rfl rfl)
theorem dX2_enter_93 : decode cX2_enter 93 = .ok (.isub, 1) := dk_100 (dk_at dksX2_enter_3 23 rfl rfl)
theorem dX2_enter_94 : decode cX2_enter 94 = .ok (.bipush 7, 2) := dk_16 7 (dk_at dksX2_enter_4 0 rfl rfl)
theorem dX2_enter_96 : decode cX2_enter 96 = .ok (.if_icmp .gt 7, 3) := dk_163 0 7 (dk_at dksX2_enter_4 2 rfl rfl)
theorem dX2_enter_99 : decode cX2_enter 99 = .ok (.iconst 1, 1) := dk_4 (dk_at dksX2_enter_4 5 rfl rfl)
theorem dX2_enter_100 : decode cX2_enter 100 = .ok (.goto 4, 3) := dk_167 0 4 (dk_at dksX2_enter_4 6 rfl rfl)
theorem dX2_enter_103 : decode cX2_enter 103 = .ok (.iconst 0, 1) := dk_3 (dk_at dksX2_enter_4 9 rfl rfl)
theorem dX2_enter_104 : decode cX2_enter 104 = .ok (.iadd, 1) := dk_96 (dk_at dksX2_enter_4 10 rfl rfl)
theorem dX2_enter_105 : decode cX2_enter 105 = .ok (.putfield 15, 3) := dk_181 0 15 (dk_at dksX2_enter_4 11 rfl rfl)
theorem dX2_enter_108 : decode cX2_enter 108 = .ok (.return_, 1) := dk_177 (dk_at dksX2_enter_4 14 rfl rfl)
abbrev cX2_compare : ByteArray := prog_4_method_2_code
def yX2_compare : MethodName := ⟨RX2, "compare", "(LRaidhall$Club;)I"⟩
def dkwX2_compare_2 : List UInt8 := [32, 22, 4, 148, 158, 0, 7, 4, 167, 0, 15, 32, 22, 4, 148, 156, 0, 7, 2, 167, 0, 4, 3, 172]
abbrev dktX2_compare_2 : List UInt8 := dkwX2_compare_2 ++ []
def dkwX2_compare_1 : List UInt8 := [182, 0, 18, 133, 43, 182, 0, 22, 133, 105, 65, 43, 182, 0, 18, 133, 42, 182, 0, 22, 133, 105, 55, 4]
abbrev dktX2_compare_1 : List UInt8 := dkwX2_compare_1 ++ dktX2_compare_2
def dkwX2_compare_0 : List UInt8 := [42, 180, 0, 15, 43, 180, 0, 15, 159, 0, 13, 42, 180, 0, 15, 43, 180, 0, 15, 100, 172, 42]
abbrev dktX2_compare_0 : List UInt8 := dkwX2_compare_0 ++ dktX2_compare_1
theorem dksX2_compare_0 : cX2_compare.data.toList.drop 0 = dktX2_compare_0 := by decide +kernel
theorem dksX2_compare_1 : cX2_compare.data.toList.drop 22 = dktX2_compare_1 := dk_seg dksX2_compare_0 22 rfl rfl
theorem dksX2_compare_2 : cX2_compare.data.toList.drop 46 = dktX2_compare_2 := dk_seg dksX2_compare_1 24 rfl rfl
theorem dX2_compare_0 : decode cX2_compare 0 = .ok (.aload_n 0, 1) := dk_42 (dk_at dksX2_compare_0 0 rfl rfl)
theorem dX2_compare_1 : decode cX2_compare 1 = .ok (.getfield 15, 3) := dk_180 0 15 (dk_at dksX2_compare_0 1 rfl rfl)
theorem dX2_compare_4 : decode cX2_compare 4 = .ok (.aload_n 1, 1) := dk_43 (dk_at dksX2_compare_0 4 rfl rfl)
theorem dX2_compare_5 : decode cX2_compare 5 = .ok (.getfield 15, 3) := dk_180 0 15 (dk_at dksX2_compare_0 5 rfl rfl)
theorem dX2_compare_8 : decode cX2_compare 8 = .ok (.if_icmp .eq 13, 3) := dk_159 0 13 (dk_at dksX2_compare_0 8 rfl rfl)
theorem dX2_compare_11 : decode cX2_compare 11 = .ok (.aload_n 0, 1) := dk_42 (dk_at dksX2_compare_0 11 rfl rfl)
theorem dX2_compare_12 : decode cX2_compare 12 = .ok (.getfield 15, 3) := dk_180 0 15 (dk_at dksX2_compare_0 12 rfl rfl)
theorem dX2_compare_15 : decode cX2_compare 15 = .ok (.aload_n 1, 1) := dk_43 (dk_at dksX2_compare_0 15 rfl rfl)
theorem dX2_compare_16 : decode cX2_compare 16 = .ok (.getfield 15, 3) := dk_180 0 15 (dk_at dksX2_compare_0 16 rfl rfl)
theorem dX2_compare_19 : decode cX2_compare 19 = .ok (.isub, 1) := dk_100 (dk_at dksX2_compare_0 19 rfl rfl)
theorem dX2_compare_20 : decode cX2_compare 20 = .ok (.ireturn, 1) := dk_172 (dk_at dksX2_compare_0 20 rfl rfl)
theorem dX2_compare_21 : decode cX2_compare 21 = .ok (.aload_n 0, 1) := dk_42 (dk_at dksX2_compare_0 21 rfl rfl)
theorem dX2_compare_22 : decode cX2_compare 22 = .ok (.invokevirtual 18, 3) := dk_182 0 18 (dk_at dksX2_compare_1 0 rfl rfl)
theorem dX2_compare_25 : decode cX2_compare 25 = .ok (.i2l, 1) := dk_133 (dk_at dksX2_compare_1 3 rfl rfl)
theorem dX2_compare_26 : decode cX2_compare 26 = .ok (.aload_n 1, 1) := dk_43 (dk_at dksX2_compare_1 4 rfl rfl)
theorem dX2_compare_27 : decode cX2_compare 27 = .ok (.invokevirtual 22, 3) := dk_182 0 22 (dk_at dksX2_compare_1 5 rfl rfl)
theorem dX2_compare_30 : decode cX2_compare 30 = .ok (.i2l, 1) := dk_133 (dk_at dksX2_compare_1 8 rfl rfl)
theorem dX2_compare_31 : decode cX2_compare 31 = .ok (.lmul, 1) := dk_105 (dk_at dksX2_compare_1 9 rfl rfl)
theorem dX2_compare_32 : decode cX2_compare 32 = .ok (.lstore_n 2, 1) := dk_65 (dk_at dksX2_compare_1 10 rfl rfl)
theorem dX2_compare_33 : decode cX2_compare 33 = .ok (.aload_n 1, 1) := dk_43 (dk_at dksX2_compare_1 11 rfl rfl)
theorem dX2_compare_34 : decode cX2_compare 34 = .ok (.invokevirtual 18, 3) := dk_182 0 18 (dk_at dksX2_compare_1 12 rfl rfl)
theorem dX2_compare_37 : decode cX2_compare 37 = .ok (.i2l, 1) := dk_133 (dk_at dksX2_compare_1 15 rfl rfl)
theorem dX2_compare_38 : decode cX2_compare 38 = .ok (.aload_n 0, 1) := dk_42 (dk_at dksX2_compare_1 16 rfl rfl)
theorem dX2_compare_39 : decode cX2_compare 39 = .ok (.invokevirtual 22, 3) := dk_182 0 22 (dk_at dksX2_compare_1 17 rfl rfl)
theorem dX2_compare_42 : decode cX2_compare 42 = .ok (.i2l, 1) := dk_133 (dk_at dksX2_compare_1 20 rfl rfl)
theorem dX2_compare_43 : decode cX2_compare 43 = .ok (.lmul, 1) := dk_105 (dk_at dksX2_compare_1 21 rfl rfl)
theorem dX2_compare_44 : decode cX2_compare 44 = .ok (.lstore 4, 2) := dk_55 4 (dk_at dksX2_compare_1 22 rfl rfl)
theorem dX2_compare_46 : decode cX2_compare 46 = .ok (.lload_n 2, 1) := dk_32 (dk_at dksX2_compare_2 0 rfl rfl)
theorem dX2_compare_47 : decode cX2_compare 47 = .ok (.lload 4, 2) := dk_22 4 (dk_at dksX2_compare_2 1 rfl rfl)
theorem dX2_compare_49 : decode cX2_compare 49 = .ok (.lcmp, 1) := dk_148 (dk_at dksX2_compare_2 3 rfl rfl)
theorem dX2_compare_50 : decode cX2_compare 50 = .ok (.ifCond .le 7, 3) := dk_158 0 7 (dk_at dksX2_compare_2 4 rfl rfl)
theorem dX2_compare_53 : decode cX2_compare 53 = .ok (.iconst 1, 1) := dk_4 (dk_at dksX2_compare_2 7 rfl rfl)
theorem dX2_compare_54 : decode cX2_compare 54 = .ok (.goto 15, 3) := dk_167 0 15 (dk_at dksX2_compare_2 8 rfl rfl)
theorem dX2_compare_57 : decode cX2_compare 57 = .ok (.lload_n 2, 1) := dk_32 (dk_at dksX2_compare_2 11 rfl rfl)
theorem dX2_compare_58 : decode cX2_compare 58 = .ok (.lload 4, 2) := dk_22 4 (dk_at dksX2_compare_2 12 rfl rfl)
theorem dX2_compare_60 : decode cX2_compare 60 = .ok (.lcmp, 1) := dk_148 (dk_at dksX2_compare_2 14 rfl rfl)
theorem dX2_compare_61 : decode cX2_compare 61 = .ok (.ifCond .ge 7, 3) := dk_156 0 7 (dk_at dksX2_compare_2 15 rfl rfl)
theorem dX2_compare_64 : decode cX2_compare 64 = .ok (.iconst (-1), 1) := dk_2 (dk_at dksX2_compare_2 18 rfl rfl)
theorem dX2_compare_65 : decode cX2_compare 65 = .ok (.goto 4, 3) := dk_167 0 4 (dk_at dksX2_compare_2 19 rfl rfl)
theorem dX2_compare_68 : decode cX2_compare 68 = .ok (.iconst 0, 1) := dk_3 (dk_at dksX2_compare_2 22 rfl rfl)
theorem dX2_compare_69 : decode cX2_compare 69 = .ok (.ireturn, 1) := dk_172 (dk_at dksX2_compare_2 23 rfl rfl)
abbrev cX2_above : ByteArray := prog_4_method_3_code
def yX2_above : MethodName := ⟨RX2, "above", "()I"⟩
def dkwX2_above_0 : List UInt8 := [42, 180, 0, 25, 154, 0, 7, 4, 167, 0, 7, 42, 180, 0, 28, 172]
abbrev dktX2_above_0 : List UInt8 := dkwX2_above_0 ++ []
theorem dksX2_above_0 : cX2_above.data.toList.drop 0 = dktX2_above_0 := by decide +kernel
theorem dX2_above_0 : decode cX2_above 0 = .ok (.aload_n 0, 1) := dk_42 (dk_at dksX2_above_0 0 rfl rfl)
theorem dX2_above_1 : decode cX2_above 1 = .ok (.getfield 25, 3) := dk_180 0 25 (dk_at dksX2_above_0 1 rfl rfl)
theorem dX2_above_4 : decode cX2_above 4 = .ok (.ifCond .ne 7, 3) := dk_154 0 7 (dk_at dksX2_above_0 4 rfl rfl)
theorem dX2_above_7 : decode cX2_above 7 = .ok (.iconst 1, 1) := dk_4 (dk_at dksX2_above_0 7 rfl rfl)
theorem dX2_above_8 : decode cX2_above 8 = .ok (.goto 7, 3) := dk_167 0 7 (dk_at dksX2_above_0 8 rfl rfl)
theorem dX2_above_11 : decode cX2_above 11 = .ok (.aload_n 0, 1) := dk_42 (dk_at dksX2_above_0 11 rfl rfl)
theorem dX2_above_12 : decode cX2_above 12 = .ok (.getfield 28, 3) := dk_180 0 28 (dk_at dksX2_above_0 12 rfl rfl)
theorem dX2_above_15 : decode cX2_above 15 = .ok (.ireturn, 1) := dk_172 (dk_at dksX2_above_0 15 rfl rfl)
abbrev cX2_below : ByteArray := prog_4_method_4_code
def yX2_below : MethodName := ⟨RX2, "below", "()I"⟩
def dkwX2_below_0 : List UInt8 := [42, 180, 0, 25, 154, 0, 14, 42, 180, 0, 28, 154, 0, 7, 4, 167, 0, 7, 42, 180, 0, 25, 172]
abbrev dktX2_below_0 : List UInt8 := dkwX2_below_0 ++ []
theorem dksX2_below_0 : cX2_below.data.toList.drop 0 = dktX2_below_0 := by decide +kernel
theorem dX2_below_0 : decode cX2_below 0 = .ok (.aload_n 0, 1) := dk_42 (dk_at dksX2_below_0 0 rfl rfl)
theorem dX2_below_1 : decode cX2_below 1 = .ok (.getfield 25, 3) := dk_180 0 25 (dk_at dksX2_below_0 1 rfl rfl)
theorem dX2_below_4 : decode cX2_below 4 = .ok (.ifCond .ne 14, 3) := dk_154 0 14 (dk_at dksX2_below_0 4 rfl rfl)
theorem dX2_below_7 : decode cX2_below 7 = .ok (.aload_n 0, 1) := dk_42 (dk_at dksX2_below_0 7 rfl rfl)
theorem dX2_below_8 : decode cX2_below 8 = .ok (.getfield 28, 3) := dk_180 0 28 (dk_at dksX2_below_0 8 rfl rfl)
theorem dX2_below_11 : decode cX2_below 11 = .ok (.ifCond .ne 7, 3) := dk_154 0 7 (dk_at dksX2_below_0 11 rfl rfl)
theorem dX2_below_14 : decode cX2_below 14 = .ok (.iconst 1, 1) := dk_4 (dk_at dksX2_below_0 14 rfl rfl)
theorem dX2_below_15 : decode cX2_below 15 = .ok (.goto 7, 3) := dk_167 0 7 (dk_at dksX2_below_0 15 rfl rfl)
theorem dX2_below_18 : decode cX2_below 18 = .ok (.aload_n 0, 1) := dk_42 (dk_at dksX2_below_0 18 rfl rfl)
theorem dX2_below_19 : decode cX2_below 19 = .ok (.getfield 25, 3) := dk_180 0 25 (dk_at dksX2_below_0 19 rfl rfl)
theorem dX2_below_22 : decode cX2_below 22 = .ok (.ireturn, 1) := dk_172 (dk_at dksX2_below_0 22 rfl rfl)
theorem q70 : (Jvm.Cond.initialized "Raidhall$Club") ∈ lw_all := lw_g (lw_at lw_m1 6 rfl) rfl
theorem q152 : (Jvm.Cond.instantiable "Raidhall$Club" (9 : Nat)) ∈ lw_all := lw_g (lw_at lw_m1 88 rfl) rfl
theorem q154 : (Jvm.Cond.instanceMethod ({ cls := "Raidhall$Club", name := "<init>", desc := "()V" } : Jvm.MethodName)) ∈ lw_all := lw_g (lw_at lw_m1 90 rfl) rfl
theorem q155 : (Jvm.Cond.code ({ cls := "Raidhall$Club", name := "<init>", desc := "()V" } : Jvm.MethodName) prog_4_method_1_code (1 : Nat) (Option.none : Option Jvm.ClassFile.FieldType)) ∈ lw_all := lw_g (lw_at lw_m1 91 rfl) rfl
theorem q156 : (Jvm.Cond.methodLink "Raidhall$Club" (3 : Nat) ({ cls := "java/lang/Object", name := "<init>", desc := "()V" } : Jvm.MethodName)) ∈ lw_all := lw_g (lw_at lw_m1 92 rfl) rfl
theorem q157 : (Jvm.Cond.fieldLink "Raidhall$Club" (31 : Nat) "Raidhall$Club" "matches" "I") ∈ lw_all := lw_g (lw_at lw_m1 93 rfl) rfl
theorem q159 : (Jvm.Cond.fieldLink "Raidhall$Club" (34 : Nat) "Raidhall$Club" "won" "I") ∈ lw_all := lw_g (lw_at lw_m1 95 rfl) rfl
theorem q161 : (Jvm.Cond.fieldLink "Raidhall$Club" (37 : Nat) "Raidhall$Club" "even" "I") ∈ lw_all := lw_g (lw_at lw_m1 97 rfl) rfl
theorem q163 : (Jvm.Cond.fieldLink "Raidhall$Club" (15 : Nat) "Raidhall$Club" "has" "I") ∈ lw_all := lw_g (lw_at lw_m1 99 rfl) rfl
theorem q165 : (Jvm.Cond.fieldLink "Raidhall$Club" (28 : Nat) "Raidhall$Club" "made" "I") ∈ lw_all := lw_g (lw_at lw_m1 101 rfl) rfl
theorem q167 : (Jvm.Cond.fieldLink "Raidhall$Club" (25 : Nat) "Raidhall$Club" "let" "I") ∈ lw_all := lw_g (lw_at lw_m1 103 rfl) rfl
theorem q169 : (Jvm.Cond.fieldLink "Raidhall$Club" (9 : Nat) "Raidhall$Club" "purse" "I") ∈ lw_all := lw_g (lw_at lw_m1 105 rfl) rfl
theorem q173 : (Jvm.Cond.lays "Raidhall$Club" "Raidhall$Club" "matches" "I") ∈ lw_all := lw_g (lw_at lw_m1 109 rfl) rfl
theorem q174 : (Jvm.Cond.soleField "Raidhall$Club" "matches") ∈ lw_all := lw_g (lw_at lw_m1 110 rfl) rfl
theorem q175 : (Jvm.Cond.lays "Raidhall$Club" "Raidhall$Club" "won" "I") ∈ lw_all := lw_g (lw_at lw_m1 111 rfl) rfl
theorem q176 : (Jvm.Cond.soleField "Raidhall$Club" "won") ∈ lw_all := lw_g (lw_at lw_m1 112 rfl) rfl
theorem q177 : (Jvm.Cond.lays "Raidhall$Club" "Raidhall$Club" "even" "I") ∈ lw_all := lw_g (lw_at lw_m1 113 rfl) rfl
theorem q178 : (Jvm.Cond.soleField "Raidhall$Club" "even") ∈ lw_all := lw_g (lw_at lw_m1 114 rfl) rfl
theorem q179 : (Jvm.Cond.lays "Raidhall$Club" "Raidhall$Club" "has" "I") ∈ lw_all := lw_g (lw_at lw_m1 115 rfl) rfl
theorem q180 : (Jvm.Cond.soleField "Raidhall$Club" "has") ∈ lw_all := lw_g (lw_at lw_m1 116 rfl) rfl
theorem q181 : (Jvm.Cond.lays "Raidhall$Club" "Raidhall$Club" "made" "I") ∈ lw_all := lw_g (lw_at lw_m1 117 rfl) rfl
theorem q182 : (Jvm.Cond.soleField "Raidhall$Club" "made") ∈ lw_all := lw_g (lw_at lw_m1 118 rfl) rfl
theorem q183 : (Jvm.Cond.lays "Raidhall$Club" "Raidhall$Club" "let" "I") ∈ lw_all := lw_g (lw_at lw_m1 119 rfl) rfl
theorem q184 : (Jvm.Cond.soleField "Raidhall$Club" "let") ∈ lw_all := lw_g (lw_at lw_m1 120 rfl) rfl
theorem q185 : (Jvm.Cond.lays "Raidhall$Club" "Raidhall$Club" "purse" "I") ∈ lw_all := lw_g (lw_at lw_m1 121 rfl) rfl
theorem q186 : (Jvm.Cond.soleField "Raidhall$Club" "purse") ∈ lw_all := lw_g (lw_at lw_m1 122 rfl) rfl
theorem q187 : (Jvm.Cond.lays "Raidhall$Club" "Raidhall$Club" "squad" "I") ∈ lw_all := lw_g (lw_at lw_m1 123 rfl) rfl
theorem q188 : (Jvm.Cond.soleField "Raidhall$Club" "squad") ∈ lw_all := lw_g (lw_at lw_m1 124 rfl) rfl
theorem q189 : (Jvm.Cond.lays "Raidhall$Club" "Raidhall$Club" "foreign" "I") ∈ lw_all := lw_g (lw_at lw_m1 125 rfl) rfl
theorem q190 : (Jvm.Cond.soleField "Raidhall$Club" "foreign") ∈ lw_all := lw_g (lw_at lw_m1 126 rfl) rfl
theorem q191 : (Jvm.Cond.superclass "Raidhall$Club" "java/lang/Object") ∈ lw_all := lw_g (lw_at lw_m1 127 rfl) rfl
theorem q971 : (Jvm.Cond.selects "Raidhall$Club" ({ cls := "java/lang/Object", name := "getClass", desc := "()Ljava/lang/Class;" } : Jvm.MethodName) ({ cls := "java/lang/Object", name := "getClass", desc := "()Ljava/lang/Class;" } : Jvm.MethodName)) ∈ lw_all := lw_g (lw_at lw_m4 187 rfl) rfl
theorem q1681 : (Jvm.Cond.instanceMethod ({ cls := "Raidhall$Club", name := "enter", desc := "(II)V" } : Jvm.MethodName)) ∈ lw_all := lw_g (lw_at lw_m7 177 rfl) rfl
theorem q1682 : (Jvm.Cond.selects "Raidhall$Club" ({ cls := "Raidhall$Club", name := "enter", desc := "(II)V" } : Jvm.MethodName) ({ cls := "Raidhall$Club", name := "enter", desc := "(II)V" } : Jvm.MethodName)) ∈ lw_all := lw_g (lw_at lw_m7 178 rfl) rfl
theorem q1683 : (Jvm.Cond.code ({ cls := "Raidhall$Club", name := "enter", desc := "(II)V" } : Jvm.MethodName) prog_4_method_5_code (3 : Nat) (Option.none : Option Jvm.ClassFile.FieldType)) ∈ lw_all := lw_g (lw_at lw_m7 179 rfl) rfl
theorem q1821 : (Jvm.Cond.instanceMethod ({ cls := "Raidhall$Club", name := "compare", desc := "(LRaidhall$Club;)I" } : Jvm.MethodName)) ∈ lw_all := lw_g (lw_at lw_m8 77 rfl) rfl
theorem q1822 : (Jvm.Cond.selects "Raidhall$Club" ({ cls := "Raidhall$Club", name := "compare", desc := "(LRaidhall$Club;)I" } : Jvm.MethodName) ({ cls := "Raidhall$Club", name := "compare", desc := "(LRaidhall$Club;)I" } : Jvm.MethodName)) ∈ lw_all := lw_g (lw_at lw_m8 78 rfl) rfl
theorem q1823 : (Jvm.Cond.code ({ cls := "Raidhall$Club", name := "compare", desc := "(LRaidhall$Club;)I" } : Jvm.MethodName) prog_4_method_2_code (6 : Nat) (Option.some Jvm.ClassFile.FieldType.int)) ∈ lw_all := lw_g (lw_at lw_m8 79 rfl) rfl
theorem q1824 : (Jvm.Cond.methodLink "Raidhall$Club" (18 : Nat) ({ cls := "Raidhall$Club", name := "above", desc := "()I" } : Jvm.MethodName)) ∈ lw_all := lw_g (lw_at lw_m8 80 rfl) rfl
theorem q1825 : (Jvm.Cond.privateMethod ({ cls := "Raidhall$Club", name := "above", desc := "()I" } : Jvm.MethodName)) ∈ lw_tbl := lw_at lw_m8 81 rfl
theorem q1826 : (Jvm.Cond.instanceMethod ({ cls := "Raidhall$Club", name := "above", desc := "()I" } : Jvm.MethodName)) ∈ lw_all := lw_g (lw_at lw_m8 82 rfl) rfl
theorem q1827 : (Jvm.Cond.code ({ cls := "Raidhall$Club", name := "above", desc := "()I" } : Jvm.MethodName) prog_4_method_3_code (1 : Nat) (Option.some Jvm.ClassFile.FieldType.int)) ∈ lw_all := lw_g (lw_at lw_m8 83 rfl) rfl
theorem q1828 : (Jvm.Cond.methodLink "Raidhall$Club" (22 : Nat) ({ cls := "Raidhall$Club", name := "below", desc := "()I" } : Jvm.MethodName)) ∈ lw_all := lw_g (lw_at lw_m8 84 rfl) rfl
theorem q1829 : (Jvm.Cond.privateMethod ({ cls := "Raidhall$Club", name := "below", desc := "()I" } : Jvm.MethodName)) ∈ lw_tbl := lw_at lw_m8 85 rfl
theorem q1830 : (Jvm.Cond.instanceMethod ({ cls := "Raidhall$Club", name := "below", desc := "()I" } : Jvm.MethodName)) ∈ lw_all := lw_g (lw_at lw_m8 86 rfl) rfl
theorem q1831 : (Jvm.Cond.code ({ cls := "Raidhall$Club", name := "below", desc := "()I" } : Jvm.MethodName) prog_4_method_4_code (1 : Nat) (Option.some Jvm.ClassFile.FieldType.int)) ∈ lw_all := lw_g (lw_at lw_m8 87 rfl) rfl
theorem q2360 : (Jvm.Cond.castable "Raidhall$Club" "java/lang/Object") ∈ lw_tbl := lw_at lw_m10 136 rfl
theorem in_X2 : ∀ w ∈ wsX20, w ∈ lw_all := lw_in wsX20 [173, 175, 177, 179, 181, 183, 185, 187, 189] (by decide +kernel) (by decide +kernel)

/-! Raidhall$Lot -/
set_option maxRecDepth 100000
def RX3 : String := "Raidhall$Lot"
def TX3 : u_T := fun k => match k with
  | 0 => ("Raidhall$Lot", "number", "I", true)
  | 1 => ("Raidhall$Lot", "club", "I", false)
  | 2 => ("Raidhall$Lot", "price", "I", false)
  | _ => ("Raidhall$Lot", "right", "I", false)
def tyX3 : Nat → FieldType := fun k => match k with
  | 0 => .int
  | 1 => .int
  | 2 => .int
  | _ => .int
abbrev wsX30 : List Cond := u_ws RX3 TX3 4
theorem nmX3 : ∀ a, a < 4 → ∀ b, b < 4 → a ≠ b → (TX3 a).2.1 ≠ (TX3 b).2.1 := by decide +kernel
theorem tyX3_ok : ∀ k, k < 4 → parseFieldDescriptor (TX3 k).2.2.1 = some (tyX3 k) := by decide +kernel
abbrev cX3_init : ByteArray := prog_6_method_1_code
def yX3_init : MethodName := ⟨RX3, "<init>", "(I)V"⟩
def dkwX3_init_1 : List UInt8 := [177]
abbrev dktX3_init_1 : List UInt8 := dkwX3_init_1 ++ []
def dkwX3_init_0 : List UInt8 := [42, 183, 0, 3, 42, 2, 181, 0, 9, 42, 2, 181, 0, 15, 42, 2, 181, 0, 18, 42, 27, 181, 0, 21]
abbrev dktX3_init_0 : List UInt8 := dkwX3_init_0 ++ dktX3_init_1
theorem dksX3_init_0 : cX3_init.data.toList.drop 0 = dktX3_init_0 := by decide +kernel
theorem dksX3_init_1 : cX3_init.data.toList.drop 24 = dktX3_init_1 := dk_seg dksX3_init_0 24 rfl rfl
theorem dX3_init_0 : decode cX3_init 0 = .ok (.aload_n 0, 1) := dk_42 (dk_at dksX3_init_0 0 rfl rfl)
theorem dX3_init_1 : decode cX3_init 1 = .ok (.invokespecial 3, 3) := dk_183 0 3 (dk_at dksX3_init_0 1 rfl rfl)
theorem dX3_init_4 : decode cX3_init 4 = .ok (.aload_n 0, 1) := dk_42 (dk_at dksX3_init_0 4 rfl rfl)
theorem dX3_init_5 : decode cX3_init 5 = .ok (.iconst (-1), 1) := dk_2 (dk_at dksX3_init_0 5 rfl rfl)
theorem dX3_init_6 : decode cX3_init 6 = .ok (.putfield 9, 3) := dk_181 0 9 (dk_at dksX3_init_0 6 rfl rfl)
theorem dX3_init_9 : decode cX3_init 9 = .ok (.aload_n 0, 1) := dk_42 (dk_at dksX3_init_0 9 rfl rfl)
theorem dX3_init_10 : decode cX3_init 10 = .ok (.iconst (-1), 1) := dk_2 (dk_at dksX3_init_0 10 rfl rfl)
theorem dX3_init_11 : decode cX3_init 11 = .ok (.putfield 15, 3) := dk_181 0 15 (dk_at dksX3_init_0 11 rfl rfl)
theorem dX3_init_14 : decode cX3_init 14 = .ok (.aload_n 0, 1) := dk_42 (dk_at dksX3_init_0 14 rfl rfl)
theorem dX3_init_15 : decode cX3_init 15 = .ok (.iconst (-1), 1) := dk_2 (dk_at dksX3_init_0 15 rfl rfl)
theorem dX3_init_16 : decode cX3_init 16 = .ok (.putfield 18, 3) := dk_181 0 18 (dk_at dksX3_init_0 16 rfl rfl)
theorem dX3_init_19 : decode cX3_init 19 = .ok (.aload_n 0, 1) := dk_42 (dk_at dksX3_init_0 19 rfl rfl)
theorem dX3_init_20 : decode cX3_init 20 = .ok (.iload_n 1, 1) := dk_27 (dk_at dksX3_init_0 20 rfl rfl)
theorem dX3_init_21 : decode cX3_init 21 = .ok (.putfield 21, 3) := dk_181 0 21 (dk_at dksX3_init_0 21 rfl rfl)
theorem dX3_init_24 : decode cX3_init 24 = .ok (.return_, 1) := dk_177 (dk_at dksX3_init_1 0 rfl rfl)
abbrev cX3_base : ByteArray := prog_6_method_2_code
def yX3_base : MethodName := ⟨RX3, "base", "()I"⟩
def dkwX3_base_1 : List UInt8 := [16, 30, 167, 0, 5, 16, 10, 172]
abbrev dktX3_base_1 : List UInt8 := dkwX3_base_1 ++ []
def dkwX3_base_0 : List UInt8 := [42, 180, 0, 21, 6, 112, 154, 0, 8, 16, 50, 167, 0, 20, 42, 180, 0, 21, 6, 112, 4, 160, 0, 8]
abbrev dktX3_base_0 : List UInt8 := dkwX3_base_0 ++ dktX3_base_1
theorem dksX3_base_0 : cX3_base.data.toList.drop 0 = dktX3_base_0 := by decide +kernel
theorem dksX3_base_1 : cX3_base.data.toList.drop 24 = dktX3_base_1 := dk_seg dksX3_base_0 24 rfl rfl
theorem dX3_base_0 : decode cX3_base 0 = .ok (.aload_n 0, 1) := dk_42 (dk_at dksX3_base_0 0 rfl rfl)
theorem dX3_base_1 : decode cX3_base 1 = .ok (.getfield 21, 3) := dk_180 0 21 (dk_at dksX3_base_0 1 rfl rfl)
theorem dX3_base_4 : decode cX3_base 4 = .ok (.iconst 3, 1) := dk_6 (dk_at dksX3_base_0 4 rfl rfl)
theorem dX3_base_5 : decode cX3_base 5 = .ok (.irem, 1) := dk_112 (dk_at dksX3_base_0 5 rfl rfl)
theorem dX3_base_6 : decode cX3_base 6 = .ok (.ifCond .ne 8, 3) := dk_154 0 8 (dk_at dksX3_base_0 6 rfl rfl)
theorem dX3_base_9 : decode cX3_base 9 = .ok (.bipush 50, 2) := dk_16 50 (dk_at dksX3_base_0 9 rfl rfl)
theorem dX3_base_11 : decode cX3_base 11 = .ok (.goto 20, 3) := dk_167 0 20 (dk_at dksX3_base_0 11 rfl rfl)
theorem dX3_base_14 : decode cX3_base 14 = .ok (.aload_n 0, 1) := dk_42 (dk_at dksX3_base_0 14 rfl rfl)
theorem dX3_base_15 : decode cX3_base 15 = .ok (.getfield 21, 3) := dk_180 0 21 (dk_at dksX3_base_0 15 rfl rfl)
theorem dX3_base_18 : decode cX3_base 18 = .ok (.iconst 3, 1) := dk_6 (dk_at dksX3_base_0 18 rfl rfl)
theorem dX3_base_19 : decode cX3_base 19 = .ok (.irem, 1) := dk_112 (dk_at dksX3_base_0 19 rfl rfl)
theorem dX3_base_20 : decode cX3_base 20 = .ok (.iconst 1, 1) := dk_4 (dk_at dksX3_base_0 20 rfl rfl)
theorem dX3_base_21 : decode cX3_base 21 = .ok (.if_icmp .ne 8, 3) := dk_160 0 8 (dk_at dksX3_base_0 21 rfl rfl)
theorem dX3_base_24 : decode cX3_base 24 = .ok (.bipush 30, 2) := dk_16 30 (dk_at dksX3_base_1 0 rfl rfl)
theorem dX3_base_26 : decode cX3_base 26 = .ok (.goto 5, 3) := dk_167 0 5 (dk_at dksX3_base_1 2 rfl rfl)
theorem dX3_base_29 : decode cX3_base 29 = .ok (.bipush 10, 2) := dk_16 10 (dk_at dksX3_base_1 5 rfl rfl)
theorem dX3_base_31 : decode cX3_base 31 = .ok (.ireturn, 1) := dk_172 (dk_at dksX3_base_1 7 rfl rfl)
abbrev cX3_isForeign : ByteArray := prog_6_method_3_code
def yX3_isForeign : MethodName := ⟨RX3, "isForeign", "()Z"⟩
def dkwX3_isForeign_0 : List UInt8 := [42, 180, 0, 21, 7, 112, 154, 0, 7, 4, 167, 0, 4, 3, 172]
abbrev dktX3_isForeign_0 : List UInt8 := dkwX3_isForeign_0 ++ []
theorem dksX3_isForeign_0 : cX3_isForeign.data.toList.drop 0 = dktX3_isForeign_0 := by decide +kernel
theorem dX3_isForeign_0 : decode cX3_isForeign 0 = .ok (.aload_n 0, 1) := dk_42 (dk_at dksX3_isForeign_0 0 rfl rfl)
theorem dX3_isForeign_1 : decode cX3_isForeign 1 = .ok (.getfield 21, 3) := dk_180 0 21 (dk_at dksX3_isForeign_0 1 rfl rfl)
theorem dX3_isForeign_4 : decode cX3_isForeign 4 = .ok (.iconst 4, 1) := dk_7 (dk_at dksX3_isForeign_0 4 rfl rfl)
theorem dX3_isForeign_5 : decode cX3_isForeign 5 = .ok (.irem, 1) := dk_112 (dk_at dksX3_isForeign_0 5 rfl rfl)
theorem dX3_isForeign_6 : decode cX3_isForeign 6 = .ok (.ifCond .ne 7, 3) := dk_154 0 7 (dk_at dksX3_isForeign_0 6 rfl rfl)
theorem dX3_isForeign_9 : decode cX3_isForeign 9 = .ok (.iconst 1, 1) := dk_4 (dk_at dksX3_isForeign_0 9 rfl rfl)
theorem dX3_isForeign_10 : decode cX3_isForeign 10 = .ok (.goto 4, 3) := dk_167 0 4 (dk_at dksX3_isForeign_0 10 rfl rfl)
theorem dX3_isForeign_13 : decode cX3_isForeign 13 = .ok (.iconst 0, 1) := dk_3 (dk_at dksX3_isForeign_0 13 rfl rfl)
theorem dX3_isForeign_14 : decode cX3_isForeign 14 = .ok (.ireturn, 1) := dk_172 (dk_at dksX3_isForeign_0 14 rfl rfl)
theorem q71 : (Jvm.Cond.initialized "Raidhall$Lot") ∈ lw_all := lw_g (lw_at lw_m1 7 rfl) rfl
theorem q192 : (Jvm.Cond.instantiable "Raidhall$Lot" (4 : Nat)) ∈ lw_all := lw_g (lw_at lw_m1 128 rfl) rfl
theorem q194 : (Jvm.Cond.instanceMethod ({ cls := "Raidhall$Lot", name := "<init>", desc := "(I)V" } : Jvm.MethodName)) ∈ lw_all := lw_g (lw_at lw_m1 130 rfl) rfl
theorem q195 : (Jvm.Cond.code ({ cls := "Raidhall$Lot", name := "<init>", desc := "(I)V" } : Jvm.MethodName) prog_6_method_1_code (2 : Nat) (Option.none : Option Jvm.ClassFile.FieldType)) ∈ lw_all := lw_g (lw_at lw_m1 131 rfl) rfl
theorem q196 : (Jvm.Cond.methodLink "Raidhall$Lot" (3 : Nat) ({ cls := "java/lang/Object", name := "<init>", desc := "()V" } : Jvm.MethodName)) ∈ lw_all := lw_g (lw_at lw_m1 132 rfl) rfl
theorem q197 : (Jvm.Cond.fieldLink "Raidhall$Lot" (21 : Nat) "Raidhall$Lot" "number" "I") ∈ lw_all := lw_g (lw_at lw_m1 133 rfl) rfl
theorem q198 : (Jvm.Cond.fieldLink "Raidhall$Lot" (9 : Nat) "Raidhall$Lot" "club" "I") ∈ lw_all := lw_g (lw_at lw_m1 134 rfl) rfl
theorem q200 : (Jvm.Cond.fieldLink "Raidhall$Lot" (15 : Nat) "Raidhall$Lot" "price" "I") ∈ lw_all := lw_g (lw_at lw_m1 136 rfl) rfl
theorem q202 : (Jvm.Cond.fieldLink "Raidhall$Lot" (18 : Nat) "Raidhall$Lot" "right" "I") ∈ lw_all := lw_g (lw_at lw_m1 138 rfl) rfl
theorem q204 : (Jvm.Cond.laysFinal "Raidhall$Lot" "Raidhall$Lot" "number" "I") ∈ lw_all := lw_g (lw_at lw_m1 140 rfl) rfl
theorem q205 : (Jvm.Cond.soleField "Raidhall$Lot" "number") ∈ lw_all := lw_g (lw_at lw_m1 141 rfl) rfl
theorem q206 : (Jvm.Cond.lays "Raidhall$Lot" "Raidhall$Lot" "club" "I") ∈ lw_all := lw_g (lw_at lw_m1 142 rfl) rfl
theorem q207 : (Jvm.Cond.soleField "Raidhall$Lot" "club") ∈ lw_all := lw_g (lw_at lw_m1 143 rfl) rfl
theorem q208 : (Jvm.Cond.lays "Raidhall$Lot" "Raidhall$Lot" "price" "I") ∈ lw_all := lw_g (lw_at lw_m1 144 rfl) rfl
theorem q209 : (Jvm.Cond.soleField "Raidhall$Lot" "price") ∈ lw_all := lw_g (lw_at lw_m1 145 rfl) rfl
theorem q210 : (Jvm.Cond.lays "Raidhall$Lot" "Raidhall$Lot" "right" "I") ∈ lw_all := lw_g (lw_at lw_m1 146 rfl) rfl
theorem q211 : (Jvm.Cond.soleField "Raidhall$Lot" "right") ∈ lw_all := lw_g (lw_at lw_m1 147 rfl) rfl
theorem q212 : (Jvm.Cond.superclass "Raidhall$Lot" "java/lang/Object") ∈ lw_all := lw_g (lw_at lw_m1 148 rfl) rfl
theorem q972 : (Jvm.Cond.selects "Raidhall$Lot" ({ cls := "java/lang/Object", name := "getClass", desc := "()Ljava/lang/Class;" } : Jvm.MethodName) ({ cls := "java/lang/Object", name := "getClass", desc := "()Ljava/lang/Class;" } : Jvm.MethodName)) ∈ lw_all := lw_g (lw_at lw_m4 188 rfl) rfl
theorem q1847 : (Jvm.Cond.instanceMethod ({ cls := "Raidhall$Lot", name := "base", desc := "()I" } : Jvm.MethodName)) ∈ lw_all := lw_g (lw_at lw_m8 103 rfl) rfl
theorem q1848 : (Jvm.Cond.selects "Raidhall$Lot" ({ cls := "Raidhall$Lot", name := "base", desc := "()I" } : Jvm.MethodName) ({ cls := "Raidhall$Lot", name := "base", desc := "()I" } : Jvm.MethodName)) ∈ lw_all := lw_g (lw_at lw_m8 104 rfl) rfl
theorem q1849 : (Jvm.Cond.code ({ cls := "Raidhall$Lot", name := "base", desc := "()I" } : Jvm.MethodName) prog_6_method_2_code (1 : Nat) (Option.some Jvm.ClassFile.FieldType.int)) ∈ lw_all := lw_g (lw_at lw_m8 105 rfl) rfl
theorem q1862 : (Jvm.Cond.instanceMethod ({ cls := "Raidhall$Lot", name := "isForeign", desc := "()Z" } : Jvm.MethodName)) ∈ lw_all := lw_g (lw_at lw_m8 118 rfl) rfl
theorem q1863 : (Jvm.Cond.selects "Raidhall$Lot" ({ cls := "Raidhall$Lot", name := "isForeign", desc := "()Z" } : Jvm.MethodName) ({ cls := "Raidhall$Lot", name := "isForeign", desc := "()Z" } : Jvm.MethodName)) ∈ lw_all := lw_g (lw_at lw_m8 119 rfl) rfl
theorem q1864 : (Jvm.Cond.code ({ cls := "Raidhall$Lot", name := "isForeign", desc := "()Z" } : Jvm.MethodName) prog_6_method_3_code (1 : Nat) (Option.some Jvm.ClassFile.FieldType.boolean)) ∈ lw_all := lw_g (lw_at lw_m8 120 rfl) rfl
theorem q2361 : (Jvm.Cond.castable "Raidhall$Lot" "java/lang/Object") ∈ lw_tbl := lw_at lw_m10 137 rfl
theorem in_X3 : ∀ w ∈ wsX30, w ∈ lw_all := lw_in wsX30 [204, 206, 208, 210] (by decide +kernel) (by decide +kernel)

/-! Raidhall$Match -/
set_option maxRecDepth 100000
def RX5 : String := "Raidhall$Match"
def TX5 : u_T := fun k => match k with
  | 0 => ("Raidhall$Match", "clubs", "[I", true)
  | 1 => ("Raidhall$Match", "tenths", "I", true)
  | 2 => ("Raidhall$Match", "events", "Ljava/util/List;", true)
  | 3 => ("Raidhall$Match", "mats", "Ljava/util/List;", true)
  | 4 => ("Raidhall$Match", "hasReview", "[Z", true)
  | _ => ("Raidhall$Match", "raid", "LRaidhall$Raid;", false)
def tyX5 : Nat → FieldType := fun k => match k with
  | 0 => .array .int
  | 1 => .int
  | 2 => .object "java/util/List"
  | 3 => .object "java/util/List"
  | 4 => .array .boolean
  | _ => .object "Raidhall$Raid"
abbrev wsX50 : List Cond := u_ws RX5 TX5 6
theorem nmX5 : ∀ a, a < 6 → ∀ b, b < 6 → a ≠ b → (TX5 a).2.1 ≠ (TX5 b).2.1 := by decide +kernel
theorem tyX5_ok : ∀ k, k < 6 → parseFieldDescriptor (TX5 k).2.2.1 = some (tyX5 k) := by decide +kernel
abbrev cX5_init : ByteArray := prog_7_method_1_code
def yX5_init : MethodName := ⟨RX5, "<init>", "(III)V"⟩
def dkwX5_init_3 : List UInt8 := [87, 42, 180, 0, 21, 3, 4, 84, 42, 180, 0, 21, 4, 4, 84, 177]
abbrev dktX5_init_3 : List UInt8 := dkwX5_init_3 ++ []
def dkwX5_init_2 : List UInt8 := [181, 0, 25, 42, 29, 181, 0, 29, 42, 180, 0, 18, 187, 0, 33, 89, 183, 0, 35, 185, 0, 36, 2, 0]
abbrev dktX5_init_2 : List UInt8 := dkwX5_init_2 ++ dktX5_init_3
def dkwX5_init_1 : List UInt8 := [181, 0, 18, 42, 5, 188, 4, 181, 0, 21, 42, 5, 188, 10, 89, 3, 27, 79, 89, 4, 28, 79]
abbrev dktX5_init_1 : List UInt8 := dkwX5_init_1 ++ dktX5_init_2
def dkwX5_init_0 : List UInt8 := [42, 183, 0, 3, 42, 187, 0, 9, 89, 183, 0, 11, 181, 0, 12, 42, 187, 0, 9, 89, 183, 0, 11]
abbrev dktX5_init_0 : List UInt8 := dkwX5_init_0 ++ dktX5_init_1
theorem dksX5_init_0 : cX5_init.data.toList.drop 0 = dktX5_init_0 := by decide +kernel
theorem dksX5_init_1 : cX5_init.data.toList.drop 23 = dktX5_init_1 := dk_seg dksX5_init_0 23 rfl rfl
theorem dksX5_init_2 : cX5_init.data.toList.drop 45 = dktX5_init_2 := dk_seg dksX5_init_1 22 rfl rfl
theorem dksX5_init_3 : cX5_init.data.toList.drop 69 = dktX5_init_3 := dk_seg dksX5_init_2 24 rfl rfl
theorem dX5_init_0 : decode cX5_init 0 = .ok (.aload_n 0, 1) := dk_42 (dk_at dksX5_init_0 0 rfl rfl)
theorem dX5_init_1 : decode cX5_init 1 = .ok (.invokespecial 3, 3) := dk_183 0 3 (dk_at dksX5_init_0 1 rfl rfl)
theorem dX5_init_4 : decode cX5_init 4 = .ok (.aload_n 0, 1) := dk_42 (dk_at dksX5_init_0 4 rfl rfl)
theorem dX5_init_5 : decode cX5_init 5 = .ok (.new 9, 3) := dk_187 0 9 (dk_at dksX5_init_0 5 rfl rfl)
theorem dX5_init_8 : decode cX5_init 8 = .ok (.dup, 1) := dk_89 (dk_at dksX5_init_0 8 rfl rfl)
theorem dX5_init_9 : decode cX5_init 9 = .ok (.invokespecial 11, 3) := dk_183 0 11 (dk_at dksX5_init_0 9 rfl rfl)
theorem dX5_init_12 : decode cX5_init 12 = .ok (.putfield 12, 3) := dk_181 0 12 (dk_at dksX5_init_0 12 rfl rfl)
theorem dX5_init_15 : decode cX5_init 15 = .ok (.aload_n 0, 1) := dk_42 (dk_at dksX5_init_0 15 rfl rfl)
theorem dX5_init_16 : decode cX5_init 16 = .ok (.new 9, 3) := dk_187 0 9 (dk_at dksX5_init_0 16 rfl rfl)
theorem dX5_init_19 : decode cX5_init 19 = .ok (.dup, 1) := dk_89 (dk_at dksX5_init_0 19 rfl rfl)
theorem dX5_init_20 : decode cX5_init 20 = .ok (.invokespecial 11, 3) := dk_183 0 11 (dk_at dksX5_init_0 20 rfl rfl)
theorem dX5_init_23 : decode cX5_init 23 = .ok (.putfield 18, 3) := dk_181 0 18 (dk_at dksX5_init_1 0 rfl rfl)
theorem dX5_init_26 : decode cX5_init 26 = .ok (.aload_n 0, 1) := dk_42 (dk_at dksX5_init_1 3 rfl rfl)
theorem dX5_init_27 : decode cX5_init 27 = .ok (.iconst 2, 1) := dk_5 (dk_at dksX5_init_1 4 rfl rfl)
theorem dX5_init_28 : decode cX5_init 28 = .ok (.newarray .boolean, 2) := dk_188_4 (dk_at dksX5_init_1 5 rfl rfl)
theorem dX5_init_30 : decode cX5_init 30 = .ok (.putfield 21, 3) := dk_181 0 21 (dk_at dksX5_init_1 7 rfl rfl)
theorem dX5_init_33 : decode cX5_init 33 = .ok (.aload_n 0, 1) := dk_42 (dk_at dksX5_init_1 10 rfl rfl)
theorem dX5_init_34 : decode cX5_init 34 = .ok (.iconst 2, 1) := dk_5 (dk_at dksX5_init_1 11 rfl rfl)
theorem dX5_init_35 : decode cX5_init 35 = .ok (.newarray .int, 2) := dk_188_10 (dk_at dksX5_init_1 12 rfl rfl)
theorem dX5_init_37 : decode cX5_init 37 = .ok (.dup, 1) := dk_89 (dk_at dksX5_init_1 14 rfl rfl)
theorem dX5_init_38 : decode cX5_init 38 = .ok (.iconst 0, 1) := dk_3 (dk_at dksX5_init_1 15 rfl rfl)
theorem dX5_init_39 : decode cX5_init 39 = .ok (.iload_n 1, 1) := dk_27 (dk_at dksX5_init_1 16 rfl rfl)
theorem dX5_init_40 : decode cX5_init 40 = .ok (.iastore, 1) := dk_79 (dk_at dksX5_init_1 17 rfl rfl)
theorem dX5_init_41 : decode cX5_init 41 = .ok (.dup, 1) := dk_89 (dk_at dksX5_init_1 18 rfl rfl)
theorem dX5_init_42 : decode cX5_init 42 = .ok (.iconst 1, 1) := dk_4 (dk_at dksX5_init_1 19 rfl rfl)
theorem dX5_init_43 : decode cX5_init 43 = .ok (.iload_n 2, 1) := dk_28 (dk_at dksX5_init_1 20 rfl rfl)
theorem dX5_init_44 : decode cX5_init 44 = .ok (.iastore, 1) := dk_79 (dk_at dksX5_init_1 21 rfl rfl)
theorem dX5_init_45 : decode cX5_init 45 = .ok (.putfield 25, 3) := dk_181 0 25 (dk_at dksX5_init_2 0 rfl rfl)
theorem dX5_init_48 : decode cX5_init 48 = .ok (.aload_n 0, 1) := dk_42 (dk_at dksX5_init_2 3 rfl rfl)
theorem dX5_init_49 : decode cX5_init 49 = .ok (.iload_n 3, 1) := dk_29 (dk_at dksX5_init_2 4 rfl rfl)
theorem dX5_init_50 : decode cX5_init 50 = .ok (.putfield 29, 3) := dk_181 0 29 (dk_at dksX5_init_2 5 rfl rfl)
theorem dX5_init_53 : decode cX5_init 53 = .ok (.aload_n 0, 1) := dk_42 (dk_at dksX5_init_2 8 rfl rfl)
theorem dX5_init_54 : decode cX5_init 54 = .ok (.getfield 18, 3) := dk_180 0 18 (dk_at dksX5_init_2 9 rfl rfl)
theorem dX5_init_57 : decode cX5_init 57 = .ok (.new 33, 3) := dk_187 0 33 (dk_at dksX5_init_2 12 rfl rfl)
theorem dX5_init_60 : decode cX5_init 60 = .ok (.dup, 1) := dk_89 (dk_at dksX5_init_2 15 rfl rfl)
theorem dX5_init_61 : decode cX5_init 61 = .ok (.invokespecial 35, 3) := dk_183 0 35 (dk_at dksX5_init_2 16 rfl rfl)
theorem dX5_init_64 : decode cX5_init 64 = .ok (.invokeinterface 36 2, 5) := by decide +kernel
theorem dX5_init_69 : decode cX5_init 69 = .ok (.pop, 1) := dk_87 (dk_at dksX5_init_3 0 rfl rfl)
theorem dX5_init_70 : decode cX5_init 70 = .ok (.aload_n 0, 1) := dk_42 (dk_at dksX5_init_3 1 rfl rfl)
theorem dX5_init_71 : decode cX5_init 71 = .ok (.getfield 21, 3) := dk_180 0 21 (dk_at dksX5_init_3 2 rfl rfl)
theorem dX5_init_74 : decode cX5_init 74 = .ok (.iconst 0, 1) := dk_3 (dk_at dksX5_init_3 5 rfl rfl)
theorem dX5_init_75 : decode cX5_init 75 = .ok (.iconst 1, 1) := dk_4 (dk_at dksX5_init_3 6 rfl rfl)
theorem dX5_init_76 : decode cX5_init 76 = .ok (.bastore, 1) := dk_84 (dk_at dksX5_init_3 7 rfl rfl)
theorem dX5_init_77 : decode cX5_init 77 = .ok (.aload_n 0, 1) := dk_42 (dk_at dksX5_init_3 8 rfl rfl)
theorem dX5_init_78 : decode cX5_init 78 = .ok (.getfield 21, 3) := dk_180 0 21 (dk_at dksX5_init_3 9 rfl rfl)
theorem dX5_init_81 : decode cX5_init 81 = .ok (.iconst 1, 1) := dk_4 (dk_at dksX5_init_3 12 rfl rfl)
theorem dX5_init_82 : decode cX5_init 82 = .ok (.iconst 1, 1) := dk_4 (dk_at dksX5_init_3 13 rfl rfl)
theorem dX5_init_83 : decode cX5_init 83 = .ok (.bastore, 1) := dk_84 (dk_at dksX5_init_3 14 rfl rfl)
theorem dX5_init_84 : decode cX5_init 84 = .ok (.return_, 1) := dk_177 (dk_at dksX5_init_3 15 rfl rfl)
abbrev cX5_count : ByteArray := prog_7_method_3_code
def yX5_count : MethodName := ⟨RX5, "count", "()I"⟩
def dkwX5_count_0 : List UInt8 := [42, 180, 0, 12, 185, 0, 42, 1, 0, 42, 180, 0, 50, 199, 0, 7, 3, 167, 0, 4, 4, 96, 172]
abbrev dktX5_count_0 : List UInt8 := dkwX5_count_0 ++ []
theorem dksX5_count_0 : cX5_count.data.toList.drop 0 = dktX5_count_0 := by decide +kernel
theorem dX5_count_0 : decode cX5_count 0 = .ok (.aload_n 0, 1) := dk_42 (dk_at dksX5_count_0 0 rfl rfl)
theorem dX5_count_1 : decode cX5_count 1 = .ok (.getfield 12, 3) := dk_180 0 12 (dk_at dksX5_count_0 1 rfl rfl)
theorem dX5_count_4 : decode cX5_count 4 = .ok (.invokeinterface 42 1, 5) := by decide +kernel
theorem dX5_count_9 : decode cX5_count 9 = .ok (.aload_n 0, 1) := dk_42 (dk_at dksX5_count_0 9 rfl rfl)
theorem dX5_count_10 : decode cX5_count 10 = .ok (.getfield 50, 3) := dk_180 0 50 (dk_at dksX5_count_0 10 rfl rfl)
theorem dX5_count_13 : decode cX5_count 13 = .ok (.ifnonnull 7, 3) := dk_199 0 7 (dk_at dksX5_count_0 13 rfl rfl)
theorem dX5_count_16 : decode cX5_count 16 = .ok (.iconst 0, 1) := dk_3 (dk_at dksX5_count_0 16 rfl rfl)
theorem dX5_count_17 : decode cX5_count 17 = .ok (.goto 4, 3) := dk_167 0 4 (dk_at dksX5_count_0 17 rfl rfl)
theorem dX5_count_20 : decode cX5_count 20 = .ok (.iconst 1, 1) := dk_4 (dk_at dksX5_count_0 20 rfl rfl)
theorem dX5_count_21 : decode cX5_count 21 = .ok (.iadd, 1) := dk_96 (dk_at dksX5_count_0 21 rfl rfl)
theorem dX5_count_22 : decode cX5_count 22 = .ok (.ireturn, 1) := dk_172 (dk_at dksX5_count_0 22 rfl rfl)
abbrev cX5_now : ByteArray := prog_7_method_2_code
def yX5_now : MethodName := ⟨RX5, "now", "()LRaidhall$Mats;"⟩
def dkwX5_now_0 : List UInt8 := [42, 180, 0, 18, 42, 180, 0, 18, 185, 0, 42, 1, 0, 4, 100, 185, 0, 46, 2, 0, 192, 0, 33, 176]
abbrev dktX5_now_0 : List UInt8 := dkwX5_now_0 ++ []
theorem dksX5_now_0 : cX5_now.data.toList.drop 0 = dktX5_now_0 := by decide +kernel
theorem dX5_now_0 : decode cX5_now 0 = .ok (.aload_n 0, 1) := dk_42 (dk_at dksX5_now_0 0 rfl rfl)
theorem dX5_now_1 : decode cX5_now 1 = .ok (.getfield 18, 3) := dk_180 0 18 (dk_at dksX5_now_0 1 rfl rfl)
theorem dX5_now_4 : decode cX5_now 4 = .ok (.aload_n 0, 1) := dk_42 (dk_at dksX5_now_0 4 rfl rfl)
theorem dX5_now_5 : decode cX5_now 5 = .ok (.getfield 18, 3) := dk_180 0 18 (dk_at dksX5_now_0 5 rfl rfl)
theorem dX5_now_8 : decode cX5_now 8 = .ok (.invokeinterface 42 1, 5) := by decide +kernel
theorem dX5_now_13 : decode cX5_now 13 = .ok (.iconst 1, 1) := dk_4 (dk_at dksX5_now_0 13 rfl rfl)
theorem dX5_now_14 : decode cX5_now 14 = .ok (.isub, 1) := dk_100 (dk_at dksX5_now_0 14 rfl rfl)
theorem dX5_now_15 : decode cX5_now 15 = .ok (.invokeinterface 46 2, 5) := by decide +kernel
theorem dX5_now_20 : decode cX5_now 20 = .ok (.checkcast 33, 3) := dk_192 0 33 (dk_at dksX5_now_0 20 rfl rfl)
theorem dX5_now_23 : decode cX5_now 23 = .ok (.areturn, 1) := dk_176 (dk_at dksX5_now_0 23 rfl rfl)
abbrev cX5_add : ByteArray := prog_7_method_5_code
def yX5_add : MethodName := ⟨RX5, "add", "(LRaidhall$Event;)Z"⟩
def dkwX5_add_2 : List UInt8 := [167, 0, 4, 3, 172]
abbrev dktX5_add_2 : List UInt8 := dkwX5_add_2 ++ []
def dkwX5_add_1 : List UInt8 := [185, 0, 36, 2, 0, 87, 42, 180, 0, 18, 44, 185, 0, 36, 2, 0, 87, 44, 198, 0, 7, 4]
abbrev dktX5_add_1 : List UInt8 := dkwX5_add_1 ++ dktX5_add_2
def dkwX5_add_0 : List UInt8 := [43, 42, 182, 0, 54, 42, 180, 0, 29, 185, 0, 61, 3, 0, 77, 44, 198, 0, 25, 42, 180, 0, 12, 43]
abbrev dktX5_add_0 : List UInt8 := dkwX5_add_0 ++ dktX5_add_1
theorem dksX5_add_0 : cX5_add.data.toList.drop 0 = dktX5_add_0 := by decide +kernel
theorem dksX5_add_1 : cX5_add.data.toList.drop 24 = dktX5_add_1 := dk_seg dksX5_add_0 24 rfl rfl
theorem dksX5_add_2 : cX5_add.data.toList.drop 46 = dktX5_add_2 := dk_seg dksX5_add_1 22 rfl rfl
theorem dX5_add_0 : decode cX5_add 0 = .ok (.aload_n 1, 1) := dk_43 (dk_at dksX5_add_0 0 rfl rfl)
theorem dX5_add_1 : decode cX5_add 1 = .ok (.aload_n 0, 1) := dk_42 (dk_at dksX5_add_0 1 rfl rfl)
theorem dX5_add_2 : decode cX5_add 2 = .ok (.invokevirtual 54, 3) := dk_182 0 54 (dk_at dksX5_add_0 2 rfl rfl)
theorem dX5_add_5 : decode cX5_add 5 = .ok (.aload_n 0, 1) := dk_42 (dk_at dksX5_add_0 5 rfl rfl)
theorem dX5_add_6 : decode cX5_add 6 = .ok (.getfield 29, 3) := dk_180 0 29 (dk_at dksX5_add_0 6 rfl rfl)
theorem dX5_add_9 : decode cX5_add 9 = .ok (.invokeinterface 61 3, 5) := by decide +kernel
theorem dX5_add_14 : decode cX5_add 14 = .ok (.astore_n 2, 1) := dk_77 (dk_at dksX5_add_0 14 rfl rfl)
theorem dX5_add_15 : decode cX5_add 15 = .ok (.aload_n 2, 1) := dk_44 (dk_at dksX5_add_0 15 rfl rfl)
theorem dX5_add_16 : decode cX5_add 16 = .ok (.ifnull 25, 3) := dk_198 0 25 (dk_at dksX5_add_0 16 rfl rfl)
theorem dX5_add_19 : decode cX5_add 19 = .ok (.aload_n 0, 1) := dk_42 (dk_at dksX5_add_0 19 rfl rfl)
theorem dX5_add_20 : decode cX5_add 20 = .ok (.getfield 12, 3) := dk_180 0 12 (dk_at dksX5_add_0 20 rfl rfl)
theorem dX5_add_23 : decode cX5_add 23 = .ok (.aload_n 1, 1) := dk_43 (dk_at dksX5_add_0 23 rfl rfl)
theorem dX5_add_24 : decode cX5_add 24 = .ok (.invokeinterface 36 2, 5) := by decide +kernel
theorem dX5_add_29 : decode cX5_add 29 = .ok (.pop, 1) := dk_87 (dk_at dksX5_add_1 5 rfl rfl)
theorem dX5_add_30 : decode cX5_add 30 = .ok (.aload_n 0, 1) := dk_42 (dk_at dksX5_add_1 6 rfl rfl)
theorem dX5_add_31 : decode cX5_add 31 = .ok (.getfield 18, 3) := dk_180 0 18 (dk_at dksX5_add_1 7 rfl rfl)
theorem dX5_add_34 : decode cX5_add 34 = .ok (.aload_n 2, 1) := dk_44 (dk_at dksX5_add_1 10 rfl rfl)
theorem dX5_add_35 : decode cX5_add 35 = .ok (.invokeinterface 36 2, 5) := by decide +kernel
theorem dX5_add_40 : decode cX5_add 40 = .ok (.pop, 1) := dk_87 (dk_at dksX5_add_1 16 rfl rfl)
theorem dX5_add_41 : decode cX5_add 41 = .ok (.aload_n 2, 1) := dk_44 (dk_at dksX5_add_1 17 rfl rfl)
theorem dX5_add_42 : decode cX5_add 42 = .ok (.ifnull 7, 3) := dk_198 0 7 (dk_at dksX5_add_1 18 rfl rfl)
theorem dX5_add_45 : decode cX5_add 45 = .ok (.iconst 1, 1) := dk_4 (dk_at dksX5_add_1 21 rfl rfl)
theorem dX5_add_46 : decode cX5_add 46 = .ok (.goto 4, 3) := dk_167 0 4 (dk_at dksX5_add_2 0 rfl rfl)
theorem dX5_add_49 : decode cX5_add 49 = .ok (.iconst 0, 1) := dk_3 (dk_at dksX5_add_2 3 rfl rfl)
theorem dX5_add_50 : decode cX5_add 50 = .ok (.ireturn, 1) := dk_172 (dk_at dksX5_add_2 4 rfl rfl)
abbrev cX5_follow : ByteArray := prog_7_method_6_code
def yX5_follow : MethodName := ⟨RX5, "follow", "(ILRaidhall$Raid;)Ljava/util/List;"⟩
def dkwX5_follow_5 : List UInt8 := [167, 255, 198, 45, 176]
abbrev dktX5_follow_5 : List UInt8 := dkwX5_follow_5 ++ []
def dkwX5_follow_4 : List UInt8 := [42, 180, 0, 29, 185, 0, 61, 3, 0, 58, 4, 45, 25, 4, 185, 0, 36, 2, 0, 87, 132, 5, 1]
abbrev dktX5_follow_4 : List UInt8 := dkwX5_follow_4 ++ dktX5_follow_5
def dkwX5_follow_3 : List UInt8 := [162, 0, 50, 25, 4, 198, 0, 45, 42, 180, 0, 12, 21, 5, 185, 0, 46, 2, 0, 192, 0, 62, 25, 4]
abbrev dktX5_follow_3 : List UInt8 := dkwX5_follow_3 ++ dktX5_follow_4
def dkwX5_follow_2 : List UInt8 := [185, 0, 36, 2, 0, 87, 27, 4, 96, 54, 5, 21, 5, 42, 180, 0, 12, 185, 0, 42, 1, 0]
abbrev dktX5_follow_2 : List UInt8 := dkwX5_follow_2 ++ dktX5_follow_3
def dkwX5_follow_1 : List UInt8 := [185, 0, 46, 2, 0, 192, 0, 33, 42, 180, 0, 29, 182, 0, 67, 58, 4, 45, 25, 4]
abbrev dktX5_follow_1 : List UInt8 := dkwX5_follow_1 ++ dktX5_follow_2
def dkwX5_follow_0 : List UInt8 := [187, 0, 9, 89, 183, 0, 11, 78, 44, 199, 0, 7, 1, 167, 0, 24, 44, 42, 180, 0, 18, 27]
abbrev dktX5_follow_0 : List UInt8 := dkwX5_follow_0 ++ dktX5_follow_1
theorem dksX5_follow_0 : cX5_follow.data.toList.drop 0 = dktX5_follow_0 := by decide +kernel
theorem dksX5_follow_1 : cX5_follow.data.toList.drop 22 = dktX5_follow_1 := dk_seg dksX5_follow_0 22 rfl rfl
theorem dksX5_follow_2 : cX5_follow.data.toList.drop 42 = dktX5_follow_2 := dk_seg dksX5_follow_1 20 rfl rfl
theorem dksX5_follow_3 : cX5_follow.data.toList.drop 64 = dktX5_follow_3 := dk_seg dksX5_follow_2 22 rfl rfl
theorem dksX5_follow_4 : cX5_follow.data.toList.drop 88 = dktX5_follow_4 := dk_seg dksX5_follow_3 24 rfl rfl
theorem dksX5_follow_5 : cX5_follow.data.toList.drop 111 = dktX5_follow_5 := dk_seg dksX5_follow_4 23 rfl rfl
theorem dX5_follow_0 : decode cX5_follow 0 = .ok (.new 9, 3) := dk_187 0 9 (dk_at dksX5_follow_0 0 rfl rfl)
theorem dX5_follow_3 : decode cX5_follow 3 = .ok (.dup, 1) := dk_89 (dk_at dksX5_follow_0 3 rfl rfl)
theorem dX5_follow_4 : decode cX5_follow 4 = .ok (.invokespecial 11, 3) := dk_183 0 11 (dk_at dksX5_follow_0 4 rfl rfl)
theorem dX5_follow_7 : decode cX5_follow 7 = .ok (.astore_n 3, 1) := dk_78 (dk_at dksX5_follow_0 7 rfl rfl)
theorem dX5_follow_8 : decode cX5_follow 8 = .ok (.aload_n 2, 1) := dk_44 (dk_at dksX5_follow_0 8 rfl rfl)
theorem dX5_follow_9 : decode cX5_follow 9 = .ok (.ifnonnull 7, 3) := dk_199 0 7 (dk_at dksX5_follow_0 9 rfl rfl)
theorem dX5_follow_12 : decode cX5_follow 12 = .ok (.aconst_null, 1) := dk_1 (dk_at dksX5_follow_0 12 rfl rfl)
theorem dX5_follow_13 : decode cX5_follow 13 = .ok (.goto 24, 3) := dk_167 0 24 (dk_at dksX5_follow_0 13 rfl rfl)
theorem dX5_follow_16 : decode cX5_follow 16 = .ok (.aload_n 2, 1) := dk_44 (dk_at dksX5_follow_0 16 rfl rfl)
theorem dX5_follow_17 : decode cX5_follow 17 = .ok (.aload_n 0, 1) := dk_42 (dk_at dksX5_follow_0 17 rfl rfl)
theorem dX5_follow_18 : decode cX5_follow 18 = .ok (.getfield 18, 3) := dk_180 0 18 (dk_at dksX5_follow_0 18 rfl rfl)
theorem dX5_follow_21 : decode cX5_follow 21 = .ok (.iload_n 1, 1) := dk_27 (dk_at dksX5_follow_0 21 rfl rfl)
theorem dX5_follow_22 : decode cX5_follow 22 = .ok (.invokeinterface 46 2, 5) := by decide +kernel
theorem dX5_follow_27 : decode cX5_follow 27 = .ok (.checkcast 33, 3) := dk_192 0 33 (dk_at dksX5_follow_1 5 rfl rfl)
theorem dX5_follow_30 : decode cX5_follow 30 = .ok (.aload_n 0, 1) := dk_42 (dk_at dksX5_follow_1 8 rfl rfl)
theorem dX5_follow_31 : decode cX5_follow 31 = .ok (.getfield 29, 3) := dk_180 0 29 (dk_at dksX5_follow_1 9 rfl rfl)
theorem dX5_follow_34 : decode cX5_follow 34 = .ok (.invokevirtual 67, 3) := dk_182 0 67 (dk_at dksX5_follow_1 12 rfl rfl)
theorem dX5_follow_37 : decode cX5_follow 37 = .ok (.astore 4, 2) := dk_58 4 (dk_at dksX5_follow_1 15 rfl rfl)
theorem dX5_follow_39 : decode cX5_follow 39 = .ok (.aload_n 3, 1) := dk_45 (dk_at dksX5_follow_1 17 rfl rfl)
theorem dX5_follow_40 : decode cX5_follow 40 = .ok (.aload 4, 2) := dk_25 4 (dk_at dksX5_follow_1 18 rfl rfl)
theorem dX5_follow_42 : decode cX5_follow 42 = .ok (.invokeinterface 36 2, 5) := by decide +kernel
theorem dX5_follow_47 : decode cX5_follow 47 = .ok (.pop, 1) := dk_87 (dk_at dksX5_follow_2 5 rfl rfl)
theorem dX5_follow_48 : decode cX5_follow 48 = .ok (.iload_n 1, 1) := dk_27 (dk_at dksX5_follow_2 6 rfl rfl)
theorem dX5_follow_49 : decode cX5_follow 49 = .ok (.iconst 1, 1) := dk_4 (dk_at dksX5_follow_2 7 rfl rfl)
theorem dX5_follow_50 : decode cX5_follow 50 = .ok (.iadd, 1) := dk_96 (dk_at dksX5_follow_2 8 rfl rfl)
theorem dX5_follow_51 : decode cX5_follow 51 = .ok (.istore 5, 2) := dk_54 5 (dk_at dksX5_follow_2 9 rfl rfl)
theorem dX5_follow_53 : decode cX5_follow 53 = .ok (.iload 5, 2) := dk_21 5 (dk_at dksX5_follow_2 11 rfl rfl)
theorem dX5_follow_55 : decode cX5_follow 55 = .ok (.aload_n 0, 1) := dk_42 (dk_at dksX5_follow_2 13 rfl rfl)
theorem dX5_follow_56 : decode cX5_follow 56 = .ok (.getfield 12, 3) := dk_180 0 12 (dk_at dksX5_follow_2 14 rfl rfl)
theorem dX5_follow_59 : decode cX5_follow 59 = .ok (.invokeinterface 42 1, 5) := by decide +kernel
theorem dX5_follow_64 : decode cX5_follow 64 = .ok (.if_icmp .ge 50, 3) := dk_162 0 50 (dk_at dksX5_follow_3 0 rfl rfl)
theorem dX5_follow_67 : decode cX5_follow 67 = .ok (.aload 4, 2) := dk_25 4 (dk_at dksX5_follow_3 3 rfl rfl)
theorem dX5_follow_69 : decode cX5_follow 69 = .ok (.ifnull 45, 3) := dk_198 0 45 (dk_at dksX5_follow_3 5 rfl rfl)
theorem dX5_follow_72 : decode cX5_follow 72 = .ok (.aload_n 0, 1) := dk_42 (dk_at dksX5_follow_3 8 rfl rfl)
theorem dX5_follow_73 : decode cX5_follow 73 = .ok (.getfield 12, 3) := dk_180 0 12 (dk_at dksX5_follow_3 9 rfl rfl)
theorem dX5_follow_76 : decode cX5_follow 76 = .ok (.iload 5, 2) := dk_21 5 (dk_at dksX5_follow_3 12 rfl rfl)
theorem dX5_follow_78 : decode cX5_follow 78 = .ok (.invokeinterface 46 2, 5) := by decide +kernel
theorem dX5_follow_83 : decode cX5_follow 83 = .ok (.checkcast 62, 3) := dk_192 0 62 (dk_at dksX5_follow_3 19 rfl rfl)
theorem dX5_follow_86 : decode cX5_follow 86 = .ok (.aload 4, 2) := dk_25 4 (dk_at dksX5_follow_3 22 rfl rfl)
theorem dX5_follow_88 : decode cX5_follow 88 = .ok (.aload_n 0, 1) := dk_42 (dk_at dksX5_follow_4 0 rfl rfl)
theorem dX5_follow_89 : decode cX5_follow 89 = .ok (.getfield 29, 3) := dk_180 0 29 (dk_at dksX5_follow_4 1 rfl rfl)
theorem dX5_follow_92 : decode cX5_follow 92 = .ok (.invokeinterface 61 3, 5) := by decide +kernel
theorem dX5_follow_97 : decode cX5_follow 97 = .ok (.astore 4, 2) := dk_58 4 (dk_at dksX5_follow_4 9 rfl rfl)
theorem dX5_follow_99 : decode cX5_follow 99 = .ok (.aload_n 3, 1) := dk_45 (dk_at dksX5_follow_4 11 rfl rfl)
theorem dX5_follow_100 : decode cX5_follow 100 = .ok (.aload 4, 2) := dk_25 4 (dk_at dksX5_follow_4 12 rfl rfl)
theorem dX5_follow_102 : decode cX5_follow 102 = .ok (.invokeinterface 36 2, 5) := by decide +kernel
theorem dX5_follow_107 : decode cX5_follow 107 = .ok (.pop, 1) := dk_87 (dk_at dksX5_follow_4 19 rfl rfl)
theorem dX5_follow_108 : decode cX5_follow 108 = .ok (.iinc 5 1, 3) := dk_132 5 1 (dk_at dksX5_follow_4 20 rfl rfl)
theorem dX5_follow_111 : decode cX5_follow 111 = .ok (.goto (-58), 3) := dk_167 255 198 (dk_at dksX5_follow_5 0 rfl rfl)
theorem dX5_follow_114 : decode cX5_follow 114 = .ok (.aload_n 3, 1) := dk_45 (dk_at dksX5_follow_5 3 rfl rfl)
theorem dX5_follow_115 : decode cX5_follow 115 = .ok (.areturn, 1) := dk_176 (dk_at dksX5_follow_5 4 rfl rfl)
abbrev cX5_takeBack : ByteArray := prog_7_method_7_code
def yX5_takeBack : MethodName := ⟨RX5, "takeBack", "(I)V"⟩
def dkwX5_takeBack_2 : List UInt8 := [185, 0, 42, 1, 0, 4, 100, 185, 0, 70, 2, 0, 87, 167, 255, 201, 177]
abbrev dktX5_takeBack_2 : List UInt8 := dkwX5_takeBack_2 ++ []
def dkwX5_takeBack_1 : List UInt8 := [180, 0, 12, 185, 0, 42, 1, 0, 4, 100, 185, 0, 70, 2, 0, 87, 42, 180, 0, 18, 42, 180, 0, 18]
abbrev dktX5_takeBack_1 : List UInt8 := dkwX5_takeBack_1 ++ dktX5_takeBack_2
def dkwX5_takeBack_0 : List UInt8 := [42, 1, 181, 0, 50, 42, 180, 0, 12, 185, 0, 42, 1, 0, 27, 164, 0, 48, 42, 180, 0, 12, 42]
abbrev dktX5_takeBack_0 : List UInt8 := dkwX5_takeBack_0 ++ dktX5_takeBack_1
theorem dksX5_takeBack_0 : cX5_takeBack.data.toList.drop 0 = dktX5_takeBack_0 := by decide +kernel
theorem dksX5_takeBack_1 : cX5_takeBack.data.toList.drop 23 = dktX5_takeBack_1 := dk_seg dksX5_takeBack_0 23 rfl rfl
theorem dksX5_takeBack_2 : cX5_takeBack.data.toList.drop 47 = dktX5_takeBack_2 := dk_seg dksX5_takeBack_1 24 rfl rfl
theorem dX5_takeBack_0 : decode cX5_takeBack 0 = .ok (.aload_n 0, 1) := dk_42 (dk_at dksX5_takeBack_0 0 rfl rfl)
theorem dX5_takeBack_1 : decode cX5_takeBack 1 = .ok (.aconst_null, 1) := dk_1 (dk_at dksX5_takeBack_0 1 rfl rfl)
theorem dX5_takeBack_2 : decode cX5_takeBack 2 = .ok (.putfield 50, 3) := dk_181 0 50 (dk_at dksX5_takeBack_0 2 rfl rfl)
theorem dX5_takeBack_5 : decode cX5_takeBack 5 = .ok (.aload_n 0, 1) := dk_42 (dk_at dksX5_takeBack_0 5 rfl rfl)
theorem dX5_takeBack_6 : decode cX5_takeBack 6 = .ok (.getfield 12, 3) := dk_180 0 12 (dk_at dksX5_takeBack_0 6 rfl rfl)
theorem dX5_takeBack_9 : decode cX5_takeBack 9 = .ok (.invokeinterface 42 1, 5) := by decide +kernel
theorem dX5_takeBack_14 : decode cX5_takeBack 14 = .ok (.iload_n 1, 1) := dk_27 (dk_at dksX5_takeBack_0 14 rfl rfl)
theorem dX5_takeBack_15 : decode cX5_takeBack 15 = .ok (.if_icmp .le 48, 3) := dk_164 0 48 (dk_at dksX5_takeBack_0 15 rfl rfl)
theorem dX5_takeBack_18 : decode cX5_takeBack 18 = .ok (.aload_n 0, 1) := dk_42 (dk_at dksX5_takeBack_0 18 rfl rfl)
theorem dX5_takeBack_19 : decode cX5_takeBack 19 = .ok (.getfield 12, 3) := dk_180 0 12 (dk_at dksX5_takeBack_0 19 rfl rfl)
theorem dX5_takeBack_22 : decode cX5_takeBack 22 = .ok (.aload_n 0, 1) := dk_42 (dk_at dksX5_takeBack_0 22 rfl rfl)
theorem dX5_takeBack_23 : decode cX5_takeBack 23 = .ok (.getfield 12, 3) := dk_180 0 12 (dk_at dksX5_takeBack_1 0 rfl rfl)
theorem dX5_takeBack_26 : decode cX5_takeBack 26 = .ok (.invokeinterface 42 1, 5) := by decide +kernel
theorem dX5_takeBack_31 : decode cX5_takeBack 31 = .ok (.iconst 1, 1) := dk_4 (dk_at dksX5_takeBack_1 8 rfl rfl)
theorem dX5_takeBack_32 : decode cX5_takeBack 32 = .ok (.isub, 1) := dk_100 (dk_at dksX5_takeBack_1 9 rfl rfl)
theorem dX5_takeBack_33 : decode cX5_takeBack 33 = .ok (.invokeinterface 70 2, 5) := by decide +kernel
theorem dX5_takeBack_38 : decode cX5_takeBack 38 = .ok (.pop, 1) := dk_87 (dk_at dksX5_takeBack_1 15 rfl rfl)
theorem dX5_takeBack_39 : decode cX5_takeBack 39 = .ok (.aload_n 0, 1) := dk_42 (dk_at dksX5_takeBack_1 16 rfl rfl)
theorem dX5_takeBack_40 : decode cX5_takeBack 40 = .ok (.getfield 18, 3) := dk_180 0 18 (dk_at dksX5_takeBack_1 17 rfl rfl)
theorem dX5_takeBack_43 : decode cX5_takeBack 43 = .ok (.aload_n 0, 1) := dk_42 (dk_at dksX5_takeBack_1 20 rfl rfl)
theorem dX5_takeBack_44 : decode cX5_takeBack 44 = .ok (.getfield 18, 3) := dk_180 0 18 (dk_at dksX5_takeBack_1 21 rfl rfl)
theorem dX5_takeBack_47 : decode cX5_takeBack 47 = .ok (.invokeinterface 42 1, 5) := by decide +kernel
theorem dX5_takeBack_52 : decode cX5_takeBack 52 = .ok (.iconst 1, 1) := dk_4 (dk_at dksX5_takeBack_2 5 rfl rfl)
theorem dX5_takeBack_53 : decode cX5_takeBack 53 = .ok (.isub, 1) := dk_100 (dk_at dksX5_takeBack_2 6 rfl rfl)
theorem dX5_takeBack_54 : decode cX5_takeBack 54 = .ok (.invokeinterface 70 2, 5) := by decide +kernel
theorem dX5_takeBack_59 : decode cX5_takeBack 59 = .ok (.pop, 1) := dk_87 (dk_at dksX5_takeBack_2 12 rfl rfl)
theorem dX5_takeBack_60 : decode cX5_takeBack 60 = .ok (.goto (-55), 3) := dk_167 255 201 (dk_at dksX5_takeBack_2 13 rfl rfl)
theorem dX5_takeBack_63 : decode cX5_takeBack 63 = .ok (.return_, 1) := dk_177 (dk_at dksX5_takeBack_2 16 rfl rfl)
abbrev cX5_isOver : ByteArray := prog_7_method_4_code
def yX5_isOver : MethodName := ⟨RX5, "isOver", "()Z"⟩
def dkwX5_isOver_1 : List UInt8 := [167, 0, 4, 3, 172]
abbrev dktX5_isOver_1 : List UInt8 := dkwX5_isOver_1 ++ []
def dkwX5_isOver_0 : List UInt8 := [42, 180, 0, 50, 199, 0, 21, 42, 182, 0, 54, 180, 0, 58, 42, 180, 0, 29, 161, 0, 7, 4]
abbrev dktX5_isOver_0 : List UInt8 := dkwX5_isOver_0 ++ dktX5_isOver_1
theorem dksX5_isOver_0 : cX5_isOver.data.toList.drop 0 = dktX5_isOver_0 := by decide +kernel
theorem dksX5_isOver_1 : cX5_isOver.data.toList.drop 22 = dktX5_isOver_1 := dk_seg dksX5_isOver_0 22 rfl rfl
theorem dX5_isOver_0 : decode cX5_isOver 0 = .ok (.aload_n 0, 1) := dk_42 (dk_at dksX5_isOver_0 0 rfl rfl)
theorem dX5_isOver_1 : decode cX5_isOver 1 = .ok (.getfield 50, 3) := dk_180 0 50 (dk_at dksX5_isOver_0 1 rfl rfl)
theorem dX5_isOver_4 : decode cX5_isOver 4 = .ok (.ifnonnull 21, 3) := dk_199 0 21 (dk_at dksX5_isOver_0 4 rfl rfl)
theorem dX5_isOver_7 : decode cX5_isOver 7 = .ok (.aload_n 0, 1) := dk_42 (dk_at dksX5_isOver_0 7 rfl rfl)
theorem dX5_isOver_8 : decode cX5_isOver 8 = .ok (.invokevirtual 54, 3) := dk_182 0 54 (dk_at dksX5_isOver_0 8 rfl rfl)
theorem dX5_isOver_11 : decode cX5_isOver 11 = .ok (.getfield 58, 3) := dk_180 0 58 (dk_at dksX5_isOver_0 11 rfl rfl)
theorem dX5_isOver_14 : decode cX5_isOver 14 = .ok (.aload_n 0, 1) := dk_42 (dk_at dksX5_isOver_0 14 rfl rfl)
theorem dX5_isOver_15 : decode cX5_isOver 15 = .ok (.getfield 29, 3) := dk_180 0 29 (dk_at dksX5_isOver_0 15 rfl rfl)
theorem dX5_isOver_18 : decode cX5_isOver 18 = .ok (.if_icmp .lt 7, 3) := dk_161 0 7 (dk_at dksX5_isOver_0 18 rfl rfl)
theorem dX5_isOver_21 : decode cX5_isOver 21 = .ok (.iconst 1, 1) := dk_4 (dk_at dksX5_isOver_0 21 rfl rfl)
theorem dX5_isOver_22 : decode cX5_isOver 22 = .ok (.goto 4, 3) := dk_167 0 4 (dk_at dksX5_isOver_1 0 rfl rfl)
theorem dX5_isOver_25 : decode cX5_isOver 25 = .ok (.iconst 0, 1) := dk_3 (dk_at dksX5_isOver_1 3 rfl rfl)
theorem dX5_isOver_26 : decode cX5_isOver 26 = .ok (.ireturn, 1) := dk_172 (dk_at dksX5_isOver_1 4 rfl rfl)
theorem q80 : (Jvm.Cond.initialized "Raidhall$Match") ∈ lw_all := lw_g (lw_at lw_m1 16 rfl) rfl
theorem q973 : (Jvm.Cond.selects "Raidhall$Match" ({ cls := "java/lang/Object", name := "getClass", desc := "()Ljava/lang/Class;" } : Jvm.MethodName) ({ cls := "java/lang/Object", name := "getClass", desc := "()Ljava/lang/Class;" } : Jvm.MethodName)) ∈ lw_all := lw_g (lw_at lw_m4 189 rfl) rfl
theorem q1085 : (Jvm.Cond.instantiable "Raidhall$Match" (6 : Nat)) ∈ lw_all := lw_g (lw_at lw_m5 61 rfl) rfl
theorem q1087 : (Jvm.Cond.instanceMethod ({ cls := "Raidhall$Match", name := "<init>", desc := "(III)V" } : Jvm.MethodName)) ∈ lw_all := lw_g (lw_at lw_m5 63 rfl) rfl
theorem q1088 : (Jvm.Cond.code ({ cls := "Raidhall$Match", name := "<init>", desc := "(III)V" } : Jvm.MethodName) prog_7_method_1_code (4 : Nat) (Option.none : Option Jvm.ClassFile.FieldType)) ∈ lw_all := lw_g (lw_at lw_m5 64 rfl) rfl
theorem q1089 : (Jvm.Cond.methodLink "Raidhall$Match" (3 : Nat) ({ cls := "java/lang/Object", name := "<init>", desc := "()V" } : Jvm.MethodName)) ∈ lw_all := lw_g (lw_at lw_m5 65 rfl) rfl
theorem q1090 : (Jvm.Cond.classLink "Raidhall$Match" (9 : Nat) "java/util/ArrayList") ∈ lw_all := lw_g (lw_at lw_m5 66 rfl) rfl
theorem q1091 : (Jvm.Cond.methodLink "Raidhall$Match" (11 : Nat) ({ cls := "java/util/ArrayList", name := "<init>", desc := "()V" } : Jvm.MethodName)) ∈ lw_all := lw_g (lw_at lw_m5 67 rfl) rfl
theorem q1092 : (Jvm.Cond.classLink "Raidhall$Match" (33 : Nat) "Raidhall$Mats") ∈ lw_all := lw_g (lw_at lw_m5 68 rfl) rfl
theorem q1094 : (Jvm.Cond.methodLink "Raidhall$Match" (35 : Nat) ({ cls := "Raidhall$Mats", name := "<init>", desc := "()V" } : Jvm.MethodName)) ∈ lw_all := lw_g (lw_at lw_m5 70 rfl) rfl
theorem q1128 : (Jvm.Cond.fieldLinkNest "Raidhall$Match" (58 : Nat) "Raidhall$Mats" "time" "I" "Raidhall") ∈ lw_tbl := lw_at lw_m5 104 rfl
theorem q1158 : (Jvm.Cond.interfaceEntry "Raidhall$Match" (36 : Nat)) ∈ lw_tbl := lw_at lw_m5 134 rfl
theorem q1159 : (Jvm.Cond.methodLink "Raidhall$Match" (36 : Nat) ({ cls := "java/util/List", name := "add", desc := "(Ljava/lang/Object;)Z" } : Jvm.MethodName)) ∈ lw_all := lw_g (lw_at lw_m5 135 rfl) rfl
theorem q1160 : (Jvm.Cond.fieldLink "Raidhall$Match" (25 : Nat) "Raidhall$Match" "clubs" "[I") ∈ lw_all := lw_g (lw_at lw_m5 136 rfl) rfl
theorem q1162 : (Jvm.Cond.fieldLink "Raidhall$Match" (29 : Nat) "Raidhall$Match" "tenths" "I") ∈ lw_all := lw_g (lw_at lw_m5 138 rfl) rfl
theorem q1164 : (Jvm.Cond.fieldLink "Raidhall$Match" (12 : Nat) "Raidhall$Match" "events" "Ljava/util/List;") ∈ lw_all := lw_g (lw_at lw_m5 140 rfl) rfl
theorem q1166 : (Jvm.Cond.fieldLink "Raidhall$Match" (18 : Nat) "Raidhall$Match" "mats" "Ljava/util/List;") ∈ lw_all := lw_g (lw_at lw_m5 142 rfl) rfl
theorem q1168 : (Jvm.Cond.fieldLink "Raidhall$Match" (21 : Nat) "Raidhall$Match" "hasReview" "[Z") ∈ lw_all := lw_g (lw_at lw_m5 144 rfl) rfl
theorem q1170 : (Jvm.Cond.fieldLink "Raidhall$Match" (50 : Nat) "Raidhall$Match" "raid" "LRaidhall$Raid;") ∈ lw_all := lw_g (lw_at lw_m5 146 rfl) rfl
theorem q1172 : (Jvm.Cond.laysFinal "Raidhall$Match" "Raidhall$Match" "clubs" "[I") ∈ lw_all := lw_g (lw_at lw_m5 148 rfl) rfl
theorem q1173 : (Jvm.Cond.soleField "Raidhall$Match" "clubs") ∈ lw_all := lw_g (lw_at lw_m5 149 rfl) rfl
theorem q1174 : (Jvm.Cond.laysFinal "Raidhall$Match" "Raidhall$Match" "tenths" "I") ∈ lw_all := lw_g (lw_at lw_m5 150 rfl) rfl
theorem q1175 : (Jvm.Cond.soleField "Raidhall$Match" "tenths") ∈ lw_all := lw_g (lw_at lw_m5 151 rfl) rfl
theorem q1176 : (Jvm.Cond.laysFinal "Raidhall$Match" "Raidhall$Match" "events" "Ljava/util/List;") ∈ lw_all := lw_g (lw_at lw_m5 152 rfl) rfl
theorem q1177 : (Jvm.Cond.soleField "Raidhall$Match" "events") ∈ lw_all := lw_g (lw_at lw_m5 153 rfl) rfl
theorem q1178 : (Jvm.Cond.laysFinal "Raidhall$Match" "Raidhall$Match" "mats" "Ljava/util/List;") ∈ lw_all := lw_g (lw_at lw_m5 154 rfl) rfl
theorem q1179 : (Jvm.Cond.soleField "Raidhall$Match" "mats") ∈ lw_all := lw_g (lw_at lw_m5 155 rfl) rfl
theorem q1180 : (Jvm.Cond.laysFinal "Raidhall$Match" "Raidhall$Match" "hasReview" "[Z") ∈ lw_all := lw_g (lw_at lw_m5 156 rfl) rfl
theorem q1181 : (Jvm.Cond.soleField "Raidhall$Match" "hasReview") ∈ lw_all := lw_g (lw_at lw_m5 157 rfl) rfl
theorem q1182 : (Jvm.Cond.lays "Raidhall$Match" "Raidhall$Match" "raid" "LRaidhall$Raid;") ∈ lw_all := lw_g (lw_at lw_m5 158 rfl) rfl
theorem q1183 : (Jvm.Cond.soleField "Raidhall$Match" "raid") ∈ lw_all := lw_g (lw_at lw_m5 159 rfl) rfl
theorem q1184 : (Jvm.Cond.superclass "Raidhall$Match" "java/lang/Object") ∈ lw_all := lw_g (lw_at lw_m5 160 rfl) rfl
theorem q1213 : (Jvm.Cond.instanceMethod ({ cls := "Raidhall$Match", name := "count", desc := "()I" } : Jvm.MethodName)) ∈ lw_all := lw_g (lw_at lw_m5 189 rfl) rfl
theorem q1214 : (Jvm.Cond.selects "Raidhall$Match" ({ cls := "Raidhall$Match", name := "count", desc := "()I" } : Jvm.MethodName) ({ cls := "Raidhall$Match", name := "count", desc := "()I" } : Jvm.MethodName)) ∈ lw_all := lw_g (lw_at lw_m5 190 rfl) rfl
theorem q1215 : (Jvm.Cond.code ({ cls := "Raidhall$Match", name := "count", desc := "()I" } : Jvm.MethodName) prog_7_method_3_code (1 : Nat) (Option.some Jvm.ClassFile.FieldType.int)) ∈ lw_all := lw_g (lw_at lw_m5 191 rfl) rfl
theorem q1216 : (Jvm.Cond.interfaceEntry "Raidhall$Match" (42 : Nat)) ∈ lw_tbl := lw_at lw_m5 192 rfl
theorem q1217 : (Jvm.Cond.methodLink "Raidhall$Match" (42 : Nat) ({ cls := "java/util/List", name := "size", desc := "()I" } : Jvm.MethodName)) ∈ lw_all := lw_g (lw_at lw_m5 193 rfl) rfl
theorem q1226 : (Jvm.Cond.instanceMethod ({ cls := "Raidhall$Match", name := "now", desc := "()LRaidhall$Mats;" } : Jvm.MethodName)) ∈ lw_all := lw_g (lw_at lw_m5 202 rfl) rfl
theorem q1227 : (Jvm.Cond.selects "Raidhall$Match" ({ cls := "Raidhall$Match", name := "now", desc := "()LRaidhall$Mats;" } : Jvm.MethodName) ({ cls := "Raidhall$Match", name := "now", desc := "()LRaidhall$Mats;" } : Jvm.MethodName)) ∈ lw_all := lw_g (lw_at lw_m5 203 rfl) rfl
theorem q1228 : (Jvm.Cond.code ({ cls := "Raidhall$Match", name := "now", desc := "()LRaidhall$Mats;" } : Jvm.MethodName) prog_7_method_2_code (1 : Nat) (Option.some (Jvm.ClassFile.FieldType.object "Raidhall$Mats"))) ∈ lw_all := lw_g (lw_at lw_m5 204 rfl) rfl
theorem q1229 : (Jvm.Cond.interfaceEntry "Raidhall$Match" (46 : Nat)) ∈ lw_tbl := lw_at lw_m5 205 rfl
theorem q1230 : (Jvm.Cond.methodLink "Raidhall$Match" (46 : Nat) ({ cls := "java/util/List", name := "get", desc := "(I)Ljava/lang/Object;" } : Jvm.MethodName)) ∈ lw_all := lw_g (lw_at lw_m5 206 rfl) rfl
theorem q1382 : (Jvm.Cond.instanceMethod ({ cls := "Raidhall$Match", name := "add", desc := "(LRaidhall$Event;)Z" } : Jvm.MethodName)) ∈ lw_all := lw_g (lw_at lw_m6 118 rfl) rfl
theorem q1383 : (Jvm.Cond.selects "Raidhall$Match" ({ cls := "Raidhall$Match", name := "add", desc := "(LRaidhall$Event;)Z" } : Jvm.MethodName) ({ cls := "Raidhall$Match", name := "add", desc := "(LRaidhall$Event;)Z" } : Jvm.MethodName)) ∈ lw_all := lw_g (lw_at lw_m6 119 rfl) rfl
theorem q1384 : (Jvm.Cond.code ({ cls := "Raidhall$Match", name := "add", desc := "(LRaidhall$Event;)Z" } : Jvm.MethodName) prog_7_method_5_code (3 : Nat) (Option.some Jvm.ClassFile.FieldType.boolean)) ∈ lw_all := lw_g (lw_at lw_m6 120 rfl) rfl
theorem q1385 : (Jvm.Cond.methodLink "Raidhall$Match" (54 : Nat) ({ cls := "Raidhall$Match", name := "now", desc := "()LRaidhall$Mats;" } : Jvm.MethodName)) ∈ lw_all := lw_g (lw_at lw_m6 121 rfl) rfl
theorem q1386 : (Jvm.Cond.interfaceEntry "Raidhall$Match" (61 : Nat)) ∈ lw_tbl := lw_at lw_m6 122 rfl
theorem q1387 : (Jvm.Cond.methodLink "Raidhall$Match" (61 : Nat) ({ cls := "Raidhall$Event", name := "behind", desc := "(LRaidhall$Mats;I)LRaidhall$Mats;" } : Jvm.MethodName)) ∈ lw_all := lw_g (lw_at lw_m6 123 rfl) rfl
theorem q1638 : (Jvm.Cond.instanceMethod ({ cls := "Raidhall$Match", name := "follow", desc := "(ILRaidhall$Raid;)Ljava/util/List;" } : Jvm.MethodName)) ∈ lw_all := lw_g (lw_at lw_m7 134 rfl) rfl
theorem q1639 : (Jvm.Cond.selects "Raidhall$Match" ({ cls := "Raidhall$Match", name := "follow", desc := "(ILRaidhall$Raid;)Ljava/util/List;" } : Jvm.MethodName) ({ cls := "Raidhall$Match", name := "follow", desc := "(ILRaidhall$Raid;)Ljava/util/List;" } : Jvm.MethodName)) ∈ lw_all := lw_g (lw_at lw_m7 135 rfl) rfl
theorem q1640 : (Jvm.Cond.code ({ cls := "Raidhall$Match", name := "follow", desc := "(ILRaidhall$Raid;)Ljava/util/List;" } : Jvm.MethodName) prog_7_method_6_code (6 : Nat) (Option.some (Jvm.ClassFile.FieldType.object "java/util/List"))) ∈ lw_all := lw_g (lw_at lw_m7 136 rfl) rfl
theorem q1641 : (Jvm.Cond.classLink "Raidhall$Match" (62 : Nat) "Raidhall$Event") ∈ lw_all := lw_g (lw_at lw_m7 137 rfl) rfl
theorem q1660 : (Jvm.Cond.instanceMethod ({ cls := "Raidhall$Match", name := "takeBack", desc := "(I)V" } : Jvm.MethodName)) ∈ lw_all := lw_g (lw_at lw_m7 156 rfl) rfl
theorem q1661 : (Jvm.Cond.selects "Raidhall$Match" ({ cls := "Raidhall$Match", name := "takeBack", desc := "(I)V" } : Jvm.MethodName) ({ cls := "Raidhall$Match", name := "takeBack", desc := "(I)V" } : Jvm.MethodName)) ∈ lw_all := lw_g (lw_at lw_m7 157 rfl) rfl
theorem q1662 : (Jvm.Cond.code ({ cls := "Raidhall$Match", name := "takeBack", desc := "(I)V" } : Jvm.MethodName) prog_7_method_7_code (2 : Nat) (Option.none : Option Jvm.ClassFile.FieldType)) ∈ lw_all := lw_g (lw_at lw_m7 158 rfl) rfl
theorem q1663 : (Jvm.Cond.interfaceEntry "Raidhall$Match" (70 : Nat)) ∈ lw_tbl := lw_at lw_m7 159 rfl
theorem q1664 : (Jvm.Cond.methodLink "Raidhall$Match" (70 : Nat) ({ cls := "java/util/List", name := "remove", desc := "(I)Ljava/lang/Object;" } : Jvm.MethodName)) ∈ lw_all := lw_g (lw_at lw_m7 160 rfl) rfl
theorem q1677 : (Jvm.Cond.instanceMethod ({ cls := "Raidhall$Match", name := "isOver", desc := "()Z" } : Jvm.MethodName)) ∈ lw_all := lw_g (lw_at lw_m7 173 rfl) rfl
theorem q1678 : (Jvm.Cond.selects "Raidhall$Match" ({ cls := "Raidhall$Match", name := "isOver", desc := "()Z" } : Jvm.MethodName) ({ cls := "Raidhall$Match", name := "isOver", desc := "()Z" } : Jvm.MethodName)) ∈ lw_all := lw_g (lw_at lw_m7 174 rfl) rfl
theorem q1679 : (Jvm.Cond.code ({ cls := "Raidhall$Match", name := "isOver", desc := "()Z" } : Jvm.MethodName) prog_7_method_4_code (1 : Nat) (Option.some Jvm.ClassFile.FieldType.boolean)) ∈ lw_all := lw_g (lw_at lw_m7 175 rfl) rfl
theorem q2369 : (Jvm.Cond.castable "Raidhall$Match" "java/lang/Object") ∈ lw_tbl := lw_at lw_m10 145 rfl
theorem in_X5 : ∀ w ∈ wsX50, w ∈ lw_all := lw_in wsX50 [1172, 1174, 1176, 1178, 1180, 1182] (by decide +kernel) (by decide +kernel)

/-! Raidhall$Mats -/
set_option maxRecDepth 100000
def RX6 : String := "Raidhall$Mats"
def TX6 : u_T := fun k => match k with
  | 0 => ("Raidhall$Mats", "state", "[[I", true)
  | 1 => ("Raidhall$Mats", "until", "[[I", true)
  | 2 => ("Raidhall$Mats", "cards", "[[I", true)
  | 3 => ("Raidhall$Mats", "raided", "[[I", true)
  | 4 => ("Raidhall$Mats", "outs", "Ljava/util/List;", true)
  | 5 => ("Raidhall$Mats", "points", "[I", true)
  | 6 => ("Raidhall$Mats", "empties", "[I", true)
  | 7 => ("Raidhall$Mats", "changes", "[I", true)
  | 8 => ("Raidhall$Mats", "time", "I", false)
  | _ => ("Raidhall$Mats", "turn", "I", false)
def tyX6 : Nat → FieldType := fun k => match k with
  | 0 => .array (.array .int)
  | 1 => .array (.array .int)
  | 2 => .array (.array .int)
  | 3 => .array (.array .int)
  | 4 => .object "java/util/List"
  | 5 => .array .int
  | 6 => .array .int
  | 7 => .array .int
  | 8 => .int
  | _ => .int
abbrev wsX60 : List Cond := u_ws RX6 TX6 10
theorem nmX6 : ∀ a, a < 10 → ∀ b, b < 10 → a ≠ b → (TX6 a).2.1 ≠ (TX6 b).2.1 := by decide +kernel
theorem tyX6_ok : ∀ k, k < 10 → parseFieldDescriptor (TX6 k).2.2.1 = some (tyX6 k) := by decide +kernel
abbrev cX6_init : ByteArray := prog_8_method_1_code
def yX6_init : MethodName := ⟨RX6, "<init>", "()V"⟩
def dkwX6_init_5 : List UInt8 := [180, 0, 11, 27, 50, 28, 4, 79, 132, 2, 1, 167, 255, 238, 132, 1, 1, 167, 255, 207, 177]
abbrev dktX6_init_5 : List UInt8 := dkwX6_init_5 ++ []
def dkwX6_init_4 : List UInt8 := [187, 0, 25, 89, 183, 0, 27, 185, 0, 42, 2, 0, 87, 16, 7, 61, 28, 16, 10, 162, 0, 18, 42]
abbrev dktX6_init_4 : List UInt8 := dkwX6_init_4 ++ dktX6_init_5
def dkwX6_init_3 : List UInt8 := [188, 10, 181, 0, 36, 42, 5, 188, 10, 181, 0, 39, 3, 60, 27, 5, 162, 0, 50, 42, 180, 0, 28]
abbrev dktX6_init_3 : List UInt8 := dkwX6_init_3 ++ dktX6_init_4
def dkwX6_init_2 : List UInt8 := [181, 0, 22, 42, 187, 0, 25, 89, 183, 0, 27, 181, 0, 28, 42, 5, 188, 10, 181, 0, 32, 42, 5]
abbrev dktX6_init_2 : List UInt8 := dkwX6_init_2 ++ dktX6_init_3
def dkwX6_init_1 : List UInt8 := [181, 0, 16, 42, 5, 16, 10, 197, 0, 9, 2, 181, 0, 19, 42, 5, 16, 10, 197, 0, 9, 2]
abbrev dktX6_init_1 : List UInt8 := dkwX6_init_1 ++ dktX6_init_2
def dkwX6_init_0 : List UInt8 := [42, 183, 0, 3, 42, 5, 16, 10, 197, 0, 9, 2, 181, 0, 11, 42, 5, 16, 10, 197, 0, 9, 2]
abbrev dktX6_init_0 : List UInt8 := dkwX6_init_0 ++ dktX6_init_1
theorem dksX6_init_0 : cX6_init.data.toList.drop 0 = dktX6_init_0 := by decide +kernel
theorem dksX6_init_1 : cX6_init.data.toList.drop 23 = dktX6_init_1 := dk_seg dksX6_init_0 23 rfl rfl
theorem dksX6_init_2 : cX6_init.data.toList.drop 45 = dktX6_init_2 := dk_seg dksX6_init_1 22 rfl rfl
theorem dksX6_init_3 : cX6_init.data.toList.drop 68 = dktX6_init_3 := dk_seg dksX6_init_2 23 rfl rfl
theorem dksX6_init_4 : cX6_init.data.toList.drop 91 = dktX6_init_4 := dk_seg dksX6_init_3 23 rfl rfl
theorem dksX6_init_5 : cX6_init.data.toList.drop 114 = dktX6_init_5 := dk_seg dksX6_init_4 23 rfl rfl
theorem dX6_init_0 : decode cX6_init 0 = .ok (.aload_n 0, 1) := dk_42 (dk_at dksX6_init_0 0 rfl rfl)
theorem dX6_init_1 : decode cX6_init 1 = .ok (.invokespecial 3, 3) := dk_183 0 3 (dk_at dksX6_init_0 1 rfl rfl)
theorem dX6_init_4 : decode cX6_init 4 = .ok (.aload_n 0, 1) := dk_42 (dk_at dksX6_init_0 4 rfl rfl)
theorem dX6_init_5 : decode cX6_init 5 = .ok (.iconst 2, 1) := dk_5 (dk_at dksX6_init_0 5 rfl rfl)
theorem dX6_init_6 : decode cX6_init 6 = .ok (.bipush 10, 2) := dk_16 10 (dk_at dksX6_init_0 6 rfl rfl)
theorem dX6_init_8 : decode cX6_init 8 = .ok (.multianewarray 9 2, 4) := by decide +kernel
theorem dX6_init_12 : decode cX6_init 12 = .ok (.putfield 11, 3) := dk_181 0 11 (dk_at dksX6_init_0 12 rfl rfl)
theorem dX6_init_15 : decode cX6_init 15 = .ok (.aload_n 0, 1) := dk_42 (dk_at dksX6_init_0 15 rfl rfl)
theorem dX6_init_16 : decode cX6_init 16 = .ok (.iconst 2, 1) := dk_5 (dk_at dksX6_init_0 16 rfl rfl)
theorem dX6_init_17 : decode cX6_init 17 = .ok (.bipush 10, 2) := dk_16 10 (dk_at dksX6_init_0 17 rfl rfl)
theorem dX6_init_19 : decode cX6_init 19 = .ok (.multianewarray 9 2, 4) := by decide +kernel
theorem dX6_init_23 : decode cX6_init 23 = .ok (.putfield 16, 3) := dk_181 0 16 (dk_at dksX6_init_1 0 rfl rfl)
theorem dX6_init_26 : decode cX6_init 26 = .ok (.aload_n 0, 1) := dk_42 (dk_at dksX6_init_1 3 rfl rfl)
theorem dX6_init_27 : decode cX6_init 27 = .ok (.iconst 2, 1) := dk_5 (dk_at dksX6_init_1 4 rfl rfl)
theorem dX6_init_28 : decode cX6_init 28 = .ok (.bipush 10, 2) := dk_16 10 (dk_at dksX6_init_1 5 rfl rfl)
theorem dX6_init_30 : decode cX6_init 30 = .ok (.multianewarray 9 2, 4) := by decide +kernel
theorem dX6_init_34 : decode cX6_init 34 = .ok (.putfield 19, 3) := dk_181 0 19 (dk_at dksX6_init_1 11 rfl rfl)
theorem dX6_init_37 : decode cX6_init 37 = .ok (.aload_n 0, 1) := dk_42 (dk_at dksX6_init_1 14 rfl rfl)
theorem dX6_init_38 : decode cX6_init 38 = .ok (.iconst 2, 1) := dk_5 (dk_at dksX6_init_1 15 rfl rfl)
theorem dX6_init_39 : decode cX6_init 39 = .ok (.bipush 10, 2) := dk_16 10 (dk_at dksX6_init_1 16 rfl rfl)
theorem dX6_init_41 : decode cX6_init 41 = .ok (.multianewarray 9 2, 4) := by decide +kernel
theorem dX6_init_45 : decode cX6_init 45 = .ok (.putfield 22, 3) := dk_181 0 22 (dk_at dksX6_init_2 0 rfl rfl)
theorem dX6_init_48 : decode cX6_init 48 = .ok (.aload_n 0, 1) := dk_42 (dk_at dksX6_init_2 3 rfl rfl)
theorem dX6_init_49 : decode cX6_init 49 = .ok (.new 25, 3) := dk_187 0 25 (dk_at dksX6_init_2 4 rfl rfl)
theorem dX6_init_52 : decode cX6_init 52 = .ok (.dup, 1) := dk_89 (dk_at dksX6_init_2 7 rfl rfl)
theorem dX6_init_53 : decode cX6_init 53 = .ok (.invokespecial 27, 3) := dk_183 0 27 (dk_at dksX6_init_2 8 rfl rfl)
theorem dX6_init_56 : decode cX6_init 56 = .ok (.putfield 28, 3) := dk_181 0 28 (dk_at dksX6_init_2 11 rfl rfl)
theorem dX6_init_59 : decode cX6_init 59 = .ok (.aload_n 0, 1) := dk_42 (dk_at dksX6_init_2 14 rfl rfl)
theorem dX6_init_60 : decode cX6_init 60 = .ok (.iconst 2, 1) := dk_5 (dk_at dksX6_init_2 15 rfl rfl)
theorem dX6_init_61 : decode cX6_init 61 = .ok (.newarray .int, 2) := dk_188_10 (dk_at dksX6_init_2 16 rfl rfl)
theorem dX6_init_63 : decode cX6_init 63 = .ok (.putfield 32, 3) := dk_181 0 32 (dk_at dksX6_init_2 18 rfl rfl)
theorem dX6_init_66 : decode cX6_init 66 = .ok (.aload_n 0, 1) := dk_42 (dk_at dksX6_init_2 21 rfl rfl)
theorem dX6_init_67 : decode cX6_init 67 = .ok (.iconst 2, 1) := dk_5 (dk_at dksX6_init_2 22 rfl rfl)
theorem dX6_init_68 : decode cX6_init 68 = .ok (.newarray .int, 2) := dk_188_10 (dk_at dksX6_init_3 0 rfl rfl)
theorem dX6_init_70 : decode cX6_init 70 = .ok (.putfield 36, 3) := dk_181 0 36 (dk_at dksX6_init_3 2 rfl rfl)
theorem dX6_init_73 : decode cX6_init 73 = .ok (.aload_n 0, 1) := dk_42 (dk_at dksX6_init_3 5 rfl rfl)
theorem dX6_init_74 : decode cX6_init 74 = .ok (.iconst 2, 1) := dk_5 (dk_at dksX6_init_3 6 rfl rfl)
theorem dX6_init_75 : decode cX6_init 75 = .ok (.newarray .int, 2) := dk_188_10 (dk_at dksX6_init_3 7 rfl rfl)
theorem dX6_init_77 : decode cX6_init 77 = .ok (.putfield 39, 3) := dk_181 0 39 (dk_at dksX6_init_3 9 rfl rfl)
theorem dX6_init_80 : decode cX6_init 80 = .ok (.iconst 0, 1) := dk_3 (dk_at dksX6_init_3 12 rfl rfl)
theorem dX6_init_81 : decode cX6_init 81 = .ok (.istore_n 1, 1) := dk_60 (dk_at dksX6_init_3 13 rfl rfl)
theorem dX6_init_82 : decode cX6_init 82 = .ok (.iload_n 1, 1) := dk_27 (dk_at dksX6_init_3 14 rfl rfl)
theorem dX6_init_83 : decode cX6_init 83 = .ok (.iconst 2, 1) := dk_5 (dk_at dksX6_init_3 15 rfl rfl)
theorem dX6_init_84 : decode cX6_init 84 = .ok (.if_icmp .ge 50, 3) := dk_162 0 50 (dk_at dksX6_init_3 16 rfl rfl)
theorem dX6_init_87 : decode cX6_init 87 = .ok (.aload_n 0, 1) := dk_42 (dk_at dksX6_init_3 19 rfl rfl)
theorem dX6_init_88 : decode cX6_init 88 = .ok (.getfield 28, 3) := dk_180 0 28 (dk_at dksX6_init_3 20 rfl rfl)
theorem dX6_init_91 : decode cX6_init 91 = .ok (.new 25, 3) := dk_187 0 25 (dk_at dksX6_init_4 0 rfl rfl)
theorem dX6_init_94 : decode cX6_init 94 = .ok (.dup, 1) := dk_89 (dk_at dksX6_init_4 3 rfl rfl)
theorem dX6_init_95 : decode cX6_init 95 = .ok (.invokespecial 27, 3) := dk_183 0 27 (dk_at dksX6_init_4 4 rfl rfl)
theorem dX6_init_98 : decode cX6_init 98 = .ok (.invokeinterface 42 2, 5) := by decide +kernel
theorem dX6_init_103 : decode cX6_init 103 = .ok (.pop, 1) := dk_87 (dk_at dksX6_init_4 12 rfl rfl)
theorem dX6_init_104 : decode cX6_init 104 = .ok (.bipush 7, 2) := dk_16 7 (dk_at dksX6_init_4 13 rfl rfl)
theorem dX6_init_106 : decode cX6_init 106 = .ok (.istore_n 2, 1) := dk_61 (dk_at dksX6_init_4 15 rfl rfl)
theorem dX6_init_107 : decode cX6_init 107 = .ok (.iload_n 2, 1) := dk_28 (dk_at dksX6_init_4 16 rfl rfl)
theorem dX6_init_108 : decode cX6_init 108 = .ok (.bipush 10, 2) := dk_16 10 (dk_at dksX6_init_4 17 rfl rfl)
theorem dX6_init_110 : decode cX6_init 110 = .ok (.if_icmp .ge 18, 3) := dk_162 0 18 (dk_at dksX6_init_4 19 rfl rfl)
theorem dX6_init_113 : decode cX6_init 113 = .ok (.aload_n 0, 1) := dk_42 (dk_at dksX6_init_4 22 rfl rfl)
theorem dX6_init_114 : decode cX6_init 114 = .ok (.getfield 11, 3) := dk_180 0 11 (dk_at dksX6_init_5 0 rfl rfl)
theorem dX6_init_117 : decode cX6_init 117 = .ok (.iload_n 1, 1) := dk_27 (dk_at dksX6_init_5 3 rfl rfl)
theorem dX6_init_118 : decode cX6_init 118 = .ok (.aaload, 1) := dk_50 (dk_at dksX6_init_5 4 rfl rfl)
theorem dX6_init_119 : decode cX6_init 119 = .ok (.iload_n 2, 1) := dk_28 (dk_at dksX6_init_5 5 rfl rfl)
theorem dX6_init_120 : decode cX6_init 120 = .ok (.iconst 1, 1) := dk_4 (dk_at dksX6_init_5 6 rfl rfl)
theorem dX6_init_121 : decode cX6_init 121 = .ok (.iastore, 1) := dk_79 (dk_at dksX6_init_5 7 rfl rfl)
theorem dX6_init_122 : decode cX6_init 122 = .ok (.iinc 2 1, 3) := dk_132 2 1 (dk_at dksX6_init_5 8 rfl rfl)
theorem dX6_init_125 : decode cX6_init 125 = .ok (.goto (-18), 3) := dk_167 255 238 (dk_at dksX6_init_5 11 rfl rfl)
theorem dX6_init_128 : decode cX6_init 128 = .ok (.iinc 1 1, 3) := dk_132 1 1 (dk_at dksX6_init_5 14 rfl rfl)
theorem dX6_init_131 : decode cX6_init 131 = .ok (.goto (-49), 3) := dk_167 255 207 (dk_at dksX6_init_5 17 rfl rfl)
theorem dX6_init_134 : decode cX6_init 134 = .ok (.return_, 1) := dk_177 (dk_at dksX6_init_5 20 rfl rfl)
abbrev cX6_count : ByteArray := prog_8_method_3_code
def yX6_count : MethodName := ⟨RX6, "count", "(III)I"⟩
def dkwX6_count_2 : List UInt8 := [4, 167, 0, 4, 3, 96, 54, 4, 132, 7, 1, 167, 255, 217, 21, 4, 172]
abbrev dktX6_count_2 : List UInt8 := dkwX6_count_2 ++ []
def dkwX6_count_1 : List UInt8 := [162, 0, 38, 25, 5, 21, 7, 46, 54, 8, 21, 4, 21, 8, 28, 159, 0, 9, 21, 8, 29, 160, 0, 7]
abbrev dktX6_count_1 : List UInt8 := dkwX6_count_1 ++ dktX6_count_2
def dkwX6_count_0 : List UInt8 := [3, 54, 4, 42, 180, 0, 11, 27, 50, 58, 5, 25, 5, 190, 54, 6, 3, 54, 7, 21, 7, 21, 6]
abbrev dktX6_count_0 : List UInt8 := dkwX6_count_0 ++ dktX6_count_1
theorem dksX6_count_0 : cX6_count.data.toList.drop 0 = dktX6_count_0 := by decide +kernel
theorem dksX6_count_1 : cX6_count.data.toList.drop 23 = dktX6_count_1 := dk_seg dksX6_count_0 23 rfl rfl
theorem dksX6_count_2 : cX6_count.data.toList.drop 47 = dktX6_count_2 := dk_seg dksX6_count_1 24 rfl rfl
theorem dX6_count_0 : decode cX6_count 0 = .ok (.iconst 0, 1) := dk_3 (dk_at dksX6_count_0 0 rfl rfl)
theorem dX6_count_1 : decode cX6_count 1 = .ok (.istore 4, 2) := dk_54 4 (dk_at dksX6_count_0 1 rfl rfl)
theorem dX6_count_3 : decode cX6_count 3 = .ok (.aload_n 0, 1) := dk_42 (dk_at dksX6_count_0 3 rfl rfl)
theorem dX6_count_4 : decode cX6_count 4 = .ok (.getfield 11, 3) := dk_180 0 11 (dk_at dksX6_count_0 4 rfl rfl)
theorem dX6_count_7 : decode cX6_count 7 = .ok (.iload_n 1, 1) := dk_27 (dk_at dksX6_count_0 7 rfl rfl)
theorem dX6_count_8 : decode cX6_count 8 = .ok (.aaload, 1) := dk_50 (dk_at dksX6_count_0 8 rfl rfl)
theorem dX6_count_9 : decode cX6_count 9 = .ok (.astore 5, 2) := dk_58 5 (dk_at dksX6_count_0 9 rfl rfl)
theorem dX6_count_11 : decode cX6_count 11 = .ok (.aload 5, 2) := dk_25 5 (dk_at dksX6_count_0 11 rfl rfl)
theorem dX6_count_13 : decode cX6_count 13 = .ok (.arraylength, 1) := dk_190 (dk_at dksX6_count_0 13 rfl rfl)
theorem dX6_count_14 : decode cX6_count 14 = .ok (.istore 6, 2) := dk_54 6 (dk_at dksX6_count_0 14 rfl rfl)
theorem dX6_count_16 : decode cX6_count 16 = .ok (.iconst 0, 1) := dk_3 (dk_at dksX6_count_0 16 rfl rfl)
theorem dX6_count_17 : decode cX6_count 17 = .ok (.istore 7, 2) := dk_54 7 (dk_at dksX6_count_0 17 rfl rfl)
theorem dX6_count_19 : decode cX6_count 19 = .ok (.iload 7, 2) := dk_21 7 (dk_at dksX6_count_0 19 rfl rfl)
theorem dX6_count_21 : decode cX6_count 21 = .ok (.iload 6, 2) := dk_21 6 (dk_at dksX6_count_0 21 rfl rfl)
theorem dX6_count_23 : decode cX6_count 23 = .ok (.if_icmp .ge 38, 3) := dk_162 0 38 (dk_at dksX6_count_1 0 rfl rfl)
theorem dX6_count_26 : decode cX6_count 26 = .ok (.aload 5, 2) := dk_25 5 (dk_at dksX6_count_1 3 rfl rfl)
theorem dX6_count_28 : decode cX6_count 28 = .ok (.iload 7, 2) := dk_21 7 (dk_at dksX6_count_1 5 rfl rfl)
theorem dX6_count_30 : decode cX6_count 30 = .ok (.iaload, 1) := dk_46 (dk_at dksX6_count_1 7 rfl rfl)
theorem dX6_count_31 : decode cX6_count 31 = .ok (.istore 8, 2) := dk_54 8 (dk_at dksX6_count_1 8 rfl rfl)
theorem dX6_count_33 : decode cX6_count 33 = .ok (.iload 4, 2) := dk_21 4 (dk_at dksX6_count_1 10 rfl rfl)
theorem dX6_count_35 : decode cX6_count 35 = .ok (.iload 8, 2) := dk_21 8 (dk_at dksX6_count_1 12 rfl rfl)
theorem dX6_count_37 : decode cX6_count 37 = .ok (.iload_n 2, 1) := dk_28 (dk_at dksX6_count_1 14 rfl rfl)
theorem dX6_count_38 : decode cX6_count 38 = .ok (.if_icmp .eq 9, 3) := dk_159 0 9 (dk_at dksX6_count_1 15 rfl rfl)
theorem dX6_count_41 : decode cX6_count 41 = .ok (.iload 8, 2) := dk_21 8 (dk_at dksX6_count_1 18 rfl rfl)
theorem dX6_count_43 : decode cX6_count 43 = .ok (.iload_n 3, 1) := dk_29 (dk_at dksX6_count_1 20 rfl rfl)
theorem dX6_count_44 : decode cX6_count 44 = .ok (.if_icmp .ne 7, 3) := dk_160 0 7 (dk_at dksX6_count_1 21 rfl rfl)
theorem dX6_count_47 : decode cX6_count 47 = .ok (.iconst 1, 1) := dk_4 (dk_at dksX6_count_2 0 rfl rfl)
theorem dX6_count_48 : decode cX6_count 48 = .ok (.goto 4, 3) := dk_167 0 4 (dk_at dksX6_count_2 1 rfl rfl)
theorem dX6_count_51 : decode cX6_count 51 = .ok (.iconst 0, 1) := dk_3 (dk_at dksX6_count_2 4 rfl rfl)
theorem dX6_count_52 : decode cX6_count 52 = .ok (.iadd, 1) := dk_96 (dk_at dksX6_count_2 5 rfl rfl)
theorem dX6_count_53 : decode cX6_count 53 = .ok (.istore 4, 2) := dk_54 4 (dk_at dksX6_count_2 6 rfl rfl)
theorem dX6_count_55 : decode cX6_count 55 = .ok (.iinc 7 1, 3) := dk_132 7 1 (dk_at dksX6_count_2 8 rfl rfl)
theorem dX6_count_58 : decode cX6_count 58 = .ok (.goto (-39), 3) := dk_167 255 217 (dk_at dksX6_count_2 11 rfl rfl)
theorem dX6_count_61 : decode cX6_count 61 = .ok (.iload 4, 2) := dk_21 4 (dk_at dksX6_count_2 14 rfl rfl)
theorem dX6_count_63 : decode cX6_count 63 = .ok (.ireturn, 1) := dk_172 (dk_at dksX6_count_2 16 rfl rfl)
abbrev cX6_init_2 : ByteArray := prog_8_method_2_code
def yX6_init_2 : MethodName := ⟨RX6, "<init>", "(LRaidhall$Mats;)V"⟩
def dkwX6_init_2_11 : List UInt8 := [177]
abbrev dktX6_init_2_11 : List UInt8 := dkwX6_init_2_11 ++ []
def dkwX6_init_2_10 : List UInt8 := [46, 79, 132, 2, 1, 167, 255, 104, 42, 43, 180, 0, 57, 181, 0, 57, 42, 43, 180, 0, 61, 181, 0, 61]
abbrev dktX6_init_2_10 : List UInt8 := dkwX6_init_2_10 ++ dktX6_init_2_11
def dkwX6_init_2_9 : List UInt8 := [46, 79, 42, 180, 0, 36, 28, 43, 180, 0, 36, 28, 46, 79, 42, 180, 0, 39, 28, 43, 180, 0, 39, 28]
abbrev dktX6_init_2_9 : List UInt8 := dkwX6_init_2_9 ++ dktX6_init_2_10
def dkwX6_init_2_8 : List UInt8 := [180, 0, 22, 28, 50, 29, 46, 79, 132, 3, 1, 167, 255, 183, 42, 180, 0, 32, 28, 43, 180, 0, 32, 28]
abbrev dktX6_init_2_8 : List UInt8 := dkwX6_init_2_8 ++ dktX6_init_2_9
def dkwX6_init_2_7 : List UInt8 := [42, 180, 0, 19, 28, 50, 29, 43, 180, 0, 19, 28, 50, 29, 46, 79, 42, 180, 0, 22, 28, 50, 29, 43]
abbrev dktX6_init_2_7 : List UInt8 := dkwX6_init_2_7 ++ dktX6_init_2_8
def dkwX6_init_2_6 : List UInt8 := [180, 0, 11, 28, 50, 29, 46, 79, 42, 180, 0, 16, 28, 50, 29, 43, 180, 0, 16, 28, 50, 29, 46, 79]
abbrev dktX6_init_2_6 : List UInt8 := dkwX6_init_2_6 ++ dktX6_init_2_7
def dkwX6_init_2_5 : List UInt8 := [185, 0, 42, 2, 0, 87, 3, 62, 29, 16, 10, 162, 0, 73, 42, 180, 0, 11, 28, 50, 29, 43]
abbrev dktX6_init_2_5 : List UInt8 := dkwX6_init_2_5 ++ dktX6_init_2_6
def dkwX6_init_2_4 : List UInt8 := [187, 0, 25, 89, 43, 180, 0, 28, 28, 185, 0, 48, 2, 0, 192, 0, 52, 183, 0, 54]
abbrev dktX6_init_2_4 : List UInt8 := dkwX6_init_2_4 ++ dktX6_init_2_5
def dkwX6_init_2_3 : List UInt8 := [188, 10, 181, 0, 36, 42, 5, 188, 10, 181, 0, 39, 3, 61, 28, 5, 162, 0, 153, 42, 180, 0, 28]
abbrev dktX6_init_2_3 : List UInt8 := dkwX6_init_2_3 ++ dktX6_init_2_4
def dkwX6_init_2_2 : List UInt8 := [181, 0, 22, 42, 187, 0, 25, 89, 183, 0, 27, 181, 0, 28, 42, 5, 188, 10, 181, 0, 32, 42, 5]
abbrev dktX6_init_2_2 : List UInt8 := dkwX6_init_2_2 ++ dktX6_init_2_3
def dkwX6_init_2_1 : List UInt8 := [181, 0, 16, 42, 5, 16, 10, 197, 0, 9, 2, 181, 0, 19, 42, 5, 16, 10, 197, 0, 9, 2]
abbrev dktX6_init_2_1 : List UInt8 := dkwX6_init_2_1 ++ dktX6_init_2_2
def dkwX6_init_2_0 : List UInt8 := [42, 183, 0, 3, 42, 5, 16, 10, 197, 0, 9, 2, 181, 0, 11, 42, 5, 16, 10, 197, 0, 9, 2]
abbrev dktX6_init_2_0 : List UInt8 := dkwX6_init_2_0 ++ dktX6_init_2_1
theorem dksX6_init_2_0 : cX6_init_2.data.toList.drop 0 = dktX6_init_2_0 := by decide +kernel
theorem dksX6_init_2_1 : cX6_init_2.data.toList.drop 23 = dktX6_init_2_1 := dk_seg dksX6_init_2_0 23 rfl rfl
theorem dksX6_init_2_2 : cX6_init_2.data.toList.drop 45 = dktX6_init_2_2 := dk_seg dksX6_init_2_1 22 rfl rfl
theorem dksX6_init_2_3 : cX6_init_2.data.toList.drop 68 = dktX6_init_2_3 := dk_seg dksX6_init_2_2 23 rfl rfl
theorem dksX6_init_2_4 : cX6_init_2.data.toList.drop 91 = dktX6_init_2_4 := dk_seg dksX6_init_2_3 23 rfl rfl
theorem dksX6_init_2_5 : cX6_init_2.data.toList.drop 111 = dktX6_init_2_5 := dk_seg dksX6_init_2_4 20 rfl rfl
theorem dksX6_init_2_6 : cX6_init_2.data.toList.drop 133 = dktX6_init_2_6 := dk_seg dksX6_init_2_5 22 rfl rfl
theorem dksX6_init_2_7 : cX6_init_2.data.toList.drop 157 = dktX6_init_2_7 := dk_seg dksX6_init_2_6 24 rfl rfl
theorem dksX6_init_2_8 : cX6_init_2.data.toList.drop 181 = dktX6_init_2_8 := dk_seg dksX6_init_2_7 24 rfl rfl
theorem dksX6_init_2_9 : cX6_init_2.data.toList.drop 205 = dktX6_init_2_9 := dk_seg dksX6_init_2_8 24 rfl rfl
theorem dksX6_init_2_10 : cX6_init_2.data.toList.drop 229 = dktX6_init_2_10 := dk_seg dksX6_init_2_9 24 rfl rfl
theorem dksX6_init_2_11 : cX6_init_2.data.toList.drop 253 = dktX6_init_2_11 := dk_seg dksX6_init_2_10 24 rfl rfl
theorem dX6_init_2_0 : decode cX6_init_2 0 = .ok (.aload_n 0, 1) := dk_42 (dk_at dksX6_init_2_0 0 rfl rfl)
theorem dX6_init_2_1 : decode cX6_init_2 1 = .ok (.invokespecial 3, 3) := dk_183 0 3 (dk_at dksX6_init_2_0 1 rfl rfl)
theorem dX6_init_2_4 : decode cX6_init_2 4 = .ok (.aload_n 0, 1) := dk_42 (dk_at dksX6_init_2_0 4 rfl rfl)
theorem dX6_init_2_5 : decode cX6_init_2 5 = .ok (.iconst 2, 1) := dk_5 (dk_at dksX6_init_2_0 5 rfl rfl)
theorem dX6_init_2_6 : decode cX6_init_2 6 = .ok (.bipush 10, 2) := dk_16 10 (dk_at dksX6_init_2_0 6 rfl rfl)
theorem dX6_init_2_8 : decode cX6_init_2 8 = .ok (.multianewarray 9 2, 4) := by decide +kernel
theorem dX6_init_2_12 : decode cX6_init_2 12 = .ok (.putfield 11, 3) := dk_181 0 11 (dk_at dksX6_init_2_0 12 rfl rfl)
theorem dX6_init_2_15 : decode cX6_init_2 15 = .ok (.aload_n 0, 1) := dk_42 (dk_at dksX6_init_2_0 15 rfl rfl)
theorem dX6_init_2_16 : decode cX6_init_2 16 = .ok (.iconst 2, 1) := dk_5 (dk_at dksX6_init_2_0 16 rfl rfl)
theorem dX6_init_2_17 : decode cX6_init_2 17 = .ok (.bipush 10, 2) := dk_16 10 (dk_at dksX6_init_2_0 17 rfl rfl)
theorem dX6_init_2_19 : decode cX6_init_2 19 = .ok (.multianewarray 9 2, 4) := by decide +kernel
theorem dX6_init_2_23 : decode cX6_init_2 23 = .ok (.putfield 16, 3) := dk_181 0 16 (dk_at dksX6_init_2_1 0 rfl rfl)
theorem dX6_init_2_26 : decode cX6_init_2 26 = .ok (.aload_n 0, 1) := dk_42 (dk_at dksX6_init_2_1 3 rfl rfl)
theorem dX6_init_2_27 : decode cX6_init_2 27 = .ok (.iconst 2, 1) := dk_5 (dk_at dksX6_init_2_1 4 rfl rfl)
theorem dX6_init_2_28 : decode cX6_init_2 28 = .ok (.bipush 10, 2) := dk_16 10 (dk_at dksX6_init_2_1 5 rfl rfl)
theorem dX6_init_2_30 : decode cX6_init_2 30 = .ok (.multianewarray 9 2, 4) := by decide +kernel
theorem dX6_init_2_34 : decode cX6_init_2 34 = .ok (.putfield 19, 3) := dk_181 0 19 (dk_at dksX6_init_2_1 11 rfl rfl)
theorem dX6_init_2_37 : decode cX6_init_2 37 = .ok (.aload_n 0, 1) := dk_42 (dk_at dksX6_init_2_1 14 rfl rfl)
theorem dX6_init_2_38 : decode cX6_init_2 38 = .ok (.iconst 2, 1) := dk_5 (dk_at dksX6_init_2_1 15 rfl rfl)
theorem dX6_init_2_39 : decode cX6_init_2 39 = .ok (.bipush 10, 2) := dk_16 10 (dk_at dksX6_init_2_1 16 rfl rfl)
theorem dX6_init_2_41 : decode cX6_init_2 41 = .ok (.multianewarray 9 2, 4) := by decide +kernel
theorem dX6_init_2_45 : decode cX6_init_2 45 = .ok (.putfield 22, 3) := dk_181 0 22 (dk_at dksX6_init_2_2 0 rfl rfl)
theorem dX6_init_2_48 : decode cX6_init_2 48 = .ok (.aload_n 0, 1) := dk_42 (dk_at dksX6_init_2_2 3 rfl rfl)
theorem dX6_init_2_49 : decode cX6_init_2 49 = .ok (.new 25, 3) := dk_187 0 25 (dk_at dksX6_init_2_2 4 rfl rfl)
theorem dX6_init_2_52 : decode cX6_init_2 52 = .ok (.dup, 1) := dk_89 (dk_at dksX6_init_2_2 7 rfl rfl)
theorem dX6_init_2_53 : decode cX6_init_2 53 = .ok (.invokespecial 27, 3) := dk_183 0 27 (dk_at dksX6_init_2_2 8 rfl rfl)
theorem dX6_init_2_56 : decode cX6_init_2 56 = .ok (.putfield 28, 3) := dk_181 0 28 (dk_at dksX6_init_2_2 11 rfl rfl)
theorem dX6_init_2_59 : decode cX6_init_2 59 = .ok (.aload_n 0, 1) := dk_42 (dk_at dksX6_init_2_2 14 rfl rfl)
theorem dX6_init_2_60 : decode cX6_init_2 60 = .ok (.iconst 2, 1) := dk_5 (dk_at dksX6_init_2_2 15 rfl rfl)
theorem dX6_init_2_61 : decode cX6_init_2 61 = .ok (.newarray .int, 2) := dk_188_10 (dk_at dksX6_init_2_2 16 rfl rfl)
theorem dX6_init_2_63 : decode cX6_init_2 63 = .ok (.putfield 32, 3) := dk_181 0 32 (dk_at dksX6_init_2_2 18 rfl rfl)
theorem dX6_init_2_66 : decode cX6_init_2 66 = .ok (.aload_n 0, 1) := dk_42 (dk_at dksX6_init_2_2 21 rfl rfl)
theorem dX6_init_2_67 : decode cX6_init_2 67 = .ok (.iconst 2, 1) := dk_5 (dk_at dksX6_init_2_2 22 rfl rfl)
theorem dX6_init_2_68 : decode cX6_init_2 68 = .ok (.newarray .int, 2) := dk_188_10 (dk_at dksX6_init_2_3 0 rfl rfl)
theorem dX6_init_2_70 : decode cX6_init_2 70 = .ok (.putfield 36, 3) := dk_181 0 36 (dk_at dksX6_init_2_3 2 rfl rfl)
theorem dX6_init_2_73 : decode cX6_init_2 73 = .ok (.aload_n 0, 1) := dk_42 (dk_at dksX6_init_2_3 5 rfl rfl)
theorem dX6_init_2_74 : decode cX6_init_2 74 = .ok (.iconst 2, 1) := dk_5 (dk_at dksX6_init_2_3 6 rfl rfl)
theorem dX6_init_2_75 : decode cX6_init_2 75 = .ok (.newarray .int, 2) := dk_188_10 (dk_at dksX6_init_2_3 7 rfl rfl)
theorem dX6_init_2_77 : decode cX6_init_2 77 = .ok (.putfield 39, 3) := dk_181 0 39 (dk_at dksX6_init_2_3 9 rfl rfl)
theorem dX6_init_2_80 : decode cX6_init_2 80 = .ok (.iconst 0, 1) := dk_3 (dk_at dksX6_init_2_3 12 rfl rfl)
theorem dX6_init_2_81 : decode cX6_init_2 81 = .ok (.istore_n 2, 1) := dk_61 (dk_at dksX6_init_2_3 13 rfl rfl)
theorem dX6_init_2_82 : decode cX6_init_2 82 = .ok (.iload_n 2, 1) := dk_28 (dk_at dksX6_init_2_3 14 rfl rfl)
theorem dX6_init_2_83 : decode cX6_init_2 83 = .ok (.iconst 2, 1) := dk_5 (dk_at dksX6_init_2_3 15 rfl rfl)
theorem dX6_init_2_84 : decode cX6_init_2 84 = .ok (.if_icmp .ge 153, 3) := dk_162 0 153 (dk_at dksX6_init_2_3 16 rfl rfl)
theorem dX6_init_2_87 : decode cX6_init_2 87 = .ok (.aload_n 0, 1) := dk_42 (dk_at dksX6_init_2_3 19 rfl rfl)
theorem dX6_init_2_88 : decode cX6_init_2 88 = .ok (.getfield 28, 3) := dk_180 0 28 (dk_at dksX6_init_2_3 20 rfl rfl)
theorem dX6_init_2_91 : decode cX6_init_2 91 = .ok (.new 25, 3) := dk_187 0 25 (dk_at dksX6_init_2_4 0 rfl rfl)
theorem dX6_init_2_94 : decode cX6_init_2 94 = .ok (.dup, 1) := dk_89 (dk_at dksX6_init_2_4 3 rfl rfl)
theorem dX6_init_2_95 : decode cX6_init_2 95 = .ok (.aload_n 1, 1) := dk_43 (dk_at dksX6_init_2_4 4 rfl rfl)
theorem dX6_init_2_96 : decode cX6_init_2 96 = .ok (.getfield 28, 3) := dk_180 0 28 (dk_at dksX6_init_2_4 5 rfl rfl)
theorem dX6_init_2_99 : decode cX6_init_2 99 = .ok (.iload_n 2, 1) := dk_28 (dk_at dksX6_init_2_4 8 rfl rfl)
theorem dX6_init_2_100 : decode cX6_init_2 100 = .ok (.invokeinterface 48 2, 5) := by decide +kernel
theorem dX6_init_2_105 : decode cX6_init_2 105 = .ok (.checkcast 52, 3) := dk_192 0 52 (dk_at dksX6_init_2_4 14 rfl rfl)
theorem dX6_init_2_108 : decode cX6_init_2 108 = .ok (.invokespecial 54, 3) := dk_183 0 54 (dk_at dksX6_init_2_4 17 rfl rfl)
theorem dX6_init_2_111 : decode cX6_init_2 111 = .ok (.invokeinterface 42 2, 5) := by decide +kernel
theorem dX6_init_2_116 : decode cX6_init_2 116 = .ok (.pop, 1) := dk_87 (dk_at dksX6_init_2_5 5 rfl rfl)
theorem dX6_init_2_117 : decode cX6_init_2 117 = .ok (.iconst 0, 1) := dk_3 (dk_at dksX6_init_2_5 6 rfl rfl)
theorem dX6_init_2_118 : decode cX6_init_2 118 = .ok (.istore_n 3, 1) := dk_62 (dk_at dksX6_init_2_5 7 rfl rfl)
theorem dX6_init_2_119 : decode cX6_init_2 119 = .ok (.iload_n 3, 1) := dk_29 (dk_at dksX6_init_2_5 8 rfl rfl)
theorem dX6_init_2_120 : decode cX6_init_2 120 = .ok (.bipush 10, 2) := dk_16 10 (dk_at dksX6_init_2_5 9 rfl rfl)
theorem dX6_init_2_122 : decode cX6_init_2 122 = .ok (.if_icmp .ge 73, 3) := dk_162 0 73 (dk_at dksX6_init_2_5 11 rfl rfl)
theorem dX6_init_2_125 : decode cX6_init_2 125 = .ok (.aload_n 0, 1) := dk_42 (dk_at dksX6_init_2_5 14 rfl rfl)
theorem dX6_init_2_126 : decode cX6_init_2 126 = .ok (.getfield 11, 3) := dk_180 0 11 (dk_at dksX6_init_2_5 15 rfl rfl)
theorem dX6_init_2_129 : decode cX6_init_2 129 = .ok (.iload_n 2, 1) := dk_28 (dk_at dksX6_init_2_5 18 rfl rfl)
theorem dX6_init_2_130 : decode cX6_init_2 130 = .ok (.aaload, 1) := dk_50 (dk_at dksX6_init_2_5 19 rfl rfl)
theorem dX6_init_2_131 : decode cX6_init_2 131 = .ok (.iload_n 3, 1) := dk_29 (dk_at dksX6_init_2_5 20 rfl rfl)
theorem dX6_init_2_132 : decode cX6_init_2 132 = .ok (.aload_n 1, 1) := dk_43 (dk_at dksX6_init_2_5 21 rfl rfl)
theorem dX6_init_2_133 : decode cX6_init_2 133 = .ok (.getfield 11, 3) := dk_180 0 11 (dk_at dksX6_init_2_6 0 rfl rfl)
theorem dX6_init_2_136 : decode cX6_init_2 136 = .ok (.iload_n 2, 1) := dk_28 (dk_at dksX6_init_2_6 3 rfl rfl)
theorem dX6_init_2_137 : decode cX6_init_2 137 = .ok (.aaload, 1) := dk_50 (dk_at dksX6_init_2_6 4 rfl rfl)
theorem dX6_init_2_138 : decode cX6_init_2 138 = .ok (.iload_n 3, 1) := dk_29 (dk_at dksX6_init_2_6 5 rfl rfl)
theorem dX6_init_2_139 : decode cX6_init_2 139 = .ok (.iaload, 1) := dk_46 (dk_at dksX6_init_2_6 6 rfl rfl)
theorem dX6_init_2_140 : decode cX6_init_2 140 = .ok (.iastore, 1) := dk_79 (dk_at dksX6_init_2_6 7 rfl rfl)
theorem dX6_init_2_141 : decode cX6_init_2 141 = .ok (.aload_n 0, 1) := dk_42 (dk_at dksX6_init_2_6 8 rfl rfl)
theorem dX6_init_2_142 : decode cX6_init_2 142 = .ok (.getfield 16, 3) := dk_180 0 16 (dk_at dksX6_init_2_6 9 rfl rfl)
theorem dX6_init_2_145 : decode cX6_init_2 145 = .ok (.iload_n 2, 1) := dk_28 (dk_at dksX6_init_2_6 12 rfl rfl)
theorem dX6_init_2_146 : decode cX6_init_2 146 = .ok (.aaload, 1) := dk_50 (dk_at dksX6_init_2_6 13 rfl rfl)
theorem dX6_init_2_147 : decode cX6_init_2 147 = .ok (.iload_n 3, 1) := dk_29 (dk_at dksX6_init_2_6 14 rfl rfl)
theorem dX6_init_2_148 : decode cX6_init_2 148 = .ok (.aload_n 1, 1) := dk_43 (dk_at dksX6_init_2_6 15 rfl rfl)
theorem dX6_init_2_149 : decode cX6_init_2 149 = .ok (.getfield 16, 3) := dk_180 0 16 (dk_at dksX6_init_2_6 16 rfl rfl)
theorem dX6_init_2_152 : decode cX6_init_2 152 = .ok (.iload_n 2, 1) := dk_28 (dk_at dksX6_init_2_6 19 rfl rfl)
theorem dX6_init_2_153 : decode cX6_init_2 153 = .ok (.aaload, 1) := dk_50 (dk_at dksX6_init_2_6 20 rfl rfl)
theorem dX6_init_2_154 : decode cX6_init_2 154 = .ok (.iload_n 3, 1) := dk_29 (dk_at dksX6_init_2_6 21 rfl rfl)
theorem dX6_init_2_155 : decode cX6_init_2 155 = .ok (.iaload, 1) := dk_46 (dk_at dksX6_init_2_6 22 rfl rfl)
theorem dX6_init_2_156 : decode cX6_init_2 156 = .ok (.iastore, 1) := dk_79 (dk_at dksX6_init_2_6 23 rfl rfl)
theorem dX6_init_2_157 : decode cX6_init_2 157 = .ok (.aload_n 0, 1) := dk_42 (dk_at dksX6_init_2_7 0 rfl rfl)
theorem dX6_init_2_158 : decode cX6_init_2 158 = .ok (.getfield 19, 3) := dk_180 0 19 (dk_at dksX6_init_2_7 1 rfl rfl)
theorem dX6_init_2_161 : decode cX6_init_2 161 = .ok (.iload_n 2, 1) := dk_28 (dk_at dksX6_init_2_7 4 rfl rfl)
theorem dX6_init_2_162 : decode cX6_init_2 162 = .ok (.aaload, 1) := dk_50 (dk_at dksX6_init_2_7 5 rfl rfl)
theorem dX6_init_2_163 : decode cX6_init_2 163 = .ok (.iload_n 3, 1) := dk_29 (dk_at dksX6_init_2_7 6 rfl rfl)
theorem dX6_init_2_164 : decode cX6_init_2 164 = .ok (.aload_n 1, 1) := dk_43 (dk_at dksX6_init_2_7 7 rfl rfl)
theorem dX6_init_2_165 : decode cX6_init_2 165 = .ok (.getfield 19, 3) := dk_180 0 19 (dk_at dksX6_init_2_7 8 rfl rfl)
theorem dX6_init_2_168 : decode cX6_init_2 168 = .ok (.iload_n 2, 1) := dk_28 (dk_at dksX6_init_2_7 11 rfl rfl)
theorem dX6_init_2_169 : decode cX6_init_2 169 = .ok (.aaload, 1) := dk_50 (dk_at dksX6_init_2_7 12 rfl rfl)
theorem dX6_init_2_170 : decode cX6_init_2 170 = .ok (.iload_n 3, 1) := dk_29 (dk_at dksX6_init_2_7 13 rfl rfl)
theorem dX6_init_2_171 : decode cX6_init_2 171 = .ok (.iaload, 1) := dk_46 (dk_at dksX6_init_2_7 14 rfl rfl)
theorem dX6_init_2_172 : decode cX6_init_2 172 = .ok (.iastore, 1) := dk_79 (dk_at dksX6_init_2_7 15 rfl rfl)
theorem dX6_init_2_173 : decode cX6_init_2 173 = .ok (.aload_n 0, 1) := dk_42 (dk_at dksX6_init_2_7 16 rfl rfl)
theorem dX6_init_2_174 : decode cX6_init_2 174 = .ok (.getfield 22, 3) := dk_180 0 22 (dk_at dksX6_init_2_7 17 rfl rfl)
theorem dX6_init_2_177 : decode cX6_init_2 177 = .ok (.iload_n 2, 1) := dk_28 (dk_at dksX6_init_2_7 20 rfl rfl)
theorem dX6_init_2_178 : decode cX6_init_2 178 = .ok (.aaload, 1) := dk_50 (dk_at dksX6_init_2_7 21 rfl rfl)
theorem dX6_init_2_179 : decode cX6_init_2 179 = .ok (.iload_n 3, 1) := dk_29 (dk_at dksX6_init_2_7 22 rfl rfl)
theorem dX6_init_2_180 : decode cX6_init_2 180 = .ok (.aload_n 1, 1) := dk_43 (dk_at dksX6_init_2_7 23 rfl rfl)
theorem dX6_init_2_181 : decode cX6_init_2 181 = .ok (.getfield 22, 3) := dk_180 0 22 (dk_at dksX6_init_2_8 0 rfl rfl)
theorem dX6_init_2_184 : decode cX6_init_2 184 = .ok (.iload_n 2, 1) := dk_28 (dk_at dksX6_init_2_8 3 rfl rfl)
theorem dX6_init_2_185 : decode cX6_init_2 185 = .ok (.aaload, 1) := dk_50 (dk_at dksX6_init_2_8 4 rfl rfl)
theorem dX6_init_2_186 : decode cX6_init_2 186 = .ok (.iload_n 3, 1) := dk_29 (dk_at dksX6_init_2_8 5 rfl rfl)
theorem dX6_init_2_187 : decode cX6_init_2 187 = .ok (.iaload, 1) := dk_46 (dk_at dksX6_init_2_8 6 rfl rfl)
theorem dX6_init_2_188 : decode cX6_init_2 188 = .ok (.iastore, 1) := dk_79 (dk_at dksX6_init_2_8 7 rfl rfl)
theorem dX6_init_2_189 : decode cX6_init_2 189 = .ok (.iinc 3 1, 3) := dk_132 3 1 (dk_at dksX6_init_2_8 8 rfl rfl)
theorem dX6_init_2_192 : decode cX6_init_2 192 = .ok (.goto (-73), 3) := dk_167 255 183 (dk_at dksX6_init_2_8 11 rfl rfl)
theorem dX6_init_2_195 : decode cX6_init_2 195 = .ok (.aload_n 0, 1) := dk_42 (dk_at dksX6_init_2_8 14 rfl rfl)
theorem dX6_init_2_196 : decode cX6_init_2 196 = .ok (.getfield 32, 3) := dk_180 0 32 (dk_at dksX6_init_2_8 15 rfl rfl)
theorem dX6_init_2_199 : decode cX6_init_2 199 = .ok (.iload_n 2, 1) := dk_28 (dk_at dksX6_init_2_8 18 rfl rfl)
theorem dX6_init_2_200 : decode cX6_init_2 200 = .ok (.aload_n 1, 1) := dk_43 (dk_at dksX6_init_2_8 19 rfl rfl)
theorem dX6_init_2_201 : decode cX6_init_2 201 = .ok (.getfield 32, 3) := dk_180 0 32 (dk_at dksX6_init_2_8 20 rfl rfl)
theorem dX6_init_2_204 : decode cX6_init_2 204 = .ok (.iload_n 2, 1) := dk_28 (dk_at dksX6_init_2_8 23 rfl rfl)
theorem dX6_init_2_205 : decode cX6_init_2 205 = .ok (.iaload, 1) := dk_46 (dk_at dksX6_init_2_9 0 rfl rfl)
theorem dX6_init_2_206 : decode cX6_init_2 206 = .ok (.iastore, 1) := dk_79 (dk_at dksX6_init_2_9 1 rfl rfl)
theorem dX6_init_2_207 : decode cX6_init_2 207 = .ok (.aload_n 0, 1) := dk_42 (dk_at dksX6_init_2_9 2 rfl rfl)
theorem dX6_init_2_208 : decode cX6_init_2 208 = .ok (.getfield 36, 3) := dk_180 0 36 (dk_at dksX6_init_2_9 3 rfl rfl)
theorem dX6_init_2_211 : decode cX6_init_2 211 = .ok (.iload_n 2, 1) := dk_28 (dk_at dksX6_init_2_9 6 rfl rfl)
theorem dX6_init_2_212 : decode cX6_init_2 212 = .ok (.aload_n 1, 1) := dk_43 (dk_at dksX6_init_2_9 7 rfl rfl)
theorem dX6_init_2_213 : decode cX6_init_2 213 = .ok (.getfield 36, 3) := dk_180 0 36 (dk_at dksX6_init_2_9 8 rfl rfl)
theorem dX6_init_2_216 : decode cX6_init_2 216 = .ok (.iload_n 2, 1) := dk_28 (dk_at dksX6_init_2_9 11 rfl rfl)
theorem dX6_init_2_217 : decode cX6_init_2 217 = .ok (.iaload, 1) := dk_46 (dk_at dksX6_init_2_9 12 rfl rfl)
theorem dX6_init_2_218 : decode cX6_init_2 218 = .ok (.iastore, 1) := dk_79 (dk_at dksX6_init_2_9 13 rfl rfl)
theorem dX6_init_2_219 : decode cX6_init_2 219 = .ok (.aload_n 0, 1) := dk_42 (dk_at dksX6_init_2_9 14 rfl rfl)
theorem dX6_init_2_220 : decode cX6_init_2 220 = .ok (.getfield 39, 3) := dk_180 0 39 (dk_at dksX6_init_2_9 15 rfl rfl)
theorem dX6_init_2_223 : decode cX6_init_2 223 = .ok (.iload_n 2, 1) := dk_28 (dk_at dksX6_init_2_9 18 rfl rfl)
theorem dX6_init_2_224 : decode cX6_init_2 224 = .ok (.aload_n 1, 1) := dk_43 (dk_at dksX6_init_2_9 19 rfl rfl)
theorem dX6_init_2_225 : decode cX6_init_2 225 = .ok (.getfield 39, 3) := dk_180 0 39 (dk_at dksX6_init_2_9 20 rfl rfl)
theorem dX6_init_2_228 : decode cX6_init_2 228 = .ok (.iload_n 2, 1) := dk_28 (dk_at dksX6_init_2_9 23 rfl rfl)
theorem dX6_init_2_229 : decode cX6_init_2 229 = .ok (.iaload, 1) := dk_46 (dk_at dksX6_init_2_10 0 rfl rfl)
theorem dX6_init_2_230 : decode cX6_init_2 230 = .ok (.iastore, 1) := dk_79 (dk_at dksX6_init_2_10 1 rfl rfl)
theorem dX6_init_2_231 : decode cX6_init_2 231 = .ok (.iinc 2 1, 3) := dk_132 2 1 (dk_at dksX6_init_2_10 2 rfl rfl)
theorem dX6_init_2_234 : decode cX6_init_2 234 = .ok (.goto (-152), 3) := dk_167 255 104 (dk_at dksX6_init_2_10 5 rfl rfl)
theorem dX6_init_2_237 : decode cX6_init_2 237 = .ok (.aload_n 0, 1) := dk_42 (dk_at dksX6_init_2_10 8 rfl rfl)
theorem dX6_init_2_238 : decode cX6_init_2 238 = .ok (.aload_n 1, 1) := dk_43 (dk_at dksX6_init_2_10 9 rfl rfl)
theorem dX6_init_2_239 : decode cX6_init_2 239 = .ok (.getfield 57, 3) := dk_180 0 57 (dk_at dksX6_init_2_10 10 rfl rfl)
theorem dX6_init_2_242 : decode cX6_init_2 242 = .ok (.putfield 57, 3) := dk_181 0 57 (dk_at dksX6_init_2_10 13 rfl rfl)
theorem dX6_init_2_245 : decode cX6_init_2 245 = .ok (.aload_n 0, 1) := dk_42 (dk_at dksX6_init_2_10 16 rfl rfl)
theorem dX6_init_2_246 : decode cX6_init_2 246 = .ok (.aload_n 1, 1) := dk_43 (dk_at dksX6_init_2_10 17 rfl rfl)
theorem dX6_init_2_247 : decode cX6_init_2 247 = .ok (.getfield 61, 3) := dk_180 0 61 (dk_at dksX6_init_2_10 18 rfl rfl)
theorem dX6_init_2_250 : decode cX6_init_2 250 = .ok (.putfield 61, 3) := dk_181 0 61 (dk_at dksX6_init_2_10 21 rfl rfl)
theorem dX6_init_2_253 : decode cX6_init_2 253 = .ok (.return_, 1) := dk_177 (dk_at dksX6_init_2_11 0 rfl rfl)
abbrev cX6_lookAllOut : ByteArray := prog_8_method_9_code
def yX6_lookAllOut : MethodName := ⟨RX6, "lookAllOut", "()V"⟩
def dkwX6_lookAllOut_1 : List UInt8 := [5, 96, 79, 42, 27, 16, 10, 182, 0, 89, 132, 1, 1, 167, 255, 221, 177]
abbrev dktX6_lookAllOut_1 : List UInt8 := dkwX6_lookAllOut_1 ++ []
def dkwX6_lookAllOut_0 : List UInt8 := [3, 60, 27, 5, 162, 0, 36, 42, 27, 182, 0, 85, 154, 0, 22, 42, 180, 0, 32, 4, 27, 100, 92, 46]
abbrev dktX6_lookAllOut_0 : List UInt8 := dkwX6_lookAllOut_0 ++ dktX6_lookAllOut_1
theorem dksX6_lookAllOut_0 : cX6_lookAllOut.data.toList.drop 0 = dktX6_lookAllOut_0 := by decide +kernel
theorem dksX6_lookAllOut_1 : cX6_lookAllOut.data.toList.drop 24 = dktX6_lookAllOut_1 := dk_seg dksX6_lookAllOut_0 24 rfl rfl
theorem dX6_lookAllOut_0 : decode cX6_lookAllOut 0 = .ok (.iconst 0, 1) := dk_3 (dk_at dksX6_lookAllOut_0 0 rfl rfl)
theorem dX6_lookAllOut_1 : decode cX6_lookAllOut 1 = .ok (.istore_n 1, 1) := dk_60 (dk_at dksX6_lookAllOut_0 1 rfl rfl)
theorem dX6_lookAllOut_2 : decode cX6_lookAllOut 2 = .ok (.iload_n 1, 1) := dk_27 (dk_at dksX6_lookAllOut_0 2 rfl rfl)
theorem dX6_lookAllOut_3 : decode cX6_lookAllOut 3 = .ok (.iconst 2, 1) := dk_5 (dk_at dksX6_lookAllOut_0 3 rfl rfl)
theorem dX6_lookAllOut_4 : decode cX6_lookAllOut 4 = .ok (.if_icmp .ge 36, 3) := dk_162 0 36 (dk_at dksX6_lookAllOut_0 4 rfl rfl)
theorem dX6_lookAllOut_7 : decode cX6_lookAllOut 7 = .ok (.aload_n 0, 1) := dk_42 (dk_at dksX6_lookAllOut_0 7 rfl rfl)
theorem dX6_lookAllOut_8 : decode cX6_lookAllOut 8 = .ok (.iload_n 1, 1) := dk_27 (dk_at dksX6_lookAllOut_0 8 rfl rfl)
theorem dX6_lookAllOut_9 : decode cX6_lookAllOut 9 = .ok (.invokevirtual 85, 3) := dk_182 0 85 (dk_at dksX6_lookAllOut_0 9 rfl rfl)
theorem dX6_lookAllOut_12 : decode cX6_lookAllOut 12 = .ok (.ifCond .ne 22, 3) := dk_154 0 22 (dk_at dksX6_lookAllOut_0 12 rfl rfl)
theorem dX6_lookAllOut_15 : decode cX6_lookAllOut 15 = .ok (.aload_n 0, 1) := dk_42 (dk_at dksX6_lookAllOut_0 15 rfl rfl)
theorem dX6_lookAllOut_16 : decode cX6_lookAllOut 16 = .ok (.getfield 32, 3) := dk_180 0 32 (dk_at dksX6_lookAllOut_0 16 rfl rfl)
theorem dX6_lookAllOut_19 : decode cX6_lookAllOut 19 = .ok (.iconst 1, 1) := dk_4 (dk_at dksX6_lookAllOut_0 19 rfl rfl)
theorem dX6_lookAllOut_20 : decode cX6_lookAllOut 20 = .ok (.iload_n 1, 1) := dk_27 (dk_at dksX6_lookAllOut_0 20 rfl rfl)
theorem dX6_lookAllOut_21 : decode cX6_lookAllOut 21 = .ok (.isub, 1) := dk_100 (dk_at dksX6_lookAllOut_0 21 rfl rfl)
theorem dX6_lookAllOut_22 : decode cX6_lookAllOut 22 = .ok (.dup2, 1) := dk_92 (dk_at dksX6_lookAllOut_0 22 rfl rfl)
theorem dX6_lookAllOut_23 : decode cX6_lookAllOut 23 = .ok (.iaload, 1) := dk_46 (dk_at dksX6_lookAllOut_0 23 rfl rfl)
theorem dX6_lookAllOut_24 : decode cX6_lookAllOut 24 = .ok (.iconst 2, 1) := dk_5 (dk_at dksX6_lookAllOut_1 0 rfl rfl)
theorem dX6_lookAllOut_25 : decode cX6_lookAllOut 25 = .ok (.iadd, 1) := dk_96 (dk_at dksX6_lookAllOut_1 1 rfl rfl)
theorem dX6_lookAllOut_26 : decode cX6_lookAllOut 26 = .ok (.iastore, 1) := dk_79 (dk_at dksX6_lookAllOut_1 2 rfl rfl)
theorem dX6_lookAllOut_27 : decode cX6_lookAllOut 27 = .ok (.aload_n 0, 1) := dk_42 (dk_at dksX6_lookAllOut_1 3 rfl rfl)
theorem dX6_lookAllOut_28 : decode cX6_lookAllOut 28 = .ok (.iload_n 1, 1) := dk_27 (dk_at dksX6_lookAllOut_1 4 rfl rfl)
theorem dX6_lookAllOut_29 : decode cX6_lookAllOut 29 = .ok (.bipush 10, 2) := dk_16 10 (dk_at dksX6_lookAllOut_1 5 rfl rfl)
theorem dX6_lookAllOut_31 : decode cX6_lookAllOut 31 = .ok (.invokevirtual 89, 3) := dk_182 0 89 (dk_at dksX6_lookAllOut_1 7 rfl rfl)
theorem dX6_lookAllOut_34 : decode cX6_lookAllOut 34 = .ok (.iinc 1 1, 3) := dk_132 1 1 (dk_at dksX6_lookAllOut_1 10 rfl rfl)
theorem dX6_lookAllOut_37 : decode cX6_lookAllOut 37 = .ok (.goto (-35), 3) := dk_167 255 221 (dk_at dksX6_lookAllOut_1 13 rfl rfl)
theorem dX6_lookAllOut_40 : decode cX6_lookAllOut 40 = .ok (.return_, 1) := dk_177 (dk_at dksX6_lookAllOut_1 16 rfl rfl)
abbrev cX6_on : ByteArray := prog_8_method_5_code
def yX6_on : MethodName := ⟨RX6, "on", "(I)I"⟩
def dkwX6_on_1 : List UInt8 := [120, 167, 0, 4, 3, 128, 61, 132, 3, 1, 167, 255, 226, 28, 172]
abbrev dktX6_on_1 : List UInt8 := dkwX6_on_1 ++ []
def dkwX6_on_0 : List UInt8 := [3, 61, 3, 62, 29, 16, 10, 162, 0, 30, 28, 42, 180, 0, 11, 27, 50, 29, 46, 154, 0, 9, 4, 29]
abbrev dktX6_on_0 : List UInt8 := dkwX6_on_0 ++ dktX6_on_1
theorem dksX6_on_0 : cX6_on.data.toList.drop 0 = dktX6_on_0 := by decide +kernel
theorem dksX6_on_1 : cX6_on.data.toList.drop 24 = dktX6_on_1 := dk_seg dksX6_on_0 24 rfl rfl
theorem dX6_on_0 : decode cX6_on 0 = .ok (.iconst 0, 1) := dk_3 (dk_at dksX6_on_0 0 rfl rfl)
theorem dX6_on_1 : decode cX6_on 1 = .ok (.istore_n 2, 1) := dk_61 (dk_at dksX6_on_0 1 rfl rfl)
theorem dX6_on_2 : decode cX6_on 2 = .ok (.iconst 0, 1) := dk_3 (dk_at dksX6_on_0 2 rfl rfl)
theorem dX6_on_3 : decode cX6_on 3 = .ok (.istore_n 3, 1) := dk_62 (dk_at dksX6_on_0 3 rfl rfl)
theorem dX6_on_4 : decode cX6_on 4 = .ok (.iload_n 3, 1) := dk_29 (dk_at dksX6_on_0 4 rfl rfl)
theorem dX6_on_5 : decode cX6_on 5 = .ok (.bipush 10, 2) := dk_16 10 (dk_at dksX6_on_0 5 rfl rfl)
theorem dX6_on_7 : decode cX6_on 7 = .ok (.if_icmp .ge 30, 3) := dk_162 0 30 (dk_at dksX6_on_0 7 rfl rfl)
theorem dX6_on_10 : decode cX6_on 10 = .ok (.iload_n 2, 1) := dk_28 (dk_at dksX6_on_0 10 rfl rfl)
theorem dX6_on_11 : decode cX6_on 11 = .ok (.aload_n 0, 1) := dk_42 (dk_at dksX6_on_0 11 rfl rfl)
theorem dX6_on_12 : decode cX6_on 12 = .ok (.getfield 11, 3) := dk_180 0 11 (dk_at dksX6_on_0 12 rfl rfl)
theorem dX6_on_15 : decode cX6_on 15 = .ok (.iload_n 1, 1) := dk_27 (dk_at dksX6_on_0 15 rfl rfl)
theorem dX6_on_16 : decode cX6_on 16 = .ok (.aaload, 1) := dk_50 (dk_at dksX6_on_0 16 rfl rfl)
theorem dX6_on_17 : decode cX6_on 17 = .ok (.iload_n 3, 1) := dk_29 (dk_at dksX6_on_0 17 rfl rfl)
theorem dX6_on_18 : decode cX6_on 18 = .ok (.iaload, 1) := dk_46 (dk_at dksX6_on_0 18 rfl rfl)
theorem dX6_on_19 : decode cX6_on 19 = .ok (.ifCond .ne 9, 3) := dk_154 0 9 (dk_at dksX6_on_0 19 rfl rfl)
theorem dX6_on_22 : decode cX6_on 22 = .ok (.iconst 1, 1) := dk_4 (dk_at dksX6_on_0 22 rfl rfl)
theorem dX6_on_23 : decode cX6_on 23 = .ok (.iload_n 3, 1) := dk_29 (dk_at dksX6_on_0 23 rfl rfl)
theorem dX6_on_24 : decode cX6_on 24 = .ok (.ishl, 1) := dk_120 (dk_at dksX6_on_1 0 rfl rfl)
theorem dX6_on_25 : decode cX6_on 25 = .ok (.goto 4, 3) := dk_167 0 4 (dk_at dksX6_on_1 1 rfl rfl)
theorem dX6_on_28 : decode cX6_on 28 = .ok (.iconst 0, 1) := dk_3 (dk_at dksX6_on_1 4 rfl rfl)
theorem dX6_on_29 : decode cX6_on 29 = .ok (.ior, 1) := dk_128 (dk_at dksX6_on_1 5 rfl rfl)
theorem dX6_on_30 : decode cX6_on 30 = .ok (.istore_n 2, 1) := dk_61 (dk_at dksX6_on_1 6 rfl rfl)
theorem dX6_on_31 : decode cX6_on 31 = .ok (.iinc 3 1, 3) := dk_132 3 1 (dk_at dksX6_on_1 7 rfl rfl)
theorem dX6_on_34 : decode cX6_on 34 = .ok (.goto (-30), 3) := dk_167 255 226 (dk_at dksX6_on_1 10 rfl rfl)
theorem dX6_on_37 : decode cX6_on 37 = .ok (.iload_n 2, 1) := dk_28 (dk_at dksX6_on_1 13 rfl rfl)
theorem dX6_on_38 : decode cX6_on 38 = .ok (.ireturn, 1) := dk_172 (dk_at dksX6_on_1 14 rfl rfl)
abbrev cX6_comeBack : ByteArray := prog_8_method_8_code
def yX6_comeBack : MethodName := ⟨RX6, "comeBack", "(II)V"⟩
def dkwX6_comeBack_2 : List UInt8 := [182, 0, 81, 3, 79, 132, 4, 1, 167, 255, 217, 177]
abbrev dktX6_comeBack_2 : List UInt8 := dkwX6_comeBack_2 ++ []
def dkwX6_comeBack_1 : List UInt8 := [185, 0, 74, 1, 0, 154, 0, 30, 42, 180, 0, 11, 27, 50, 45, 3, 185, 0, 78, 2, 0, 192, 0, 69]
abbrev dktX6_comeBack_1 : List UInt8 := dkwX6_comeBack_1 ++ dktX6_comeBack_2
def dkwX6_comeBack_0 : List UInt8 := [42, 180, 0, 28, 27, 185, 0, 48, 2, 0, 192, 0, 43, 78, 3, 54, 4, 21, 4, 28, 162, 0, 39, 45]
abbrev dktX6_comeBack_0 : List UInt8 := dkwX6_comeBack_0 ++ dktX6_comeBack_1
theorem dksX6_comeBack_0 : cX6_comeBack.data.toList.drop 0 = dktX6_comeBack_0 := by decide +kernel
theorem dksX6_comeBack_1 : cX6_comeBack.data.toList.drop 24 = dktX6_comeBack_1 := dk_seg dksX6_comeBack_0 24 rfl rfl
theorem dksX6_comeBack_2 : cX6_comeBack.data.toList.drop 48 = dktX6_comeBack_2 := dk_seg dksX6_comeBack_1 24 rfl rfl
theorem dX6_comeBack_0 : decode cX6_comeBack 0 = .ok (.aload_n 0, 1) := dk_42 (dk_at dksX6_comeBack_0 0 rfl rfl)
theorem dX6_comeBack_1 : decode cX6_comeBack 1 = .ok (.getfield 28, 3) := dk_180 0 28 (dk_at dksX6_comeBack_0 1 rfl rfl)
theorem dX6_comeBack_4 : decode cX6_comeBack 4 = .ok (.iload_n 1, 1) := dk_27 (dk_at dksX6_comeBack_0 4 rfl rfl)
theorem dX6_comeBack_5 : decode cX6_comeBack 5 = .ok (.invokeinterface 48 2, 5) := by decide +kernel
theorem dX6_comeBack_10 : decode cX6_comeBack 10 = .ok (.checkcast 43, 3) := dk_192 0 43 (dk_at dksX6_comeBack_0 10 rfl rfl)
theorem dX6_comeBack_13 : decode cX6_comeBack 13 = .ok (.astore_n 3, 1) := dk_78 (dk_at dksX6_comeBack_0 13 rfl rfl)
theorem dX6_comeBack_14 : decode cX6_comeBack 14 = .ok (.iconst 0, 1) := dk_3 (dk_at dksX6_comeBack_0 14 rfl rfl)
theorem dX6_comeBack_15 : decode cX6_comeBack 15 = .ok (.istore 4, 2) := dk_54 4 (dk_at dksX6_comeBack_0 15 rfl rfl)
theorem dX6_comeBack_17 : decode cX6_comeBack 17 = .ok (.iload 4, 2) := dk_21 4 (dk_at dksX6_comeBack_0 17 rfl rfl)
theorem dX6_comeBack_19 : decode cX6_comeBack 19 = .ok (.iload_n 2, 1) := dk_28 (dk_at dksX6_comeBack_0 19 rfl rfl)
theorem dX6_comeBack_20 : decode cX6_comeBack 20 = .ok (.if_icmp .ge 39, 3) := dk_162 0 39 (dk_at dksX6_comeBack_0 20 rfl rfl)
theorem dX6_comeBack_23 : decode cX6_comeBack 23 = .ok (.aload_n 3, 1) := dk_45 (dk_at dksX6_comeBack_0 23 rfl rfl)
theorem dX6_comeBack_24 : decode cX6_comeBack 24 = .ok (.invokeinterface 74 1, 5) := by decide +kernel
theorem dX6_comeBack_29 : decode cX6_comeBack 29 = .ok (.ifCond .ne 30, 3) := dk_154 0 30 (dk_at dksX6_comeBack_1 5 rfl rfl)
theorem dX6_comeBack_32 : decode cX6_comeBack 32 = .ok (.aload_n 0, 1) := dk_42 (dk_at dksX6_comeBack_1 8 rfl rfl)
theorem dX6_comeBack_33 : decode cX6_comeBack 33 = .ok (.getfield 11, 3) := dk_180 0 11 (dk_at dksX6_comeBack_1 9 rfl rfl)
theorem dX6_comeBack_36 : decode cX6_comeBack 36 = .ok (.iload_n 1, 1) := dk_27 (dk_at dksX6_comeBack_1 12 rfl rfl)
theorem dX6_comeBack_37 : decode cX6_comeBack 37 = .ok (.aaload, 1) := dk_50 (dk_at dksX6_comeBack_1 13 rfl rfl)
theorem dX6_comeBack_38 : decode cX6_comeBack 38 = .ok (.aload_n 3, 1) := dk_45 (dk_at dksX6_comeBack_1 14 rfl rfl)
theorem dX6_comeBack_39 : decode cX6_comeBack 39 = .ok (.iconst 0, 1) := dk_3 (dk_at dksX6_comeBack_1 15 rfl rfl)
theorem dX6_comeBack_40 : decode cX6_comeBack 40 = .ok (.invokeinterface 78 2, 5) := by decide +kernel
theorem dX6_comeBack_45 : decode cX6_comeBack 45 = .ok (.checkcast 69, 3) := dk_192 0 69 (dk_at dksX6_comeBack_1 21 rfl rfl)
theorem dX6_comeBack_48 : decode cX6_comeBack 48 = .ok (.invokevirtual 81, 3) := dk_182 0 81 (dk_at dksX6_comeBack_2 0 rfl rfl)
theorem dX6_comeBack_51 : decode cX6_comeBack 51 = .ok (.iconst 0, 1) := dk_3 (dk_at dksX6_comeBack_2 3 rfl rfl)
theorem dX6_comeBack_52 : decode cX6_comeBack 52 = .ok (.iastore, 1) := dk_79 (dk_at dksX6_comeBack_2 4 rfl rfl)
theorem dX6_comeBack_53 : decode cX6_comeBack 53 = .ok (.iinc 4 1, 3) := dk_132 4 1 (dk_at dksX6_comeBack_2 5 rfl rfl)
theorem dX6_comeBack_56 : decode cX6_comeBack 56 = .ok (.goto (-39), 3) := dk_167 255 217 (dk_at dksX6_comeBack_2 8 rfl rfl)
theorem dX6_comeBack_59 : decode cX6_comeBack 59 = .ok (.return_, 1) := dk_177 (dk_at dksX6_comeBack_2 11 rfl rfl)
abbrev cX6_isDoOrDie : ByteArray := prog_8_method_6_code
def yX6_isDoOrDie : MethodName := ⟨RX6, "isDoOrDie", "()Z"⟩
def dkwX6_isDoOrDie_0 : List UInt8 := [42, 180, 0, 36, 42, 180, 0, 61, 46, 5, 160, 0, 7, 4, 167, 0, 4, 3, 172]
abbrev dktX6_isDoOrDie_0 : List UInt8 := dkwX6_isDoOrDie_0 ++ []
theorem dksX6_isDoOrDie_0 : cX6_isDoOrDie.data.toList.drop 0 = dktX6_isDoOrDie_0 := by decide +kernel
theorem dX6_isDoOrDie_0 : decode cX6_isDoOrDie 0 = .ok (.aload_n 0, 1) := dk_42 (dk_at dksX6_isDoOrDie_0 0 rfl rfl)
theorem dX6_isDoOrDie_1 : decode cX6_isDoOrDie 1 = .ok (.getfield 36, 3) := dk_180 0 36 (dk_at dksX6_isDoOrDie_0 1 rfl rfl)
theorem dX6_isDoOrDie_4 : decode cX6_isDoOrDie 4 = .ok (.aload_n 0, 1) := dk_42 (dk_at dksX6_isDoOrDie_0 4 rfl rfl)
theorem dX6_isDoOrDie_5 : decode cX6_isDoOrDie 5 = .ok (.getfield 61, 3) := dk_180 0 61 (dk_at dksX6_isDoOrDie_0 5 rfl rfl)
theorem dX6_isDoOrDie_8 : decode cX6_isDoOrDie 8 = .ok (.iaload, 1) := dk_46 (dk_at dksX6_isDoOrDie_0 8 rfl rfl)
theorem dX6_isDoOrDie_9 : decode cX6_isDoOrDie 9 = .ok (.iconst 2, 1) := dk_5 (dk_at dksX6_isDoOrDie_0 9 rfl rfl)
theorem dX6_isDoOrDie_10 : decode cX6_isDoOrDie 10 = .ok (.if_icmp .ne 7, 3) := dk_160 0 7 (dk_at dksX6_isDoOrDie_0 10 rfl rfl)
theorem dX6_isDoOrDie_13 : decode cX6_isDoOrDie 13 = .ok (.iconst 1, 1) := dk_4 (dk_at dksX6_isDoOrDie_0 13 rfl rfl)
theorem dX6_isDoOrDie_14 : decode cX6_isDoOrDie 14 = .ok (.goto 4, 3) := dk_167 0 4 (dk_at dksX6_isDoOrDie_0 14 rfl rfl)
theorem dX6_isDoOrDie_17 : decode cX6_isDoOrDie 17 = .ok (.iconst 0, 1) := dk_3 (dk_at dksX6_isDoOrDie_0 17 rfl rfl)
theorem dX6_isDoOrDie_18 : decode cX6_isDoOrDie 18 = .ok (.ireturn, 1) := dk_172 (dk_at dksX6_isDoOrDie_0 18 rfl rfl)
abbrev cX6_standing : ByteArray := prog_8_method_4_code
def yX6_standing : MethodName := ⟨RX6, "standing", "(I)I"⟩
def dkwX6_standing_0 : List UInt8 := [42, 27, 3, 6, 182, 0, 64, 172]
abbrev dktX6_standing_0 : List UInt8 := dkwX6_standing_0 ++ []
theorem dksX6_standing_0 : cX6_standing.data.toList.drop 0 = dktX6_standing_0 := by decide +kernel
theorem dX6_standing_0 : decode cX6_standing 0 = .ok (.aload_n 0, 1) := dk_42 (dk_at dksX6_standing_0 0 rfl rfl)
theorem dX6_standing_1 : decode cX6_standing 1 = .ok (.iload_n 1, 1) := dk_27 (dk_at dksX6_standing_0 1 rfl rfl)
theorem dX6_standing_2 : decode cX6_standing 2 = .ok (.iconst 0, 1) := dk_3 (dk_at dksX6_standing_0 2 rfl rfl)
theorem dX6_standing_3 : decode cX6_standing 3 = .ok (.iconst 3, 1) := dk_6 (dk_at dksX6_standing_0 3 rfl rfl)
theorem dX6_standing_4 : decode cX6_standing 4 = .ok (.invokevirtual 64, 3) := dk_182 0 64 (dk_at dksX6_standing_0 4 rfl rfl)
theorem dX6_standing_7 : decode cX6_standing 7 = .ok (.ireturn, 1) := dk_172 (dk_at dksX6_standing_0 7 rfl rfl)
abbrev cX6_goOut : ByteArray := prog_8_method_7_code
def yX6_goOut : MethodName := ⟨RX6, "goOut", "(II)V"⟩
def dkwX6_goOut_1 : List UInt8 := [184, 0, 68, 185, 0, 42, 2, 0, 87, 177]
abbrev dktX6_goOut_1 : List UInt8 := dkwX6_goOut_1 ++ []
def dkwX6_goOut_0 : List UInt8 := [42, 180, 0, 11, 27, 50, 28, 5, 79, 42, 180, 0, 28, 27, 185, 0, 48, 2, 0, 192, 0, 43, 28]
abbrev dktX6_goOut_0 : List UInt8 := dkwX6_goOut_0 ++ dktX6_goOut_1
theorem dksX6_goOut_0 : cX6_goOut.data.toList.drop 0 = dktX6_goOut_0 := by decide +kernel
theorem dksX6_goOut_1 : cX6_goOut.data.toList.drop 23 = dktX6_goOut_1 := dk_seg dksX6_goOut_0 23 rfl rfl
theorem dX6_goOut_0 : decode cX6_goOut 0 = .ok (.aload_n 0, 1) := dk_42 (dk_at dksX6_goOut_0 0 rfl rfl)
theorem dX6_goOut_1 : decode cX6_goOut 1 = .ok (.getfield 11, 3) := dk_180 0 11 (dk_at dksX6_goOut_0 1 rfl rfl)
theorem dX6_goOut_4 : decode cX6_goOut 4 = .ok (.iload_n 1, 1) := dk_27 (dk_at dksX6_goOut_0 4 rfl rfl)
theorem dX6_goOut_5 : decode cX6_goOut 5 = .ok (.aaload, 1) := dk_50 (dk_at dksX6_goOut_0 5 rfl rfl)
theorem dX6_goOut_6 : decode cX6_goOut 6 = .ok (.iload_n 2, 1) := dk_28 (dk_at dksX6_goOut_0 6 rfl rfl)
theorem dX6_goOut_7 : decode cX6_goOut 7 = .ok (.iconst 2, 1) := dk_5 (dk_at dksX6_goOut_0 7 rfl rfl)
theorem dX6_goOut_8 : decode cX6_goOut 8 = .ok (.iastore, 1) := dk_79 (dk_at dksX6_goOut_0 8 rfl rfl)
theorem dX6_goOut_9 : decode cX6_goOut 9 = .ok (.aload_n 0, 1) := dk_42 (dk_at dksX6_goOut_0 9 rfl rfl)
theorem dX6_goOut_10 : decode cX6_goOut 10 = .ok (.getfield 28, 3) := dk_180 0 28 (dk_at dksX6_goOut_0 10 rfl rfl)
theorem dX6_goOut_13 : decode cX6_goOut 13 = .ok (.iload_n 1, 1) := dk_27 (dk_at dksX6_goOut_0 13 rfl rfl)
theorem dX6_goOut_14 : decode cX6_goOut 14 = .ok (.invokeinterface 48 2, 5) := by decide +kernel
theorem dX6_goOut_19 : decode cX6_goOut 19 = .ok (.checkcast 43, 3) := dk_192 0 43 (dk_at dksX6_goOut_0 19 rfl rfl)
theorem dX6_goOut_22 : decode cX6_goOut 22 = .ok (.iload_n 2, 1) := dk_28 (dk_at dksX6_goOut_0 22 rfl rfl)
theorem dX6_goOut_23 : decode cX6_goOut 23 = .ok (.invokestatic 68, 3) := dk_184 0 68 (dk_at dksX6_goOut_1 0 rfl rfl)
theorem dX6_goOut_26 : decode cX6_goOut 26 = .ok (.invokeinterface 42 2, 5) := by decide +kernel
theorem dX6_goOut_31 : decode cX6_goOut 31 = .ok (.pop, 1) := dk_87 (dk_at dksX6_goOut_1 8 rfl rfl)
theorem dX6_goOut_32 : decode cX6_goOut 32 = .ok (.return_, 1) := dk_177 (dk_at dksX6_goOut_1 9 rfl rfl)
abbrev cX6_endSuspensions : ByteArray := prog_8_method_10_code
def yX6_endSuspensions : MethodName := ⟨RX6, "endSuspensions", "()V"⟩
def dkwX6_endSuspensions_3 : List UInt8 := [132, 2, 1, 167, 255, 190, 132, 1, 1, 167, 255, 177, 177]
abbrev dktX6_endSuspensions_3 : List UInt8 := dkwX6_endSuspensions_3 ++ []
def dkwX6_endSuspensions_2 : List UInt8 := [42, 180, 0, 11, 27, 50, 28, 29, 153, 0, 7, 3, 167, 0, 11, 42, 180, 0, 11, 27, 50, 28, 46, 79]
abbrev dktX6_endSuspensions_2 : List UInt8 := dkwX6_endSuspensions_2 ++ dktX6_endSuspensions_3
def dkwX6_endSuspensions_1 : List UInt8 := [160, 0, 22, 42, 180, 0, 16, 27, 50, 28, 46, 42, 180, 0, 57, 163, 0, 7, 4, 167, 0, 4, 3, 62]
abbrev dktX6_endSuspensions_1 : List UInt8 := dkwX6_endSuspensions_1 ++ dktX6_endSuspensions_2
def dkwX6_endSuspensions_0 : List UInt8 := [3, 60, 27, 5, 162, 0, 80, 3, 61, 28, 16, 10, 162, 0, 66, 42, 180, 0, 11, 27, 50, 28, 46, 6]
abbrev dktX6_endSuspensions_0 : List UInt8 := dkwX6_endSuspensions_0 ++ dktX6_endSuspensions_1
theorem dksX6_endSuspensions_0 : cX6_endSuspensions.data.toList.drop 0 = dktX6_endSuspensions_0 := by decide +kernel
theorem dksX6_endSuspensions_1 : cX6_endSuspensions.data.toList.drop 24 = dktX6_endSuspensions_1 := dk_seg dksX6_endSuspensions_0 24 rfl rfl
theorem dksX6_endSuspensions_2 : cX6_endSuspensions.data.toList.drop 48 = dktX6_endSuspensions_2 := dk_seg dksX6_endSuspensions_1 24 rfl rfl
theorem dksX6_endSuspensions_3 : cX6_endSuspensions.data.toList.drop 72 = dktX6_endSuspensions_3 := dk_seg dksX6_endSuspensions_2 24 rfl rfl
theorem dX6_endSuspensions_0 : decode cX6_endSuspensions 0 = .ok (.iconst 0, 1) := dk_3 (dk_at dksX6_endSuspensions_0 0 rfl rfl)
theorem dX6_endSuspensions_1 : decode cX6_endSuspensions 1 = .ok (.istore_n 1, 1) := dk_60 (dk_at dksX6_endSuspensions_0 1 rfl rfl)
theorem dX6_endSuspensions_2 : decode cX6_endSuspensions 2 = .ok (.iload_n 1, 1) := dk_27 (dk_at dksX6_endSuspensions_0 2 rfl rfl)
theorem dX6_endSuspensions_3 : decode cX6_endSuspensions 3 = .ok (.iconst 2, 1) := dk_5 (dk_at dksX6_endSuspensions_0 3 rfl rfl)
theorem dX6_endSuspensions_4 : decode cX6_endSuspensions 4 = .ok (.if_icmp .ge 80, 3) := dk_162 0 80 (dk_at dksX6_endSuspensions_0 4 rfl rfl)
theorem dX6_endSuspensions_7 : decode cX6_endSuspensions 7 = .ok (.iconst 0, 1) := dk_3 (dk_at dksX6_endSuspensions_0 7 rfl rfl)
theorem dX6_endSuspensions_8 : decode cX6_endSuspensions 8 = .ok (.istore_n 2, 1) := dk_61 (dk_at dksX6_endSuspensions_0 8 rfl rfl)
theorem dX6_endSuspensions_9 : decode cX6_endSuspensions 9 = .ok (.iload_n 2, 1) := dk_28 (dk_at dksX6_endSuspensions_0 9 rfl rfl)
theorem dX6_endSuspensions_10 : decode cX6_endSuspensions 10 = .ok (.bipush 10, 2) := dk_16 10 (dk_at dksX6_endSuspensions_0 10 rfl rfl)
theorem dX6_endSuspensions_12 : decode cX6_endSuspensions 12 = .ok (.if_icmp .ge 66, 3) := dk_162 0 66 (dk_at dksX6_endSuspensions_0 12 rfl rfl)
theorem dX6_endSuspensions_15 : decode cX6_endSuspensions 15 = .ok (.aload_n 0, 1) := dk_42 (dk_at dksX6_endSuspensions_0 15 rfl rfl)
theorem dX6_endSuspensions_16 : decode cX6_endSuspensions 16 = .ok (.getfield 11, 3) := dk_180 0 11 (dk_at dksX6_endSuspensions_0 16 rfl rfl)
theorem dX6_endSuspensions_19 : decode cX6_endSuspensions 19 = .ok (.iload_n 1, 1) := dk_27 (dk_at dksX6_endSuspensions_0 19 rfl rfl)
theorem dX6_endSuspensions_20 : decode cX6_endSuspensions 20 = .ok (.aaload, 1) := dk_50 (dk_at dksX6_endSuspensions_0 20 rfl rfl)
theorem dX6_endSuspensions_21 : decode cX6_endSuspensions 21 = .ok (.iload_n 2, 1) := dk_28 (dk_at dksX6_endSuspensions_0 21 rfl rfl)
theorem dX6_endSuspensions_22 : decode cX6_endSuspensions 22 = .ok (.iaload, 1) := dk_46 (dk_at dksX6_endSuspensions_0 22 rfl rfl)
theorem dX6_endSuspensions_23 : decode cX6_endSuspensions 23 = .ok (.iconst 3, 1) := dk_6 (dk_at dksX6_endSuspensions_0 23 rfl rfl)
theorem dX6_endSuspensions_24 : decode cX6_endSuspensions 24 = .ok (.if_icmp .ne 22, 3) := dk_160 0 22 (dk_at dksX6_endSuspensions_1 0 rfl rfl)
theorem dX6_endSuspensions_27 : decode cX6_endSuspensions 27 = .ok (.aload_n 0, 1) := dk_42 (dk_at dksX6_endSuspensions_1 3 rfl rfl)
theorem dX6_endSuspensions_28 : decode cX6_endSuspensions 28 = .ok (.getfield 16, 3) := dk_180 0 16 (dk_at dksX6_endSuspensions_1 4 rfl rfl)
theorem dX6_endSuspensions_31 : decode cX6_endSuspensions 31 = .ok (.iload_n 1, 1) := dk_27 (dk_at dksX6_endSuspensions_1 7 rfl rfl)
theorem dX6_endSuspensions_32 : decode cX6_endSuspensions 32 = .ok (.aaload, 1) := dk_50 (dk_at dksX6_endSuspensions_1 8 rfl rfl)
theorem dX6_endSuspensions_33 : decode cX6_endSuspensions 33 = .ok (.iload_n 2, 1) := dk_28 (dk_at dksX6_endSuspensions_1 9 rfl rfl)
theorem dX6_endSuspensions_34 : decode cX6_endSuspensions 34 = .ok (.iaload, 1) := dk_46 (dk_at dksX6_endSuspensions_1 10 rfl rfl)
theorem dX6_endSuspensions_35 : decode cX6_endSuspensions 35 = .ok (.aload_n 0, 1) := dk_42 (dk_at dksX6_endSuspensions_1 11 rfl rfl)
theorem dX6_endSuspensions_36 : decode cX6_endSuspensions 36 = .ok (.getfield 57, 3) := dk_180 0 57 (dk_at dksX6_endSuspensions_1 12 rfl rfl)
theorem dX6_endSuspensions_39 : decode cX6_endSuspensions 39 = .ok (.if_icmp .gt 7, 3) := dk_163 0 7 (dk_at dksX6_endSuspensions_1 15 rfl rfl)
theorem dX6_endSuspensions_42 : decode cX6_endSuspensions 42 = .ok (.iconst 1, 1) := dk_4 (dk_at dksX6_endSuspensions_1 18 rfl rfl)
theorem dX6_endSuspensions_43 : decode cX6_endSuspensions 43 = .ok (.goto 4, 3) := dk_167 0 4 (dk_at dksX6_endSuspensions_1 19 rfl rfl)
theorem dX6_endSuspensions_46 : decode cX6_endSuspensions 46 = .ok (.iconst 0, 1) := dk_3 (dk_at dksX6_endSuspensions_1 22 rfl rfl)
theorem dX6_endSuspensions_47 : decode cX6_endSuspensions 47 = .ok (.istore_n 3, 1) := dk_62 (dk_at dksX6_endSuspensions_1 23 rfl rfl)
theorem dX6_endSuspensions_48 : decode cX6_endSuspensions 48 = .ok (.aload_n 0, 1) := dk_42 (dk_at dksX6_endSuspensions_2 0 rfl rfl)
theorem dX6_endSuspensions_49 : decode cX6_endSuspensions 49 = .ok (.getfield 11, 3) := dk_180 0 11 (dk_at dksX6_endSuspensions_2 1 rfl rfl)
theorem dX6_endSuspensions_52 : decode cX6_endSuspensions 52 = .ok (.iload_n 1, 1) := dk_27 (dk_at dksX6_endSuspensions_2 4 rfl rfl)
theorem dX6_endSuspensions_53 : decode cX6_endSuspensions 53 = .ok (.aaload, 1) := dk_50 (dk_at dksX6_endSuspensions_2 5 rfl rfl)
theorem dX6_endSuspensions_54 : decode cX6_endSuspensions 54 = .ok (.iload_n 2, 1) := dk_28 (dk_at dksX6_endSuspensions_2 6 rfl rfl)
theorem dX6_endSuspensions_55 : decode cX6_endSuspensions 55 = .ok (.iload_n 3, 1) := dk_29 (dk_at dksX6_endSuspensions_2 7 rfl rfl)
theorem dX6_endSuspensions_56 : decode cX6_endSuspensions 56 = .ok (.ifCond .eq 7, 3) := dk_153 0 7 (dk_at dksX6_endSuspensions_2 8 rfl rfl)
theorem dX6_endSuspensions_59 : decode cX6_endSuspensions 59 = .ok (.iconst 0, 1) := dk_3 (dk_at dksX6_endSuspensions_2 11 rfl rfl)
theorem dX6_endSuspensions_60 : decode cX6_endSuspensions 60 = .ok (.goto 11, 3) := dk_167 0 11 (dk_at dksX6_endSuspensions_2 12 rfl rfl)
theorem dX6_endSuspensions_63 : decode cX6_endSuspensions 63 = .ok (.aload_n 0, 1) := dk_42 (dk_at dksX6_endSuspensions_2 15 rfl rfl)
theorem dX6_endSuspensions_64 : decode cX6_endSuspensions 64 = .ok (.getfield 11, 3) := dk_180 0 11 (dk_at dksX6_endSuspensions_2 16 rfl rfl)
theorem dX6_endSuspensions_67 : decode cX6_endSuspensions 67 = .ok (.iload_n 1, 1) := dk_27 (dk_at dksX6_endSuspensions_2 19 rfl rfl)
theorem dX6_endSuspensions_68 : decode cX6_endSuspensions 68 = .ok (.aaload, 1) := dk_50 (dk_at dksX6_endSuspensions_2 20 rfl rfl)
theorem dX6_endSuspensions_69 : decode cX6_endSuspensions 69 = .ok (.iload_n 2, 1) := dk_28 (dk_at dksX6_endSuspensions_2 21 rfl rfl)
theorem dX6_endSuspensions_70 : decode cX6_endSuspensions 70 = .ok (.iaload, 1) := dk_46 (dk_at dksX6_endSuspensions_2 22 rfl rfl)
theorem dX6_endSuspensions_71 : decode cX6_endSuspensions 71 = .ok (.iastore, 1) := dk_79 (dk_at dksX6_endSuspensions_2 23 rfl rfl)
theorem dX6_endSuspensions_72 : decode cX6_endSuspensions 72 = .ok (.iinc 2 1, 3) := dk_132 2 1 (dk_at dksX6_endSuspensions_3 0 rfl rfl)
theorem dX6_endSuspensions_75 : decode cX6_endSuspensions 75 = .ok (.goto (-66), 3) := dk_167 255 190 (dk_at dksX6_endSuspensions_3 3 rfl rfl)
theorem dX6_endSuspensions_78 : decode cX6_endSuspensions 78 = .ok (.iinc 1 1, 3) := dk_132 1 1 (dk_at dksX6_endSuspensions_3 6 rfl rfl)
theorem dX6_endSuspensions_81 : decode cX6_endSuspensions 81 = .ok (.goto (-79), 3) := dk_167 255 177 (dk_at dksX6_endSuspensions_3 9 rfl rfl)
theorem dX6_endSuspensions_84 : decode cX6_endSuspensions 84 = .ok (.return_, 1) := dk_177 (dk_at dksX6_endSuspensions_3 12 rfl rfl)
theorem q84 : (Jvm.Cond.initialized "Raidhall$Mats") ∈ lw_all := lw_g (lw_at lw_m1 20 rfl) rfl
theorem q974 : (Jvm.Cond.selects "Raidhall$Mats" ({ cls := "java/lang/Object", name := "getClass", desc := "()Ljava/lang/Class;" } : Jvm.MethodName) ({ cls := "java/lang/Object", name := "getClass", desc := "()Ljava/lang/Class;" } : Jvm.MethodName)) ∈ lw_all := lw_g (lw_at lw_m4 190 rfl) rfl
theorem q1093 : (Jvm.Cond.instantiable "Raidhall$Mats" (10 : Nat)) ∈ lw_all := lw_g (lw_at lw_m5 69 rfl) rfl
theorem q1095 : (Jvm.Cond.instanceMethod ({ cls := "Raidhall$Mats", name := "<init>", desc := "()V" } : Jvm.MethodName)) ∈ lw_all := lw_g (lw_at lw_m5 71 rfl) rfl
theorem q1096 : (Jvm.Cond.code ({ cls := "Raidhall$Mats", name := "<init>", desc := "()V" } : Jvm.MethodName) prog_8_method_1_code (3 : Nat) (Option.none : Option Jvm.ClassFile.FieldType)) ∈ lw_all := lw_g (lw_at lw_m5 72 rfl) rfl
theorem q1097 : (Jvm.Cond.methodLink "Raidhall$Mats" (3 : Nat) ({ cls := "java/lang/Object", name := "<init>", desc := "()V" } : Jvm.MethodName)) ∈ lw_all := lw_g (lw_at lw_m5 73 rfl) rfl
theorem q1098 : (Jvm.Cond.classLink "Raidhall$Mats" (9 : Nat) "[[I") ∈ lw_all := lw_g (lw_at lw_m5 74 rfl) rfl
theorem q1100 : (Jvm.Cond.classLink "Raidhall$Mats" (25 : Nat) "java/util/ArrayList") ∈ lw_all := lw_g (lw_at lw_m5 76 rfl) rfl
theorem q1101 : (Jvm.Cond.methodLink "Raidhall$Mats" (27 : Nat) ({ cls := "java/util/ArrayList", name := "<init>", desc := "()V" } : Jvm.MethodName)) ∈ lw_all := lw_g (lw_at lw_m5 77 rfl) rfl
theorem q1102 : (Jvm.Cond.interfaceEntry "Raidhall$Mats" (42 : Nat)) ∈ lw_tbl := lw_at lw_m5 78 rfl
theorem q1103 : (Jvm.Cond.methodLink "Raidhall$Mats" (42 : Nat) ({ cls := "java/util/List", name := "add", desc := "(Ljava/lang/Object;)Z" } : Jvm.MethodName)) ∈ lw_all := lw_g (lw_at lw_m5 79 rfl) rfl
theorem q1104 : (Jvm.Cond.fieldLink "Raidhall$Mats" (11 : Nat) "Raidhall$Mats" "state" "[[I") ∈ lw_all := lw_g (lw_at lw_m5 80 rfl) rfl
theorem q1109 : (Jvm.Cond.fieldLink "Raidhall$Mats" (16 : Nat) "Raidhall$Mats" "until" "[[I") ∈ lw_all := lw_g (lw_at lw_m5 85 rfl) rfl
theorem q1111 : (Jvm.Cond.fieldLink "Raidhall$Mats" (19 : Nat) "Raidhall$Mats" "cards" "[[I") ∈ lw_all := lw_g (lw_at lw_m5 87 rfl) rfl
theorem q1113 : (Jvm.Cond.fieldLink "Raidhall$Mats" (22 : Nat) "Raidhall$Mats" "raided" "[[I") ∈ lw_all := lw_g (lw_at lw_m5 89 rfl) rfl
theorem q1116 : (Jvm.Cond.fieldLink "Raidhall$Mats" (28 : Nat) "Raidhall$Mats" "outs" "Ljava/util/List;") ∈ lw_all := lw_g (lw_at lw_m5 92 rfl) rfl
theorem q1118 : (Jvm.Cond.fieldLink "Raidhall$Mats" (32 : Nat) "Raidhall$Mats" "points" "[I") ∈ lw_all := lw_g (lw_at lw_m5 94 rfl) rfl
theorem q1122 : (Jvm.Cond.fieldLink "Raidhall$Mats" (36 : Nat) "Raidhall$Mats" "empties" "[I") ∈ lw_all := lw_g (lw_at lw_m5 98 rfl) rfl
theorem q1124 : (Jvm.Cond.fieldLink "Raidhall$Mats" (39 : Nat) "Raidhall$Mats" "changes" "[I") ∈ lw_all := lw_g (lw_at lw_m5 100 rfl) rfl
theorem q1127 : (Jvm.Cond.fieldLink "Raidhall$Mats" (57 : Nat) "Raidhall$Mats" "time" "I") ∈ lw_all := lw_g (lw_at lw_m5 103 rfl) rfl
theorem q1132 : (Jvm.Cond.fieldLink "Raidhall$Mats" (61 : Nat) "Raidhall$Mats" "turn" "I") ∈ lw_all := lw_g (lw_at lw_m5 108 rfl) rfl
theorem q1135 : (Jvm.Cond.laysFinal "Raidhall$Mats" "Raidhall$Mats" "state" "[[I") ∈ lw_all := lw_g (lw_at lw_m5 111 rfl) rfl
theorem q1136 : (Jvm.Cond.soleField "Raidhall$Mats" "state") ∈ lw_all := lw_g (lw_at lw_m5 112 rfl) rfl
theorem q1137 : (Jvm.Cond.laysFinal "Raidhall$Mats" "Raidhall$Mats" "until" "[[I") ∈ lw_all := lw_g (lw_at lw_m5 113 rfl) rfl
theorem q1138 : (Jvm.Cond.soleField "Raidhall$Mats" "until") ∈ lw_all := lw_g (lw_at lw_m5 114 rfl) rfl
theorem q1139 : (Jvm.Cond.laysFinal "Raidhall$Mats" "Raidhall$Mats" "cards" "[[I") ∈ lw_all := lw_g (lw_at lw_m5 115 rfl) rfl
theorem q1140 : (Jvm.Cond.soleField "Raidhall$Mats" "cards") ∈ lw_all := lw_g (lw_at lw_m5 116 rfl) rfl
theorem q1141 : (Jvm.Cond.laysFinal "Raidhall$Mats" "Raidhall$Mats" "raided" "[[I") ∈ lw_all := lw_g (lw_at lw_m5 117 rfl) rfl
theorem q1142 : (Jvm.Cond.soleField "Raidhall$Mats" "raided") ∈ lw_all := lw_g (lw_at lw_m5 118 rfl) rfl
theorem q1143 : (Jvm.Cond.laysFinal "Raidhall$Mats" "Raidhall$Mats" "outs" "Ljava/util/List;") ∈ lw_all := lw_g (lw_at lw_m5 119 rfl) rfl
theorem q1144 : (Jvm.Cond.soleField "Raidhall$Mats" "outs") ∈ lw_all := lw_g (lw_at lw_m5 120 rfl) rfl
theorem q1145 : (Jvm.Cond.laysFinal "Raidhall$Mats" "Raidhall$Mats" "points" "[I") ∈ lw_all := lw_g (lw_at lw_m5 121 rfl) rfl
theorem q1146 : (Jvm.Cond.soleField "Raidhall$Mats" "points") ∈ lw_all := lw_g (lw_at lw_m5 122 rfl) rfl
theorem q1147 : (Jvm.Cond.laysFinal "Raidhall$Mats" "Raidhall$Mats" "empties" "[I") ∈ lw_all := lw_g (lw_at lw_m5 123 rfl) rfl
theorem q1148 : (Jvm.Cond.soleField "Raidhall$Mats" "empties") ∈ lw_all := lw_g (lw_at lw_m5 124 rfl) rfl
theorem q1149 : (Jvm.Cond.laysFinal "Raidhall$Mats" "Raidhall$Mats" "changes" "[I") ∈ lw_all := lw_g (lw_at lw_m5 125 rfl) rfl
theorem q1150 : (Jvm.Cond.soleField "Raidhall$Mats" "changes") ∈ lw_all := lw_g (lw_at lw_m5 126 rfl) rfl
theorem q1151 : (Jvm.Cond.lays "Raidhall$Mats" "Raidhall$Mats" "time" "I") ∈ lw_all := lw_g (lw_at lw_m5 127 rfl) rfl
theorem q1152 : (Jvm.Cond.soleField "Raidhall$Mats" "time") ∈ lw_all := lw_g (lw_at lw_m5 128 rfl) rfl
theorem q1153 : (Jvm.Cond.lays "Raidhall$Mats" "Raidhall$Mats" "turn" "I") ∈ lw_all := lw_g (lw_at lw_m5 129 rfl) rfl
theorem q1154 : (Jvm.Cond.soleField "Raidhall$Mats" "turn") ∈ lw_all := lw_g (lw_at lw_m5 130 rfl) rfl
theorem q1155 : (Jvm.Cond.superclass "Raidhall$Mats" "java/lang/Object") ∈ lw_all := lw_g (lw_at lw_m5 131 rfl) rfl
theorem q1409 : (Jvm.Cond.instanceMethod ({ cls := "Raidhall$Mats", name := "count", desc := "(III)I" } : Jvm.MethodName)) ∈ lw_all := lw_g (lw_at lw_m6 145 rfl) rfl
theorem q1410 : (Jvm.Cond.selects "Raidhall$Mats" ({ cls := "Raidhall$Mats", name := "count", desc := "(III)I" } : Jvm.MethodName) ({ cls := "Raidhall$Mats", name := "count", desc := "(III)I" } : Jvm.MethodName)) ∈ lw_all := lw_g (lw_at lw_m6 146 rfl) rfl
theorem q1411 : (Jvm.Cond.code ({ cls := "Raidhall$Mats", name := "count", desc := "(III)I" } : Jvm.MethodName) prog_8_method_3_code (9 : Nat) (Option.some Jvm.ClassFile.FieldType.int)) ∈ lw_all := lw_g (lw_at lw_m6 147 rfl) rfl
theorem q1424 : (Jvm.Cond.instanceMethod ({ cls := "Raidhall$Mats", name := "<init>", desc := "(LRaidhall$Mats;)V" } : Jvm.MethodName)) ∈ lw_all := lw_g (lw_at lw_m6 160 rfl) rfl
theorem q1425 : (Jvm.Cond.code ({ cls := "Raidhall$Mats", name := "<init>", desc := "(LRaidhall$Mats;)V" } : Jvm.MethodName) prog_8_method_2_code (4 : Nat) (Option.none : Option Jvm.ClassFile.FieldType)) ∈ lw_all := lw_g (lw_at lw_m6 161 rfl) rfl
theorem q1426 : (Jvm.Cond.interfaceEntry "Raidhall$Mats" (48 : Nat)) ∈ lw_tbl := lw_at lw_m6 162 rfl
theorem q1427 : (Jvm.Cond.methodLink "Raidhall$Mats" (48 : Nat) ({ cls := "java/util/List", name := "get", desc := "(I)Ljava/lang/Object;" } : Jvm.MethodName)) ∈ lw_all := lw_g (lw_at lw_m6 163 rfl) rfl
theorem q1428 : (Jvm.Cond.classLink "Raidhall$Mats" (52 : Nat) "java/util/Collection") ∈ lw_all := lw_g (lw_at lw_m6 164 rfl) rfl
theorem q1429 : (Jvm.Cond.methodLink "Raidhall$Mats" (54 : Nat) ({ cls := "java/util/ArrayList", name := "<init>", desc := "(Ljava/util/Collection;)V" } : Jvm.MethodName)) ∈ lw_all := lw_g (lw_at lw_m6 165 rfl) rfl
theorem q1463 : (Jvm.Cond.instanceMethod ({ cls := "Raidhall$Mats", name := "lookAllOut", desc := "()V" } : Jvm.MethodName)) ∈ lw_all := lw_g (lw_at lw_m6 199 rfl) rfl
theorem q1464 : (Jvm.Cond.selects "Raidhall$Mats" ({ cls := "Raidhall$Mats", name := "lookAllOut", desc := "()V" } : Jvm.MethodName) ({ cls := "Raidhall$Mats", name := "lookAllOut", desc := "()V" } : Jvm.MethodName)) ∈ lw_all := lw_g (lw_at lw_m6 200 rfl) rfl
theorem q1465 : (Jvm.Cond.code ({ cls := "Raidhall$Mats", name := "lookAllOut", desc := "()V" } : Jvm.MethodName) prog_8_method_9_code (2 : Nat) (Option.none : Option Jvm.ClassFile.FieldType)) ∈ lw_all := lw_g (lw_at lw_m6 201 rfl) rfl
theorem q1466 : (Jvm.Cond.methodLink "Raidhall$Mats" (85 : Nat) ({ cls := "Raidhall$Mats", name := "on", desc := "(I)I" } : Jvm.MethodName)) ∈ lw_all := lw_g (lw_at lw_m6 202 rfl) rfl
theorem q1467 : (Jvm.Cond.instanceMethod ({ cls := "Raidhall$Mats", name := "on", desc := "(I)I" } : Jvm.MethodName)) ∈ lw_all := lw_g (lw_at lw_m6 203 rfl) rfl
theorem q1468 : (Jvm.Cond.selects "Raidhall$Mats" ({ cls := "Raidhall$Mats", name := "on", desc := "(I)I" } : Jvm.MethodName) ({ cls := "Raidhall$Mats", name := "on", desc := "(I)I" } : Jvm.MethodName)) ∈ lw_all := lw_g (lw_at lw_m6 204 rfl) rfl
theorem q1469 : (Jvm.Cond.code ({ cls := "Raidhall$Mats", name := "on", desc := "(I)I" } : Jvm.MethodName) prog_8_method_5_code (4 : Nat) (Option.some Jvm.ClassFile.FieldType.int)) ∈ lw_all := lw_g (lw_at lw_m6 205 rfl) rfl
theorem q1470 : (Jvm.Cond.methodLink "Raidhall$Mats" (89 : Nat) ({ cls := "Raidhall$Mats", name := "comeBack", desc := "(II)V" } : Jvm.MethodName)) ∈ lw_all := lw_g (lw_at lw_m6 206 rfl) rfl
theorem q1471 : (Jvm.Cond.instanceMethod ({ cls := "Raidhall$Mats", name := "comeBack", desc := "(II)V" } : Jvm.MethodName)) ∈ lw_all := lw_g (lw_at lw_m6 207 rfl) rfl
theorem q1472 : (Jvm.Cond.selects "Raidhall$Mats" ({ cls := "Raidhall$Mats", name := "comeBack", desc := "(II)V" } : Jvm.MethodName) ({ cls := "Raidhall$Mats", name := "comeBack", desc := "(II)V" } : Jvm.MethodName)) ∈ lw_all := lw_g (lw_at lw_m6 208 rfl) rfl
theorem q1473 : (Jvm.Cond.code ({ cls := "Raidhall$Mats", name := "comeBack", desc := "(II)V" } : Jvm.MethodName) prog_8_method_8_code (5 : Nat) (Option.none : Option Jvm.ClassFile.FieldType)) ∈ lw_all := lw_g (lw_at lw_m6 209 rfl) rfl
theorem q1474 : (Jvm.Cond.classLink "Raidhall$Mats" (43 : Nat) "java/util/List") ∈ lw_all := lw_g (lw_at lw_m6 210 rfl) rfl
theorem q1475 : (Jvm.Cond.interfaceEntry "Raidhall$Mats" (74 : Nat)) ∈ lw_tbl := lw_at lw_m6 211 rfl
theorem q1476 : (Jvm.Cond.methodLink "Raidhall$Mats" (74 : Nat) ({ cls := "java/util/List", name := "isEmpty", desc := "()Z" } : Jvm.MethodName)) ∈ lw_all := lw_g (lw_at lw_m6 212 rfl) rfl
theorem q1477 : (Jvm.Cond.interfaceEntry "Raidhall$Mats" (78 : Nat)) ∈ lw_tbl := lw_at lw_m6 213 rfl
theorem q1478 : (Jvm.Cond.methodLink "Raidhall$Mats" (78 : Nat) ({ cls := "java/util/List", name := "remove", desc := "(I)Ljava/lang/Object;" } : Jvm.MethodName)) ∈ lw_all := lw_g (lw_at lw_m6 214 rfl) rfl
theorem q1491 : (Jvm.Cond.classLink "Raidhall$Mats" (69 : Nat) "java/lang/Integer") ∈ lw_all := lw_g (lw_at lw_m6 227 rfl) rfl
theorem q1492 : (Jvm.Cond.methodLink "Raidhall$Mats" (81 : Nat) ({ cls := "java/lang/Integer", name := "intValue", desc := "()I" } : Jvm.MethodName)) ∈ lw_all := lw_g (lw_at lw_m6 228 rfl) rfl
theorem q1507 : (Jvm.Cond.instanceMethod ({ cls := "Raidhall$Mats", name := "isDoOrDie", desc := "()Z" } : Jvm.MethodName)) ∈ lw_all := lw_g (lw_at lw_m7 3 rfl) rfl
theorem q1508 : (Jvm.Cond.selects "Raidhall$Mats" ({ cls := "Raidhall$Mats", name := "isDoOrDie", desc := "()Z" } : Jvm.MethodName) ({ cls := "Raidhall$Mats", name := "isDoOrDie", desc := "()Z" } : Jvm.MethodName)) ∈ lw_all := lw_g (lw_at lw_m7 4 rfl) rfl
theorem q1509 : (Jvm.Cond.code ({ cls := "Raidhall$Mats", name := "isDoOrDie", desc := "()Z" } : Jvm.MethodName) prog_8_method_6_code (1 : Nat) (Option.some Jvm.ClassFile.FieldType.boolean)) ∈ lw_all := lw_g (lw_at lw_m7 5 rfl) rfl
theorem q1511 : (Jvm.Cond.instanceMethod ({ cls := "Raidhall$Mats", name := "standing", desc := "(I)I" } : Jvm.MethodName)) ∈ lw_all := lw_g (lw_at lw_m7 7 rfl) rfl
theorem q1512 : (Jvm.Cond.selects "Raidhall$Mats" ({ cls := "Raidhall$Mats", name := "standing", desc := "(I)I" } : Jvm.MethodName) ({ cls := "Raidhall$Mats", name := "standing", desc := "(I)I" } : Jvm.MethodName)) ∈ lw_all := lw_g (lw_at lw_m7 8 rfl) rfl
theorem q1513 : (Jvm.Cond.code ({ cls := "Raidhall$Mats", name := "standing", desc := "(I)I" } : Jvm.MethodName) prog_8_method_4_code (2 : Nat) (Option.some Jvm.ClassFile.FieldType.int)) ∈ lw_all := lw_g (lw_at lw_m7 9 rfl) rfl
theorem q1514 : (Jvm.Cond.methodLink "Raidhall$Mats" (64 : Nat) ({ cls := "Raidhall$Mats", name := "count", desc := "(III)I" } : Jvm.MethodName)) ∈ lw_all := lw_g (lw_at lw_m7 10 rfl) rfl
theorem q1520 : (Jvm.Cond.instanceMethod ({ cls := "Raidhall$Mats", name := "goOut", desc := "(II)V" } : Jvm.MethodName)) ∈ lw_all := lw_g (lw_at lw_m7 16 rfl) rfl
theorem q1521 : (Jvm.Cond.selects "Raidhall$Mats" ({ cls := "Raidhall$Mats", name := "goOut", desc := "(II)V" } : Jvm.MethodName) ({ cls := "Raidhall$Mats", name := "goOut", desc := "(II)V" } : Jvm.MethodName)) ∈ lw_all := lw_g (lw_at lw_m7 17 rfl) rfl
theorem q1522 : (Jvm.Cond.code ({ cls := "Raidhall$Mats", name := "goOut", desc := "(II)V" } : Jvm.MethodName) prog_8_method_7_code (3 : Nat) (Option.none : Option Jvm.ClassFile.FieldType)) ∈ lw_all := lw_g (lw_at lw_m7 18 rfl) rfl
theorem q1523 : (Jvm.Cond.methodLink "Raidhall$Mats" (68 : Nat) ({ cls := "java/lang/Integer", name := "valueOf", desc := "(I)Ljava/lang/Integer;" } : Jvm.MethodName)) ∈ lw_all := lw_g (lw_at lw_m7 19 rfl) rfl
theorem q1554 : (Jvm.Cond.instanceMethod ({ cls := "Raidhall$Mats", name := "endSuspensions", desc := "()V" } : Jvm.MethodName)) ∈ lw_all := lw_g (lw_at lw_m7 50 rfl) rfl
theorem q1555 : (Jvm.Cond.selects "Raidhall$Mats" ({ cls := "Raidhall$Mats", name := "endSuspensions", desc := "()V" } : Jvm.MethodName) ({ cls := "Raidhall$Mats", name := "endSuspensions", desc := "()V" } : Jvm.MethodName)) ∈ lw_all := lw_g (lw_at lw_m7 51 rfl) rfl
theorem q1556 : (Jvm.Cond.code ({ cls := "Raidhall$Mats", name := "endSuspensions", desc := "()V" } : Jvm.MethodName) prog_8_method_10_code (4 : Nat) (Option.none : Option Jvm.ClassFile.FieldType)) ∈ lw_all := lw_g (lw_at lw_m7 52 rfl) rfl
theorem q2371 : (Jvm.Cond.castable "Raidhall$Mats" "java/lang/Object") ∈ lw_tbl := lw_at lw_m10 147 rfl
theorem in_X6 : ∀ w ∈ wsX60, w ∈ lw_all := lw_in wsX60 [1135, 1137, 1139, 1141, 1143, 1145, 1147, 1149, 1151, 1153] (by decide +kernel) (by decide +kernel)

/-! Raidhall$Raid -/
set_option maxRecDepth 100000
def RX7 : String := "Raidhall$Raid"
def TX7 : u_T := fun k => match k with
  | 0 => ("Raidhall$Raid", "raider", "I", true)
  | _ => ("Raidhall$Raid", "steps", "Ljava/util/List;", true)
def tyX7 : Nat → FieldType := fun k => match k with
  | 0 => .int
  | _ => .object "java/util/List"
abbrev wsX70 : List Cond := u_ws RX7 TX7 2
theorem nmX7 : ∀ a, a < 2 → ∀ b, b < 2 → a ≠ b → (TX7 a).2.1 ≠ (TX7 b).2.1 := by decide +kernel
theorem tyX7_ok : ∀ k, k < 2 → parseFieldDescriptor (TX7 k).2.2.1 = some (tyX7 k) := by decide +kernel
abbrev cX7_init : ByteArray := prog_10_method_1_code
def yX7_init : MethodName := ⟨RX7, "<init>", "(ILjava/util/List;)V"⟩
def dkwX7_init_0 : List UInt8 := [42, 183, 0, 3, 42, 27, 181, 0, 9, 42, 44, 181, 0, 15, 177]
abbrev dktX7_init_0 : List UInt8 := dkwX7_init_0 ++ []
theorem dksX7_init_0 : cX7_init.data.toList.drop 0 = dktX7_init_0 := by decide +kernel
theorem dX7_init_0 : decode cX7_init 0 = .ok (.aload_n 0, 1) := dk_42 (dk_at dksX7_init_0 0 rfl rfl)
theorem dX7_init_1 : decode cX7_init 1 = .ok (.invokespecial 3, 3) := dk_183 0 3 (dk_at dksX7_init_0 1 rfl rfl)
theorem dX7_init_4 : decode cX7_init 4 = .ok (.aload_n 0, 1) := dk_42 (dk_at dksX7_init_0 4 rfl rfl)
theorem dX7_init_5 : decode cX7_init 5 = .ok (.iload_n 1, 1) := dk_27 (dk_at dksX7_init_0 5 rfl rfl)
theorem dX7_init_6 : decode cX7_init 6 = .ok (.putfield 9, 3) := dk_181 0 9 (dk_at dksX7_init_0 6 rfl rfl)
theorem dX7_init_9 : decode cX7_init 9 = .ok (.aload_n 0, 1) := dk_42 (dk_at dksX7_init_0 9 rfl rfl)
theorem dX7_init_10 : decode cX7_init 10 = .ok (.aload_n 2, 1) := dk_44 (dk_at dksX7_init_0 10 rfl rfl)
theorem dX7_init_11 : decode cX7_init 11 = .ok (.putfield 15, 3) := dk_181 0 15 (dk_at dksX7_init_0 11 rfl rfl)
theorem dX7_init_14 : decode cX7_init 14 = .ok (.return_, 1) := dk_177 (dk_at dksX7_init_0 14 rfl rfl)
abbrev cX7_stands : ByteArray := prog_10_method_6_code
def yX7_stands : MethodName := ⟨RX7, "stands", "(LRaidhall$Mats;I)Z"⟩
def dkwX7_stands_5 : List UInt8 := [87, 167, 255, 200, 29, 172]
abbrev dktX7_stands_5 : List UInt8 := dkwX7_stands_5 ++ []
def dkwX7_stands_4 : List UInt8 := [182, 0, 86, 153, 0, 7, 4, 167, 0, 4, 3, 62, 25, 4, 180, 0, 15, 25, 6, 185, 0, 90, 2, 0]
abbrev dktX7_stands_4 : List UInt8 := dkwX7_stands_4 ++ dktX7_stands_5
def dkwX7_stands_3 : List UInt8 := [153, 0, 52, 25, 5, 185, 0, 31, 1, 0, 192, 0, 35, 58, 6, 29, 153, 0, 18, 25, 4, 43, 25, 6]
abbrev dktX7_stands_3 : List UInt8 := dkwX7_stands_3 ++ dktX7_stands_4
def dkwX7_stands_2 : List UInt8 := [183, 0, 83, 58, 4, 42, 180, 0, 15, 185, 0, 19, 1, 0, 58, 5, 25, 5, 185, 0, 25, 1, 0]
abbrev dktX7_stands_2 : List UInt8 := dkwX7_stands_2 ++ dktX7_stands_3
def dkwX7_stands_1 : List UInt8 := [154, 0, 7, 4, 167, 0, 4, 3, 62, 187, 0, 10, 89, 42, 180, 0, 9, 187, 0, 80, 89, 183, 0, 82]
abbrev dktX7_stands_1 : List UInt8 := dkwX7_stands_1 ++ dktX7_stands_2
def dkwX7_stands_0 : List UInt8 := [43, 180, 0, 77, 28, 162, 0, 24, 43, 180, 0, 64, 43, 180, 0, 70, 50, 42, 180, 0, 9, 46]
abbrev dktX7_stands_0 : List UInt8 := dkwX7_stands_0 ++ dktX7_stands_1
theorem dksX7_stands_0 : cX7_stands.data.toList.drop 0 = dktX7_stands_0 := by decide +kernel
theorem dksX7_stands_1 : cX7_stands.data.toList.drop 22 = dktX7_stands_1 := dk_seg dksX7_stands_0 22 rfl rfl
theorem dksX7_stands_2 : cX7_stands.data.toList.drop 46 = dktX7_stands_2 := dk_seg dksX7_stands_1 24 rfl rfl
theorem dksX7_stands_3 : cX7_stands.data.toList.drop 69 = dktX7_stands_3 := dk_seg dksX7_stands_2 23 rfl rfl
theorem dksX7_stands_4 : cX7_stands.data.toList.drop 93 = dktX7_stands_4 := dk_seg dksX7_stands_3 24 rfl rfl
theorem dksX7_stands_5 : cX7_stands.data.toList.drop 117 = dktX7_stands_5 := dk_seg dksX7_stands_4 24 rfl rfl
theorem dX7_stands_0 : decode cX7_stands 0 = .ok (.aload_n 1, 1) := dk_43 (dk_at dksX7_stands_0 0 rfl rfl)
theorem dX7_stands_1 : decode cX7_stands 1 = .ok (.getfield 77, 3) := dk_180 0 77 (dk_at dksX7_stands_0 1 rfl rfl)
theorem dX7_stands_4 : decode cX7_stands 4 = .ok (.iload_n 2, 1) := dk_28 (dk_at dksX7_stands_0 4 rfl rfl)
theorem dX7_stands_5 : decode cX7_stands 5 = .ok (.if_icmp .ge 24, 3) := dk_162 0 24 (dk_at dksX7_stands_0 5 rfl rfl)
theorem dX7_stands_8 : decode cX7_stands 8 = .ok (.aload_n 1, 1) := dk_43 (dk_at dksX7_stands_0 8 rfl rfl)
theorem dX7_stands_9 : decode cX7_stands 9 = .ok (.getfield 64, 3) := dk_180 0 64 (dk_at dksX7_stands_0 9 rfl rfl)
theorem dX7_stands_12 : decode cX7_stands 12 = .ok (.aload_n 1, 1) := dk_43 (dk_at dksX7_stands_0 12 rfl rfl)
theorem dX7_stands_13 : decode cX7_stands 13 = .ok (.getfield 70, 3) := dk_180 0 70 (dk_at dksX7_stands_0 13 rfl rfl)
theorem dX7_stands_16 : decode cX7_stands 16 = .ok (.aaload, 1) := dk_50 (dk_at dksX7_stands_0 16 rfl rfl)
theorem dX7_stands_17 : decode cX7_stands 17 = .ok (.aload_n 0, 1) := dk_42 (dk_at dksX7_stands_0 17 rfl rfl)
theorem dX7_stands_18 : decode cX7_stands 18 = .ok (.getfield 9, 3) := dk_180 0 9 (dk_at dksX7_stands_0 18 rfl rfl)
theorem dX7_stands_21 : decode cX7_stands 21 = .ok (.iaload, 1) := dk_46 (dk_at dksX7_stands_0 21 rfl rfl)
theorem dX7_stands_22 : decode cX7_stands 22 = .ok (.ifCond .ne 7, 3) := dk_154 0 7 (dk_at dksX7_stands_1 0 rfl rfl)
theorem dX7_stands_25 : decode cX7_stands 25 = .ok (.iconst 1, 1) := dk_4 (dk_at dksX7_stands_1 3 rfl rfl)
theorem dX7_stands_26 : decode cX7_stands 26 = .ok (.goto 4, 3) := dk_167 0 4 (dk_at dksX7_stands_1 4 rfl rfl)
theorem dX7_stands_29 : decode cX7_stands 29 = .ok (.iconst 0, 1) := dk_3 (dk_at dksX7_stands_1 7 rfl rfl)
theorem dX7_stands_30 : decode cX7_stands 30 = .ok (.istore_n 3, 1) := dk_62 (dk_at dksX7_stands_1 8 rfl rfl)
theorem dX7_stands_31 : decode cX7_stands 31 = .ok (.new 10, 3) := dk_187 0 10 (dk_at dksX7_stands_1 9 rfl rfl)
theorem dX7_stands_34 : decode cX7_stands 34 = .ok (.dup, 1) := dk_89 (dk_at dksX7_stands_1 12 rfl rfl)
theorem dX7_stands_35 : decode cX7_stands 35 = .ok (.aload_n 0, 1) := dk_42 (dk_at dksX7_stands_1 13 rfl rfl)
theorem dX7_stands_36 : decode cX7_stands 36 = .ok (.getfield 9, 3) := dk_180 0 9 (dk_at dksX7_stands_1 14 rfl rfl)
theorem dX7_stands_39 : decode cX7_stands 39 = .ok (.new 80, 3) := dk_187 0 80 (dk_at dksX7_stands_1 17 rfl rfl)
theorem dX7_stands_42 : decode cX7_stands 42 = .ok (.dup, 1) := dk_89 (dk_at dksX7_stands_1 20 rfl rfl)
theorem dX7_stands_43 : decode cX7_stands 43 = .ok (.invokespecial 82, 3) := dk_183 0 82 (dk_at dksX7_stands_1 21 rfl rfl)
theorem dX7_stands_46 : decode cX7_stands 46 = .ok (.invokespecial 83, 3) := dk_183 0 83 (dk_at dksX7_stands_2 0 rfl rfl)
theorem dX7_stands_49 : decode cX7_stands 49 = .ok (.astore 4, 2) := dk_58 4 (dk_at dksX7_stands_2 3 rfl rfl)
theorem dX7_stands_51 : decode cX7_stands 51 = .ok (.aload_n 0, 1) := dk_42 (dk_at dksX7_stands_2 5 rfl rfl)
theorem dX7_stands_52 : decode cX7_stands 52 = .ok (.getfield 15, 3) := dk_180 0 15 (dk_at dksX7_stands_2 6 rfl rfl)
theorem dX7_stands_55 : decode cX7_stands 55 = .ok (.invokeinterface 19 1, 5) := by decide +kernel
theorem dX7_stands_60 : decode cX7_stands 60 = .ok (.astore 5, 2) := dk_58 5 (dk_at dksX7_stands_2 14 rfl rfl)
theorem dX7_stands_62 : decode cX7_stands 62 = .ok (.aload 5, 2) := dk_25 5 (dk_at dksX7_stands_2 16 rfl rfl)
theorem dX7_stands_64 : decode cX7_stands 64 = .ok (.invokeinterface 25 1, 5) := by decide +kernel
theorem dX7_stands_69 : decode cX7_stands 69 = .ok (.ifCond .eq 52, 3) := dk_153 0 52 (dk_at dksX7_stands_3 0 rfl rfl)
theorem dX7_stands_72 : decode cX7_stands 72 = .ok (.aload 5, 2) := dk_25 5 (dk_at dksX7_stands_3 3 rfl rfl)
theorem dX7_stands_74 : decode cX7_stands 74 = .ok (.invokeinterface 31 1, 5) := by decide +kernel
theorem dX7_stands_79 : decode cX7_stands 79 = .ok (.checkcast 35, 3) := dk_192 0 35 (dk_at dksX7_stands_3 10 rfl rfl)
theorem dX7_stands_82 : decode cX7_stands 82 = .ok (.astore 6, 2) := dk_58 6 (dk_at dksX7_stands_3 13 rfl rfl)
theorem dX7_stands_84 : decode cX7_stands 84 = .ok (.iload_n 3, 1) := dk_29 (dk_at dksX7_stands_3 15 rfl rfl)
theorem dX7_stands_85 : decode cX7_stands 85 = .ok (.ifCond .eq 18, 3) := dk_153 0 18 (dk_at dksX7_stands_3 16 rfl rfl)
theorem dX7_stands_88 : decode cX7_stands 88 = .ok (.aload 4, 2) := dk_25 4 (dk_at dksX7_stands_3 19 rfl rfl)
theorem dX7_stands_90 : decode cX7_stands 90 = .ok (.aload_n 1, 1) := dk_43 (dk_at dksX7_stands_3 21 rfl rfl)
theorem dX7_stands_91 : decode cX7_stands 91 = .ok (.aload 6, 2) := dk_25 6 (dk_at dksX7_stands_3 22 rfl rfl)
theorem dX7_stands_93 : decode cX7_stands 93 = .ok (.invokevirtual 86, 3) := dk_182 0 86 (dk_at dksX7_stands_4 0 rfl rfl)
theorem dX7_stands_96 : decode cX7_stands 96 = .ok (.ifCond .eq 7, 3) := dk_153 0 7 (dk_at dksX7_stands_4 3 rfl rfl)
theorem dX7_stands_99 : decode cX7_stands 99 = .ok (.iconst 1, 1) := dk_4 (dk_at dksX7_stands_4 6 rfl rfl)
theorem dX7_stands_100 : decode cX7_stands 100 = .ok (.goto 4, 3) := dk_167 0 4 (dk_at dksX7_stands_4 7 rfl rfl)
theorem dX7_stands_103 : decode cX7_stands 103 = .ok (.iconst 0, 1) := dk_3 (dk_at dksX7_stands_4 10 rfl rfl)
theorem dX7_stands_104 : decode cX7_stands 104 = .ok (.istore_n 3, 1) := dk_62 (dk_at dksX7_stands_4 11 rfl rfl)
theorem dX7_stands_105 : decode cX7_stands 105 = .ok (.aload 4, 2) := dk_25 4 (dk_at dksX7_stands_4 12 rfl rfl)
theorem dX7_stands_107 : decode cX7_stands 107 = .ok (.getfield 15, 3) := dk_180 0 15 (dk_at dksX7_stands_4 14 rfl rfl)
theorem dX7_stands_110 : decode cX7_stands 110 = .ok (.aload 6, 2) := dk_25 6 (dk_at dksX7_stands_4 17 rfl rfl)
theorem dX7_stands_112 : decode cX7_stands 112 = .ok (.invokeinterface 90 2, 5) := by decide +kernel
theorem dX7_stands_117 : decode cX7_stands 117 = .ok (.pop, 1) := dk_87 (dk_at dksX7_stands_5 0 rfl rfl)
theorem dX7_stands_118 : decode cX7_stands 118 = .ok (.goto (-56), 3) := dk_167 255 200 (dk_at dksX7_stands_5 1 rfl rfl)
theorem dX7_stands_121 : decode cX7_stands 121 = .ok (.iload_n 3, 1) := dk_29 (dk_at dksX7_stands_5 4 rfl rfl)
theorem dX7_stands_122 : decode cX7_stands 122 = .ok (.ireturn, 1) := dk_172 (dk_at dksX7_stands_5 5 rfl rfl)
abbrev cX7_can : ByteArray := prog_10_method_5_code
def yX7_can : MethodName := ⟨RX7, "can", "(LRaidhall$Mats;LRaidhall$Step;)Z"⟩
def dkwX7_can_6 : List UInt8 := [172, 4, 172]
abbrev dktX7_can_6 : List UInt8 := dkwX7_can_6 ++ []
def dkwX7_can_5 : List UInt8 := [154, 0, 7, 4, 167, 0, 4, 3, 172, 44, 182, 0, 61, 17, 1, 44, 160, 0, 7, 4, 167, 0, 4, 3]
abbrev dktX7_can_5 : List UInt8 := dkwX7_can_5 ++ dktX7_can_6
def dkwX7_can_4 : List UInt8 := [182, 0, 41, 182, 0, 73, 154, 0, 7, 4, 167, 0, 4, 3, 172, 42, 44, 182, 0, 37, 2, 182, 0, 73]
abbrev dktX7_can_4 : List UInt8 := dkwX7_can_4 ++ dktX7_can_5
def dkwX7_can_3 : List UInt8 := [43, 180, 0, 64, 4, 43, 180, 0, 70, 100, 50, 44, 182, 0, 41, 46, 154, 0, 19, 42, 3, 44]
abbrev dktX7_can_3 : List UInt8 := dkwX7_can_3 ++ dktX7_can_4
def dkwX7_can_2 : List UInt8 := [170, 0, 0, 0, 0, 0, 114, 0, 0, 0, 0, 0, 0, 0, 6, 0, 0, 0, 43, 0, 0, 0, 80, 0, 0, 0, 80, 0, 0, 0, 114, 0, 0, 0, 114, 0, 0, 0, 114, 0, 0, 0, 98]
abbrev dktX7_can_2 : List UInt8 := dkwX7_can_2 ++ dktX7_can_3
def dkwX7_can_1 : List UInt8 := [161, 0, 5, 3, 172, 44, 182, 0, 37]
abbrev dktX7_can_1 : List UInt8 := dkwX7_can_1 ++ dktX7_can_2
def dkwX7_can_0 : List UInt8 := [42, 182, 0, 54, 78, 45, 198, 0, 23, 45, 182, 0, 58, 154, 0, 14, 45, 182, 0, 61, 44, 182, 0, 61]
abbrev dktX7_can_0 : List UInt8 := dkwX7_can_0 ++ dktX7_can_1
theorem dksX7_can_0 : cX7_can.data.toList.drop 0 = dktX7_can_0 := by decide +kernel
theorem dksX7_can_1 : cX7_can.data.toList.drop 24 = dktX7_can_1 := dk_seg dksX7_can_0 24 rfl rfl
theorem dksX7_can_2 : cX7_can.data.toList.drop 33 = dktX7_can_2 := dk_seg dksX7_can_1 9 rfl rfl
theorem dksX7_can_3 : cX7_can.data.toList.drop 76 = dktX7_can_3 := dk_seg dksX7_can_2 43 rfl rfl
theorem dksX7_can_4 : cX7_can.data.toList.drop 98 = dktX7_can_4 := dk_seg dksX7_can_3 22 rfl rfl
theorem dksX7_can_5 : cX7_can.data.toList.drop 122 = dktX7_can_5 := dk_seg dksX7_can_4 24 rfl rfl
theorem dksX7_can_6 : cX7_can.data.toList.drop 146 = dktX7_can_6 := dk_seg dksX7_can_5 24 rfl rfl
theorem dX7_can_0 : decode cX7_can 0 = .ok (.aload_n 0, 1) := dk_42 (dk_at dksX7_can_0 0 rfl rfl)
theorem dX7_can_1 : decode cX7_can 1 = .ok (.invokevirtual 54, 3) := dk_182 0 54 (dk_at dksX7_can_0 1 rfl rfl)
theorem dX7_can_4 : decode cX7_can 4 = .ok (.astore_n 3, 1) := dk_78 (dk_at dksX7_can_0 4 rfl rfl)
theorem dX7_can_5 : decode cX7_can 5 = .ok (.aload_n 3, 1) := dk_45 (dk_at dksX7_can_0 5 rfl rfl)
theorem dX7_can_6 : decode cX7_can 6 = .ok (.ifnull 23, 3) := dk_198 0 23 (dk_at dksX7_can_0 6 rfl rfl)
theorem dX7_can_9 : decode cX7_can 9 = .ok (.aload_n 3, 1) := dk_45 (dk_at dksX7_can_0 9 rfl rfl)
theorem dX7_can_10 : decode cX7_can 10 = .ok (.invokevirtual 58, 3) := dk_182 0 58 (dk_at dksX7_can_0 10 rfl rfl)
theorem dX7_can_13 : decode cX7_can 13 = .ok (.ifCond .ne 14, 3) := dk_154 0 14 (dk_at dksX7_can_0 13 rfl rfl)
theorem dX7_can_16 : decode cX7_can 16 = .ok (.aload_n 3, 1) := dk_45 (dk_at dksX7_can_0 16 rfl rfl)
theorem dX7_can_17 : decode cX7_can 17 = .ok (.invokevirtual 61, 3) := dk_182 0 61 (dk_at dksX7_can_0 17 rfl rfl)
theorem dX7_can_20 : decode cX7_can 20 = .ok (.aload_n 2, 1) := dk_44 (dk_at dksX7_can_0 20 rfl rfl)
theorem dX7_can_21 : decode cX7_can 21 = .ok (.invokevirtual 61, 3) := dk_182 0 61 (dk_at dksX7_can_0 21 rfl rfl)
theorem dX7_can_24 : decode cX7_can 24 = .ok (.if_icmp .lt 5, 3) := dk_161 0 5 (dk_at dksX7_can_1 0 rfl rfl)
theorem dX7_can_27 : decode cX7_can 27 = .ok (.iconst 0, 1) := dk_3 (dk_at dksX7_can_1 3 rfl rfl)
theorem dX7_can_28 : decode cX7_can 28 = .ok (.ireturn, 1) := dk_172 (dk_at dksX7_can_1 4 rfl rfl)
theorem dX7_can_29 : decode cX7_can 29 = .ok (.aload_n 2, 1) := dk_44 (dk_at dksX7_can_1 5 rfl rfl)
theorem dX7_can_30 : decode cX7_can 30 = .ok (.invokevirtual 37, 3) := dk_182 0 37 (dk_at dksX7_can_1 6 rfl rfl)
theorem dX7_can_33 : decode cX7_can 33 = .ok (.tableswitch 114 0 6 #[43, 80, 80, 114, 114, 114, 98], 43) := by decide +kernel
theorem dX7_can_76 : decode cX7_can 76 = .ok (.aload_n 1, 1) := dk_43 (dk_at dksX7_can_3 0 rfl rfl)
theorem dX7_can_77 : decode cX7_can 77 = .ok (.getfield 64, 3) := dk_180 0 64 (dk_at dksX7_can_3 1 rfl rfl)
theorem dX7_can_80 : decode cX7_can 80 = .ok (.iconst 1, 1) := dk_4 (dk_at dksX7_can_3 4 rfl rfl)
theorem dX7_can_81 : decode cX7_can 81 = .ok (.aload_n 1, 1) := dk_43 (dk_at dksX7_can_3 5 rfl rfl)
theorem dX7_can_82 : decode cX7_can 82 = .ok (.getfield 70, 3) := dk_180 0 70 (dk_at dksX7_can_3 6 rfl rfl)
theorem dX7_can_85 : decode cX7_can 85 = .ok (.isub, 1) := dk_100 (dk_at dksX7_can_3 9 rfl rfl)
theorem dX7_can_86 : decode cX7_can 86 = .ok (.aaload, 1) := dk_50 (dk_at dksX7_can_3 10 rfl rfl)
theorem dX7_can_87 : decode cX7_can 87 = .ok (.aload_n 2, 1) := dk_44 (dk_at dksX7_can_3 11 rfl rfl)
theorem dX7_can_88 : decode cX7_can 88 = .ok (.invokevirtual 41, 3) := dk_182 0 41 (dk_at dksX7_can_3 12 rfl rfl)
theorem dX7_can_91 : decode cX7_can 91 = .ok (.iaload, 1) := dk_46 (dk_at dksX7_can_3 15 rfl rfl)
theorem dX7_can_92 : decode cX7_can 92 = .ok (.ifCond .ne 19, 3) := dk_154 0 19 (dk_at dksX7_can_3 16 rfl rfl)
theorem dX7_can_95 : decode cX7_can 95 = .ok (.aload_n 0, 1) := dk_42 (dk_at dksX7_can_3 19 rfl rfl)
theorem dX7_can_96 : decode cX7_can 96 = .ok (.iconst 0, 1) := dk_3 (dk_at dksX7_can_3 20 rfl rfl)
theorem dX7_can_97 : decode cX7_can 97 = .ok (.aload_n 2, 1) := dk_44 (dk_at dksX7_can_3 21 rfl rfl)
theorem dX7_can_98 : decode cX7_can 98 = .ok (.invokevirtual 41, 3) := dk_182 0 41 (dk_at dksX7_can_4 0 rfl rfl)
theorem dX7_can_101 : decode cX7_can 101 = .ok (.invokevirtual 73, 3) := dk_182 0 73 (dk_at dksX7_can_4 3 rfl rfl)
theorem dX7_can_104 : decode cX7_can 104 = .ok (.ifCond .ne 7, 3) := dk_154 0 7 (dk_at dksX7_can_4 6 rfl rfl)
theorem dX7_can_107 : decode cX7_can 107 = .ok (.iconst 1, 1) := dk_4 (dk_at dksX7_can_4 9 rfl rfl)
theorem dX7_can_108 : decode cX7_can 108 = .ok (.goto 4, 3) := dk_167 0 4 (dk_at dksX7_can_4 10 rfl rfl)
theorem dX7_can_111 : decode cX7_can 111 = .ok (.iconst 0, 1) := dk_3 (dk_at dksX7_can_4 13 rfl rfl)
theorem dX7_can_112 : decode cX7_can 112 = .ok (.ireturn, 1) := dk_172 (dk_at dksX7_can_4 14 rfl rfl)
theorem dX7_can_113 : decode cX7_can 113 = .ok (.aload_n 0, 1) := dk_42 (dk_at dksX7_can_4 15 rfl rfl)
theorem dX7_can_114 : decode cX7_can 114 = .ok (.aload_n 2, 1) := dk_44 (dk_at dksX7_can_4 16 rfl rfl)
theorem dX7_can_115 : decode cX7_can 115 = .ok (.invokevirtual 37, 3) := dk_182 0 37 (dk_at dksX7_can_4 17 rfl rfl)
theorem dX7_can_118 : decode cX7_can 118 = .ok (.iconst (-1), 1) := dk_2 (dk_at dksX7_can_4 20 rfl rfl)
theorem dX7_can_119 : decode cX7_can 119 = .ok (.invokevirtual 73, 3) := dk_182 0 73 (dk_at dksX7_can_4 21 rfl rfl)
theorem dX7_can_122 : decode cX7_can 122 = .ok (.ifCond .ne 7, 3) := dk_154 0 7 (dk_at dksX7_can_5 0 rfl rfl)
theorem dX7_can_125 : decode cX7_can 125 = .ok (.iconst 1, 1) := dk_4 (dk_at dksX7_can_5 3 rfl rfl)
theorem dX7_can_126 : decode cX7_can 126 = .ok (.goto 4, 3) := dk_167 0 4 (dk_at dksX7_can_5 4 rfl rfl)
theorem dX7_can_129 : decode cX7_can 129 = .ok (.iconst 0, 1) := dk_3 (dk_at dksX7_can_5 7 rfl rfl)
theorem dX7_can_130 : decode cX7_can 130 = .ok (.ireturn, 1) := dk_172 (dk_at dksX7_can_5 8 rfl rfl)
theorem dX7_can_131 : decode cX7_can 131 = .ok (.aload_n 2, 1) := dk_44 (dk_at dksX7_can_5 9 rfl rfl)
theorem dX7_can_132 : decode cX7_can 132 = .ok (.invokevirtual 61, 3) := dk_182 0 61 (dk_at dksX7_can_5 10 rfl rfl)
theorem dX7_can_135 : decode cX7_can 135 = .ok (.sipush 300, 3) := dk_17 1 44 (dk_at dksX7_can_5 13 rfl rfl)
theorem dX7_can_138 : decode cX7_can 138 = .ok (.if_icmp .ne 7, 3) := dk_160 0 7 (dk_at dksX7_can_5 16 rfl rfl)
theorem dX7_can_141 : decode cX7_can 141 = .ok (.iconst 1, 1) := dk_4 (dk_at dksX7_can_5 19 rfl rfl)
theorem dX7_can_142 : decode cX7_can 142 = .ok (.goto 4, 3) := dk_167 0 4 (dk_at dksX7_can_5 20 rfl rfl)
theorem dX7_can_145 : decode cX7_can 145 = .ok (.iconst 0, 1) := dk_3 (dk_at dksX7_can_5 23 rfl rfl)
theorem dX7_can_146 : decode cX7_can 146 = .ok (.ireturn, 1) := dk_172 (dk_at dksX7_can_6 0 rfl rfl)
theorem dX7_can_147 : decode cX7_can 147 = .ok (.iconst 1, 1) := dk_4 (dk_at dksX7_can_6 1 rfl rfl)
theorem dX7_can_148 : decode cX7_can 148 = .ok (.ireturn, 1) := dk_172 (dk_at dksX7_can_6 2 rfl rfl)
abbrev cX7_last : ByteArray := prog_10_method_4_code
def yX7_last : MethodName := ⟨RX7, "last", "()LRaidhall$Step;"⟩
def dkwX7_last_1 : List UInt8 := [185, 0, 47, 1, 0, 4, 100, 185, 0, 50, 2, 0, 192, 0, 35, 176]
abbrev dktX7_last_1 : List UInt8 := dkwX7_last_1 ++ []
def dkwX7_last_0 : List UInt8 := [42, 180, 0, 15, 185, 0, 44, 1, 0, 153, 0, 7, 1, 167, 0, 26, 42, 180, 0, 15, 42, 180, 0, 15]
abbrev dktX7_last_0 : List UInt8 := dkwX7_last_0 ++ dktX7_last_1
theorem dksX7_last_0 : cX7_last.data.toList.drop 0 = dktX7_last_0 := by decide +kernel
theorem dksX7_last_1 : cX7_last.data.toList.drop 24 = dktX7_last_1 := dk_seg dksX7_last_0 24 rfl rfl
theorem dX7_last_0 : decode cX7_last 0 = .ok (.aload_n 0, 1) := dk_42 (dk_at dksX7_last_0 0 rfl rfl)
theorem dX7_last_1 : decode cX7_last 1 = .ok (.getfield 15, 3) := dk_180 0 15 (dk_at dksX7_last_0 1 rfl rfl)
theorem dX7_last_4 : decode cX7_last 4 = .ok (.invokeinterface 44 1, 5) := by decide +kernel
theorem dX7_last_9 : decode cX7_last 9 = .ok (.ifCond .eq 7, 3) := dk_153 0 7 (dk_at dksX7_last_0 9 rfl rfl)
theorem dX7_last_12 : decode cX7_last 12 = .ok (.aconst_null, 1) := dk_1 (dk_at dksX7_last_0 12 rfl rfl)
theorem dX7_last_13 : decode cX7_last 13 = .ok (.goto 26, 3) := dk_167 0 26 (dk_at dksX7_last_0 13 rfl rfl)
theorem dX7_last_16 : decode cX7_last 16 = .ok (.aload_n 0, 1) := dk_42 (dk_at dksX7_last_0 16 rfl rfl)
theorem dX7_last_17 : decode cX7_last 17 = .ok (.getfield 15, 3) := dk_180 0 15 (dk_at dksX7_last_0 17 rfl rfl)
theorem dX7_last_20 : decode cX7_last 20 = .ok (.aload_n 0, 1) := dk_42 (dk_at dksX7_last_0 20 rfl rfl)
theorem dX7_last_21 : decode cX7_last 21 = .ok (.getfield 15, 3) := dk_180 0 15 (dk_at dksX7_last_0 21 rfl rfl)
theorem dX7_last_24 : decode cX7_last 24 = .ok (.invokeinterface 47 1, 5) := by decide +kernel
theorem dX7_last_29 : decode cX7_last 29 = .ok (.iconst 1, 1) := dk_4 (dk_at dksX7_last_1 5 rfl rfl)
theorem dX7_last_30 : decode cX7_last 30 = .ok (.isub, 1) := dk_100 (dk_at dksX7_last_1 6 rfl rfl)
theorem dX7_last_31 : decode cX7_last 31 = .ok (.invokeinterface 50 2, 5) := by decide +kernel
theorem dX7_last_36 : decode cX7_last 36 = .ok (.checkcast 35, 3) := dk_192 0 35 (dk_at dksX7_last_1 12 rfl rfl)
theorem dX7_last_39 : decode cX7_last 39 = .ok (.areturn, 1) := dk_176 (dk_at dksX7_last_1 15 rfl rfl)
abbrev cX7_has : ByteArray := prog_10_method_2_code
def yX7_has : MethodName := ⟨RX7, "has", "(II)Z"⟩
def dkwX7_has_2 : List UInt8 := [182, 0, 41, 28, 160, 0, 7, 4, 167, 0, 4, 3, 128, 62, 167, 255, 208, 29, 172]
abbrev dktX7_has_2 : List UInt8 := dkwX7_has_2 ++ []
def dkwX7_has_1 : List UInt8 := [25, 4, 185, 0, 31, 1, 0, 192, 0, 35, 58, 5, 29, 25, 5, 182, 0, 37, 27, 160, 0, 16, 25, 5]
abbrev dktX7_has_1 : List UInt8 := dkwX7_has_1 ++ dktX7_has_2
def dkwX7_has_0 : List UInt8 := [3, 62, 42, 180, 0, 15, 185, 0, 19, 1, 0, 58, 4, 25, 4, 185, 0, 25, 1, 0, 153, 0, 44]
abbrev dktX7_has_0 : List UInt8 := dkwX7_has_0 ++ dktX7_has_1
theorem dksX7_has_0 : cX7_has.data.toList.drop 0 = dktX7_has_0 := by decide +kernel
theorem dksX7_has_1 : cX7_has.data.toList.drop 23 = dktX7_has_1 := dk_seg dksX7_has_0 23 rfl rfl
theorem dksX7_has_2 : cX7_has.data.toList.drop 47 = dktX7_has_2 := dk_seg dksX7_has_1 24 rfl rfl
theorem dX7_has_0 : decode cX7_has 0 = .ok (.iconst 0, 1) := dk_3 (dk_at dksX7_has_0 0 rfl rfl)
theorem dX7_has_1 : decode cX7_has 1 = .ok (.istore_n 3, 1) := dk_62 (dk_at dksX7_has_0 1 rfl rfl)
theorem dX7_has_2 : decode cX7_has 2 = .ok (.aload_n 0, 1) := dk_42 (dk_at dksX7_has_0 2 rfl rfl)
theorem dX7_has_3 : decode cX7_has 3 = .ok (.getfield 15, 3) := dk_180 0 15 (dk_at dksX7_has_0 3 rfl rfl)
theorem dX7_has_6 : decode cX7_has 6 = .ok (.invokeinterface 19 1, 5) := by decide +kernel
theorem dX7_has_11 : decode cX7_has 11 = .ok (.astore 4, 2) := dk_58 4 (dk_at dksX7_has_0 11 rfl rfl)
theorem dX7_has_13 : decode cX7_has 13 = .ok (.aload 4, 2) := dk_25 4 (dk_at dksX7_has_0 13 rfl rfl)
theorem dX7_has_15 : decode cX7_has 15 = .ok (.invokeinterface 25 1, 5) := by decide +kernel
theorem dX7_has_20 : decode cX7_has 20 = .ok (.ifCond .eq 44, 3) := dk_153 0 44 (dk_at dksX7_has_0 20 rfl rfl)
theorem dX7_has_23 : decode cX7_has 23 = .ok (.aload 4, 2) := dk_25 4 (dk_at dksX7_has_1 0 rfl rfl)
theorem dX7_has_25 : decode cX7_has 25 = .ok (.invokeinterface 31 1, 5) := by decide +kernel
theorem dX7_has_30 : decode cX7_has 30 = .ok (.checkcast 35, 3) := dk_192 0 35 (dk_at dksX7_has_1 7 rfl rfl)
theorem dX7_has_33 : decode cX7_has 33 = .ok (.astore 5, 2) := dk_58 5 (dk_at dksX7_has_1 10 rfl rfl)
theorem dX7_has_35 : decode cX7_has 35 = .ok (.iload_n 3, 1) := dk_29 (dk_at dksX7_has_1 12 rfl rfl)
theorem dX7_has_36 : decode cX7_has 36 = .ok (.aload 5, 2) := dk_25 5 (dk_at dksX7_has_1 13 rfl rfl)
theorem dX7_has_38 : decode cX7_has 38 = .ok (.invokevirtual 37, 3) := dk_182 0 37 (dk_at dksX7_has_1 15 rfl rfl)
theorem dX7_has_41 : decode cX7_has 41 = .ok (.iload_n 1, 1) := dk_27 (dk_at dksX7_has_1 18 rfl rfl)
theorem dX7_has_42 : decode cX7_has 42 = .ok (.if_icmp .ne 16, 3) := dk_160 0 16 (dk_at dksX7_has_1 19 rfl rfl)
theorem dX7_has_45 : decode cX7_has 45 = .ok (.aload 5, 2) := dk_25 5 (dk_at dksX7_has_1 22 rfl rfl)
theorem dX7_has_47 : decode cX7_has 47 = .ok (.invokevirtual 41, 3) := dk_182 0 41 (dk_at dksX7_has_2 0 rfl rfl)
theorem dX7_has_50 : decode cX7_has 50 = .ok (.iload_n 2, 1) := dk_28 (dk_at dksX7_has_2 3 rfl rfl)
theorem dX7_has_51 : decode cX7_has 51 = .ok (.if_icmp .ne 7, 3) := dk_160 0 7 (dk_at dksX7_has_2 4 rfl rfl)
theorem dX7_has_54 : decode cX7_has 54 = .ok (.iconst 1, 1) := dk_4 (dk_at dksX7_has_2 7 rfl rfl)
theorem dX7_has_55 : decode cX7_has 55 = .ok (.goto 4, 3) := dk_167 0 4 (dk_at dksX7_has_2 8 rfl rfl)
theorem dX7_has_58 : decode cX7_has 58 = .ok (.iconst 0, 1) := dk_3 (dk_at dksX7_has_2 11 rfl rfl)
theorem dX7_has_59 : decode cX7_has 59 = .ok (.ior, 1) := dk_128 (dk_at dksX7_has_2 12 rfl rfl)
theorem dX7_has_60 : decode cX7_has 60 = .ok (.istore_n 3, 1) := dk_62 (dk_at dksX7_has_2 13 rfl rfl)
theorem dX7_has_61 : decode cX7_has 61 = .ok (.goto (-48), 3) := dk_167 255 208 (dk_at dksX7_has_2 14 rfl rfl)
theorem dX7_has_64 : decode cX7_has 64 = .ok (.iload_n 3, 1) := dk_29 (dk_at dksX7_has_2 17 rfl rfl)
theorem dX7_has_65 : decode cX7_has 65 = .ok (.ireturn, 1) := dk_172 (dk_at dksX7_has_2 18 rfl rfl)
abbrev cX7_change : ByteArray := prog_10_method_7_code
def yX7_change : MethodName := ⟨RX7, "change", "(LRaidhall$Mats;)V"⟩
def dkwX7_change_9 : List UInt8 := [181, 0, 77, 43, 29, 181, 0, 70, 43, 182, 0, 124, 177]
abbrev dktX7_change_9 : List UInt8 := dkwX7_change_9 ++ []
def dkwX7_change_8 : List UInt8 := [21, 7, 4, 96, 79, 43, 182, 0, 121, 43, 89, 180, 0, 77, 42, 182, 0, 54, 182, 0, 61, 96]
abbrev dktX7_change_8 : List UInt8 := dkwX7_change_8 ++ dktX7_change_9
def dkwX7_change_7 : List UInt8 := [42, 5, 2, 182, 0, 73, 154, 0, 12, 42, 43, 4, 182, 0, 111, 167, 0, 13, 43, 180, 0, 101, 28]
abbrev dktX7_change_7 : List UInt8 := dkwX7_change_7 ++ dktX7_change_8
def dkwX7_change_6 : List UInt8 := [42, 43, 21, 6, 182, 0, 118, 167, 0, 45, 21, 4, 154, 0, 21, 42, 4, 2, 182, 0, 73, 154, 0, 21]
abbrev dktX7_change_6 : List UInt8 := dkwX7_change_6 ++ dktX7_change_7
def dkwX7_change_5 : List UInt8 := [163, 0, 7, 5, 167, 0, 4, 4, 182, 0, 111, 167, 0, 65, 42, 182, 0, 115, 21, 6, 96, 158, 0, 13]
abbrev dktX7_change_5 : List UInt8 := dkwX7_change_5 ++ dktX7_change_6
def dkwX7_change_4 : List UInt8 := [92, 46, 21, 6, 96, 79, 42, 43, 42, 182, 0, 54, 182, 0, 37, 7, 160, 0, 13, 21, 5, 6]
abbrev dktX7_change_4 : List UInt8 := dkwX7_change_4 ++ dktX7_change_5
def dkwX7_change_3 : List UInt8 := [159, 0, 60, 43, 180, 0, 105, 28, 92, 46, 21, 6, 96, 79, 43, 180, 0, 108, 28, 50, 42, 180, 0, 9]
abbrev dktX7_change_3 : List UInt8 := dkwX7_change_3 ++ dktX7_change_4
def dkwX7_change_2 : List UInt8 := [180, 0, 101, 28, 46, 54, 7, 43, 180, 0, 101, 28, 3, 79, 42, 182, 0, 54, 182, 0, 37, 6]
abbrev dktX7_change_2 : List UInt8 := dkwX7_change_2 ++ dktX7_change_3
def dkwX7_change_1 : List UInt8 := [2, 182, 0, 73, 153, 0, 14, 21, 5, 16, 6, 161, 0, 7, 4, 167, 0, 4, 3, 54, 6, 43]
abbrev dktX7_change_1 : List UInt8 := dkwX7_change_1 ++ dktX7_change_2
def dkwX7_change_0 : List UInt8 := [43, 180, 0, 70, 61, 4, 28, 100, 62, 43, 182, 0, 94, 54, 4, 43, 29, 182, 0, 97, 54, 5, 42, 4]
abbrev dktX7_change_0 : List UInt8 := dkwX7_change_0 ++ dktX7_change_1
theorem dksX7_change_0 : cX7_change.data.toList.drop 0 = dktX7_change_0 := by decide +kernel
theorem dksX7_change_1 : cX7_change.data.toList.drop 24 = dktX7_change_1 := dk_seg dksX7_change_0 24 rfl rfl
theorem dksX7_change_2 : cX7_change.data.toList.drop 46 = dktX7_change_2 := dk_seg dksX7_change_1 22 rfl rfl
theorem dksX7_change_3 : cX7_change.data.toList.drop 68 = dktX7_change_3 := dk_seg dksX7_change_2 22 rfl rfl
theorem dksX7_change_4 : cX7_change.data.toList.drop 92 = dktX7_change_4 := dk_seg dksX7_change_3 24 rfl rfl
theorem dksX7_change_5 : cX7_change.data.toList.drop 114 = dktX7_change_5 := dk_seg dksX7_change_4 22 rfl rfl
theorem dksX7_change_6 : cX7_change.data.toList.drop 138 = dktX7_change_6 := dk_seg dksX7_change_5 24 rfl rfl
theorem dksX7_change_7 : cX7_change.data.toList.drop 162 = dktX7_change_7 := dk_seg dksX7_change_6 24 rfl rfl
theorem dksX7_change_8 : cX7_change.data.toList.drop 185 = dktX7_change_8 := dk_seg dksX7_change_7 23 rfl rfl
theorem dksX7_change_9 : cX7_change.data.toList.drop 207 = dktX7_change_9 := dk_seg dksX7_change_8 22 rfl rfl
theorem dX7_change_0 : decode cX7_change 0 = .ok (.aload_n 1, 1) := dk_43 (dk_at dksX7_change_0 0 rfl rfl)
theorem dX7_change_1 : decode cX7_change 1 = .ok (.getfield 70, 3) := dk_180 0 70 (dk_at dksX7_change_0 1 rfl rfl)
theorem dX7_change_4 : decode cX7_change 4 = .ok (.istore_n 2, 1) := dk_61 (dk_at dksX7_change_0 4 rfl rfl)
theorem dX7_change_5 : decode cX7_change 5 = .ok (.iconst 1, 1) := dk_4 (dk_at dksX7_change_0 5 rfl rfl)
theorem dX7_change_6 : decode cX7_change 6 = .ok (.iload_n 2, 1) := dk_28 (dk_at dksX7_change_0 6 rfl rfl)
theorem dX7_change_7 : decode cX7_change 7 = .ok (.isub, 1) := dk_100 (dk_at dksX7_change_0 7 rfl rfl)
theorem dX7_change_8 : decode cX7_change 8 = .ok (.istore_n 3, 1) := dk_62 (dk_at dksX7_change_0 8 rfl rfl)
theorem dX7_change_9 : decode cX7_change 9 = .ok (.aload_n 1, 1) := dk_43 (dk_at dksX7_change_0 9 rfl rfl)
theorem dX7_change_10 : decode cX7_change 10 = .ok (.invokevirtual 94, 3) := dk_182 0 94 (dk_at dksX7_change_0 10 rfl rfl)
theorem dX7_change_13 : decode cX7_change 13 = .ok (.istore 4, 2) := dk_54 4 (dk_at dksX7_change_0 13 rfl rfl)
theorem dX7_change_15 : decode cX7_change 15 = .ok (.aload_n 1, 1) := dk_43 (dk_at dksX7_change_0 15 rfl rfl)
theorem dX7_change_16 : decode cX7_change 16 = .ok (.iload_n 3, 1) := dk_29 (dk_at dksX7_change_0 16 rfl rfl)
theorem dX7_change_17 : decode cX7_change 17 = .ok (.invokevirtual 97, 3) := dk_182 0 97 (dk_at dksX7_change_0 17 rfl rfl)
theorem dX7_change_20 : decode cX7_change 20 = .ok (.istore 5, 2) := dk_54 5 (dk_at dksX7_change_0 20 rfl rfl)
theorem dX7_change_22 : decode cX7_change 22 = .ok (.aload_n 0, 1) := dk_42 (dk_at dksX7_change_0 22 rfl rfl)
theorem dX7_change_23 : decode cX7_change 23 = .ok (.iconst 1, 1) := dk_4 (dk_at dksX7_change_0 23 rfl rfl)
theorem dX7_change_24 : decode cX7_change 24 = .ok (.iconst (-1), 1) := dk_2 (dk_at dksX7_change_1 0 rfl rfl)
theorem dX7_change_25 : decode cX7_change 25 = .ok (.invokevirtual 73, 3) := dk_182 0 73 (dk_at dksX7_change_1 1 rfl rfl)
theorem dX7_change_28 : decode cX7_change 28 = .ok (.ifCond .eq 14, 3) := dk_153 0 14 (dk_at dksX7_change_1 4 rfl rfl)
theorem dX7_change_31 : decode cX7_change 31 = .ok (.iload 5, 2) := dk_21 5 (dk_at dksX7_change_1 7 rfl rfl)
theorem dX7_change_33 : decode cX7_change 33 = .ok (.bipush 6, 2) := dk_16 6 (dk_at dksX7_change_1 9 rfl rfl)
theorem dX7_change_35 : decode cX7_change 35 = .ok (.if_icmp .lt 7, 3) := dk_161 0 7 (dk_at dksX7_change_1 11 rfl rfl)
theorem dX7_change_38 : decode cX7_change 38 = .ok (.iconst 1, 1) := dk_4 (dk_at dksX7_change_1 14 rfl rfl)
theorem dX7_change_39 : decode cX7_change 39 = .ok (.goto 4, 3) := dk_167 0 4 (dk_at dksX7_change_1 15 rfl rfl)
theorem dX7_change_42 : decode cX7_change 42 = .ok (.iconst 0, 1) := dk_3 (dk_at dksX7_change_1 18 rfl rfl)
theorem dX7_change_43 : decode cX7_change 43 = .ok (.istore 6, 2) := dk_54 6 (dk_at dksX7_change_1 19 rfl rfl)
theorem dX7_change_45 : decode cX7_change 45 = .ok (.aload_n 1, 1) := dk_43 (dk_at dksX7_change_1 21 rfl rfl)
theorem dX7_change_46 : decode cX7_change 46 = .ok (.getfield 101, 3) := dk_180 0 101 (dk_at dksX7_change_2 0 rfl rfl)
theorem dX7_change_49 : decode cX7_change 49 = .ok (.iload_n 2, 1) := dk_28 (dk_at dksX7_change_2 3 rfl rfl)
theorem dX7_change_50 : decode cX7_change 50 = .ok (.iaload, 1) := dk_46 (dk_at dksX7_change_2 4 rfl rfl)
theorem dX7_change_51 : decode cX7_change 51 = .ok (.istore 7, 2) := dk_54 7 (dk_at dksX7_change_2 5 rfl rfl)
theorem dX7_change_53 : decode cX7_change 53 = .ok (.aload_n 1, 1) := dk_43 (dk_at dksX7_change_2 7 rfl rfl)
theorem dX7_change_54 : decode cX7_change 54 = .ok (.getfield 101, 3) := dk_180 0 101 (dk_at dksX7_change_2 8 rfl rfl)
theorem dX7_change_57 : decode cX7_change 57 = .ok (.iload_n 2, 1) := dk_28 (dk_at dksX7_change_2 11 rfl rfl)
theorem dX7_change_58 : decode cX7_change 58 = .ok (.iconst 0, 1) := dk_3 (dk_at dksX7_change_2 12 rfl rfl)
theorem dX7_change_59 : decode cX7_change 59 = .ok (.iastore, 1) := dk_79 (dk_at dksX7_change_2 13 rfl rfl)
theorem dX7_change_60 : decode cX7_change 60 = .ok (.aload_n 0, 1) := dk_42 (dk_at dksX7_change_2 14 rfl rfl)
theorem dX7_change_61 : decode cX7_change 61 = .ok (.invokevirtual 54, 3) := dk_182 0 54 (dk_at dksX7_change_2 15 rfl rfl)
theorem dX7_change_64 : decode cX7_change 64 = .ok (.invokevirtual 37, 3) := dk_182 0 37 (dk_at dksX7_change_2 18 rfl rfl)
theorem dX7_change_67 : decode cX7_change 67 = .ok (.iconst 3, 1) := dk_6 (dk_at dksX7_change_2 21 rfl rfl)
theorem dX7_change_68 : decode cX7_change 68 = .ok (.if_icmp .eq 60, 3) := dk_159 0 60 (dk_at dksX7_change_3 0 rfl rfl)
theorem dX7_change_71 : decode cX7_change 71 = .ok (.aload_n 1, 1) := dk_43 (dk_at dksX7_change_3 3 rfl rfl)
theorem dX7_change_72 : decode cX7_change 72 = .ok (.getfield 105, 3) := dk_180 0 105 (dk_at dksX7_change_3 4 rfl rfl)
theorem dX7_change_75 : decode cX7_change 75 = .ok (.iload_n 2, 1) := dk_28 (dk_at dksX7_change_3 7 rfl rfl)
theorem dX7_change_76 : decode cX7_change 76 = .ok (.dup2, 1) := dk_92 (dk_at dksX7_change_3 8 rfl rfl)
theorem dX7_change_77 : decode cX7_change 77 = .ok (.iaload, 1) := dk_46 (dk_at dksX7_change_3 9 rfl rfl)
theorem dX7_change_78 : decode cX7_change 78 = .ok (.iload 6, 2) := dk_21 6 (dk_at dksX7_change_3 10 rfl rfl)
theorem dX7_change_80 : decode cX7_change 80 = .ok (.iadd, 1) := dk_96 (dk_at dksX7_change_3 12 rfl rfl)
theorem dX7_change_81 : decode cX7_change 81 = .ok (.iastore, 1) := dk_79 (dk_at dksX7_change_3 13 rfl rfl)
theorem dX7_change_82 : decode cX7_change 82 = .ok (.aload_n 1, 1) := dk_43 (dk_at dksX7_change_3 14 rfl rfl)
theorem dX7_change_83 : decode cX7_change 83 = .ok (.getfield 108, 3) := dk_180 0 108 (dk_at dksX7_change_3 15 rfl rfl)
theorem dX7_change_86 : decode cX7_change 86 = .ok (.iload_n 2, 1) := dk_28 (dk_at dksX7_change_3 18 rfl rfl)
theorem dX7_change_87 : decode cX7_change 87 = .ok (.aaload, 1) := dk_50 (dk_at dksX7_change_3 19 rfl rfl)
theorem dX7_change_88 : decode cX7_change 88 = .ok (.aload_n 0, 1) := dk_42 (dk_at dksX7_change_3 20 rfl rfl)
theorem dX7_change_89 : decode cX7_change 89 = .ok (.getfield 9, 3) := dk_180 0 9 (dk_at dksX7_change_3 21 rfl rfl)
theorem dX7_change_92 : decode cX7_change 92 = .ok (.dup2, 1) := dk_92 (dk_at dksX7_change_4 0 rfl rfl)
theorem dX7_change_93 : decode cX7_change 93 = .ok (.iaload, 1) := dk_46 (dk_at dksX7_change_4 1 rfl rfl)
theorem dX7_change_94 : decode cX7_change 94 = .ok (.iload 6, 2) := dk_21 6 (dk_at dksX7_change_4 2 rfl rfl)
theorem dX7_change_96 : decode cX7_change 96 = .ok (.iadd, 1) := dk_96 (dk_at dksX7_change_4 4 rfl rfl)
theorem dX7_change_97 : decode cX7_change 97 = .ok (.iastore, 1) := dk_79 (dk_at dksX7_change_4 5 rfl rfl)
theorem dX7_change_98 : decode cX7_change 98 = .ok (.aload_n 0, 1) := dk_42 (dk_at dksX7_change_4 6 rfl rfl)
theorem dX7_change_99 : decode cX7_change 99 = .ok (.aload_n 1, 1) := dk_43 (dk_at dksX7_change_4 7 rfl rfl)
theorem dX7_change_100 : decode cX7_change 100 = .ok (.aload_n 0, 1) := dk_42 (dk_at dksX7_change_4 8 rfl rfl)
theorem dX7_change_101 : decode cX7_change 101 = .ok (.invokevirtual 54, 3) := dk_182 0 54 (dk_at dksX7_change_4 9 rfl rfl)
theorem dX7_change_104 : decode cX7_change 104 = .ok (.invokevirtual 37, 3) := dk_182 0 37 (dk_at dksX7_change_4 12 rfl rfl)
theorem dX7_change_107 : decode cX7_change 107 = .ok (.iconst 4, 1) := dk_7 (dk_at dksX7_change_4 15 rfl rfl)
theorem dX7_change_108 : decode cX7_change 108 = .ok (.if_icmp .ne 13, 3) := dk_160 0 13 (dk_at dksX7_change_4 16 rfl rfl)
theorem dX7_change_111 : decode cX7_change 111 = .ok (.iload 5, 2) := dk_21 5 (dk_at dksX7_change_4 19 rfl rfl)
theorem dX7_change_113 : decode cX7_change 113 = .ok (.iconst 3, 1) := dk_6 (dk_at dksX7_change_4 21 rfl rfl)
theorem dX7_change_114 : decode cX7_change 114 = .ok (.if_icmp .gt 7, 3) := dk_163 0 7 (dk_at dksX7_change_5 0 rfl rfl)
theorem dX7_change_117 : decode cX7_change 117 = .ok (.iconst 2, 1) := dk_5 (dk_at dksX7_change_5 3 rfl rfl)
theorem dX7_change_118 : decode cX7_change 118 = .ok (.goto 4, 3) := dk_167 0 4 (dk_at dksX7_change_5 4 rfl rfl)
theorem dX7_change_121 : decode cX7_change 121 = .ok (.iconst 1, 1) := dk_4 (dk_at dksX7_change_5 7 rfl rfl)
theorem dX7_change_122 : decode cX7_change 122 = .ok (.invokevirtual 111, 3) := dk_182 0 111 (dk_at dksX7_change_5 8 rfl rfl)
theorem dX7_change_125 : decode cX7_change 125 = .ok (.goto 65, 3) := dk_167 0 65 (dk_at dksX7_change_5 11 rfl rfl)
theorem dX7_change_128 : decode cX7_change 128 = .ok (.aload_n 0, 1) := dk_42 (dk_at dksX7_change_5 14 rfl rfl)
theorem dX7_change_129 : decode cX7_change 129 = .ok (.invokevirtual 115, 3) := dk_182 0 115 (dk_at dksX7_change_5 15 rfl rfl)
theorem dX7_change_132 : decode cX7_change 132 = .ok (.iload 6, 2) := dk_21 6 (dk_at dksX7_change_5 18 rfl rfl)
theorem dX7_change_134 : decode cX7_change 134 = .ok (.iadd, 1) := dk_96 (dk_at dksX7_change_5 20 rfl rfl)
theorem dX7_change_135 : decode cX7_change 135 = .ok (.ifCond .le 13, 3) := dk_158 0 13 (dk_at dksX7_change_5 21 rfl rfl)
theorem dX7_change_138 : decode cX7_change 138 = .ok (.aload_n 0, 1) := dk_42 (dk_at dksX7_change_6 0 rfl rfl)
theorem dX7_change_139 : decode cX7_change 139 = .ok (.aload_n 1, 1) := dk_43 (dk_at dksX7_change_6 1 rfl rfl)
theorem dX7_change_140 : decode cX7_change 140 = .ok (.iload 6, 2) := dk_21 6 (dk_at dksX7_change_6 2 rfl rfl)
theorem dX7_change_142 : decode cX7_change 142 = .ok (.invokevirtual 118, 3) := dk_182 0 118 (dk_at dksX7_change_6 4 rfl rfl)
theorem dX7_change_145 : decode cX7_change 145 = .ok (.goto 45, 3) := dk_167 0 45 (dk_at dksX7_change_6 7 rfl rfl)
theorem dX7_change_148 : decode cX7_change 148 = .ok (.iload 4, 2) := dk_21 4 (dk_at dksX7_change_6 10 rfl rfl)
theorem dX7_change_150 : decode cX7_change 150 = .ok (.ifCond .ne 21, 3) := dk_154 0 21 (dk_at dksX7_change_6 12 rfl rfl)
theorem dX7_change_153 : decode cX7_change 153 = .ok (.aload_n 0, 1) := dk_42 (dk_at dksX7_change_6 15 rfl rfl)
theorem dX7_change_154 : decode cX7_change 154 = .ok (.iconst 1, 1) := dk_4 (dk_at dksX7_change_6 16 rfl rfl)
theorem dX7_change_155 : decode cX7_change 155 = .ok (.iconst (-1), 1) := dk_2 (dk_at dksX7_change_6 17 rfl rfl)
theorem dX7_change_156 : decode cX7_change 156 = .ok (.invokevirtual 73, 3) := dk_182 0 73 (dk_at dksX7_change_6 18 rfl rfl)
theorem dX7_change_159 : decode cX7_change 159 = .ok (.ifCond .ne 21, 3) := dk_154 0 21 (dk_at dksX7_change_6 21 rfl rfl)
theorem dX7_change_162 : decode cX7_change 162 = .ok (.aload_n 0, 1) := dk_42 (dk_at dksX7_change_7 0 rfl rfl)
theorem dX7_change_163 : decode cX7_change 163 = .ok (.iconst 2, 1) := dk_5 (dk_at dksX7_change_7 1 rfl rfl)
theorem dX7_change_164 : decode cX7_change 164 = .ok (.iconst (-1), 1) := dk_2 (dk_at dksX7_change_7 2 rfl rfl)
theorem dX7_change_165 : decode cX7_change 165 = .ok (.invokevirtual 73, 3) := dk_182 0 73 (dk_at dksX7_change_7 3 rfl rfl)
theorem dX7_change_168 : decode cX7_change 168 = .ok (.ifCond .ne 12, 3) := dk_154 0 12 (dk_at dksX7_change_7 6 rfl rfl)
theorem dX7_change_171 : decode cX7_change 171 = .ok (.aload_n 0, 1) := dk_42 (dk_at dksX7_change_7 9 rfl rfl)
theorem dX7_change_172 : decode cX7_change 172 = .ok (.aload_n 1, 1) := dk_43 (dk_at dksX7_change_7 10 rfl rfl)
theorem dX7_change_173 : decode cX7_change 173 = .ok (.iconst 1, 1) := dk_4 (dk_at dksX7_change_7 11 rfl rfl)
theorem dX7_change_174 : decode cX7_change 174 = .ok (.invokevirtual 111, 3) := dk_182 0 111 (dk_at dksX7_change_7 12 rfl rfl)
theorem dX7_change_177 : decode cX7_change 177 = .ok (.goto 13, 3) := dk_167 0 13 (dk_at dksX7_change_7 15 rfl rfl)
theorem dX7_change_180 : decode cX7_change 180 = .ok (.aload_n 1, 1) := dk_43 (dk_at dksX7_change_7 18 rfl rfl)
theorem dX7_change_181 : decode cX7_change 181 = .ok (.getfield 101, 3) := dk_180 0 101 (dk_at dksX7_change_7 19 rfl rfl)
theorem dX7_change_184 : decode cX7_change 184 = .ok (.iload_n 2, 1) := dk_28 (dk_at dksX7_change_7 22 rfl rfl)
theorem dX7_change_185 : decode cX7_change 185 = .ok (.iload 7, 2) := dk_21 7 (dk_at dksX7_change_8 0 rfl rfl)
theorem dX7_change_187 : decode cX7_change 187 = .ok (.iconst 1, 1) := dk_4 (dk_at dksX7_change_8 2 rfl rfl)
theorem dX7_change_188 : decode cX7_change 188 = .ok (.iadd, 1) := dk_96 (dk_at dksX7_change_8 3 rfl rfl)
theorem dX7_change_189 : decode cX7_change 189 = .ok (.iastore, 1) := dk_79 (dk_at dksX7_change_8 4 rfl rfl)
theorem dX7_change_190 : decode cX7_change 190 = .ok (.aload_n 1, 1) := dk_43 (dk_at dksX7_change_8 5 rfl rfl)
theorem dX7_change_191 : decode cX7_change 191 = .ok (.invokevirtual 121, 3) := dk_182 0 121 (dk_at dksX7_change_8 6 rfl rfl)
theorem dX7_change_194 : decode cX7_change 194 = .ok (.aload_n 1, 1) := dk_43 (dk_at dksX7_change_8 9 rfl rfl)
theorem dX7_change_195 : decode cX7_change 195 = .ok (.dup, 1) := dk_89 (dk_at dksX7_change_8 10 rfl rfl)
theorem dX7_change_196 : decode cX7_change 196 = .ok (.getfield 77, 3) := dk_180 0 77 (dk_at dksX7_change_8 11 rfl rfl)
theorem dX7_change_199 : decode cX7_change 199 = .ok (.aload_n 0, 1) := dk_42 (dk_at dksX7_change_8 14 rfl rfl)
theorem dX7_change_200 : decode cX7_change 200 = .ok (.invokevirtual 54, 3) := dk_182 0 54 (dk_at dksX7_change_8 15 rfl rfl)
theorem dX7_change_203 : decode cX7_change 203 = .ok (.invokevirtual 61, 3) := dk_182 0 61 (dk_at dksX7_change_8 18 rfl rfl)
theorem dX7_change_206 : decode cX7_change 206 = .ok (.iadd, 1) := dk_96 (dk_at dksX7_change_8 21 rfl rfl)
theorem dX7_change_207 : decode cX7_change 207 = .ok (.putfield 77, 3) := dk_181 0 77 (dk_at dksX7_change_9 0 rfl rfl)
theorem dX7_change_210 : decode cX7_change 210 = .ok (.aload_n 1, 1) := dk_43 (dk_at dksX7_change_9 3 rfl rfl)
theorem dX7_change_211 : decode cX7_change 211 = .ok (.iload_n 3, 1) := dk_29 (dk_at dksX7_change_9 4 rfl rfl)
theorem dX7_change_212 : decode cX7_change 212 = .ok (.putfield 70, 3) := dk_181 0 70 (dk_at dksX7_change_9 5 rfl rfl)
theorem dX7_change_215 : decode cX7_change 215 = .ok (.aload_n 1, 1) := dk_43 (dk_at dksX7_change_9 8 rfl rfl)
theorem dX7_change_216 : decode cX7_change 216 = .ok (.invokevirtual 124, 3) := dk_182 0 124 (dk_at dksX7_change_9 9 rfl rfl)
theorem dX7_change_219 : decode cX7_change 219 = .ok (.return_, 1) := dk_177 (dk_at dksX7_change_9 12 rfl rfl)
abbrev cX7_fail : ByteArray := prog_10_method_9_code
def yX7_fail : MethodName := ⟨RX7, "fail", "(LRaidhall$Mats;I)V"⟩
def dkwX7_fail_1 : List UInt8 := [28, 96, 79, 43, 4, 43, 180, 0, 70, 100, 4, 182, 0, 131, 177]
abbrev dktX7_fail_1 : List UInt8 := dkwX7_fail_1 ++ []
def dkwX7_fail_0 : List UInt8 := [43, 43, 180, 0, 70, 42, 180, 0, 9, 182, 0, 127, 43, 180, 0, 105, 4, 43, 180, 0, 70, 100, 92, 46]
abbrev dktX7_fail_0 : List UInt8 := dkwX7_fail_0 ++ dktX7_fail_1
theorem dksX7_fail_0 : cX7_fail.data.toList.drop 0 = dktX7_fail_0 := by decide +kernel
theorem dksX7_fail_1 : cX7_fail.data.toList.drop 24 = dktX7_fail_1 := dk_seg dksX7_fail_0 24 rfl rfl
theorem dX7_fail_0 : decode cX7_fail 0 = .ok (.aload_n 1, 1) := dk_43 (dk_at dksX7_fail_0 0 rfl rfl)
theorem dX7_fail_1 : decode cX7_fail 1 = .ok (.aload_n 1, 1) := dk_43 (dk_at dksX7_fail_0 1 rfl rfl)
theorem dX7_fail_2 : decode cX7_fail 2 = .ok (.getfield 70, 3) := dk_180 0 70 (dk_at dksX7_fail_0 2 rfl rfl)
theorem dX7_fail_5 : decode cX7_fail 5 = .ok (.aload_n 0, 1) := dk_42 (dk_at dksX7_fail_0 5 rfl rfl)
theorem dX7_fail_6 : decode cX7_fail 6 = .ok (.getfield 9, 3) := dk_180 0 9 (dk_at dksX7_fail_0 6 rfl rfl)
theorem dX7_fail_9 : decode cX7_fail 9 = .ok (.invokevirtual 127, 3) := dk_182 0 127 (dk_at dksX7_fail_0 9 rfl rfl)
theorem dX7_fail_12 : decode cX7_fail 12 = .ok (.aload_n 1, 1) := dk_43 (dk_at dksX7_fail_0 12 rfl rfl)
theorem dX7_fail_13 : decode cX7_fail 13 = .ok (.getfield 105, 3) := dk_180 0 105 (dk_at dksX7_fail_0 13 rfl rfl)
theorem dX7_fail_16 : decode cX7_fail 16 = .ok (.iconst 1, 1) := dk_4 (dk_at dksX7_fail_0 16 rfl rfl)
theorem dX7_fail_17 : decode cX7_fail 17 = .ok (.aload_n 1, 1) := dk_43 (dk_at dksX7_fail_0 17 rfl rfl)
theorem dX7_fail_18 : decode cX7_fail 18 = .ok (.getfield 70, 3) := dk_180 0 70 (dk_at dksX7_fail_0 18 rfl rfl)
theorem dX7_fail_21 : decode cX7_fail 21 = .ok (.isub, 1) := dk_100 (dk_at dksX7_fail_0 21 rfl rfl)
theorem dX7_fail_22 : decode cX7_fail 22 = .ok (.dup2, 1) := dk_92 (dk_at dksX7_fail_0 22 rfl rfl)
theorem dX7_fail_23 : decode cX7_fail 23 = .ok (.iaload, 1) := dk_46 (dk_at dksX7_fail_0 23 rfl rfl)
theorem dX7_fail_24 : decode cX7_fail 24 = .ok (.iload_n 2, 1) := dk_28 (dk_at dksX7_fail_1 0 rfl rfl)
theorem dX7_fail_25 : decode cX7_fail 25 = .ok (.iadd, 1) := dk_96 (dk_at dksX7_fail_1 1 rfl rfl)
theorem dX7_fail_26 : decode cX7_fail 26 = .ok (.iastore, 1) := dk_79 (dk_at dksX7_fail_1 2 rfl rfl)
theorem dX7_fail_27 : decode cX7_fail 27 = .ok (.aload_n 1, 1) := dk_43 (dk_at dksX7_fail_1 3 rfl rfl)
theorem dX7_fail_28 : decode cX7_fail 28 = .ok (.iconst 1, 1) := dk_4 (dk_at dksX7_fail_1 4 rfl rfl)
theorem dX7_fail_29 : decode cX7_fail 29 = .ok (.aload_n 1, 1) := dk_43 (dk_at dksX7_fail_1 5 rfl rfl)
theorem dX7_fail_30 : decode cX7_fail 30 = .ok (.getfield 70, 3) := dk_180 0 70 (dk_at dksX7_fail_1 6 rfl rfl)
theorem dX7_fail_33 : decode cX7_fail 33 = .ok (.isub, 1) := dk_100 (dk_at dksX7_fail_1 9 rfl rfl)
theorem dX7_fail_34 : decode cX7_fail 34 = .ok (.iconst 1, 1) := dk_4 (dk_at dksX7_fail_1 10 rfl rfl)
theorem dX7_fail_35 : decode cX7_fail 35 = .ok (.invokevirtual 131, 3) := dk_182 0 131 (dk_at dksX7_fail_1 11 rfl rfl)
theorem dX7_fail_38 : decode cX7_fail 38 = .ok (.return_, 1) := dk_177 (dk_at dksX7_fail_1 14 rfl rfl)
abbrev cX7_touches : ByteArray := prog_10_method_3_code
def yX7_touches : MethodName := ⟨RX7, "touches", "()I"⟩
def dkwX7_touches_2 : List UInt8 := [167, 255, 222, 27, 172]
abbrev dktX7_touches_2 : List UInt8 := dkwX7_touches_2 ++ []
def dkwX7_touches_1 : List UInt8 := [185, 0, 31, 1, 0, 192, 0, 35, 78, 27, 45, 182, 0, 37, 154, 0, 7, 4, 167, 0, 4, 3, 96, 60]
abbrev dktX7_touches_1 : List UInt8 := dkwX7_touches_1 ++ dktX7_touches_2
def dkwX7_touches_0 : List UInt8 := [3, 60, 42, 180, 0, 15, 185, 0, 19, 1, 0, 77, 44, 185, 0, 25, 1, 0, 153, 0, 31, 44]
abbrev dktX7_touches_0 : List UInt8 := dkwX7_touches_0 ++ dktX7_touches_1
theorem dksX7_touches_0 : cX7_touches.data.toList.drop 0 = dktX7_touches_0 := by decide +kernel
theorem dksX7_touches_1 : cX7_touches.data.toList.drop 22 = dktX7_touches_1 := dk_seg dksX7_touches_0 22 rfl rfl
theorem dksX7_touches_2 : cX7_touches.data.toList.drop 46 = dktX7_touches_2 := dk_seg dksX7_touches_1 24 rfl rfl
theorem dX7_touches_0 : decode cX7_touches 0 = .ok (.iconst 0, 1) := dk_3 (dk_at dksX7_touches_0 0 rfl rfl)
theorem dX7_touches_1 : decode cX7_touches 1 = .ok (.istore_n 1, 1) := dk_60 (dk_at dksX7_touches_0 1 rfl rfl)
theorem dX7_touches_2 : decode cX7_touches 2 = .ok (.aload_n 0, 1) := dk_42 (dk_at dksX7_touches_0 2 rfl rfl)
theorem dX7_touches_3 : decode cX7_touches 3 = .ok (.getfield 15, 3) := dk_180 0 15 (dk_at dksX7_touches_0 3 rfl rfl)
theorem dX7_touches_6 : decode cX7_touches 6 = .ok (.invokeinterface 19 1, 5) := by decide +kernel
theorem dX7_touches_11 : decode cX7_touches 11 = .ok (.astore_n 2, 1) := dk_77 (dk_at dksX7_touches_0 11 rfl rfl)
theorem dX7_touches_12 : decode cX7_touches 12 = .ok (.aload_n 2, 1) := dk_44 (dk_at dksX7_touches_0 12 rfl rfl)
theorem dX7_touches_13 : decode cX7_touches 13 = .ok (.invokeinterface 25 1, 5) := by decide +kernel
theorem dX7_touches_18 : decode cX7_touches 18 = .ok (.ifCond .eq 31, 3) := dk_153 0 31 (dk_at dksX7_touches_0 18 rfl rfl)
theorem dX7_touches_21 : decode cX7_touches 21 = .ok (.aload_n 2, 1) := dk_44 (dk_at dksX7_touches_0 21 rfl rfl)
theorem dX7_touches_22 : decode cX7_touches 22 = .ok (.invokeinterface 31 1, 5) := by decide +kernel
theorem dX7_touches_27 : decode cX7_touches 27 = .ok (.checkcast 35, 3) := dk_192 0 35 (dk_at dksX7_touches_1 5 rfl rfl)
theorem dX7_touches_30 : decode cX7_touches 30 = .ok (.astore_n 3, 1) := dk_78 (dk_at dksX7_touches_1 8 rfl rfl)
theorem dX7_touches_31 : decode cX7_touches 31 = .ok (.iload_n 1, 1) := dk_27 (dk_at dksX7_touches_1 9 rfl rfl)
theorem dX7_touches_32 : decode cX7_touches 32 = .ok (.aload_n 3, 1) := dk_45 (dk_at dksX7_touches_1 10 rfl rfl)
theorem dX7_touches_33 : decode cX7_touches 33 = .ok (.invokevirtual 37, 3) := dk_182 0 37 (dk_at dksX7_touches_1 11 rfl rfl)
theorem dX7_touches_36 : decode cX7_touches 36 = .ok (.ifCond .ne 7, 3) := dk_154 0 7 (dk_at dksX7_touches_1 14 rfl rfl)
theorem dX7_touches_39 : decode cX7_touches 39 = .ok (.iconst 1, 1) := dk_4 (dk_at dksX7_touches_1 17 rfl rfl)
theorem dX7_touches_40 : decode cX7_touches 40 = .ok (.goto 4, 3) := dk_167 0 4 (dk_at dksX7_touches_1 18 rfl rfl)
theorem dX7_touches_43 : decode cX7_touches 43 = .ok (.iconst 0, 1) := dk_3 (dk_at dksX7_touches_1 21 rfl rfl)
theorem dX7_touches_44 : decode cX7_touches 44 = .ok (.iadd, 1) := dk_96 (dk_at dksX7_touches_1 22 rfl rfl)
theorem dX7_touches_45 : decode cX7_touches 45 = .ok (.istore_n 1, 1) := dk_60 (dk_at dksX7_touches_1 23 rfl rfl)
theorem dX7_touches_46 : decode cX7_touches 46 = .ok (.goto (-34), 3) := dk_167 255 222 (dk_at dksX7_touches_2 0 rfl rfl)
theorem dX7_touches_49 : decode cX7_touches 49 = .ok (.iload_n 1, 1) := dk_27 (dk_at dksX7_touches_2 3 rfl rfl)
theorem dX7_touches_50 : decode cX7_touches 50 = .ok (.ireturn, 1) := dk_172 (dk_at dksX7_touches_2 4 rfl rfl)
abbrev cX7_score : ByteArray := prog_10_method_8_code
def yX7_score : MethodName := ⟨RX7, "score", "(LRaidhall$Mats;I)V"⟩
def dkwX7_score_4 : List UInt8 := [182, 0, 127, 167, 255, 214, 43, 29, 42, 182, 0, 115, 182, 0, 131, 177]
abbrev dktX7_score_4 : List UInt8 := dkwX7_score_4 ++ []
def dkwX7_score_3 : List UInt8 := [192, 0, 35, 58, 5, 25, 5, 182, 0, 37, 154, 0, 15, 43, 4, 29, 100, 25, 5, 182, 0, 41]
abbrev dktX7_score_3 : List UInt8 := dkwX7_score_3 ++ dktX7_score_4
def dkwX7_score_2 : List UInt8 := [185, 0, 19, 1, 0, 58, 4, 25, 4, 185, 0, 25, 1, 0, 153, 0, 38, 25, 4, 185, 0, 31, 1, 0]
abbrev dktX7_score_2 : List UInt8 := dkwX7_score_2 ++ dktX7_score_3
def dkwX7_score_1 : List UInt8 := [29, 50, 42, 180, 0, 9, 92, 46, 42, 182, 0, 115, 28, 96, 96, 79, 42, 180, 0, 15]
abbrev dktX7_score_1 : List UInt8 := dkwX7_score_1 ++ dktX7_score_2
def dkwX7_score_0 : List UInt8 := [43, 180, 0, 70, 62, 43, 180, 0, 105, 29, 92, 46, 42, 182, 0, 115, 28, 96, 96, 79, 43, 180, 0, 108]
abbrev dktX7_score_0 : List UInt8 := dkwX7_score_0 ++ dktX7_score_1
theorem dksX7_score_0 : cX7_score.data.toList.drop 0 = dktX7_score_0 := by decide +kernel
theorem dksX7_score_1 : cX7_score.data.toList.drop 24 = dktX7_score_1 := dk_seg dksX7_score_0 24 rfl rfl
theorem dksX7_score_2 : cX7_score.data.toList.drop 44 = dktX7_score_2 := dk_seg dksX7_score_1 20 rfl rfl
theorem dksX7_score_3 : cX7_score.data.toList.drop 68 = dktX7_score_3 := dk_seg dksX7_score_2 24 rfl rfl
theorem dksX7_score_4 : cX7_score.data.toList.drop 90 = dktX7_score_4 := dk_seg dksX7_score_3 22 rfl rfl
theorem dX7_score_0 : decode cX7_score 0 = .ok (.aload_n 1, 1) := dk_43 (dk_at dksX7_score_0 0 rfl rfl)
theorem dX7_score_1 : decode cX7_score 1 = .ok (.getfield 70, 3) := dk_180 0 70 (dk_at dksX7_score_0 1 rfl rfl)
theorem dX7_score_4 : decode cX7_score 4 = .ok (.istore_n 3, 1) := dk_62 (dk_at dksX7_score_0 4 rfl rfl)
theorem dX7_score_5 : decode cX7_score 5 = .ok (.aload_n 1, 1) := dk_43 (dk_at dksX7_score_0 5 rfl rfl)
theorem dX7_score_6 : decode cX7_score 6 = .ok (.getfield 105, 3) := dk_180 0 105 (dk_at dksX7_score_0 6 rfl rfl)
theorem dX7_score_9 : decode cX7_score 9 = .ok (.iload_n 3, 1) := dk_29 (dk_at dksX7_score_0 9 rfl rfl)
theorem dX7_score_10 : decode cX7_score 10 = .ok (.dup2, 1) := dk_92 (dk_at dksX7_score_0 10 rfl rfl)
theorem dX7_score_11 : decode cX7_score 11 = .ok (.iaload, 1) := dk_46 (dk_at dksX7_score_0 11 rfl rfl)
theorem dX7_score_12 : decode cX7_score 12 = .ok (.aload_n 0, 1) := dk_42 (dk_at dksX7_score_0 12 rfl rfl)
theorem dX7_score_13 : decode cX7_score 13 = .ok (.invokevirtual 115, 3) := dk_182 0 115 (dk_at dksX7_score_0 13 rfl rfl)
theorem dX7_score_16 : decode cX7_score 16 = .ok (.iload_n 2, 1) := dk_28 (dk_at dksX7_score_0 16 rfl rfl)
theorem dX7_score_17 : decode cX7_score 17 = .ok (.iadd, 1) := dk_96 (dk_at dksX7_score_0 17 rfl rfl)
theorem dX7_score_18 : decode cX7_score 18 = .ok (.iadd, 1) := dk_96 (dk_at dksX7_score_0 18 rfl rfl)
theorem dX7_score_19 : decode cX7_score 19 = .ok (.iastore, 1) := dk_79 (dk_at dksX7_score_0 19 rfl rfl)
theorem dX7_score_20 : decode cX7_score 20 = .ok (.aload_n 1, 1) := dk_43 (dk_at dksX7_score_0 20 rfl rfl)
theorem dX7_score_21 : decode cX7_score 21 = .ok (.getfield 108, 3) := dk_180 0 108 (dk_at dksX7_score_0 21 rfl rfl)
theorem dX7_score_24 : decode cX7_score 24 = .ok (.iload_n 3, 1) := dk_29 (dk_at dksX7_score_1 0 rfl rfl)
theorem dX7_score_25 : decode cX7_score 25 = .ok (.aaload, 1) := dk_50 (dk_at dksX7_score_1 1 rfl rfl)
theorem dX7_score_26 : decode cX7_score 26 = .ok (.aload_n 0, 1) := dk_42 (dk_at dksX7_score_1 2 rfl rfl)
theorem dX7_score_27 : decode cX7_score 27 = .ok (.getfield 9, 3) := dk_180 0 9 (dk_at dksX7_score_1 3 rfl rfl)
theorem dX7_score_30 : decode cX7_score 30 = .ok (.dup2, 1) := dk_92 (dk_at dksX7_score_1 6 rfl rfl)
theorem dX7_score_31 : decode cX7_score 31 = .ok (.iaload, 1) := dk_46 (dk_at dksX7_score_1 7 rfl rfl)
theorem dX7_score_32 : decode cX7_score 32 = .ok (.aload_n 0, 1) := dk_42 (dk_at dksX7_score_1 8 rfl rfl)
theorem dX7_score_33 : decode cX7_score 33 = .ok (.invokevirtual 115, 3) := dk_182 0 115 (dk_at dksX7_score_1 9 rfl rfl)
theorem dX7_score_36 : decode cX7_score 36 = .ok (.iload_n 2, 1) := dk_28 (dk_at dksX7_score_1 12 rfl rfl)
theorem dX7_score_37 : decode cX7_score 37 = .ok (.iadd, 1) := dk_96 (dk_at dksX7_score_1 13 rfl rfl)
theorem dX7_score_38 : decode cX7_score 38 = .ok (.iadd, 1) := dk_96 (dk_at dksX7_score_1 14 rfl rfl)
theorem dX7_score_39 : decode cX7_score 39 = .ok (.iastore, 1) := dk_79 (dk_at dksX7_score_1 15 rfl rfl)
theorem dX7_score_40 : decode cX7_score 40 = .ok (.aload_n 0, 1) := dk_42 (dk_at dksX7_score_1 16 rfl rfl)
theorem dX7_score_41 : decode cX7_score 41 = .ok (.getfield 15, 3) := dk_180 0 15 (dk_at dksX7_score_1 17 rfl rfl)
theorem dX7_score_44 : decode cX7_score 44 = .ok (.invokeinterface 19 1, 5) := by decide +kernel
theorem dX7_score_49 : decode cX7_score 49 = .ok (.astore 4, 2) := dk_58 4 (dk_at dksX7_score_2 5 rfl rfl)
theorem dX7_score_51 : decode cX7_score 51 = .ok (.aload 4, 2) := dk_25 4 (dk_at dksX7_score_2 7 rfl rfl)
theorem dX7_score_53 : decode cX7_score 53 = .ok (.invokeinterface 25 1, 5) := by decide +kernel
theorem dX7_score_58 : decode cX7_score 58 = .ok (.ifCond .eq 38, 3) := dk_153 0 38 (dk_at dksX7_score_2 14 rfl rfl)
theorem dX7_score_61 : decode cX7_score 61 = .ok (.aload 4, 2) := dk_25 4 (dk_at dksX7_score_2 17 rfl rfl)
theorem dX7_score_63 : decode cX7_score 63 = .ok (.invokeinterface 31 1, 5) := by decide +kernel
theorem dX7_score_68 : decode cX7_score 68 = .ok (.checkcast 35, 3) := dk_192 0 35 (dk_at dksX7_score_3 0 rfl rfl)
theorem dX7_score_71 : decode cX7_score 71 = .ok (.astore 5, 2) := dk_58 5 (dk_at dksX7_score_3 3 rfl rfl)
theorem dX7_score_73 : decode cX7_score 73 = .ok (.aload 5, 2) := dk_25 5 (dk_at dksX7_score_3 5 rfl rfl)
theorem dX7_score_75 : decode cX7_score 75 = .ok (.invokevirtual 37, 3) := dk_182 0 37 (dk_at dksX7_score_3 7 rfl rfl)
theorem dX7_score_78 : decode cX7_score 78 = .ok (.ifCond .ne 15, 3) := dk_154 0 15 (dk_at dksX7_score_3 10 rfl rfl)
theorem dX7_score_81 : decode cX7_score 81 = .ok (.aload_n 1, 1) := dk_43 (dk_at dksX7_score_3 13 rfl rfl)
theorem dX7_score_82 : decode cX7_score 82 = .ok (.iconst 1, 1) := dk_4 (dk_at dksX7_score_3 14 rfl rfl)
theorem dX7_score_83 : decode cX7_score 83 = .ok (.iload_n 3, 1) := dk_29 (dk_at dksX7_score_3 15 rfl rfl)
theorem dX7_score_84 : decode cX7_score 84 = .ok (.isub, 1) := dk_100 (dk_at dksX7_score_3 16 rfl rfl)
theorem dX7_score_85 : decode cX7_score 85 = .ok (.aload 5, 2) := dk_25 5 (dk_at dksX7_score_3 17 rfl rfl)
theorem dX7_score_87 : decode cX7_score 87 = .ok (.invokevirtual 41, 3) := dk_182 0 41 (dk_at dksX7_score_3 19 rfl rfl)
theorem dX7_score_90 : decode cX7_score 90 = .ok (.invokevirtual 127, 3) := dk_182 0 127 (dk_at dksX7_score_4 0 rfl rfl)
theorem dX7_score_93 : decode cX7_score 93 = .ok (.goto (-42), 3) := dk_167 255 214 (dk_at dksX7_score_4 3 rfl rfl)
theorem dX7_score_96 : decode cX7_score 96 = .ok (.aload_n 1, 1) := dk_43 (dk_at dksX7_score_4 6 rfl rfl)
theorem dX7_score_97 : decode cX7_score 97 = .ok (.iload_n 3, 1) := dk_29 (dk_at dksX7_score_4 7 rfl rfl)
theorem dX7_score_98 : decode cX7_score 98 = .ok (.aload_n 0, 1) := dk_42 (dk_at dksX7_score_4 8 rfl rfl)
theorem dX7_score_99 : decode cX7_score 99 = .ok (.invokevirtual 115, 3) := dk_182 0 115 (dk_at dksX7_score_4 9 rfl rfl)
theorem dX7_score_102 : decode cX7_score 102 = .ok (.invokevirtual 131, 3) := dk_182 0 131 (dk_at dksX7_score_4 12 rfl rfl)
theorem dX7_score_105 : decode cX7_score 105 = .ok (.return_, 1) := dk_177 (dk_at dksX7_score_4 15 rfl rfl)
abbrev cX7_with : ByteArray := prog_10_method_10_code
def yX7_with : MethodName := ⟨RX7, "with", "(III)LRaidhall$Raid;"⟩
def dkwX7_with_3 : List UInt8 := [187, 0, 10, 89, 42, 180, 0, 9, 25, 6, 183, 0, 83, 176]
abbrev dktX7_with_3 : List UInt8 := dkwX7_with_3 ++ []
def dkwX7_with_2 : List UInt8 := [187, 0, 80, 89, 42, 180, 0, 15, 183, 0, 137, 58, 6, 25, 6, 27, 25, 5, 185, 0, 140, 3, 0, 87]
abbrev dktX7_with_2 : List UInt8 := dkwX7_with_2 ++ dktX7_with_3
def dkwX7_with_1 : List UInt8 := [182, 0, 61, 183, 0, 134, 58, 5, 25, 5, 182, 0, 58, 25, 4, 182, 0, 58, 159, 0, 5, 1, 176]
abbrev dktX7_with_1 : List UInt8 := dkwX7_with_1 ++ dktX7_with_2
def dkwX7_with_0 : List UInt8 := [42, 180, 0, 15, 27, 185, 0, 50, 2, 0, 192, 0, 35, 58, 4, 187, 0, 35, 89, 28, 29, 25, 4]
abbrev dktX7_with_0 : List UInt8 := dkwX7_with_0 ++ dktX7_with_1
theorem dksX7_with_0 : cX7_with.data.toList.drop 0 = dktX7_with_0 := by decide +kernel
theorem dksX7_with_1 : cX7_with.data.toList.drop 23 = dktX7_with_1 := dk_seg dksX7_with_0 23 rfl rfl
theorem dksX7_with_2 : cX7_with.data.toList.drop 46 = dktX7_with_2 := dk_seg dksX7_with_1 23 rfl rfl
theorem dksX7_with_3 : cX7_with.data.toList.drop 70 = dktX7_with_3 := dk_seg dksX7_with_2 24 rfl rfl
theorem dX7_with_0 : decode cX7_with 0 = .ok (.aload_n 0, 1) := dk_42 (dk_at dksX7_with_0 0 rfl rfl)
theorem dX7_with_1 : decode cX7_with 1 = .ok (.getfield 15, 3) := dk_180 0 15 (dk_at dksX7_with_0 1 rfl rfl)
theorem dX7_with_4 : decode cX7_with 4 = .ok (.iload_n 1, 1) := dk_27 (dk_at dksX7_with_0 4 rfl rfl)
theorem dX7_with_5 : decode cX7_with 5 = .ok (.invokeinterface 50 2, 5) := by decide +kernel
theorem dX7_with_10 : decode cX7_with 10 = .ok (.checkcast 35, 3) := dk_192 0 35 (dk_at dksX7_with_0 10 rfl rfl)
theorem dX7_with_13 : decode cX7_with 13 = .ok (.astore 4, 2) := dk_58 4 (dk_at dksX7_with_0 13 rfl rfl)
theorem dX7_with_15 : decode cX7_with 15 = .ok (.new 35, 3) := dk_187 0 35 (dk_at dksX7_with_0 15 rfl rfl)
theorem dX7_with_18 : decode cX7_with 18 = .ok (.dup, 1) := dk_89 (dk_at dksX7_with_0 18 rfl rfl)
theorem dX7_with_19 : decode cX7_with 19 = .ok (.iload_n 2, 1) := dk_28 (dk_at dksX7_with_0 19 rfl rfl)
theorem dX7_with_20 : decode cX7_with 20 = .ok (.iload_n 3, 1) := dk_29 (dk_at dksX7_with_0 20 rfl rfl)
theorem dX7_with_21 : decode cX7_with 21 = .ok (.aload 4, 2) := dk_25 4 (dk_at dksX7_with_0 21 rfl rfl)
theorem dX7_with_23 : decode cX7_with 23 = .ok (.invokevirtual 61, 3) := dk_182 0 61 (dk_at dksX7_with_1 0 rfl rfl)
theorem dX7_with_26 : decode cX7_with 26 = .ok (.invokespecial 134, 3) := dk_183 0 134 (dk_at dksX7_with_1 3 rfl rfl)
theorem dX7_with_29 : decode cX7_with 29 = .ok (.astore 5, 2) := dk_58 5 (dk_at dksX7_with_1 6 rfl rfl)
theorem dX7_with_31 : decode cX7_with 31 = .ok (.aload 5, 2) := dk_25 5 (dk_at dksX7_with_1 8 rfl rfl)
theorem dX7_with_33 : decode cX7_with 33 = .ok (.invokevirtual 58, 3) := dk_182 0 58 (dk_at dksX7_with_1 10 rfl rfl)
theorem dX7_with_36 : decode cX7_with 36 = .ok (.aload 4, 2) := dk_25 4 (dk_at dksX7_with_1 13 rfl rfl)
theorem dX7_with_38 : decode cX7_with 38 = .ok (.invokevirtual 58, 3) := dk_182 0 58 (dk_at dksX7_with_1 15 rfl rfl)
theorem dX7_with_41 : decode cX7_with 41 = .ok (.if_icmp .eq 5, 3) := dk_159 0 5 (dk_at dksX7_with_1 18 rfl rfl)
theorem dX7_with_44 : decode cX7_with 44 = .ok (.aconst_null, 1) := dk_1 (dk_at dksX7_with_1 21 rfl rfl)
theorem dX7_with_45 : decode cX7_with 45 = .ok (.areturn, 1) := dk_176 (dk_at dksX7_with_1 22 rfl rfl)
theorem dX7_with_46 : decode cX7_with 46 = .ok (.new 80, 3) := dk_187 0 80 (dk_at dksX7_with_2 0 rfl rfl)
theorem dX7_with_49 : decode cX7_with 49 = .ok (.dup, 1) := dk_89 (dk_at dksX7_with_2 3 rfl rfl)
theorem dX7_with_50 : decode cX7_with 50 = .ok (.aload_n 0, 1) := dk_42 (dk_at dksX7_with_2 4 rfl rfl)
theorem dX7_with_51 : decode cX7_with 51 = .ok (.getfield 15, 3) := dk_180 0 15 (dk_at dksX7_with_2 5 rfl rfl)
theorem dX7_with_54 : decode cX7_with 54 = .ok (.invokespecial 137, 3) := dk_183 0 137 (dk_at dksX7_with_2 8 rfl rfl)
theorem dX7_with_57 : decode cX7_with 57 = .ok (.astore 6, 2) := dk_58 6 (dk_at dksX7_with_2 11 rfl rfl)
theorem dX7_with_59 : decode cX7_with 59 = .ok (.aload 6, 2) := dk_25 6 (dk_at dksX7_with_2 13 rfl rfl)
theorem dX7_with_61 : decode cX7_with 61 = .ok (.iload_n 1, 1) := dk_27 (dk_at dksX7_with_2 15 rfl rfl)
theorem dX7_with_62 : decode cX7_with 62 = .ok (.aload 5, 2) := dk_25 5 (dk_at dksX7_with_2 16 rfl rfl)
theorem dX7_with_64 : decode cX7_with 64 = .ok (.invokeinterface 140 3, 5) := by decide +kernel
theorem dX7_with_69 : decode cX7_with 69 = .ok (.pop, 1) := dk_87 (dk_at dksX7_with_2 23 rfl rfl)
theorem dX7_with_70 : decode cX7_with 70 = .ok (.new 10, 3) := dk_187 0 10 (dk_at dksX7_with_3 0 rfl rfl)
theorem dX7_with_73 : decode cX7_with 73 = .ok (.dup, 1) := dk_89 (dk_at dksX7_with_3 3 rfl rfl)
theorem dX7_with_74 : decode cX7_with 74 = .ok (.aload_n 0, 1) := dk_42 (dk_at dksX7_with_3 4 rfl rfl)
theorem dX7_with_75 : decode cX7_with 75 = .ok (.getfield 9, 3) := dk_180 0 9 (dk_at dksX7_with_3 5 rfl rfl)
theorem dX7_with_78 : decode cX7_with 78 = .ok (.aload 6, 2) := dk_25 6 (dk_at dksX7_with_3 8 rfl rfl)
theorem dX7_with_80 : decode cX7_with 80 = .ok (.invokespecial 83, 3) := dk_183 0 83 (dk_at dksX7_with_3 10 rfl rfl)
theorem dX7_with_83 : decode cX7_with 83 = .ok (.areturn, 1) := dk_176 (dk_at dksX7_with_3 13 rfl rfl)
theorem q89 : (Jvm.Cond.initialized "Raidhall$Raid") ∈ lw_all := lw_g (lw_at lw_m1 25 rfl) rfl
theorem q976 : (Jvm.Cond.selects "Raidhall$Raid" ({ cls := "java/lang/Object", name := "getClass", desc := "()Ljava/lang/Class;" } : Jvm.MethodName) ({ cls := "java/lang/Object", name := "getClass", desc := "()Ljava/lang/Class;" } : Jvm.MethodName)) ∈ lw_all := lw_g (lw_at lw_m4 192 rfl) rfl
theorem q1107 : (Jvm.Cond.fieldLinkNest "Raidhall$Raid" (64 : Nat) "Raidhall$Mats" "state" "[[I" "Raidhall") ∈ lw_tbl := lw_at lw_m5 83 rfl
theorem q1114 : (Jvm.Cond.fieldLinkNest "Raidhall$Raid" (108 : Nat) "Raidhall$Mats" "raided" "[[I" "Raidhall") ∈ lw_tbl := lw_at lw_m5 90 rfl
theorem q1120 : (Jvm.Cond.fieldLinkNest "Raidhall$Raid" (105 : Nat) "Raidhall$Mats" "points" "[I" "Raidhall") ∈ lw_tbl := lw_at lw_m5 96 rfl
theorem q1123 : (Jvm.Cond.fieldLinkNest "Raidhall$Raid" (101 : Nat) "Raidhall$Mats" "empties" "[I" "Raidhall") ∈ lw_tbl := lw_at lw_m5 99 rfl
theorem q1130 : (Jvm.Cond.fieldLinkNest "Raidhall$Raid" (77 : Nat) "Raidhall$Mats" "time" "I" "Raidhall") ∈ lw_tbl := lw_at lw_m5 106 rfl
theorem q1133 : (Jvm.Cond.fieldLinkNest "Raidhall$Raid" (70 : Nat) "Raidhall$Mats" "turn" "I" "Raidhall") ∈ lw_tbl := lw_at lw_m5 109 rfl
theorem q1197 : (Jvm.Cond.instantiable "Raidhall$Raid" (2 : Nat)) ∈ lw_all := lw_g (lw_at lw_m5 173 rfl) rfl
theorem q1201 : (Jvm.Cond.instanceMethod ({ cls := "Raidhall$Raid", name := "<init>", desc := "(ILjava/util/List;)V" } : Jvm.MethodName)) ∈ lw_all := lw_g (lw_at lw_m5 177 rfl) rfl
theorem q1202 : (Jvm.Cond.code ({ cls := "Raidhall$Raid", name := "<init>", desc := "(ILjava/util/List;)V" } : Jvm.MethodName) prog_10_method_1_code (3 : Nat) (Option.none : Option Jvm.ClassFile.FieldType)) ∈ lw_all := lw_g (lw_at lw_m5 178 rfl) rfl
theorem q1203 : (Jvm.Cond.methodLink "Raidhall$Raid" (3 : Nat) ({ cls := "java/lang/Object", name := "<init>", desc := "()V" } : Jvm.MethodName)) ∈ lw_all := lw_g (lw_at lw_m5 179 rfl) rfl
theorem q1204 : (Jvm.Cond.fieldLink "Raidhall$Raid" (9 : Nat) "Raidhall$Raid" "raider" "I") ∈ lw_all := lw_g (lw_at lw_m5 180 rfl) rfl
theorem q1205 : (Jvm.Cond.fieldLink "Raidhall$Raid" (15 : Nat) "Raidhall$Raid" "steps" "Ljava/util/List;") ∈ lw_all := lw_g (lw_at lw_m5 181 rfl) rfl
theorem q1207 : (Jvm.Cond.laysFinal "Raidhall$Raid" "Raidhall$Raid" "raider" "I") ∈ lw_all := lw_g (lw_at lw_m5 183 rfl) rfl
theorem q1208 : (Jvm.Cond.soleField "Raidhall$Raid" "raider") ∈ lw_all := lw_g (lw_at lw_m5 184 rfl) rfl
theorem q1209 : (Jvm.Cond.laysFinal "Raidhall$Raid" "Raidhall$Raid" "steps" "Ljava/util/List;") ∈ lw_all := lw_g (lw_at lw_m5 185 rfl) rfl
theorem q1210 : (Jvm.Cond.soleField "Raidhall$Raid" "steps") ∈ lw_all := lw_g (lw_at lw_m5 186 rfl) rfl
theorem q1211 : (Jvm.Cond.superclass "Raidhall$Raid" "java/lang/Object") ∈ lw_all := lw_g (lw_at lw_m5 187 rfl) rfl
theorem q1247 : (Jvm.Cond.instanceMethod ({ cls := "Raidhall$Raid", name := "stands", desc := "(LRaidhall$Mats;I)Z" } : Jvm.MethodName)) ∈ lw_all := lw_g (lw_at lw_m5 223 rfl) rfl
theorem q1248 : (Jvm.Cond.selects "Raidhall$Raid" ({ cls := "Raidhall$Raid", name := "stands", desc := "(LRaidhall$Mats;I)Z" } : Jvm.MethodName) ({ cls := "Raidhall$Raid", name := "stands", desc := "(LRaidhall$Mats;I)Z" } : Jvm.MethodName)) ∈ lw_all := lw_g (lw_at lw_m5 224 rfl) rfl
theorem q1249 : (Jvm.Cond.code ({ cls := "Raidhall$Raid", name := "stands", desc := "(LRaidhall$Mats;I)Z" } : Jvm.MethodName) prog_10_method_6_code (7 : Nat) (Option.some Jvm.ClassFile.FieldType.boolean)) ∈ lw_all := lw_g (lw_at lw_m5 225 rfl) rfl
theorem q1250 : (Jvm.Cond.classLink "Raidhall$Raid" (10 : Nat) "Raidhall$Raid") ∈ lw_all := lw_g (lw_at lw_m5 226 rfl) rfl
theorem q1251 : (Jvm.Cond.classLink "Raidhall$Raid" (80 : Nat) "java/util/ArrayList") ∈ lw_all := lw_g (lw_at lw_m5 227 rfl) rfl
theorem q1252 : (Jvm.Cond.methodLink "Raidhall$Raid" (82 : Nat) ({ cls := "java/util/ArrayList", name := "<init>", desc := "()V" } : Jvm.MethodName)) ∈ lw_all := lw_g (lw_at lw_m5 228 rfl) rfl
theorem q1253 : (Jvm.Cond.methodLink "Raidhall$Raid" (83 : Nat) ({ cls := "Raidhall$Raid", name := "<init>", desc := "(ILjava/util/List;)V" } : Jvm.MethodName)) ∈ lw_all := lw_g (lw_at lw_m5 229 rfl) rfl
theorem q1254 : (Jvm.Cond.interfaceEntry "Raidhall$Raid" (19 : Nat)) ∈ lw_tbl := lw_at lw_m5 230 rfl
theorem q1255 : (Jvm.Cond.methodLink "Raidhall$Raid" (19 : Nat) ({ cls := "java/util/List", name := "iterator", desc := "()Ljava/util/Iterator;" } : Jvm.MethodName)) ∈ lw_all := lw_g (lw_at lw_m5 231 rfl) rfl
theorem q1282 : (Jvm.Cond.interfaceEntry "Raidhall$Raid" (25 : Nat)) ∈ lw_tbl := lw_at lw_m6 18 rfl
theorem q1283 : (Jvm.Cond.methodLink "Raidhall$Raid" (25 : Nat) ({ cls := "java/util/Iterator", name := "hasNext", desc := "()Z" } : Jvm.MethodName)) ∈ lw_all := lw_g (lw_at lw_m6 19 rfl) rfl
theorem q1292 : (Jvm.Cond.interfaceEntry "Raidhall$Raid" (31 : Nat)) ∈ lw_tbl := lw_at lw_m6 28 rfl
theorem q1293 : (Jvm.Cond.methodLink "Raidhall$Raid" (31 : Nat) ({ cls := "java/util/Iterator", name := "next", desc := "()Ljava/lang/Object;" } : Jvm.MethodName)) ∈ lw_all := lw_g (lw_at lw_m6 29 rfl) rfl
theorem q1305 : (Jvm.Cond.classLink "Raidhall$Raid" (35 : Nat) "Raidhall$Step") ∈ lw_all := lw_g (lw_at lw_m6 41 rfl) rfl
theorem q1306 : (Jvm.Cond.methodLink "Raidhall$Raid" (86 : Nat) ({ cls := "Raidhall$Raid", name := "can", desc := "(LRaidhall$Mats;LRaidhall$Step;)Z" } : Jvm.MethodName)) ∈ lw_all := lw_g (lw_at lw_m6 42 rfl) rfl
theorem q1307 : (Jvm.Cond.instanceMethod ({ cls := "Raidhall$Raid", name := "can", desc := "(LRaidhall$Mats;LRaidhall$Step;)Z" } : Jvm.MethodName)) ∈ lw_all := lw_g (lw_at lw_m6 43 rfl) rfl
theorem q1308 : (Jvm.Cond.selects "Raidhall$Raid" ({ cls := "Raidhall$Raid", name := "can", desc := "(LRaidhall$Mats;LRaidhall$Step;)Z" } : Jvm.MethodName) ({ cls := "Raidhall$Raid", name := "can", desc := "(LRaidhall$Mats;LRaidhall$Step;)Z" } : Jvm.MethodName)) ∈ lw_all := lw_g (lw_at lw_m6 44 rfl) rfl
theorem q1309 : (Jvm.Cond.code ({ cls := "Raidhall$Raid", name := "can", desc := "(LRaidhall$Mats;LRaidhall$Step;)Z" } : Jvm.MethodName) prog_10_method_5_code (4 : Nat) (Option.some Jvm.ClassFile.FieldType.boolean)) ∈ lw_all := lw_g (lw_at lw_m6 45 rfl) rfl
theorem q1310 : (Jvm.Cond.methodLink "Raidhall$Raid" (54 : Nat) ({ cls := "Raidhall$Raid", name := "last", desc := "()LRaidhall$Step;" } : Jvm.MethodName)) ∈ lw_all := lw_g (lw_at lw_m6 46 rfl) rfl
theorem q1311 : (Jvm.Cond.instanceMethod ({ cls := "Raidhall$Raid", name := "last", desc := "()LRaidhall$Step;" } : Jvm.MethodName)) ∈ lw_all := lw_g (lw_at lw_m6 47 rfl) rfl
theorem q1312 : (Jvm.Cond.selects "Raidhall$Raid" ({ cls := "Raidhall$Raid", name := "last", desc := "()LRaidhall$Step;" } : Jvm.MethodName) ({ cls := "Raidhall$Raid", name := "last", desc := "()LRaidhall$Step;" } : Jvm.MethodName)) ∈ lw_all := lw_g (lw_at lw_m6 48 rfl) rfl
theorem q1313 : (Jvm.Cond.code ({ cls := "Raidhall$Raid", name := "last", desc := "()LRaidhall$Step;" } : Jvm.MethodName) prog_10_method_4_code (1 : Nat) (Option.some (Jvm.ClassFile.FieldType.object "Raidhall$Step"))) ∈ lw_all := lw_g (lw_at lw_m6 49 rfl) rfl
theorem q1314 : (Jvm.Cond.interfaceEntry "Raidhall$Raid" (44 : Nat)) ∈ lw_tbl := lw_at lw_m6 50 rfl
theorem q1315 : (Jvm.Cond.methodLink "Raidhall$Raid" (44 : Nat) ({ cls := "java/util/List", name := "isEmpty", desc := "()Z" } : Jvm.MethodName)) ∈ lw_all := lw_g (lw_at lw_m6 51 rfl) rfl
theorem q1323 : (Jvm.Cond.interfaceEntry "Raidhall$Raid" (47 : Nat)) ∈ lw_tbl := lw_at lw_m6 59 rfl
theorem q1324 : (Jvm.Cond.methodLink "Raidhall$Raid" (47 : Nat) ({ cls := "java/util/List", name := "size", desc := "()I" } : Jvm.MethodName)) ∈ lw_all := lw_g (lw_at lw_m6 60 rfl) rfl
theorem q1325 : (Jvm.Cond.interfaceEntry "Raidhall$Raid" (50 : Nat)) ∈ lw_tbl := lw_at lw_m6 61 rfl
theorem q1326 : (Jvm.Cond.methodLink "Raidhall$Raid" (50 : Nat) ({ cls := "java/util/List", name := "get", desc := "(I)Ljava/lang/Object;" } : Jvm.MethodName)) ∈ lw_all := lw_g (lw_at lw_m6 62 rfl) rfl
theorem q1327 : (Jvm.Cond.methodLink "Raidhall$Raid" (58 : Nat) ({ cls := "Raidhall$Step", name := "ends", desc := "()Z" } : Jvm.MethodName)) ∈ lw_all := lw_g (lw_at lw_m6 63 rfl) rfl
theorem q1331 : (Jvm.Cond.methodLink "Raidhall$Raid" (61 : Nat) ({ cls := "Raidhall$Step", name := "tenth", desc := "()I" } : Jvm.MethodName)) ∈ lw_all := lw_g (lw_at lw_m6 67 rfl) rfl
theorem q1335 : (Jvm.Cond.methodLink "Raidhall$Raid" (37 : Nat) ({ cls := "Raidhall$Step", name := "kind", desc := "()I" } : Jvm.MethodName)) ∈ lw_all := lw_g (lw_at lw_m6 71 rfl) rfl
theorem q1339 : (Jvm.Cond.methodLink "Raidhall$Raid" (41 : Nat) ({ cls := "Raidhall$Step", name := "who", desc := "()I" } : Jvm.MethodName)) ∈ lw_all := lw_g (lw_at lw_m6 75 rfl) rfl
theorem q1343 : (Jvm.Cond.methodLink "Raidhall$Raid" (73 : Nat) ({ cls := "Raidhall$Raid", name := "has", desc := "(II)Z" } : Jvm.MethodName)) ∈ lw_all := lw_g (lw_at lw_m6 79 rfl) rfl
theorem q1344 : (Jvm.Cond.instanceMethod ({ cls := "Raidhall$Raid", name := "has", desc := "(II)Z" } : Jvm.MethodName)) ∈ lw_all := lw_g (lw_at lw_m6 80 rfl) rfl
theorem q1345 : (Jvm.Cond.selects "Raidhall$Raid" ({ cls := "Raidhall$Raid", name := "has", desc := "(II)Z" } : Jvm.MethodName) ({ cls := "Raidhall$Raid", name := "has", desc := "(II)Z" } : Jvm.MethodName)) ∈ lw_all := lw_g (lw_at lw_m6 81 rfl) rfl
theorem q1346 : (Jvm.Cond.code ({ cls := "Raidhall$Raid", name := "has", desc := "(II)Z" } : Jvm.MethodName) prog_10_method_2_code (6 : Nat) (Option.some Jvm.ClassFile.FieldType.boolean)) ∈ lw_all := lw_g (lw_at lw_m6 82 rfl) rfl
theorem q1347 : (Jvm.Cond.interfaceEntry "Raidhall$Raid" (90 : Nat)) ∈ lw_tbl := lw_at lw_m6 83 rfl
theorem q1348 : (Jvm.Cond.methodLink "Raidhall$Raid" (90 : Nat) ({ cls := "java/util/List", name := "add", desc := "(Ljava/lang/Object;)Z" } : Jvm.MethodName)) ∈ lw_all := lw_g (lw_at lw_m6 84 rfl) rfl
theorem q1418 : (Jvm.Cond.castable "Raidhall$Raid" "Raidhall$Event") ∈ lw_tbl := lw_at lw_m6 154 rfl
theorem q1419 : (Jvm.Cond.selects "Raidhall$Raid" ({ cls := "Raidhall$Event", name := "stands", desc := "(LRaidhall$Mats;I)Z" } : Jvm.MethodName) ({ cls := "Raidhall$Raid", name := "stands", desc := "(LRaidhall$Mats;I)Z" } : Jvm.MethodName)) ∈ lw_all := lw_g (lw_at lw_m6 155 rfl) rfl
theorem q1420 : (Jvm.Cond.unhidden "Raidhall$Raid" "stands" "(LRaidhall$Mats;I)Z") ∈ lw_tbl := lw_at lw_m6 156 rfl
theorem q1421 : (Jvm.Cond.publicMethod ({ cls := "Raidhall$Raid", name := "stands", desc := "(LRaidhall$Mats;I)Z" } : Jvm.MethodName)) ∈ lw_tbl := lw_at lw_m6 157 rfl
theorem q1501 : (Jvm.Cond.selects "Raidhall$Raid" ({ cls := "Raidhall$Event", name := "change", desc := "(LRaidhall$Mats;)V" } : Jvm.MethodName) ({ cls := "Raidhall$Raid", name := "change", desc := "(LRaidhall$Mats;)V" } : Jvm.MethodName)) ∈ lw_all := lw_g (lw_at lw_m6 237 rfl) rfl
theorem q1502 : (Jvm.Cond.unhidden "Raidhall$Raid" "change" "(LRaidhall$Mats;)V") ∈ lw_tbl := lw_at lw_m6 238 rfl
theorem q1503 : (Jvm.Cond.instanceMethod ({ cls := "Raidhall$Raid", name := "change", desc := "(LRaidhall$Mats;)V" } : Jvm.MethodName)) ∈ lw_all := lw_g (lw_at lw_m6 239 rfl) rfl
theorem q1504 : (Jvm.Cond.publicMethod ({ cls := "Raidhall$Raid", name := "change", desc := "(LRaidhall$Mats;)V" } : Jvm.MethodName)) ∈ lw_tbl := lw_at lw_m7 0 rfl
theorem q1505 : (Jvm.Cond.code ({ cls := "Raidhall$Raid", name := "change", desc := "(LRaidhall$Mats;)V" } : Jvm.MethodName) prog_10_method_7_code (8 : Nat) (Option.none : Option Jvm.ClassFile.FieldType)) ∈ lw_all := lw_g (lw_at lw_m7 1 rfl) rfl
theorem q1506 : (Jvm.Cond.methodLink "Raidhall$Raid" (94 : Nat) ({ cls := "Raidhall$Mats", name := "isDoOrDie", desc := "()Z" } : Jvm.MethodName)) ∈ lw_all := lw_g (lw_at lw_m7 2 rfl) rfl
theorem q1510 : (Jvm.Cond.methodLink "Raidhall$Raid" (97 : Nat) ({ cls := "Raidhall$Mats", name := "standing", desc := "(I)I" } : Jvm.MethodName)) ∈ lw_all := lw_g (lw_at lw_m7 6 rfl) rfl
theorem q1515 : (Jvm.Cond.methodLink "Raidhall$Raid" (111 : Nat) ({ cls := "Raidhall$Raid", name := "fail", desc := "(LRaidhall$Mats;I)V" } : Jvm.MethodName)) ∈ lw_all := lw_g (lw_at lw_m7 11 rfl) rfl
theorem q1516 : (Jvm.Cond.privateMethod ({ cls := "Raidhall$Raid", name := "fail", desc := "(LRaidhall$Mats;I)V" } : Jvm.MethodName)) ∈ lw_tbl := lw_at lw_m7 12 rfl
theorem q1517 : (Jvm.Cond.instanceMethod ({ cls := "Raidhall$Raid", name := "fail", desc := "(LRaidhall$Mats;I)V" } : Jvm.MethodName)) ∈ lw_all := lw_g (lw_at lw_m7 13 rfl) rfl
theorem q1518 : (Jvm.Cond.code ({ cls := "Raidhall$Raid", name := "fail", desc := "(LRaidhall$Mats;I)V" } : Jvm.MethodName) prog_10_method_9_code (3 : Nat) (Option.none : Option Jvm.ClassFile.FieldType)) ∈ lw_all := lw_g (lw_at lw_m7 14 rfl) rfl
theorem q1519 : (Jvm.Cond.methodLink "Raidhall$Raid" (127 : Nat) ({ cls := "Raidhall$Mats", name := "goOut", desc := "(II)V" } : Jvm.MethodName)) ∈ lw_all := lw_g (lw_at lw_m7 15 rfl) rfl
theorem q1543 : (Jvm.Cond.methodLink "Raidhall$Raid" (131 : Nat) ({ cls := "Raidhall$Mats", name := "comeBack", desc := "(II)V" } : Jvm.MethodName)) ∈ lw_all := lw_g (lw_at lw_m7 39 rfl) rfl
theorem q1544 : (Jvm.Cond.methodLink "Raidhall$Raid" (115 : Nat) ({ cls := "Raidhall$Raid", name := "touches", desc := "()I" } : Jvm.MethodName)) ∈ lw_all := lw_g (lw_at lw_m7 40 rfl) rfl
theorem q1545 : (Jvm.Cond.instanceMethod ({ cls := "Raidhall$Raid", name := "touches", desc := "()I" } : Jvm.MethodName)) ∈ lw_all := lw_g (lw_at lw_m7 41 rfl) rfl
theorem q1546 : (Jvm.Cond.selects "Raidhall$Raid" ({ cls := "Raidhall$Raid", name := "touches", desc := "()I" } : Jvm.MethodName) ({ cls := "Raidhall$Raid", name := "touches", desc := "()I" } : Jvm.MethodName)) ∈ lw_all := lw_g (lw_at lw_m7 42 rfl) rfl
theorem q1547 : (Jvm.Cond.code ({ cls := "Raidhall$Raid", name := "touches", desc := "()I" } : Jvm.MethodName) prog_10_method_3_code (4 : Nat) (Option.some Jvm.ClassFile.FieldType.int)) ∈ lw_all := lw_g (lw_at lw_m7 43 rfl) rfl
theorem q1548 : (Jvm.Cond.methodLink "Raidhall$Raid" (118 : Nat) ({ cls := "Raidhall$Raid", name := "score", desc := "(LRaidhall$Mats;I)V" } : Jvm.MethodName)) ∈ lw_all := lw_g (lw_at lw_m7 44 rfl) rfl
theorem q1549 : (Jvm.Cond.privateMethod ({ cls := "Raidhall$Raid", name := "score", desc := "(LRaidhall$Mats;I)V" } : Jvm.MethodName)) ∈ lw_tbl := lw_at lw_m7 45 rfl
theorem q1550 : (Jvm.Cond.instanceMethod ({ cls := "Raidhall$Raid", name := "score", desc := "(LRaidhall$Mats;I)V" } : Jvm.MethodName)) ∈ lw_all := lw_g (lw_at lw_m7 46 rfl) rfl
theorem q1551 : (Jvm.Cond.code ({ cls := "Raidhall$Raid", name := "score", desc := "(LRaidhall$Mats;I)V" } : Jvm.MethodName) prog_10_method_8_code (6 : Nat) (Option.none : Option Jvm.ClassFile.FieldType)) ∈ lw_all := lw_g (lw_at lw_m7 47 rfl) rfl
theorem q1552 : (Jvm.Cond.methodLink "Raidhall$Raid" (121 : Nat) ({ cls := "Raidhall$Mats", name := "lookAllOut", desc := "()V" } : Jvm.MethodName)) ∈ lw_all := lw_g (lw_at lw_m7 48 rfl) rfl
theorem q1553 : (Jvm.Cond.methodLink "Raidhall$Raid" (124 : Nat) ({ cls := "Raidhall$Mats", name := "endSuspensions", desc := "()V" } : Jvm.MethodName)) ∈ lw_all := lw_g (lw_at lw_m7 49 rfl) rfl
theorem q1558 : (Jvm.Cond.unhidden "Raidhall$Raid" "behind" "(LRaidhall$Mats;I)LRaidhall$Mats;") ∈ lw_tbl := lw_at lw_m7 54 rfl
theorem q1623 : (Jvm.Cond.instanceMethod ({ cls := "Raidhall$Raid", name := "with", desc := "(III)LRaidhall$Raid;" } : Jvm.MethodName)) ∈ lw_all := lw_g (lw_at lw_m7 119 rfl) rfl
theorem q1624 : (Jvm.Cond.selects "Raidhall$Raid" ({ cls := "Raidhall$Raid", name := "with", desc := "(III)LRaidhall$Raid;" } : Jvm.MethodName) ({ cls := "Raidhall$Raid", name := "with", desc := "(III)LRaidhall$Raid;" } : Jvm.MethodName)) ∈ lw_all := lw_g (lw_at lw_m7 120 rfl) rfl
theorem q1625 : (Jvm.Cond.code ({ cls := "Raidhall$Raid", name := "with", desc := "(III)LRaidhall$Raid;" } : Jvm.MethodName) prog_10_method_10_code (7 : Nat) (Option.some (Jvm.ClassFile.FieldType.object "Raidhall$Raid"))) ∈ lw_all := lw_g (lw_at lw_m7 121 rfl) rfl
theorem q1626 : (Jvm.Cond.methodLinkNest "Raidhall$Raid" (134 : Nat) ({ cls := "Raidhall$Step", name := "<init>", desc := "(III)V" } : Jvm.MethodName) "Raidhall") ∈ lw_tbl := lw_at lw_m7 122 rfl
theorem q1627 : (Jvm.Cond.methodLink "Raidhall$Raid" (137 : Nat) ({ cls := "java/util/ArrayList", name := "<init>", desc := "(Ljava/util/Collection;)V" } : Jvm.MethodName)) ∈ lw_all := lw_g (lw_at lw_m7 123 rfl) rfl
theorem q1628 : (Jvm.Cond.interfaceEntry "Raidhall$Raid" (140 : Nat)) ∈ lw_tbl := lw_at lw_m7 124 rfl
theorem q1629 : (Jvm.Cond.methodLink "Raidhall$Raid" (140 : Nat) ({ cls := "java/util/List", name := "set", desc := "(ILjava/lang/Object;)Ljava/lang/Object;" } : Jvm.MethodName)) ∈ lw_all := lw_g (lw_at lw_m7 125 rfl) rfl
theorem q2372 : (Jvm.Cond.castable "Raidhall$Raid" "java/lang/Object") ∈ lw_tbl := lw_at lw_m10 148 rfl
theorem in_X7 : ∀ w ∈ wsX70, w ∈ lw_all := lw_in wsX70 [1207, 1209] (by decide +kernel) (by decide +kernel)

/-! Raidhall$Step -/
set_option maxRecDepth 100000
def RX8 : String := "Raidhall$Step"
def TX8 : u_T := fun k => match k with
  | 0 => ("Raidhall$Step", "kind", "I", true)
  | 1 => ("Raidhall$Step", "who", "I", true)
  | _ => ("Raidhall$Step", "tenth", "I", true)
def tyX8 : Nat → FieldType := fun k => match k with
  | 0 => .int
  | 1 => .int
  | _ => .int
abbrev wsX80 : List Cond := u_ws RX8 TX8 3
theorem nmX8 : ∀ a, a < 3 → ∀ b, b < 3 → a ≠ b → (TX8 a).2.1 ≠ (TX8 b).2.1 := by decide +kernel
theorem tyX8_ok : ∀ k, k < 3 → parseFieldDescriptor (TX8 k).2.2.1 = some (tyX8 k) := by decide +kernel
abbrev cX8_ends : ByteArray := prog_12_method_2_code
def yX8_ends : MethodName := ⟨RX8, "ends", "()Z"⟩
def dkwX8_ends_0 : List UInt8 := [42, 180, 0, 9, 6, 161, 0, 7, 4, 167, 0, 4, 3, 172]
abbrev dktX8_ends_0 : List UInt8 := dkwX8_ends_0 ++ []
theorem dksX8_ends_0 : cX8_ends.data.toList.drop 0 = dktX8_ends_0 := by decide +kernel
theorem dX8_ends_0 : decode cX8_ends 0 = .ok (.aload_n 0, 1) := dk_42 (dk_at dksX8_ends_0 0 rfl rfl)
theorem dX8_ends_1 : decode cX8_ends 1 = .ok (.getfield 9, 3) := dk_180 0 9 (dk_at dksX8_ends_0 1 rfl rfl)
theorem dX8_ends_4 : decode cX8_ends 4 = .ok (.iconst 3, 1) := dk_6 (dk_at dksX8_ends_0 4 rfl rfl)
theorem dX8_ends_5 : decode cX8_ends 5 = .ok (.if_icmp .lt 7, 3) := dk_161 0 7 (dk_at dksX8_ends_0 5 rfl rfl)
theorem dX8_ends_8 : decode cX8_ends 8 = .ok (.iconst 1, 1) := dk_4 (dk_at dksX8_ends_0 8 rfl rfl)
theorem dX8_ends_9 : decode cX8_ends 9 = .ok (.goto 4, 3) := dk_167 0 4 (dk_at dksX8_ends_0 9 rfl rfl)
theorem dX8_ends_12 : decode cX8_ends 12 = .ok (.iconst 0, 1) := dk_3 (dk_at dksX8_ends_0 12 rfl rfl)
theorem dX8_ends_13 : decode cX8_ends 13 = .ok (.ireturn, 1) := dk_172 (dk_at dksX8_ends_0 13 rfl rfl)
abbrev cX8_tenth : ByteArray := prog_12_method_8_code
def yX8_tenth : MethodName := ⟨RX8, "tenth", "()I"⟩
theorem dX8_tenth_0 : decode cX8_tenth 0 = .ok (.aload_n 0, 1) := by decide +kernel
theorem dX8_tenth_1 : decode cX8_tenth 1 = .ok (.getfield 18, 3) := by decide +kernel
theorem dX8_tenth_4 : decode cX8_tenth 4 = .ok (.ireturn, 1) := by decide +kernel
abbrev cX8_kind : ByteArray := prog_12_method_6_code
def yX8_kind : MethodName := ⟨RX8, "kind", "()I"⟩
theorem dX8_kind_0 : decode cX8_kind 0 = .ok (.aload_n 0, 1) := by decide +kernel
theorem dX8_kind_1 : decode cX8_kind 1 = .ok (.getfield 9, 3) := by decide +kernel
theorem dX8_kind_4 : decode cX8_kind 4 = .ok (.ireturn, 1) := by decide +kernel
abbrev cX8_who : ByteArray := prog_12_method_7_code
def yX8_who : MethodName := ⟨RX8, "who", "()I"⟩
theorem dX8_who_0 : decode cX8_who 0 = .ok (.aload_n 0, 1) := by decide +kernel
theorem dX8_who_1 : decode cX8_who 1 = .ok (.getfield 15, 3) := by decide +kernel
theorem dX8_who_4 : decode cX8_who 4 = .ok (.ireturn, 1) := by decide +kernel
abbrev cX8_init : ByteArray := prog_12_method_1_code
def yX8_init : MethodName := ⟨RX8, "<init>", "(III)V"⟩
def dkwX8_init_0 : List UInt8 := [42, 183, 0, 3, 42, 27, 181, 0, 9, 42, 28, 181, 0, 15, 42, 29, 181, 0, 18, 177]
abbrev dktX8_init_0 : List UInt8 := dkwX8_init_0 ++ []
theorem dksX8_init_0 : cX8_init.data.toList.drop 0 = dktX8_init_0 := by decide +kernel
theorem dX8_init_0 : decode cX8_init 0 = .ok (.aload_n 0, 1) := dk_42 (dk_at dksX8_init_0 0 rfl rfl)
theorem dX8_init_1 : decode cX8_init 1 = .ok (.invokespecial 3, 3) := dk_183 0 3 (dk_at dksX8_init_0 1 rfl rfl)
theorem dX8_init_4 : decode cX8_init 4 = .ok (.aload_n 0, 1) := dk_42 (dk_at dksX8_init_0 4 rfl rfl)
theorem dX8_init_5 : decode cX8_init 5 = .ok (.iload_n 1, 1) := dk_27 (dk_at dksX8_init_0 5 rfl rfl)
theorem dX8_init_6 : decode cX8_init 6 = .ok (.putfield 9, 3) := dk_181 0 9 (dk_at dksX8_init_0 6 rfl rfl)
theorem dX8_init_9 : decode cX8_init 9 = .ok (.aload_n 0, 1) := dk_42 (dk_at dksX8_init_0 9 rfl rfl)
theorem dX8_init_10 : decode cX8_init 10 = .ok (.iload_n 2, 1) := dk_28 (dk_at dksX8_init_0 10 rfl rfl)
theorem dX8_init_11 : decode cX8_init 11 = .ok (.putfield 15, 3) := dk_181 0 15 (dk_at dksX8_init_0 11 rfl rfl)
theorem dX8_init_14 : decode cX8_init 14 = .ok (.aload_n 0, 1) := dk_42 (dk_at dksX8_init_0 14 rfl rfl)
theorem dX8_init_15 : decode cX8_init 15 = .ok (.iload_n 3, 1) := dk_29 (dk_at dksX8_init_0 15 rfl rfl)
theorem dX8_init_16 : decode cX8_init 16 = .ok (.putfield 18, 3) := dk_181 0 18 (dk_at dksX8_init_0 16 rfl rfl)
theorem dX8_init_19 : decode cX8_init 19 = .ok (.return_, 1) := dk_177 (dk_at dksX8_init_0 19 rfl rfl)
theorem q94 : (Jvm.Cond.initialized "Raidhall$Step") ∈ lw_all := lw_g (lw_at lw_m1 30 rfl) rfl
theorem q978 : (Jvm.Cond.selects "Raidhall$Step" ({ cls := "java/lang/Object", name := "getClass", desc := "()Ljava/lang/Class;" } : Jvm.MethodName) ({ cls := "java/lang/Object", name := "getClass", desc := "()Ljava/lang/Class;" } : Jvm.MethodName)) ∈ lw_all := lw_g (lw_at lw_m4 194 rfl) rfl
theorem q1328 : (Jvm.Cond.instanceMethod ({ cls := "Raidhall$Step", name := "ends", desc := "()Z" } : Jvm.MethodName)) ∈ lw_all := lw_g (lw_at lw_m6 64 rfl) rfl
theorem q1329 : (Jvm.Cond.selects "Raidhall$Step" ({ cls := "Raidhall$Step", name := "ends", desc := "()Z" } : Jvm.MethodName) ({ cls := "Raidhall$Step", name := "ends", desc := "()Z" } : Jvm.MethodName)) ∈ lw_all := lw_g (lw_at lw_m6 65 rfl) rfl
theorem q1330 : (Jvm.Cond.code ({ cls := "Raidhall$Step", name := "ends", desc := "()Z" } : Jvm.MethodName) prog_12_method_2_code (1 : Nat) (Option.some Jvm.ClassFile.FieldType.boolean)) ∈ lw_all := lw_g (lw_at lw_m6 66 rfl) rfl
theorem q1332 : (Jvm.Cond.instanceMethod ({ cls := "Raidhall$Step", name := "tenth", desc := "()I" } : Jvm.MethodName)) ∈ lw_all := lw_g (lw_at lw_m6 68 rfl) rfl
theorem q1333 : (Jvm.Cond.selects "Raidhall$Step" ({ cls := "Raidhall$Step", name := "tenth", desc := "()I" } : Jvm.MethodName) ({ cls := "Raidhall$Step", name := "tenth", desc := "()I" } : Jvm.MethodName)) ∈ lw_all := lw_g (lw_at lw_m6 69 rfl) rfl
theorem q1334 : (Jvm.Cond.code ({ cls := "Raidhall$Step", name := "tenth", desc := "()I" } : Jvm.MethodName) prog_12_method_8_code (1 : Nat) (Option.some Jvm.ClassFile.FieldType.int)) ∈ lw_all := lw_g (lw_at lw_m6 70 rfl) rfl
theorem q1336 : (Jvm.Cond.instanceMethod ({ cls := "Raidhall$Step", name := "kind", desc := "()I" } : Jvm.MethodName)) ∈ lw_all := lw_g (lw_at lw_m6 72 rfl) rfl
theorem q1337 : (Jvm.Cond.selects "Raidhall$Step" ({ cls := "Raidhall$Step", name := "kind", desc := "()I" } : Jvm.MethodName) ({ cls := "Raidhall$Step", name := "kind", desc := "()I" } : Jvm.MethodName)) ∈ lw_all := lw_g (lw_at lw_m6 73 rfl) rfl
theorem q1338 : (Jvm.Cond.code ({ cls := "Raidhall$Step", name := "kind", desc := "()I" } : Jvm.MethodName) prog_12_method_6_code (1 : Nat) (Option.some Jvm.ClassFile.FieldType.int)) ∈ lw_all := lw_g (lw_at lw_m6 74 rfl) rfl
theorem q1340 : (Jvm.Cond.instanceMethod ({ cls := "Raidhall$Step", name := "who", desc := "()I" } : Jvm.MethodName)) ∈ lw_all := lw_g (lw_at lw_m6 76 rfl) rfl
theorem q1341 : (Jvm.Cond.selects "Raidhall$Step" ({ cls := "Raidhall$Step", name := "who", desc := "()I" } : Jvm.MethodName) ({ cls := "Raidhall$Step", name := "who", desc := "()I" } : Jvm.MethodName)) ∈ lw_all := lw_g (lw_at lw_m6 77 rfl) rfl
theorem q1342 : (Jvm.Cond.code ({ cls := "Raidhall$Step", name := "who", desc := "()I" } : Jvm.MethodName) prog_12_method_7_code (1 : Nat) (Option.some Jvm.ClassFile.FieldType.int)) ∈ lw_all := lw_g (lw_at lw_m6 78 rfl) rfl
theorem q1362 : (Jvm.Cond.instantiable "Raidhall$Step" (3 : Nat)) ∈ lw_all := lw_g (lw_at lw_m6 98 rfl) rfl
theorem q1364 : (Jvm.Cond.instanceMethod ({ cls := "Raidhall$Step", name := "<init>", desc := "(III)V" } : Jvm.MethodName)) ∈ lw_all := lw_g (lw_at lw_m6 100 rfl) rfl
theorem q1365 : (Jvm.Cond.code ({ cls := "Raidhall$Step", name := "<init>", desc := "(III)V" } : Jvm.MethodName) prog_12_method_1_code (4 : Nat) (Option.none : Option Jvm.ClassFile.FieldType)) ∈ lw_all := lw_g (lw_at lw_m6 101 rfl) rfl
theorem q1366 : (Jvm.Cond.methodLink "Raidhall$Step" (3 : Nat) ({ cls := "java/lang/Record", name := "<init>", desc := "()V" } : Jvm.MethodName)) ∈ lw_all := lw_g (lw_at lw_m6 102 rfl) rfl
theorem q1367 : (Jvm.Cond.fieldLink "Raidhall$Step" (9 : Nat) "Raidhall$Step" "kind" "I") ∈ lw_all := lw_g (lw_at lw_m6 103 rfl) rfl
theorem q1368 : (Jvm.Cond.fieldLink "Raidhall$Step" (15 : Nat) "Raidhall$Step" "who" "I") ∈ lw_all := lw_g (lw_at lw_m6 104 rfl) rfl
theorem q1369 : (Jvm.Cond.fieldLink "Raidhall$Step" (18 : Nat) "Raidhall$Step" "tenth" "I") ∈ lw_all := lw_g (lw_at lw_m6 105 rfl) rfl
theorem q1370 : (Jvm.Cond.laysFinal "Raidhall$Step" "Raidhall$Step" "kind" "I") ∈ lw_all := lw_g (lw_at lw_m6 106 rfl) rfl
theorem q1371 : (Jvm.Cond.soleField "Raidhall$Step" "kind") ∈ lw_all := lw_g (lw_at lw_m6 107 rfl) rfl
theorem q1372 : (Jvm.Cond.laysFinal "Raidhall$Step" "Raidhall$Step" "who" "I") ∈ lw_all := lw_g (lw_at lw_m6 108 rfl) rfl
theorem q1373 : (Jvm.Cond.soleField "Raidhall$Step" "who") ∈ lw_all := lw_g (lw_at lw_m6 109 rfl) rfl
theorem q1374 : (Jvm.Cond.laysFinal "Raidhall$Step" "Raidhall$Step" "tenth" "I") ∈ lw_all := lw_g (lw_at lw_m6 110 rfl) rfl
theorem q1375 : (Jvm.Cond.soleField "Raidhall$Step" "tenth") ∈ lw_all := lw_g (lw_at lw_m6 111 rfl) rfl
theorem q1376 : (Jvm.Cond.superclass "Raidhall$Step" "java/lang/Record") ∈ lw_all := lw_g (lw_at lw_m6 112 rfl) rfl
theorem q2374 : (Jvm.Cond.castable "Raidhall$Step" "java/lang/Object") ∈ lw_tbl := lw_at lw_m10 150 rfl
theorem in_X8 : ∀ w ∈ wsX80, w ∈ lw_all := lw_in wsX80 [1370, 1372, 1374] (by decide +kernel) (by decide +kernel)

/-! Raidhall$Card -/
set_option maxRecDepth 100000
def RX9 : String := "Raidhall$Card"
def TX9 : u_T := fun k => match k with
  | 0 => ("Raidhall$Card", "side", "I", true)
  | 1 => ("Raidhall$Card", "player", "I", true)
  | _ => ("Raidhall$Card", "colour", "I", true)
def tyX9 : Nat → FieldType := fun k => match k with
  | 0 => .int
  | 1 => .int
  | _ => .int
abbrev wsX90 : List Cond := u_ws RX9 TX9 3
theorem nmX9 : ∀ a, a < 3 → ∀ b, b < 3 → a ≠ b → (TX9 a).2.1 ≠ (TX9 b).2.1 := by decide +kernel
theorem tyX9_ok : ∀ k, k < 3 → parseFieldDescriptor (TX9 k).2.2.1 = some (tyX9 k) := by decide +kernel
abbrev cX9_stands : ByteArray := prog_2_method_3_code
def yX9_stands : MethodName := ⟨RX9, "stands", "(LRaidhall$Mats;I)Z"⟩
def dkwX9_stands_2 : List UInt8 := [153, 0, 7, 4, 167, 0, 4, 3, 172]
abbrev dktX9_stands_2 : List UInt8 := dkwX9_stands_2 ++ []
def dkwX9_stands_1 : List UInt8 := [167, 0, 4, 3, 62, 43, 180, 0, 35, 42, 180, 0, 9, 50, 42, 180, 0, 15, 46, 154, 0, 11, 29]
abbrev dktX9_stands_1 : List UInt8 := dkwX9_stands_1 ++ dktX9_stands_2
def dkwX9_stands_0 : List UInt8 := [42, 43, 182, 0, 27, 153, 0, 17, 43, 42, 180, 0, 9, 6, 7, 182, 0, 31, 6, 162, 0, 7, 4]
abbrev dktX9_stands_0 : List UInt8 := dkwX9_stands_0 ++ dktX9_stands_1
theorem dksX9_stands_0 : cX9_stands.data.toList.drop 0 = dktX9_stands_0 := by decide +kernel
theorem dksX9_stands_1 : cX9_stands.data.toList.drop 23 = dktX9_stands_1 := dk_seg dksX9_stands_0 23 rfl rfl
theorem dksX9_stands_2 : cX9_stands.data.toList.drop 46 = dktX9_stands_2 := dk_seg dksX9_stands_1 23 rfl rfl
theorem dX9_stands_0 : decode cX9_stands 0 = .ok (.aload_n 0, 1) := dk_42 (dk_at dksX9_stands_0 0 rfl rfl)
theorem dX9_stands_1 : decode cX9_stands 1 = .ok (.aload_n 1, 1) := dk_43 (dk_at dksX9_stands_0 1 rfl rfl)
theorem dX9_stands_2 : decode cX9_stands 2 = .ok (.invokevirtual 27, 3) := dk_182 0 27 (dk_at dksX9_stands_0 2 rfl rfl)
theorem dX9_stands_5 : decode cX9_stands 5 = .ok (.ifCond .eq 17, 3) := dk_153 0 17 (dk_at dksX9_stands_0 5 rfl rfl)
theorem dX9_stands_8 : decode cX9_stands 8 = .ok (.aload_n 1, 1) := dk_43 (dk_at dksX9_stands_0 8 rfl rfl)
theorem dX9_stands_9 : decode cX9_stands 9 = .ok (.aload_n 0, 1) := dk_42 (dk_at dksX9_stands_0 9 rfl rfl)
theorem dX9_stands_10 : decode cX9_stands 10 = .ok (.getfield 9, 3) := dk_180 0 9 (dk_at dksX9_stands_0 10 rfl rfl)
theorem dX9_stands_13 : decode cX9_stands 13 = .ok (.iconst 3, 1) := dk_6 (dk_at dksX9_stands_0 13 rfl rfl)
theorem dX9_stands_14 : decode cX9_stands 14 = .ok (.iconst 4, 1) := dk_7 (dk_at dksX9_stands_0 14 rfl rfl)
theorem dX9_stands_15 : decode cX9_stands 15 = .ok (.invokevirtual 31, 3) := dk_182 0 31 (dk_at dksX9_stands_0 15 rfl rfl)
theorem dX9_stands_18 : decode cX9_stands 18 = .ok (.iconst 3, 1) := dk_6 (dk_at dksX9_stands_0 18 rfl rfl)
theorem dX9_stands_19 : decode cX9_stands 19 = .ok (.if_icmp .ge 7, 3) := dk_162 0 7 (dk_at dksX9_stands_0 19 rfl rfl)
theorem dX9_stands_22 : decode cX9_stands 22 = .ok (.iconst 1, 1) := dk_4 (dk_at dksX9_stands_0 22 rfl rfl)
theorem dX9_stands_23 : decode cX9_stands 23 = .ok (.goto 4, 3) := dk_167 0 4 (dk_at dksX9_stands_1 0 rfl rfl)
theorem dX9_stands_26 : decode cX9_stands 26 = .ok (.iconst 0, 1) := dk_3 (dk_at dksX9_stands_1 3 rfl rfl)
theorem dX9_stands_27 : decode cX9_stands 27 = .ok (.istore_n 3, 1) := dk_62 (dk_at dksX9_stands_1 4 rfl rfl)
theorem dX9_stands_28 : decode cX9_stands 28 = .ok (.aload_n 1, 1) := dk_43 (dk_at dksX9_stands_1 5 rfl rfl)
theorem dX9_stands_29 : decode cX9_stands 29 = .ok (.getfield 35, 3) := dk_180 0 35 (dk_at dksX9_stands_1 6 rfl rfl)
theorem dX9_stands_32 : decode cX9_stands 32 = .ok (.aload_n 0, 1) := dk_42 (dk_at dksX9_stands_1 9 rfl rfl)
theorem dX9_stands_33 : decode cX9_stands 33 = .ok (.getfield 9, 3) := dk_180 0 9 (dk_at dksX9_stands_1 10 rfl rfl)
theorem dX9_stands_36 : decode cX9_stands 36 = .ok (.aaload, 1) := dk_50 (dk_at dksX9_stands_1 13 rfl rfl)
theorem dX9_stands_37 : decode cX9_stands 37 = .ok (.aload_n 0, 1) := dk_42 (dk_at dksX9_stands_1 14 rfl rfl)
theorem dX9_stands_38 : decode cX9_stands 38 = .ok (.getfield 15, 3) := dk_180 0 15 (dk_at dksX9_stands_1 15 rfl rfl)
theorem dX9_stands_41 : decode cX9_stands 41 = .ok (.iaload, 1) := dk_46 (dk_at dksX9_stands_1 18 rfl rfl)
theorem dX9_stands_42 : decode cX9_stands 42 = .ok (.ifCond .ne 11, 3) := dk_154 0 11 (dk_at dksX9_stands_1 19 rfl rfl)
theorem dX9_stands_45 : decode cX9_stands 45 = .ok (.iload_n 3, 1) := dk_29 (dk_at dksX9_stands_1 22 rfl rfl)
theorem dX9_stands_46 : decode cX9_stands 46 = .ok (.ifCond .eq 7, 3) := dk_153 0 7 (dk_at dksX9_stands_2 0 rfl rfl)
theorem dX9_stands_49 : decode cX9_stands 49 = .ok (.iconst 1, 1) := dk_4 (dk_at dksX9_stands_2 3 rfl rfl)
theorem dX9_stands_50 : decode cX9_stands 50 = .ok (.goto 4, 3) := dk_167 0 4 (dk_at dksX9_stands_2 4 rfl rfl)
theorem dX9_stands_53 : decode cX9_stands 53 = .ok (.iconst 0, 1) := dk_3 (dk_at dksX9_stands_2 7 rfl rfl)
theorem dX9_stands_54 : decode cX9_stands 54 = .ok (.ireturn, 1) := dk_172 (dk_at dksX9_stands_2 8 rfl rfl)
abbrev cX9_colourOn : ByteArray := prog_2_method_2_code
def yX9_colourOn : MethodName := ⟨RX9, "colourOn", "(LRaidhall$Mats;)I"⟩
def dkwX9_colourOn_1 : List UInt8 := [28, 122, 4, 126, 4, 160, 0, 9, 132, 2, 1, 167, 255, 226, 28, 172]
abbrev dktX9_colourOn_1 : List UInt8 := dkwX9_colourOn_1 ++ []
def dkwX9_colourOn_0 : List UInt8 := [42, 180, 0, 18, 61, 28, 5, 162, 0, 31, 43, 180, 0, 21, 42, 180, 0, 9, 50, 42, 180, 0, 15, 46]
abbrev dktX9_colourOn_0 : List UInt8 := dkwX9_colourOn_0 ++ dktX9_colourOn_1
theorem dksX9_colourOn_0 : cX9_colourOn.data.toList.drop 0 = dktX9_colourOn_0 := by decide +kernel
theorem dksX9_colourOn_1 : cX9_colourOn.data.toList.drop 24 = dktX9_colourOn_1 := dk_seg dksX9_colourOn_0 24 rfl rfl
theorem dX9_colourOn_0 : decode cX9_colourOn 0 = .ok (.aload_n 0, 1) := dk_42 (dk_at dksX9_colourOn_0 0 rfl rfl)
theorem dX9_colourOn_1 : decode cX9_colourOn 1 = .ok (.getfield 18, 3) := dk_180 0 18 (dk_at dksX9_colourOn_0 1 rfl rfl)
theorem dX9_colourOn_4 : decode cX9_colourOn 4 = .ok (.istore_n 2, 1) := dk_61 (dk_at dksX9_colourOn_0 4 rfl rfl)
theorem dX9_colourOn_5 : decode cX9_colourOn 5 = .ok (.iload_n 2, 1) := dk_28 (dk_at dksX9_colourOn_0 5 rfl rfl)
theorem dX9_colourOn_6 : decode cX9_colourOn 6 = .ok (.iconst 2, 1) := dk_5 (dk_at dksX9_colourOn_0 6 rfl rfl)
theorem dX9_colourOn_7 : decode cX9_colourOn 7 = .ok (.if_icmp .ge 31, 3) := dk_162 0 31 (dk_at dksX9_colourOn_0 7 rfl rfl)
theorem dX9_colourOn_10 : decode cX9_colourOn 10 = .ok (.aload_n 1, 1) := dk_43 (dk_at dksX9_colourOn_0 10 rfl rfl)
theorem dX9_colourOn_11 : decode cX9_colourOn 11 = .ok (.getfield 21, 3) := dk_180 0 21 (dk_at dksX9_colourOn_0 11 rfl rfl)
theorem dX9_colourOn_14 : decode cX9_colourOn 14 = .ok (.aload_n 0, 1) := dk_42 (dk_at dksX9_colourOn_0 14 rfl rfl)
theorem dX9_colourOn_15 : decode cX9_colourOn 15 = .ok (.getfield 9, 3) := dk_180 0 9 (dk_at dksX9_colourOn_0 15 rfl rfl)
theorem dX9_colourOn_18 : decode cX9_colourOn 18 = .ok (.aaload, 1) := dk_50 (dk_at dksX9_colourOn_0 18 rfl rfl)
theorem dX9_colourOn_19 : decode cX9_colourOn 19 = .ok (.aload_n 0, 1) := dk_42 (dk_at dksX9_colourOn_0 19 rfl rfl)
theorem dX9_colourOn_20 : decode cX9_colourOn 20 = .ok (.getfield 15, 3) := dk_180 0 15 (dk_at dksX9_colourOn_0 20 rfl rfl)
theorem dX9_colourOn_23 : decode cX9_colourOn 23 = .ok (.iaload, 1) := dk_46 (dk_at dksX9_colourOn_0 23 rfl rfl)
theorem dX9_colourOn_24 : decode cX9_colourOn 24 = .ok (.iload_n 2, 1) := dk_28 (dk_at dksX9_colourOn_1 0 rfl rfl)
theorem dX9_colourOn_25 : decode cX9_colourOn 25 = .ok (.ishr, 1) := dk_122 (dk_at dksX9_colourOn_1 1 rfl rfl)
theorem dX9_colourOn_26 : decode cX9_colourOn 26 = .ok (.iconst 1, 1) := dk_4 (dk_at dksX9_colourOn_1 2 rfl rfl)
theorem dX9_colourOn_27 : decode cX9_colourOn 27 = .ok (.iand, 1) := dk_126 (dk_at dksX9_colourOn_1 3 rfl rfl)
theorem dX9_colourOn_28 : decode cX9_colourOn 28 = .ok (.iconst 1, 1) := dk_4 (dk_at dksX9_colourOn_1 4 rfl rfl)
theorem dX9_colourOn_29 : decode cX9_colourOn 29 = .ok (.if_icmp .ne 9, 3) := dk_160 0 9 (dk_at dksX9_colourOn_1 5 rfl rfl)
theorem dX9_colourOn_32 : decode cX9_colourOn 32 = .ok (.iinc 2 1, 3) := dk_132 2 1 (dk_at dksX9_colourOn_1 8 rfl rfl)
theorem dX9_colourOn_35 : decode cX9_colourOn 35 = .ok (.goto (-30), 3) := dk_167 255 226 (dk_at dksX9_colourOn_1 11 rfl rfl)
theorem dX9_colourOn_38 : decode cX9_colourOn 38 = .ok (.iload_n 2, 1) := dk_28 (dk_at dksX9_colourOn_1 14 rfl rfl)
theorem dX9_colourOn_39 : decode cX9_colourOn 39 = .ok (.ireturn, 1) := dk_172 (dk_at dksX9_colourOn_1 15 rfl rfl)
abbrev cX9_change : ByteArray := prog_2_method_4_code
def yX9_change : MethodName := ⟨RX9, "change", "(LRaidhall$Mats;)V"⟩
def dkwX9_change_4 : List UInt8 := [180, 0, 9, 100, 92, 46, 4, 96, 79, 43, 182, 0, 48, 177]
abbrev dktX9_change_4 : List UInt8 := dkwX9_change_4 ++ []
def dkwX9_change_3 : List UInt8 := [160, 0, 33, 43, 180, 0, 35, 42, 180, 0, 9, 50, 42, 180, 0, 15, 7, 79, 43, 180, 0, 44, 4, 42]
abbrev dktX9_change_3 : List UInt8 := dkwX9_change_3 ++ dktX9_change_4
def dkwX9_change_2 : List UInt8 := [180, 0, 38, 42, 180, 0, 9, 50, 42, 180, 0, 15, 43, 180, 0, 41, 17, 4, 176, 96, 79, 28, 5]
abbrev dktX9_change_2 : List UInt8 := dkwX9_change_2 ++ dktX9_change_3
def dkwX9_change_1 : List UInt8 := [128, 79, 28, 4, 160, 0, 40, 43, 180, 0, 35, 42, 180, 0, 9, 50, 42, 180, 0, 15, 6, 79, 43]
abbrev dktX9_change_1 : List UInt8 := dkwX9_change_1 ++ dktX9_change_2
def dkwX9_change_0 : List UInt8 := [42, 43, 182, 0, 27, 61, 43, 180, 0, 21, 42, 180, 0, 9, 50, 42, 180, 0, 15, 92, 46, 4, 28, 120]
abbrev dktX9_change_0 : List UInt8 := dkwX9_change_0 ++ dktX9_change_1
theorem dksX9_change_0 : cX9_change.data.toList.drop 0 = dktX9_change_0 := by decide +kernel
theorem dksX9_change_1 : cX9_change.data.toList.drop 24 = dktX9_change_1 := dk_seg dksX9_change_0 24 rfl rfl
theorem dksX9_change_2 : cX9_change.data.toList.drop 47 = dktX9_change_2 := dk_seg dksX9_change_1 23 rfl rfl
theorem dksX9_change_3 : cX9_change.data.toList.drop 70 = dktX9_change_3 := dk_seg dksX9_change_2 23 rfl rfl
theorem dksX9_change_4 : cX9_change.data.toList.drop 94 = dktX9_change_4 := dk_seg dksX9_change_3 24 rfl rfl
theorem dX9_change_0 : decode cX9_change 0 = .ok (.aload_n 0, 1) := dk_42 (dk_at dksX9_change_0 0 rfl rfl)
theorem dX9_change_1 : decode cX9_change 1 = .ok (.aload_n 1, 1) := dk_43 (dk_at dksX9_change_0 1 rfl rfl)
theorem dX9_change_2 : decode cX9_change 2 = .ok (.invokevirtual 27, 3) := dk_182 0 27 (dk_at dksX9_change_0 2 rfl rfl)
theorem dX9_change_5 : decode cX9_change 5 = .ok (.istore_n 2, 1) := dk_61 (dk_at dksX9_change_0 5 rfl rfl)
theorem dX9_change_6 : decode cX9_change 6 = .ok (.aload_n 1, 1) := dk_43 (dk_at dksX9_change_0 6 rfl rfl)
theorem dX9_change_7 : decode cX9_change 7 = .ok (.getfield 21, 3) := dk_180 0 21 (dk_at dksX9_change_0 7 rfl rfl)
theorem dX9_change_10 : decode cX9_change 10 = .ok (.aload_n 0, 1) := dk_42 (dk_at dksX9_change_0 10 rfl rfl)
theorem dX9_change_11 : decode cX9_change 11 = .ok (.getfield 9, 3) := dk_180 0 9 (dk_at dksX9_change_0 11 rfl rfl)
theorem dX9_change_14 : decode cX9_change 14 = .ok (.aaload, 1) := dk_50 (dk_at dksX9_change_0 14 rfl rfl)
theorem dX9_change_15 : decode cX9_change 15 = .ok (.aload_n 0, 1) := dk_42 (dk_at dksX9_change_0 15 rfl rfl)
theorem dX9_change_16 : decode cX9_change 16 = .ok (.getfield 15, 3) := dk_180 0 15 (dk_at dksX9_change_0 16 rfl rfl)
theorem dX9_change_19 : decode cX9_change 19 = .ok (.dup2, 1) := dk_92 (dk_at dksX9_change_0 19 rfl rfl)
theorem dX9_change_20 : decode cX9_change 20 = .ok (.iaload, 1) := dk_46 (dk_at dksX9_change_0 20 rfl rfl)
theorem dX9_change_21 : decode cX9_change 21 = .ok (.iconst 1, 1) := dk_4 (dk_at dksX9_change_0 21 rfl rfl)
theorem dX9_change_22 : decode cX9_change 22 = .ok (.iload_n 2, 1) := dk_28 (dk_at dksX9_change_0 22 rfl rfl)
theorem dX9_change_23 : decode cX9_change 23 = .ok (.ishl, 1) := dk_120 (dk_at dksX9_change_0 23 rfl rfl)
theorem dX9_change_24 : decode cX9_change 24 = .ok (.ior, 1) := dk_128 (dk_at dksX9_change_1 0 rfl rfl)
theorem dX9_change_25 : decode cX9_change 25 = .ok (.iastore, 1) := dk_79 (dk_at dksX9_change_1 1 rfl rfl)
theorem dX9_change_26 : decode cX9_change 26 = .ok (.iload_n 2, 1) := dk_28 (dk_at dksX9_change_1 2 rfl rfl)
theorem dX9_change_27 : decode cX9_change 27 = .ok (.iconst 1, 1) := dk_4 (dk_at dksX9_change_1 3 rfl rfl)
theorem dX9_change_28 : decode cX9_change 28 = .ok (.if_icmp .ne 40, 3) := dk_160 0 40 (dk_at dksX9_change_1 4 rfl rfl)
theorem dX9_change_31 : decode cX9_change 31 = .ok (.aload_n 1, 1) := dk_43 (dk_at dksX9_change_1 7 rfl rfl)
theorem dX9_change_32 : decode cX9_change 32 = .ok (.getfield 35, 3) := dk_180 0 35 (dk_at dksX9_change_1 8 rfl rfl)
theorem dX9_change_35 : decode cX9_change 35 = .ok (.aload_n 0, 1) := dk_42 (dk_at dksX9_change_1 11 rfl rfl)
theorem dX9_change_36 : decode cX9_change 36 = .ok (.getfield 9, 3) := dk_180 0 9 (dk_at dksX9_change_1 12 rfl rfl)
theorem dX9_change_39 : decode cX9_change 39 = .ok (.aaload, 1) := dk_50 (dk_at dksX9_change_1 15 rfl rfl)
theorem dX9_change_40 : decode cX9_change 40 = .ok (.aload_n 0, 1) := dk_42 (dk_at dksX9_change_1 16 rfl rfl)
theorem dX9_change_41 : decode cX9_change 41 = .ok (.getfield 15, 3) := dk_180 0 15 (dk_at dksX9_change_1 17 rfl rfl)
theorem dX9_change_44 : decode cX9_change 44 = .ok (.iconst 3, 1) := dk_6 (dk_at dksX9_change_1 20 rfl rfl)
theorem dX9_change_45 : decode cX9_change 45 = .ok (.iastore, 1) := dk_79 (dk_at dksX9_change_1 21 rfl rfl)
theorem dX9_change_46 : decode cX9_change 46 = .ok (.aload_n 1, 1) := dk_43 (dk_at dksX9_change_1 22 rfl rfl)
theorem dX9_change_47 : decode cX9_change 47 = .ok (.getfield 38, 3) := dk_180 0 38 (dk_at dksX9_change_2 0 rfl rfl)
theorem dX9_change_50 : decode cX9_change 50 = .ok (.aload_n 0, 1) := dk_42 (dk_at dksX9_change_2 3 rfl rfl)
theorem dX9_change_51 : decode cX9_change 51 = .ok (.getfield 9, 3) := dk_180 0 9 (dk_at dksX9_change_2 4 rfl rfl)
theorem dX9_change_54 : decode cX9_change 54 = .ok (.aaload, 1) := dk_50 (dk_at dksX9_change_2 7 rfl rfl)
theorem dX9_change_55 : decode cX9_change 55 = .ok (.aload_n 0, 1) := dk_42 (dk_at dksX9_change_2 8 rfl rfl)
theorem dX9_change_56 : decode cX9_change 56 = .ok (.getfield 15, 3) := dk_180 0 15 (dk_at dksX9_change_2 9 rfl rfl)
theorem dX9_change_59 : decode cX9_change 59 = .ok (.aload_n 1, 1) := dk_43 (dk_at dksX9_change_2 12 rfl rfl)
theorem dX9_change_60 : decode cX9_change 60 = .ok (.getfield 41, 3) := dk_180 0 41 (dk_at dksX9_change_2 13 rfl rfl)
theorem dX9_change_63 : decode cX9_change 63 = .ok (.sipush 1200, 3) := dk_17 4 176 (dk_at dksX9_change_2 16 rfl rfl)
theorem dX9_change_66 : decode cX9_change 66 = .ok (.iadd, 1) := dk_96 (dk_at dksX9_change_2 19 rfl rfl)
theorem dX9_change_67 : decode cX9_change 67 = .ok (.iastore, 1) := dk_79 (dk_at dksX9_change_2 20 rfl rfl)
theorem dX9_change_68 : decode cX9_change 68 = .ok (.iload_n 2, 1) := dk_28 (dk_at dksX9_change_2 21 rfl rfl)
theorem dX9_change_69 : decode cX9_change 69 = .ok (.iconst 2, 1) := dk_5 (dk_at dksX9_change_2 22 rfl rfl)
theorem dX9_change_70 : decode cX9_change 70 = .ok (.if_icmp .ne 33, 3) := dk_160 0 33 (dk_at dksX9_change_3 0 rfl rfl)
theorem dX9_change_73 : decode cX9_change 73 = .ok (.aload_n 1, 1) := dk_43 (dk_at dksX9_change_3 3 rfl rfl)
theorem dX9_change_74 : decode cX9_change 74 = .ok (.getfield 35, 3) := dk_180 0 35 (dk_at dksX9_change_3 4 rfl rfl)
theorem dX9_change_77 : decode cX9_change 77 = .ok (.aload_n 0, 1) := dk_42 (dk_at dksX9_change_3 7 rfl rfl)
theorem dX9_change_78 : decode cX9_change 78 = .ok (.getfield 9, 3) := dk_180 0 9 (dk_at dksX9_change_3 8 rfl rfl)
theorem dX9_change_81 : decode cX9_change 81 = .ok (.aaload, 1) := dk_50 (dk_at dksX9_change_3 11 rfl rfl)
theorem dX9_change_82 : decode cX9_change 82 = .ok (.aload_n 0, 1) := dk_42 (dk_at dksX9_change_3 12 rfl rfl)
theorem dX9_change_83 : decode cX9_change 83 = .ok (.getfield 15, 3) := dk_180 0 15 (dk_at dksX9_change_3 13 rfl rfl)
theorem dX9_change_86 : decode cX9_change 86 = .ok (.iconst 4, 1) := dk_7 (dk_at dksX9_change_3 16 rfl rfl)
theorem dX9_change_87 : decode cX9_change 87 = .ok (.iastore, 1) := dk_79 (dk_at dksX9_change_3 17 rfl rfl)
theorem dX9_change_88 : decode cX9_change 88 = .ok (.aload_n 1, 1) := dk_43 (dk_at dksX9_change_3 18 rfl rfl)
theorem dX9_change_89 : decode cX9_change 89 = .ok (.getfield 44, 3) := dk_180 0 44 (dk_at dksX9_change_3 19 rfl rfl)
theorem dX9_change_92 : decode cX9_change 92 = .ok (.iconst 1, 1) := dk_4 (dk_at dksX9_change_3 22 rfl rfl)
theorem dX9_change_93 : decode cX9_change 93 = .ok (.aload_n 0, 1) := dk_42 (dk_at dksX9_change_3 23 rfl rfl)
theorem dX9_change_94 : decode cX9_change 94 = .ok (.getfield 9, 3) := dk_180 0 9 (dk_at dksX9_change_4 0 rfl rfl)
theorem dX9_change_97 : decode cX9_change 97 = .ok (.isub, 1) := dk_100 (dk_at dksX9_change_4 3 rfl rfl)
theorem dX9_change_98 : decode cX9_change 98 = .ok (.dup2, 1) := dk_92 (dk_at dksX9_change_4 4 rfl rfl)
theorem dX9_change_99 : decode cX9_change 99 = .ok (.iaload, 1) := dk_46 (dk_at dksX9_change_4 5 rfl rfl)
theorem dX9_change_100 : decode cX9_change 100 = .ok (.iconst 1, 1) := dk_4 (dk_at dksX9_change_4 6 rfl rfl)
theorem dX9_change_101 : decode cX9_change 101 = .ok (.iadd, 1) := dk_96 (dk_at dksX9_change_4 7 rfl rfl)
theorem dX9_change_102 : decode cX9_change 102 = .ok (.iastore, 1) := dk_79 (dk_at dksX9_change_4 8 rfl rfl)
theorem dX9_change_103 : decode cX9_change 103 = .ok (.aload_n 1, 1) := dk_43 (dk_at dksX9_change_4 9 rfl rfl)
theorem dX9_change_104 : decode cX9_change 104 = .ok (.invokevirtual 48, 3) := dk_182 0 48 (dk_at dksX9_change_4 10 rfl rfl)
theorem dX9_change_107 : decode cX9_change 107 = .ok (.return_, 1) := dk_177 (dk_at dksX9_change_4 13 rfl rfl)
abbrev cX9_init : ByteArray := prog_2_method_1_code
def yX9_init : MethodName := ⟨RX9, "<init>", "(III)V"⟩
def dkwX9_init_0 : List UInt8 := [42, 183, 0, 3, 42, 27, 181, 0, 9, 42, 28, 181, 0, 15, 42, 29, 181, 0, 18, 177]
abbrev dktX9_init_0 : List UInt8 := dkwX9_init_0 ++ []
theorem dksX9_init_0 : cX9_init.data.toList.drop 0 = dktX9_init_0 := by decide +kernel
theorem dX9_init_0 : decode cX9_init 0 = .ok (.aload_n 0, 1) := dk_42 (dk_at dksX9_init_0 0 rfl rfl)
theorem dX9_init_1 : decode cX9_init 1 = .ok (.invokespecial 3, 3) := dk_183 0 3 (dk_at dksX9_init_0 1 rfl rfl)
theorem dX9_init_4 : decode cX9_init 4 = .ok (.aload_n 0, 1) := dk_42 (dk_at dksX9_init_0 4 rfl rfl)
theorem dX9_init_5 : decode cX9_init 5 = .ok (.iload_n 1, 1) := dk_27 (dk_at dksX9_init_0 5 rfl rfl)
theorem dX9_init_6 : decode cX9_init 6 = .ok (.putfield 9, 3) := dk_181 0 9 (dk_at dksX9_init_0 6 rfl rfl)
theorem dX9_init_9 : decode cX9_init 9 = .ok (.aload_n 0, 1) := dk_42 (dk_at dksX9_init_0 9 rfl rfl)
theorem dX9_init_10 : decode cX9_init 10 = .ok (.iload_n 2, 1) := dk_28 (dk_at dksX9_init_0 10 rfl rfl)
theorem dX9_init_11 : decode cX9_init 11 = .ok (.putfield 15, 3) := dk_181 0 15 (dk_at dksX9_init_0 11 rfl rfl)
theorem dX9_init_14 : decode cX9_init 14 = .ok (.aload_n 0, 1) := dk_42 (dk_at dksX9_init_0 14 rfl rfl)
theorem dX9_init_15 : decode cX9_init 15 = .ok (.iload_n 3, 1) := dk_29 (dk_at dksX9_init_0 15 rfl rfl)
theorem dX9_init_16 : decode cX9_init 16 = .ok (.putfield 18, 3) := dk_181 0 18 (dk_at dksX9_init_0 16 rfl rfl)
theorem dX9_init_19 : decode cX9_init 19 = .ok (.return_, 1) := dk_177 (dk_at dksX9_init_0 19 rfl rfl)
theorem q98 : (Jvm.Cond.initialized "Raidhall$Card") ∈ lw_all := lw_g (lw_at lw_m1 34 rfl) rfl
theorem q969 : (Jvm.Cond.selects "Raidhall$Card" ({ cls := "java/lang/Object", name := "getClass", desc := "()Ljava/lang/Class;" } : Jvm.MethodName) ({ cls := "java/lang/Object", name := "getClass", desc := "()Ljava/lang/Class;" } : Jvm.MethodName)) ∈ lw_all := lw_g (lw_at lw_m4 185 rfl) rfl
theorem q1106 : (Jvm.Cond.fieldLinkNest "Raidhall$Card" (35 : Nat) "Raidhall$Mats" "state" "[[I" "Raidhall") ∈ lw_tbl := lw_at lw_m5 82 rfl
theorem q1110 : (Jvm.Cond.fieldLinkNest "Raidhall$Card" (38 : Nat) "Raidhall$Mats" "until" "[[I" "Raidhall") ∈ lw_tbl := lw_at lw_m5 86 rfl
theorem q1112 : (Jvm.Cond.fieldLinkNest "Raidhall$Card" (21 : Nat) "Raidhall$Mats" "cards" "[[I" "Raidhall") ∈ lw_tbl := lw_at lw_m5 88 rfl
theorem q1119 : (Jvm.Cond.fieldLinkNest "Raidhall$Card" (44 : Nat) "Raidhall$Mats" "points" "[I" "Raidhall") ∈ lw_tbl := lw_at lw_m5 95 rfl
theorem q1129 : (Jvm.Cond.fieldLinkNest "Raidhall$Card" (41 : Nat) "Raidhall$Mats" "time" "I" "Raidhall") ∈ lw_tbl := lw_at lw_m5 105 rfl
theorem q1390 : (Jvm.Cond.castable "Raidhall$Card" "Raidhall$Event") ∈ lw_tbl := lw_at lw_m6 126 rfl
theorem q1391 : (Jvm.Cond.unhidden "Raidhall$Card" "behind" "(LRaidhall$Mats;I)LRaidhall$Mats;") ∈ lw_tbl := lw_at lw_m6 127 rfl
theorem q1399 : (Jvm.Cond.selects "Raidhall$Card" ({ cls := "Raidhall$Event", name := "stands", desc := "(LRaidhall$Mats;I)Z" } : Jvm.MethodName) ({ cls := "Raidhall$Card", name := "stands", desc := "(LRaidhall$Mats;I)Z" } : Jvm.MethodName)) ∈ lw_all := lw_g (lw_at lw_m6 135 rfl) rfl
theorem q1400 : (Jvm.Cond.unhidden "Raidhall$Card" "stands" "(LRaidhall$Mats;I)Z") ∈ lw_tbl := lw_at lw_m6 136 rfl
theorem q1401 : (Jvm.Cond.instanceMethod ({ cls := "Raidhall$Card", name := "stands", desc := "(LRaidhall$Mats;I)Z" } : Jvm.MethodName)) ∈ lw_all := lw_g (lw_at lw_m6 137 rfl) rfl
theorem q1402 : (Jvm.Cond.publicMethod ({ cls := "Raidhall$Card", name := "stands", desc := "(LRaidhall$Mats;I)Z" } : Jvm.MethodName)) ∈ lw_tbl := lw_at lw_m6 138 rfl
theorem q1403 : (Jvm.Cond.code ({ cls := "Raidhall$Card", name := "stands", desc := "(LRaidhall$Mats;I)Z" } : Jvm.MethodName) prog_2_method_3_code (4 : Nat) (Option.some Jvm.ClassFile.FieldType.boolean)) ∈ lw_all := lw_g (lw_at lw_m6 139 rfl) rfl
theorem q1404 : (Jvm.Cond.methodLink "Raidhall$Card" (27 : Nat) ({ cls := "Raidhall$Card", name := "colourOn", desc := "(LRaidhall$Mats;)I" } : Jvm.MethodName)) ∈ lw_all := lw_g (lw_at lw_m6 140 rfl) rfl
theorem q1405 : (Jvm.Cond.instanceMethod ({ cls := "Raidhall$Card", name := "colourOn", desc := "(LRaidhall$Mats;)I" } : Jvm.MethodName)) ∈ lw_all := lw_g (lw_at lw_m6 141 rfl) rfl
theorem q1406 : (Jvm.Cond.selects "Raidhall$Card" ({ cls := "Raidhall$Card", name := "colourOn", desc := "(LRaidhall$Mats;)I" } : Jvm.MethodName) ({ cls := "Raidhall$Card", name := "colourOn", desc := "(LRaidhall$Mats;)I" } : Jvm.MethodName)) ∈ lw_all := lw_g (lw_at lw_m6 142 rfl) rfl
theorem q1407 : (Jvm.Cond.code ({ cls := "Raidhall$Card", name := "colourOn", desc := "(LRaidhall$Mats;)I" } : Jvm.MethodName) prog_2_method_2_code (3 : Nat) (Option.some Jvm.ClassFile.FieldType.int)) ∈ lw_all := lw_g (lw_at lw_m6 143 rfl) rfl
theorem q1408 : (Jvm.Cond.methodLink "Raidhall$Card" (31 : Nat) ({ cls := "Raidhall$Mats", name := "count", desc := "(III)I" } : Jvm.MethodName)) ∈ lw_all := lw_g (lw_at lw_m6 144 rfl) rfl
theorem q1457 : (Jvm.Cond.selects "Raidhall$Card" ({ cls := "Raidhall$Event", name := "change", desc := "(LRaidhall$Mats;)V" } : Jvm.MethodName) ({ cls := "Raidhall$Card", name := "change", desc := "(LRaidhall$Mats;)V" } : Jvm.MethodName)) ∈ lw_all := lw_g (lw_at lw_m6 193 rfl) rfl
theorem q1458 : (Jvm.Cond.unhidden "Raidhall$Card" "change" "(LRaidhall$Mats;)V") ∈ lw_tbl := lw_at lw_m6 194 rfl
theorem q1459 : (Jvm.Cond.instanceMethod ({ cls := "Raidhall$Card", name := "change", desc := "(LRaidhall$Mats;)V" } : Jvm.MethodName)) ∈ lw_all := lw_g (lw_at lw_m6 195 rfl) rfl
theorem q1460 : (Jvm.Cond.publicMethod ({ cls := "Raidhall$Card", name := "change", desc := "(LRaidhall$Mats;)V" } : Jvm.MethodName)) ∈ lw_tbl := lw_at lw_m6 196 rfl
theorem q1461 : (Jvm.Cond.code ({ cls := "Raidhall$Card", name := "change", desc := "(LRaidhall$Mats;)V" } : Jvm.MethodName) prog_2_method_4_code (3 : Nat) (Option.none : Option Jvm.ClassFile.FieldType)) ∈ lw_all := lw_g (lw_at lw_m6 197 rfl) rfl
theorem q1462 : (Jvm.Cond.methodLink "Raidhall$Card" (48 : Nat) ({ cls := "Raidhall$Mats", name := "lookAllOut", desc := "()V" } : Jvm.MethodName)) ∈ lw_all := lw_g (lw_at lw_m6 198 rfl) rfl
theorem q1570 : (Jvm.Cond.instantiable "Raidhall$Card" (3 : Nat)) ∈ lw_all := lw_g (lw_at lw_m7 66 rfl) rfl
theorem q1572 : (Jvm.Cond.instanceMethod ({ cls := "Raidhall$Card", name := "<init>", desc := "(III)V" } : Jvm.MethodName)) ∈ lw_all := lw_g (lw_at lw_m7 68 rfl) rfl
theorem q1573 : (Jvm.Cond.code ({ cls := "Raidhall$Card", name := "<init>", desc := "(III)V" } : Jvm.MethodName) prog_2_method_1_code (4 : Nat) (Option.none : Option Jvm.ClassFile.FieldType)) ∈ lw_all := lw_g (lw_at lw_m7 69 rfl) rfl
theorem q1574 : (Jvm.Cond.methodLink "Raidhall$Card" (3 : Nat) ({ cls := "java/lang/Record", name := "<init>", desc := "()V" } : Jvm.MethodName)) ∈ lw_all := lw_g (lw_at lw_m7 70 rfl) rfl
theorem q1575 : (Jvm.Cond.fieldLink "Raidhall$Card" (9 : Nat) "Raidhall$Card" "side" "I") ∈ lw_all := lw_g (lw_at lw_m7 71 rfl) rfl
theorem q1576 : (Jvm.Cond.fieldLink "Raidhall$Card" (15 : Nat) "Raidhall$Card" "player" "I") ∈ lw_all := lw_g (lw_at lw_m7 72 rfl) rfl
theorem q1577 : (Jvm.Cond.fieldLink "Raidhall$Card" (18 : Nat) "Raidhall$Card" "colour" "I") ∈ lw_all := lw_g (lw_at lw_m7 73 rfl) rfl
theorem q1578 : (Jvm.Cond.laysFinal "Raidhall$Card" "Raidhall$Card" "side" "I") ∈ lw_all := lw_g (lw_at lw_m7 74 rfl) rfl
theorem q1579 : (Jvm.Cond.soleField "Raidhall$Card" "side") ∈ lw_all := lw_g (lw_at lw_m7 75 rfl) rfl
theorem q1580 : (Jvm.Cond.laysFinal "Raidhall$Card" "Raidhall$Card" "player" "I") ∈ lw_all := lw_g (lw_at lw_m7 76 rfl) rfl
theorem q1581 : (Jvm.Cond.soleField "Raidhall$Card" "player") ∈ lw_all := lw_g (lw_at lw_m7 77 rfl) rfl
theorem q1582 : (Jvm.Cond.laysFinal "Raidhall$Card" "Raidhall$Card" "colour" "I") ∈ lw_all := lw_g (lw_at lw_m7 78 rfl) rfl
theorem q1583 : (Jvm.Cond.soleField "Raidhall$Card" "colour") ∈ lw_all := lw_g (lw_at lw_m7 79 rfl) rfl
theorem q1584 : (Jvm.Cond.superclass "Raidhall$Card" "java/lang/Record") ∈ lw_all := lw_g (lw_at lw_m7 80 rfl) rfl
theorem q2376 : (Jvm.Cond.castable "Raidhall$Card" "java/lang/Object") ∈ lw_tbl := lw_at lw_m10 152 rfl
theorem in_X9 : ∀ w ∈ wsX90, w ∈ lw_all := lw_in wsX90 [1578, 1580, 1582] (by decide +kernel) (by decide +kernel)

