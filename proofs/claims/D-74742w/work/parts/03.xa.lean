/-! OddPairsLaw -/
set_option maxRecDepth 100000
def RX0 : String := "OddPairsLaw"
abbrev cX0_text : ByteArray := method_3_code
def yX0_text : MethodName := ⟨RX0, "text", "(LOddPairs;I[J)I"⟩
def dkwX0_text_0 : List UInt8 := [44, 3, 42, 27, 182, 0, 7, 133, 80, 167, 0, 6, 78, 4, 172, 3, 172]
abbrev dktX0_text_0 : List UInt8 := dkwX0_text_0 ++ []
theorem dksX0_text_0 : cX0_text.data.toList.drop 0 = dktX0_text_0 := by decide +kernel
theorem dX0_text_0 : decode cX0_text 0 = .ok (.aload_n 2, 1) := dk_44 (dk_at dksX0_text_0 0 rfl rfl)
theorem dX0_text_1 : decode cX0_text 1 = .ok (.iconst 0, 1) := dk_3 (dk_at dksX0_text_0 1 rfl rfl)
theorem dX0_text_2 : decode cX0_text 2 = .ok (.aload_n 0, 1) := dk_42 (dk_at dksX0_text_0 2 rfl rfl)
theorem dX0_text_3 : decode cX0_text 3 = .ok (.iload_n 1, 1) := dk_27 (dk_at dksX0_text_0 3 rfl rfl)
theorem dX0_text_4 : decode cX0_text 4 = .ok (.invokevirtual 7, 3) := dk_182 0 7 (dk_at dksX0_text_0 4 rfl rfl)
theorem dX0_text_7 : decode cX0_text 7 = .ok (.i2l, 1) := dk_133 (dk_at dksX0_text_0 7 rfl rfl)
theorem dX0_text_8 : decode cX0_text 8 = .ok (.lastore, 1) := dk_80 (dk_at dksX0_text_0 8 rfl rfl)
theorem dX0_text_9 : decode cX0_text 9 = .ok (.goto 6, 3) := dk_167 0 6 (dk_at dksX0_text_0 9 rfl rfl)
theorem dX0_text_12 : decode cX0_text 12 = .ok (.astore_n 3, 1) := dk_78 (dk_at dksX0_text_0 12 rfl rfl)
theorem dX0_text_13 : decode cX0_text 13 = .ok (.iconst 1, 1) := dk_4 (dk_at dksX0_text_0 13 rfl rfl)
theorem dX0_text_14 : decode cX0_text 14 = .ok (.ireturn, 1) := dk_172 (dk_at dksX0_text_0 14 rfl rfl)
theorem dX0_text_15 : decode cX0_text 15 = .ok (.iconst 0, 1) := dk_3 (dk_at dksX0_text_0 15 rfl rfl)
theorem dX0_text_16 : decode cX0_text 16 = .ok (.ireturn, 1) := dk_172 (dk_at dksX0_text_0 16 rfl rfl)
abbrev cX0_join : ByteArray := method_4_code
def yX0_join : MethodName := ⟨RX0, "join", "(LOddPairs;III[J)I"⟩
def dkwX0_join_1 : List UInt8 := [172]
abbrev dktX0_join_1 : List UInt8 := dkwX0_join_1 ++ []
def dkwX0_join_0 : List UInt8 := [25, 4, 3, 42, 27, 28, 29, 182, 0, 15, 133, 80, 167, 0, 11, 58, 5, 4, 172, 58, 5, 5, 172, 3]
abbrev dktX0_join_0 : List UInt8 := dkwX0_join_0 ++ dktX0_join_1
theorem dksX0_join_0 : cX0_join.data.toList.drop 0 = dktX0_join_0 := by decide +kernel
theorem dksX0_join_1 : cX0_join.data.toList.drop 24 = dktX0_join_1 := dk_seg dksX0_join_0 24 rfl rfl
theorem dX0_join_0 : decode cX0_join 0 = .ok (.aload 4, 2) := dk_25 4 (dk_at dksX0_join_0 0 rfl rfl)
theorem dX0_join_2 : decode cX0_join 2 = .ok (.iconst 0, 1) := dk_3 (dk_at dksX0_join_0 2 rfl rfl)
theorem dX0_join_3 : decode cX0_join 3 = .ok (.aload_n 0, 1) := dk_42 (dk_at dksX0_join_0 3 rfl rfl)
theorem dX0_join_4 : decode cX0_join 4 = .ok (.iload_n 1, 1) := dk_27 (dk_at dksX0_join_0 4 rfl rfl)
theorem dX0_join_5 : decode cX0_join 5 = .ok (.iload_n 2, 1) := dk_28 (dk_at dksX0_join_0 5 rfl rfl)
theorem dX0_join_6 : decode cX0_join 6 = .ok (.iload_n 3, 1) := dk_29 (dk_at dksX0_join_0 6 rfl rfl)
theorem dX0_join_7 : decode cX0_join 7 = .ok (.invokevirtual 15, 3) := dk_182 0 15 (dk_at dksX0_join_0 7 rfl rfl)
theorem dX0_join_10 : decode cX0_join 10 = .ok (.i2l, 1) := dk_133 (dk_at dksX0_join_0 10 rfl rfl)
theorem dX0_join_11 : decode cX0_join 11 = .ok (.lastore, 1) := dk_80 (dk_at dksX0_join_0 11 rfl rfl)
theorem dX0_join_12 : decode cX0_join 12 = .ok (.goto 11, 3) := dk_167 0 11 (dk_at dksX0_join_0 12 rfl rfl)
theorem dX0_join_15 : decode cX0_join 15 = .ok (.astore 5, 2) := dk_58 5 (dk_at dksX0_join_0 15 rfl rfl)
theorem dX0_join_17 : decode cX0_join 17 = .ok (.iconst 1, 1) := dk_4 (dk_at dksX0_join_0 17 rfl rfl)
theorem dX0_join_18 : decode cX0_join 18 = .ok (.ireturn, 1) := dk_172 (dk_at dksX0_join_0 18 rfl rfl)
theorem dX0_join_19 : decode cX0_join 19 = .ok (.astore 5, 2) := dk_58 5 (dk_at dksX0_join_0 19 rfl rfl)
theorem dX0_join_21 : decode cX0_join 21 = .ok (.iconst 2, 1) := dk_5 (dk_at dksX0_join_0 21 rfl rfl)
theorem dX0_join_22 : decode cX0_join 22 = .ok (.ireturn, 1) := dk_172 (dk_at dksX0_join_0 22 rfl rfl)
theorem dX0_join_23 : decode cX0_join 23 = .ok (.iconst 0, 1) := dk_3 (dk_at dksX0_join_0 23 rfl rfl)
theorem dX0_join_24 : decode cX0_join 24 = .ok (.ireturn, 1) := dk_172 (dk_at dksX0_join_1 0 rfl rfl)
abbrev cX0_cut : ByteArray := method_5_code
def yX0_cut : MethodName := ⟨RX0, "cut", "(LOddPairs;II[J)I"⟩
def dkwX0_cut_1 : List UInt8 := [172, 3, 172]
abbrev dktX0_cut_1 : List UInt8 := dkwX0_cut_1 ++ []
def dkwX0_cut_0 : List UInt8 := [45, 3, 42, 27, 28, 182, 0, 21, 133, 80, 167, 0, 15, 58, 4, 4, 172, 58, 4, 5, 172, 58, 4, 6]
abbrev dktX0_cut_0 : List UInt8 := dkwX0_cut_0 ++ dktX0_cut_1
theorem dksX0_cut_0 : cX0_cut.data.toList.drop 0 = dktX0_cut_0 := by decide +kernel
theorem dksX0_cut_1 : cX0_cut.data.toList.drop 24 = dktX0_cut_1 := dk_seg dksX0_cut_0 24 rfl rfl
theorem dX0_cut_0 : decode cX0_cut 0 = .ok (.aload_n 3, 1) := dk_45 (dk_at dksX0_cut_0 0 rfl rfl)
theorem dX0_cut_1 : decode cX0_cut 1 = .ok (.iconst 0, 1) := dk_3 (dk_at dksX0_cut_0 1 rfl rfl)
theorem dX0_cut_2 : decode cX0_cut 2 = .ok (.aload_n 0, 1) := dk_42 (dk_at dksX0_cut_0 2 rfl rfl)
theorem dX0_cut_3 : decode cX0_cut 3 = .ok (.iload_n 1, 1) := dk_27 (dk_at dksX0_cut_0 3 rfl rfl)
theorem dX0_cut_4 : decode cX0_cut 4 = .ok (.iload_n 2, 1) := dk_28 (dk_at dksX0_cut_0 4 rfl rfl)
theorem dX0_cut_5 : decode cX0_cut 5 = .ok (.invokevirtual 21, 3) := dk_182 0 21 (dk_at dksX0_cut_0 5 rfl rfl)
theorem dX0_cut_8 : decode cX0_cut 8 = .ok (.i2l, 1) := dk_133 (dk_at dksX0_cut_0 8 rfl rfl)
theorem dX0_cut_9 : decode cX0_cut 9 = .ok (.lastore, 1) := dk_80 (dk_at dksX0_cut_0 9 rfl rfl)
theorem dX0_cut_10 : decode cX0_cut 10 = .ok (.goto 15, 3) := dk_167 0 15 (dk_at dksX0_cut_0 10 rfl rfl)
theorem dX0_cut_13 : decode cX0_cut 13 = .ok (.astore 4, 2) := dk_58 4 (dk_at dksX0_cut_0 13 rfl rfl)
theorem dX0_cut_15 : decode cX0_cut 15 = .ok (.iconst 1, 1) := dk_4 (dk_at dksX0_cut_0 15 rfl rfl)
theorem dX0_cut_16 : decode cX0_cut 16 = .ok (.ireturn, 1) := dk_172 (dk_at dksX0_cut_0 16 rfl rfl)
theorem dX0_cut_17 : decode cX0_cut 17 = .ok (.astore 4, 2) := dk_58 4 (dk_at dksX0_cut_0 17 rfl rfl)
theorem dX0_cut_19 : decode cX0_cut 19 = .ok (.iconst 2, 1) := dk_5 (dk_at dksX0_cut_0 19 rfl rfl)
theorem dX0_cut_20 : decode cX0_cut 20 = .ok (.ireturn, 1) := dk_172 (dk_at dksX0_cut_0 20 rfl rfl)
theorem dX0_cut_21 : decode cX0_cut 21 = .ok (.astore 4, 2) := dk_58 4 (dk_at dksX0_cut_0 21 rfl rfl)
theorem dX0_cut_23 : decode cX0_cut 23 = .ok (.iconst 3, 1) := dk_6 (dk_at dksX0_cut_0 23 rfl rfl)
theorem dX0_cut_24 : decode cX0_cut 24 = .ok (.ireturn, 1) := dk_172 (dk_at dksX0_cut_1 0 rfl rfl)
theorem dX0_cut_25 : decode cX0_cut 25 = .ok (.iconst 0, 1) := dk_3 (dk_at dksX0_cut_1 1 rfl rfl)
theorem dX0_cut_26 : decode cX0_cut 26 = .ok (.ireturn, 1) := dk_172 (dk_at dksX0_cut_1 2 rfl rfl)
abbrev cX0_pair : ByteArray := method_6_code
def yX0_pair : MethodName := ⟨RX0, "pair", "(LOddPairs;II[J)I"⟩
def dkwX0_pair_1 : List UInt8 := [172, 3, 172]
abbrev dktX0_pair_1 : List UInt8 := dkwX0_pair_1 ++ []
def dkwX0_pair_0 : List UInt8 := [45, 3, 42, 27, 28, 182, 0, 27, 133, 80, 167, 0, 15, 58, 4, 4, 172, 58, 4, 5, 172, 58, 4, 6]
abbrev dktX0_pair_0 : List UInt8 := dkwX0_pair_0 ++ dktX0_pair_1
theorem dksX0_pair_0 : cX0_pair.data.toList.drop 0 = dktX0_pair_0 := by decide +kernel
theorem dksX0_pair_1 : cX0_pair.data.toList.drop 24 = dktX0_pair_1 := dk_seg dksX0_pair_0 24 rfl rfl
theorem dX0_pair_0 : decode cX0_pair 0 = .ok (.aload_n 3, 1) := dk_45 (dk_at dksX0_pair_0 0 rfl rfl)
theorem dX0_pair_1 : decode cX0_pair 1 = .ok (.iconst 0, 1) := dk_3 (dk_at dksX0_pair_0 1 rfl rfl)
theorem dX0_pair_2 : decode cX0_pair 2 = .ok (.aload_n 0, 1) := dk_42 (dk_at dksX0_pair_0 2 rfl rfl)
theorem dX0_pair_3 : decode cX0_pair 3 = .ok (.iload_n 1, 1) := dk_27 (dk_at dksX0_pair_0 3 rfl rfl)
theorem dX0_pair_4 : decode cX0_pair 4 = .ok (.iload_n 2, 1) := dk_28 (dk_at dksX0_pair_0 4 rfl rfl)
theorem dX0_pair_5 : decode cX0_pair 5 = .ok (.invokevirtual 27, 3) := dk_182 0 27 (dk_at dksX0_pair_0 5 rfl rfl)
theorem dX0_pair_8 : decode cX0_pair 8 = .ok (.i2l, 1) := dk_133 (dk_at dksX0_pair_0 8 rfl rfl)
theorem dX0_pair_9 : decode cX0_pair 9 = .ok (.lastore, 1) := dk_80 (dk_at dksX0_pair_0 9 rfl rfl)
theorem dX0_pair_10 : decode cX0_pair 10 = .ok (.goto 15, 3) := dk_167 0 15 (dk_at dksX0_pair_0 10 rfl rfl)
theorem dX0_pair_13 : decode cX0_pair 13 = .ok (.astore 4, 2) := dk_58 4 (dk_at dksX0_pair_0 13 rfl rfl)
theorem dX0_pair_15 : decode cX0_pair 15 = .ok (.iconst 1, 1) := dk_4 (dk_at dksX0_pair_0 15 rfl rfl)
theorem dX0_pair_16 : decode cX0_pair 16 = .ok (.ireturn, 1) := dk_172 (dk_at dksX0_pair_0 16 rfl rfl)
theorem dX0_pair_17 : decode cX0_pair 17 = .ok (.astore 4, 2) := dk_58 4 (dk_at dksX0_pair_0 17 rfl rfl)
theorem dX0_pair_19 : decode cX0_pair 19 = .ok (.iconst 2, 1) := dk_5 (dk_at dksX0_pair_0 19 rfl rfl)
theorem dX0_pair_20 : decode cX0_pair 20 = .ok (.ireturn, 1) := dk_172 (dk_at dksX0_pair_0 20 rfl rfl)
theorem dX0_pair_21 : decode cX0_pair 21 = .ok (.astore 4, 2) := dk_58 4 (dk_at dksX0_pair_0 21 rfl rfl)
theorem dX0_pair_23 : decode cX0_pair 23 = .ok (.iconst 3, 1) := dk_6 (dk_at dksX0_pair_0 23 rfl rfl)
theorem dX0_pair_24 : decode cX0_pair 24 = .ok (.ireturn, 1) := dk_172 (dk_at dksX0_pair_1 0 rfl rfl)
theorem dX0_pair_25 : decode cX0_pair 25 = .ok (.iconst 0, 1) := dk_3 (dk_at dksX0_pair_1 1 rfl rfl)
theorem dX0_pair_26 : decode cX0_pair 26 = .ok (.ireturn, 1) := dk_172 (dk_at dksX0_pair_1 2 rfl rfl)
abbrev cX0_part : ByteArray := method_7_code
def yX0_part : MethodName := ⟨RX0, "part", "(LOddPairs;I[J)I"⟩
def dkwX0_part_0 : List UInt8 := [44, 3, 42, 27, 182, 0, 30, 133, 80, 167, 0, 9, 78, 4, 172, 78, 5, 172, 3, 172]
abbrev dktX0_part_0 : List UInt8 := dkwX0_part_0 ++ []
theorem dksX0_part_0 : cX0_part.data.toList.drop 0 = dktX0_part_0 := by decide +kernel
theorem dX0_part_0 : decode cX0_part 0 = .ok (.aload_n 2, 1) := dk_44 (dk_at dksX0_part_0 0 rfl rfl)
theorem dX0_part_1 : decode cX0_part 1 = .ok (.iconst 0, 1) := dk_3 (dk_at dksX0_part_0 1 rfl rfl)
theorem dX0_part_2 : decode cX0_part 2 = .ok (.aload_n 0, 1) := dk_42 (dk_at dksX0_part_0 2 rfl rfl)
theorem dX0_part_3 : decode cX0_part 3 = .ok (.iload_n 1, 1) := dk_27 (dk_at dksX0_part_0 3 rfl rfl)
theorem dX0_part_4 : decode cX0_part 4 = .ok (.invokevirtual 30, 3) := dk_182 0 30 (dk_at dksX0_part_0 4 rfl rfl)
theorem dX0_part_7 : decode cX0_part 7 = .ok (.i2l, 1) := dk_133 (dk_at dksX0_part_0 7 rfl rfl)
theorem dX0_part_8 : decode cX0_part 8 = .ok (.lastore, 1) := dk_80 (dk_at dksX0_part_0 8 rfl rfl)
theorem dX0_part_9 : decode cX0_part 9 = .ok (.goto 9, 3) := dk_167 0 9 (dk_at dksX0_part_0 9 rfl rfl)
theorem dX0_part_12 : decode cX0_part 12 = .ok (.astore_n 3, 1) := dk_78 (dk_at dksX0_part_0 12 rfl rfl)
theorem dX0_part_13 : decode cX0_part 13 = .ok (.iconst 1, 1) := dk_4 (dk_at dksX0_part_0 13 rfl rfl)
theorem dX0_part_14 : decode cX0_part 14 = .ok (.ireturn, 1) := dk_172 (dk_at dksX0_part_0 14 rfl rfl)
theorem dX0_part_15 : decode cX0_part 15 = .ok (.astore_n 3, 1) := dk_78 (dk_at dksX0_part_0 15 rfl rfl)
theorem dX0_part_16 : decode cX0_part 16 = .ok (.iconst 2, 1) := dk_5 (dk_at dksX0_part_0 16 rfl rfl)
theorem dX0_part_17 : decode cX0_part 17 = .ok (.ireturn, 1) := dk_172 (dk_at dksX0_part_0 17 rfl rfl)
theorem dX0_part_18 : decode cX0_part 18 = .ok (.iconst 0, 1) := dk_3 (dk_at dksX0_part_0 18 rfl rfl)
theorem dX0_part_19 : decode cX0_part 19 = .ok (.ireturn, 1) := dk_172 (dk_at dksX0_part_0 19 rfl rfl)
abbrev cX0_better : ByteArray := method_8_code
def yX0_better : MethodName := ⟨RX0, "better", "(LOddPairs;I[J)I"⟩
def dkwX0_better_0 : List UInt8 := [44, 3, 42, 27, 182, 0, 33, 133, 80, 167, 0, 9, 78, 4, 172, 78, 5, 172, 3, 172]
abbrev dktX0_better_0 : List UInt8 := dkwX0_better_0 ++ []
theorem dksX0_better_0 : cX0_better.data.toList.drop 0 = dktX0_better_0 := by decide +kernel
theorem dX0_better_0 : decode cX0_better 0 = .ok (.aload_n 2, 1) := dk_44 (dk_at dksX0_better_0 0 rfl rfl)
theorem dX0_better_1 : decode cX0_better 1 = .ok (.iconst 0, 1) := dk_3 (dk_at dksX0_better_0 1 rfl rfl)
theorem dX0_better_2 : decode cX0_better 2 = .ok (.aload_n 0, 1) := dk_42 (dk_at dksX0_better_0 2 rfl rfl)
theorem dX0_better_3 : decode cX0_better 3 = .ok (.iload_n 1, 1) := dk_27 (dk_at dksX0_better_0 3 rfl rfl)
theorem dX0_better_4 : decode cX0_better 4 = .ok (.invokevirtual 33, 3) := dk_182 0 33 (dk_at dksX0_better_0 4 rfl rfl)
theorem dX0_better_7 : decode cX0_better 7 = .ok (.i2l, 1) := dk_133 (dk_at dksX0_better_0 7 rfl rfl)
theorem dX0_better_8 : decode cX0_better 8 = .ok (.lastore, 1) := dk_80 (dk_at dksX0_better_0 8 rfl rfl)
theorem dX0_better_9 : decode cX0_better 9 = .ok (.goto 9, 3) := dk_167 0 9 (dk_at dksX0_better_0 9 rfl rfl)
theorem dX0_better_12 : decode cX0_better 12 = .ok (.astore_n 3, 1) := dk_78 (dk_at dksX0_better_0 12 rfl rfl)
theorem dX0_better_13 : decode cX0_better 13 = .ok (.iconst 1, 1) := dk_4 (dk_at dksX0_better_0 13 rfl rfl)
theorem dX0_better_14 : decode cX0_better 14 = .ok (.ireturn, 1) := dk_172 (dk_at dksX0_better_0 14 rfl rfl)
theorem dX0_better_15 : decode cX0_better 15 = .ok (.astore_n 3, 1) := dk_78 (dk_at dksX0_better_0 15 rfl rfl)
theorem dX0_better_16 : decode cX0_better 16 = .ok (.iconst 2, 1) := dk_5 (dk_at dksX0_better_0 16 rfl rfl)
theorem dX0_better_17 : decode cX0_better 17 = .ok (.ireturn, 1) := dk_172 (dk_at dksX0_better_0 17 rfl rfl)
theorem dX0_better_18 : decode cX0_better 18 = .ok (.iconst 0, 1) := dk_3 (dk_at dksX0_better_0 18 rfl rfl)
theorem dX0_better_19 : decode cX0_better 19 = .ok (.ireturn, 1) := dk_172 (dk_at dksX0_better_0 19 rfl rfl)
abbrev cX0_shrink : ByteArray := method_9_code
def yX0_shrink : MethodName := ⟨RX0, "shrink", "(LOddPairs;I[J)I"⟩
def dkwX0_shrink_0 : List UInt8 := [44, 3, 42, 27, 182, 0, 36, 133, 80, 167, 0, 9, 78, 4, 172, 78, 5, 172, 3, 172]
abbrev dktX0_shrink_0 : List UInt8 := dkwX0_shrink_0 ++ []
theorem dksX0_shrink_0 : cX0_shrink.data.toList.drop 0 = dktX0_shrink_0 := by decide +kernel
theorem dX0_shrink_0 : decode cX0_shrink 0 = .ok (.aload_n 2, 1) := dk_44 (dk_at dksX0_shrink_0 0 rfl rfl)
theorem dX0_shrink_1 : decode cX0_shrink 1 = .ok (.iconst 0, 1) := dk_3 (dk_at dksX0_shrink_0 1 rfl rfl)
theorem dX0_shrink_2 : decode cX0_shrink 2 = .ok (.aload_n 0, 1) := dk_42 (dk_at dksX0_shrink_0 2 rfl rfl)
theorem dX0_shrink_3 : decode cX0_shrink 3 = .ok (.iload_n 1, 1) := dk_27 (dk_at dksX0_shrink_0 3 rfl rfl)
theorem dX0_shrink_4 : decode cX0_shrink 4 = .ok (.invokevirtual 36, 3) := dk_182 0 36 (dk_at dksX0_shrink_0 4 rfl rfl)
theorem dX0_shrink_7 : decode cX0_shrink 7 = .ok (.i2l, 1) := dk_133 (dk_at dksX0_shrink_0 7 rfl rfl)
theorem dX0_shrink_8 : decode cX0_shrink 8 = .ok (.lastore, 1) := dk_80 (dk_at dksX0_shrink_0 8 rfl rfl)
theorem dX0_shrink_9 : decode cX0_shrink 9 = .ok (.goto 9, 3) := dk_167 0 9 (dk_at dksX0_shrink_0 9 rfl rfl)
theorem dX0_shrink_12 : decode cX0_shrink 12 = .ok (.astore_n 3, 1) := dk_78 (dk_at dksX0_shrink_0 12 rfl rfl)
theorem dX0_shrink_13 : decode cX0_shrink 13 = .ok (.iconst 1, 1) := dk_4 (dk_at dksX0_shrink_0 13 rfl rfl)
theorem dX0_shrink_14 : decode cX0_shrink 14 = .ok (.ireturn, 1) := dk_172 (dk_at dksX0_shrink_0 14 rfl rfl)
theorem dX0_shrink_15 : decode cX0_shrink 15 = .ok (.astore_n 3, 1) := dk_78 (dk_at dksX0_shrink_0 15 rfl rfl)
theorem dX0_shrink_16 : decode cX0_shrink 16 = .ok (.iconst 2, 1) := dk_5 (dk_at dksX0_shrink_0 16 rfl rfl)
theorem dX0_shrink_17 : decode cX0_shrink 17 = .ok (.ireturn, 1) := dk_172 (dk_at dksX0_shrink_0 17 rfl rfl)
theorem dX0_shrink_18 : decode cX0_shrink 18 = .ok (.iconst 0, 1) := dk_3 (dk_at dksX0_shrink_0 18 rfl rfl)
theorem dX0_shrink_19 : decode cX0_shrink 19 = .ok (.ireturn, 1) := dk_172 (dk_at dksX0_shrink_0 19 rfl rfl)
abbrev cX0_told : ByteArray := method_10_code
def yX0_told : MethodName := ⟨RX0, "told", "(LOddPairs;I[J)I"⟩
def dkwX0_told_0 : List UInt8 := [44, 3, 42, 27, 182, 0, 39, 133, 80, 167, 0, 6, 78, 4, 172, 3, 172]
abbrev dktX0_told_0 : List UInt8 := dkwX0_told_0 ++ []
theorem dksX0_told_0 : cX0_told.data.toList.drop 0 = dktX0_told_0 := by decide +kernel
theorem dX0_told_0 : decode cX0_told 0 = .ok (.aload_n 2, 1) := dk_44 (dk_at dksX0_told_0 0 rfl rfl)
theorem dX0_told_1 : decode cX0_told 1 = .ok (.iconst 0, 1) := dk_3 (dk_at dksX0_told_0 1 rfl rfl)
theorem dX0_told_2 : decode cX0_told 2 = .ok (.aload_n 0, 1) := dk_42 (dk_at dksX0_told_0 2 rfl rfl)
theorem dX0_told_3 : decode cX0_told 3 = .ok (.iload_n 1, 1) := dk_27 (dk_at dksX0_told_0 3 rfl rfl)
theorem dX0_told_4 : decode cX0_told 4 = .ok (.invokevirtual 39, 3) := dk_182 0 39 (dk_at dksX0_told_0 4 rfl rfl)
theorem dX0_told_7 : decode cX0_told 7 = .ok (.i2l, 1) := dk_133 (dk_at dksX0_told_0 7 rfl rfl)
theorem dX0_told_8 : decode cX0_told 8 = .ok (.lastore, 1) := dk_80 (dk_at dksX0_told_0 8 rfl rfl)
theorem dX0_told_9 : decode cX0_told 9 = .ok (.goto 6, 3) := dk_167 0 6 (dk_at dksX0_told_0 9 rfl rfl)
theorem dX0_told_12 : decode cX0_told 12 = .ok (.astore_n 3, 1) := dk_78 (dk_at dksX0_told_0 12 rfl rfl)
theorem dX0_told_13 : decode cX0_told 13 = .ok (.iconst 1, 1) := dk_4 (dk_at dksX0_told_0 13 rfl rfl)
theorem dX0_told_14 : decode cX0_told 14 = .ok (.ireturn, 1) := dk_172 (dk_at dksX0_told_0 14 rfl rfl)
theorem dX0_told_15 : decode cX0_told 15 = .ok (.iconst 0, 1) := dk_3 (dk_at dksX0_told_0 15 rfl rfl)
theorem dX0_told_16 : decode cX0_told 16 = .ok (.ireturn, 1) := dk_172 (dk_at dksX0_told_0 16 rfl rfl)
abbrev cX0_line : ByteArray := method_11_code
def yX0_line : MethodName := ⟨RX0, "line", "(LOddPairs;III[J)I"⟩
def dkwX0_line_1 : List UInt8 := [172]
abbrev dktX0_line_1 : List UInt8 := dkwX0_line_1 ++ []
def dkwX0_line_0 : List UInt8 := [25, 4, 3, 42, 27, 28, 29, 182, 0, 42, 133, 80, 167, 0, 11, 58, 5, 4, 172, 58, 5, 5, 172, 3]
abbrev dktX0_line_0 : List UInt8 := dkwX0_line_0 ++ dktX0_line_1
theorem dksX0_line_0 : cX0_line.data.toList.drop 0 = dktX0_line_0 := by decide +kernel
theorem dksX0_line_1 : cX0_line.data.toList.drop 24 = dktX0_line_1 := dk_seg dksX0_line_0 24 rfl rfl
theorem dX0_line_0 : decode cX0_line 0 = .ok (.aload 4, 2) := dk_25 4 (dk_at dksX0_line_0 0 rfl rfl)
theorem dX0_line_2 : decode cX0_line 2 = .ok (.iconst 0, 1) := dk_3 (dk_at dksX0_line_0 2 rfl rfl)
theorem dX0_line_3 : decode cX0_line 3 = .ok (.aload_n 0, 1) := dk_42 (dk_at dksX0_line_0 3 rfl rfl)
theorem dX0_line_4 : decode cX0_line 4 = .ok (.iload_n 1, 1) := dk_27 (dk_at dksX0_line_0 4 rfl rfl)
theorem dX0_line_5 : decode cX0_line 5 = .ok (.iload_n 2, 1) := dk_28 (dk_at dksX0_line_0 5 rfl rfl)
theorem dX0_line_6 : decode cX0_line 6 = .ok (.iload_n 3, 1) := dk_29 (dk_at dksX0_line_0 6 rfl rfl)
theorem dX0_line_7 : decode cX0_line 7 = .ok (.invokevirtual 42, 3) := dk_182 0 42 (dk_at dksX0_line_0 7 rfl rfl)
theorem dX0_line_10 : decode cX0_line 10 = .ok (.i2l, 1) := dk_133 (dk_at dksX0_line_0 10 rfl rfl)
theorem dX0_line_11 : decode cX0_line 11 = .ok (.lastore, 1) := dk_80 (dk_at dksX0_line_0 11 rfl rfl)
theorem dX0_line_12 : decode cX0_line 12 = .ok (.goto 11, 3) := dk_167 0 11 (dk_at dksX0_line_0 12 rfl rfl)
theorem dX0_line_15 : decode cX0_line 15 = .ok (.astore 5, 2) := dk_58 5 (dk_at dksX0_line_0 15 rfl rfl)
theorem dX0_line_17 : decode cX0_line 17 = .ok (.iconst 1, 1) := dk_4 (dk_at dksX0_line_0 17 rfl rfl)
theorem dX0_line_18 : decode cX0_line 18 = .ok (.ireturn, 1) := dk_172 (dk_at dksX0_line_0 18 rfl rfl)
theorem dX0_line_19 : decode cX0_line 19 = .ok (.astore 5, 2) := dk_58 5 (dk_at dksX0_line_0 19 rfl rfl)
theorem dX0_line_21 : decode cX0_line 21 = .ok (.iconst 2, 1) := dk_5 (dk_at dksX0_line_0 21 rfl rfl)
theorem dX0_line_22 : decode cX0_line 22 = .ok (.ireturn, 1) := dk_172 (dk_at dksX0_line_0 22 rfl rfl)
theorem dX0_line_23 : decode cX0_line 23 = .ok (.iconst 0, 1) := dk_3 (dk_at dksX0_line_0 23 rfl rfl)
theorem dX0_line_24 : decode cX0_line 24 = .ok (.ireturn, 1) := dk_172 (dk_at dksX0_line_1 0 rfl rfl)
abbrev cX0_node : ByteArray := method_12_code
def yX0_node : MethodName := ⟨RX0, "node", "(LOddPairs;II[J)I"⟩
def dkwX0_node_0 : List UInt8 := [45, 3, 42, 27, 28, 182, 0, 45, 133, 80, 167, 0, 11, 58, 4, 4, 172, 58, 4, 5, 172, 3, 172]
abbrev dktX0_node_0 : List UInt8 := dkwX0_node_0 ++ []
theorem dksX0_node_0 : cX0_node.data.toList.drop 0 = dktX0_node_0 := by decide +kernel
theorem dX0_node_0 : decode cX0_node 0 = .ok (.aload_n 3, 1) := dk_45 (dk_at dksX0_node_0 0 rfl rfl)
theorem dX0_node_1 : decode cX0_node 1 = .ok (.iconst 0, 1) := dk_3 (dk_at dksX0_node_0 1 rfl rfl)
theorem dX0_node_2 : decode cX0_node 2 = .ok (.aload_n 0, 1) := dk_42 (dk_at dksX0_node_0 2 rfl rfl)
theorem dX0_node_3 : decode cX0_node 3 = .ok (.iload_n 1, 1) := dk_27 (dk_at dksX0_node_0 3 rfl rfl)
theorem dX0_node_4 : decode cX0_node 4 = .ok (.iload_n 2, 1) := dk_28 (dk_at dksX0_node_0 4 rfl rfl)
theorem dX0_node_5 : decode cX0_node 5 = .ok (.invokevirtual 45, 3) := dk_182 0 45 (dk_at dksX0_node_0 5 rfl rfl)
theorem dX0_node_8 : decode cX0_node 8 = .ok (.i2l, 1) := dk_133 (dk_at dksX0_node_0 8 rfl rfl)
theorem dX0_node_9 : decode cX0_node 9 = .ok (.lastore, 1) := dk_80 (dk_at dksX0_node_0 9 rfl rfl)
theorem dX0_node_10 : decode cX0_node 10 = .ok (.goto 11, 3) := dk_167 0 11 (dk_at dksX0_node_0 10 rfl rfl)
theorem dX0_node_13 : decode cX0_node 13 = .ok (.astore 4, 2) := dk_58 4 (dk_at dksX0_node_0 13 rfl rfl)
theorem dX0_node_15 : decode cX0_node 15 = .ok (.iconst 1, 1) := dk_4 (dk_at dksX0_node_0 15 rfl rfl)
theorem dX0_node_16 : decode cX0_node 16 = .ok (.ireturn, 1) := dk_172 (dk_at dksX0_node_0 16 rfl rfl)
theorem dX0_node_17 : decode cX0_node 17 = .ok (.astore 4, 2) := dk_58 4 (dk_at dksX0_node_0 17 rfl rfl)
theorem dX0_node_19 : decode cX0_node 19 = .ok (.iconst 2, 1) := dk_5 (dk_at dksX0_node_0 19 rfl rfl)
theorem dX0_node_20 : decode cX0_node 20 = .ok (.ireturn, 1) := dk_172 (dk_at dksX0_node_0 20 rfl rfl)
theorem dX0_node_21 : decode cX0_node 21 = .ok (.iconst 0, 1) := dk_3 (dk_at dksX0_node_0 21 rfl rfl)
theorem dX0_node_22 : decode cX0_node 22 = .ok (.ireturn, 1) := dk_172 (dk_at dksX0_node_0 22 rfl rfl)
abbrev cX0_sets : ByteArray := method_13_code
def yX0_sets : MethodName := ⟨RX0, "sets", "(LOddPairs;I[J)I"⟩
def dkwX0_sets_0 : List UInt8 := [44, 3, 42, 27, 182, 0, 48, 133, 80, 167, 0, 6, 78, 4, 172, 3, 172]
abbrev dktX0_sets_0 : List UInt8 := dkwX0_sets_0 ++ []
theorem dksX0_sets_0 : cX0_sets.data.toList.drop 0 = dktX0_sets_0 := by decide +kernel
theorem dX0_sets_0 : decode cX0_sets 0 = .ok (.aload_n 2, 1) := dk_44 (dk_at dksX0_sets_0 0 rfl rfl)
theorem dX0_sets_1 : decode cX0_sets 1 = .ok (.iconst 0, 1) := dk_3 (dk_at dksX0_sets_0 1 rfl rfl)
theorem dX0_sets_2 : decode cX0_sets 2 = .ok (.aload_n 0, 1) := dk_42 (dk_at dksX0_sets_0 2 rfl rfl)
theorem dX0_sets_3 : decode cX0_sets 3 = .ok (.iload_n 1, 1) := dk_27 (dk_at dksX0_sets_0 3 rfl rfl)
theorem dX0_sets_4 : decode cX0_sets 4 = .ok (.invokevirtual 48, 3) := dk_182 0 48 (dk_at dksX0_sets_0 4 rfl rfl)
theorem dX0_sets_7 : decode cX0_sets 7 = .ok (.i2l, 1) := dk_133 (dk_at dksX0_sets_0 7 rfl rfl)
theorem dX0_sets_8 : decode cX0_sets 8 = .ok (.lastore, 1) := dk_80 (dk_at dksX0_sets_0 8 rfl rfl)
theorem dX0_sets_9 : decode cX0_sets 9 = .ok (.goto 6, 3) := dk_167 0 6 (dk_at dksX0_sets_0 9 rfl rfl)
theorem dX0_sets_12 : decode cX0_sets 12 = .ok (.astore_n 3, 1) := dk_78 (dk_at dksX0_sets_0 12 rfl rfl)
theorem dX0_sets_13 : decode cX0_sets 13 = .ok (.iconst 1, 1) := dk_4 (dk_at dksX0_sets_0 13 rfl rfl)
theorem dX0_sets_14 : decode cX0_sets 14 = .ok (.ireturn, 1) := dk_172 (dk_at dksX0_sets_0 14 rfl rfl)
theorem dX0_sets_15 : decode cX0_sets 15 = .ok (.iconst 0, 1) := dk_3 (dk_at dksX0_sets_0 15 rfl rfl)
theorem dX0_sets_16 : decode cX0_sets 16 = .ok (.ireturn, 1) := dk_172 (dk_at dksX0_sets_0 16 rfl rfl)
abbrev cX0_odd : ByteArray := method_14_code
def yX0_odd : MethodName := ⟨RX0, "odd", "(LOddPairs;I[J)I"⟩
def dkwX0_odd_0 : List UInt8 := [44, 3, 42, 27, 182, 0, 51, 133, 80, 167, 0, 6, 78, 4, 172, 3, 172]
abbrev dktX0_odd_0 : List UInt8 := dkwX0_odd_0 ++ []
theorem dksX0_odd_0 : cX0_odd.data.toList.drop 0 = dktX0_odd_0 := by decide +kernel
theorem dX0_odd_0 : decode cX0_odd 0 = .ok (.aload_n 2, 1) := dk_44 (dk_at dksX0_odd_0 0 rfl rfl)
theorem dX0_odd_1 : decode cX0_odd 1 = .ok (.iconst 0, 1) := dk_3 (dk_at dksX0_odd_0 1 rfl rfl)
theorem dX0_odd_2 : decode cX0_odd 2 = .ok (.aload_n 0, 1) := dk_42 (dk_at dksX0_odd_0 2 rfl rfl)
theorem dX0_odd_3 : decode cX0_odd 3 = .ok (.iload_n 1, 1) := dk_27 (dk_at dksX0_odd_0 3 rfl rfl)
theorem dX0_odd_4 : decode cX0_odd 4 = .ok (.invokevirtual 51, 3) := dk_182 0 51 (dk_at dksX0_odd_0 4 rfl rfl)
theorem dX0_odd_7 : decode cX0_odd 7 = .ok (.i2l, 1) := dk_133 (dk_at dksX0_odd_0 7 rfl rfl)
theorem dX0_odd_8 : decode cX0_odd 8 = .ok (.lastore, 1) := dk_80 (dk_at dksX0_odd_0 8 rfl rfl)
theorem dX0_odd_9 : decode cX0_odd 9 = .ok (.goto 6, 3) := dk_167 0 6 (dk_at dksX0_odd_0 9 rfl rfl)
theorem dX0_odd_12 : decode cX0_odd 12 = .ok (.astore_n 3, 1) := dk_78 (dk_at dksX0_odd_0 12 rfl rfl)
theorem dX0_odd_13 : decode cX0_odd 13 = .ok (.iconst 1, 1) := dk_4 (dk_at dksX0_odd_0 13 rfl rfl)
theorem dX0_odd_14 : decode cX0_odd 14 = .ok (.ireturn, 1) := dk_172 (dk_at dksX0_odd_0 14 rfl rfl)
theorem dX0_odd_15 : decode cX0_odd 15 = .ok (.iconst 0, 1) := dk_3 (dk_at dksX0_odd_0 15 rfl rfl)
theorem dX0_odd_16 : decode cX0_odd 16 = .ok (.ireturn, 1) := dk_172 (dk_at dksX0_odd_0 16 rfl rfl)
abbrev cX0_barrier : ByteArray := method_15_code
def yX0_barrier : MethodName := ⟨RX0, "barrier", "(LOddPairs;I[J)I"⟩
def dkwX0_barrier_0 : List UInt8 := [44, 3, 42, 27, 182, 0, 54, 133, 80, 167, 0, 6, 78, 4, 172, 3, 172]
abbrev dktX0_barrier_0 : List UInt8 := dkwX0_barrier_0 ++ []
theorem dksX0_barrier_0 : cX0_barrier.data.toList.drop 0 = dktX0_barrier_0 := by decide +kernel
theorem dX0_barrier_0 : decode cX0_barrier 0 = .ok (.aload_n 2, 1) := dk_44 (dk_at dksX0_barrier_0 0 rfl rfl)
theorem dX0_barrier_1 : decode cX0_barrier 1 = .ok (.iconst 0, 1) := dk_3 (dk_at dksX0_barrier_0 1 rfl rfl)
theorem dX0_barrier_2 : decode cX0_barrier 2 = .ok (.aload_n 0, 1) := dk_42 (dk_at dksX0_barrier_0 2 rfl rfl)
theorem dX0_barrier_3 : decode cX0_barrier 3 = .ok (.iload_n 1, 1) := dk_27 (dk_at dksX0_barrier_0 3 rfl rfl)
theorem dX0_barrier_4 : decode cX0_barrier 4 = .ok (.invokevirtual 54, 3) := dk_182 0 54 (dk_at dksX0_barrier_0 4 rfl rfl)
theorem dX0_barrier_7 : decode cX0_barrier 7 = .ok (.i2l, 1) := dk_133 (dk_at dksX0_barrier_0 7 rfl rfl)
theorem dX0_barrier_8 : decode cX0_barrier 8 = .ok (.lastore, 1) := dk_80 (dk_at dksX0_barrier_0 8 rfl rfl)
theorem dX0_barrier_9 : decode cX0_barrier 9 = .ok (.goto 6, 3) := dk_167 0 6 (dk_at dksX0_barrier_0 9 rfl rfl)
theorem dX0_barrier_12 : decode cX0_barrier 12 = .ok (.astore_n 3, 1) := dk_78 (dk_at dksX0_barrier_0 12 rfl rfl)
theorem dX0_barrier_13 : decode cX0_barrier 13 = .ok (.iconst 1, 1) := dk_4 (dk_at dksX0_barrier_0 13 rfl rfl)
theorem dX0_barrier_14 : decode cX0_barrier 14 = .ok (.ireturn, 1) := dk_172 (dk_at dksX0_barrier_0 14 rfl rfl)
theorem dX0_barrier_15 : decode cX0_barrier 15 = .ok (.iconst 0, 1) := dk_3 (dk_at dksX0_barrier_0 15 rfl rfl)
theorem dX0_barrier_16 : decode cX0_barrier 16 = .ok (.ireturn, 1) := dk_172 (dk_at dksX0_barrier_0 16 rfl rfl)
abbrev cX0_heavy : ByteArray := method_16_code
def yX0_heavy : MethodName := ⟨RX0, "heavy", "(LOddPairs;I[J)I"⟩
def dkwX0_heavy_0 : List UInt8 := [44, 3, 42, 27, 182, 0, 57, 133, 80, 167, 0, 6, 78, 4, 172, 3, 172]
abbrev dktX0_heavy_0 : List UInt8 := dkwX0_heavy_0 ++ []
theorem dksX0_heavy_0 : cX0_heavy.data.toList.drop 0 = dktX0_heavy_0 := by decide +kernel
theorem dX0_heavy_0 : decode cX0_heavy 0 = .ok (.aload_n 2, 1) := dk_44 (dk_at dksX0_heavy_0 0 rfl rfl)
theorem dX0_heavy_1 : decode cX0_heavy 1 = .ok (.iconst 0, 1) := dk_3 (dk_at dksX0_heavy_0 1 rfl rfl)
theorem dX0_heavy_2 : decode cX0_heavy 2 = .ok (.aload_n 0, 1) := dk_42 (dk_at dksX0_heavy_0 2 rfl rfl)
theorem dX0_heavy_3 : decode cX0_heavy 3 = .ok (.iload_n 1, 1) := dk_27 (dk_at dksX0_heavy_0 3 rfl rfl)
theorem dX0_heavy_4 : decode cX0_heavy 4 = .ok (.invokevirtual 57, 3) := dk_182 0 57 (dk_at dksX0_heavy_0 4 rfl rfl)
theorem dX0_heavy_7 : decode cX0_heavy 7 = .ok (.i2l, 1) := dk_133 (dk_at dksX0_heavy_0 7 rfl rfl)
theorem dX0_heavy_8 : decode cX0_heavy 8 = .ok (.lastore, 1) := dk_80 (dk_at dksX0_heavy_0 8 rfl rfl)
theorem dX0_heavy_9 : decode cX0_heavy 9 = .ok (.goto 6, 3) := dk_167 0 6 (dk_at dksX0_heavy_0 9 rfl rfl)
theorem dX0_heavy_12 : decode cX0_heavy 12 = .ok (.astore_n 3, 1) := dk_78 (dk_at dksX0_heavy_0 12 rfl rfl)
theorem dX0_heavy_13 : decode cX0_heavy 13 = .ok (.iconst 1, 1) := dk_4 (dk_at dksX0_heavy_0 13 rfl rfl)
theorem dX0_heavy_14 : decode cX0_heavy 14 = .ok (.ireturn, 1) := dk_172 (dk_at dksX0_heavy_0 14 rfl rfl)
theorem dX0_heavy_15 : decode cX0_heavy 15 = .ok (.iconst 0, 1) := dk_3 (dk_at dksX0_heavy_0 15 rfl rfl)
theorem dX0_heavy_16 : decode cX0_heavy 16 = .ok (.ireturn, 1) := dk_172 (dk_at dksX0_heavy_0 16 rfl rfl)
abbrev cX0_path : ByteArray := method_17_code
def yX0_path : MethodName := ⟨RX0, "path", "(LOddPairs;II[J)I"⟩
def dkwX0_path_0 : List UInt8 := [45, 3, 42, 27, 28, 182, 0, 60, 133, 80, 167, 0, 7, 58, 4, 4, 172, 3, 172]
abbrev dktX0_path_0 : List UInt8 := dkwX0_path_0 ++ []
theorem dksX0_path_0 : cX0_path.data.toList.drop 0 = dktX0_path_0 := by decide +kernel
theorem dX0_path_0 : decode cX0_path 0 = .ok (.aload_n 3, 1) := dk_45 (dk_at dksX0_path_0 0 rfl rfl)
theorem dX0_path_1 : decode cX0_path 1 = .ok (.iconst 0, 1) := dk_3 (dk_at dksX0_path_0 1 rfl rfl)
theorem dX0_path_2 : decode cX0_path 2 = .ok (.aload_n 0, 1) := dk_42 (dk_at dksX0_path_0 2 rfl rfl)
theorem dX0_path_3 : decode cX0_path 3 = .ok (.iload_n 1, 1) := dk_27 (dk_at dksX0_path_0 3 rfl rfl)
theorem dX0_path_4 : decode cX0_path 4 = .ok (.iload_n 2, 1) := dk_28 (dk_at dksX0_path_0 4 rfl rfl)
theorem dX0_path_5 : decode cX0_path 5 = .ok (.invokevirtual 60, 3) := dk_182 0 60 (dk_at dksX0_path_0 5 rfl rfl)
theorem dX0_path_8 : decode cX0_path 8 = .ok (.i2l, 1) := dk_133 (dk_at dksX0_path_0 8 rfl rfl)
theorem dX0_path_9 : decode cX0_path 9 = .ok (.lastore, 1) := dk_80 (dk_at dksX0_path_0 9 rfl rfl)
theorem dX0_path_10 : decode cX0_path 10 = .ok (.goto 7, 3) := dk_167 0 7 (dk_at dksX0_path_0 10 rfl rfl)
theorem dX0_path_13 : decode cX0_path 13 = .ok (.astore 4, 2) := dk_58 4 (dk_at dksX0_path_0 13 rfl rfl)
theorem dX0_path_15 : decode cX0_path 15 = .ok (.iconst 1, 1) := dk_4 (dk_at dksX0_path_0 15 rfl rfl)
theorem dX0_path_16 : decode cX0_path 16 = .ok (.ireturn, 1) := dk_172 (dk_at dksX0_path_0 16 rfl rfl)
theorem dX0_path_17 : decode cX0_path 17 = .ok (.iconst 0, 1) := dk_3 (dk_at dksX0_path_0 17 rfl rfl)
theorem dX0_path_18 : decode cX0_path 18 = .ok (.ireturn, 1) := dk_172 (dk_at dksX0_path_0 18 rfl rfl)
abbrev cX0_flower : ByteArray := method_18_code
def yX0_flower : MethodName := ⟨RX0, "flower", "(LOddPairs;II[J)I"⟩
def dkwX0_flower_0 : List UInt8 := [45, 3, 42, 27, 28, 182, 0, 63, 133, 80, 167, 0, 7, 58, 4, 4, 172, 3, 172]
abbrev dktX0_flower_0 : List UInt8 := dkwX0_flower_0 ++ []
theorem dksX0_flower_0 : cX0_flower.data.toList.drop 0 = dktX0_flower_0 := by decide +kernel
theorem dX0_flower_0 : decode cX0_flower 0 = .ok (.aload_n 3, 1) := dk_45 (dk_at dksX0_flower_0 0 rfl rfl)
theorem dX0_flower_1 : decode cX0_flower 1 = .ok (.iconst 0, 1) := dk_3 (dk_at dksX0_flower_0 1 rfl rfl)
theorem dX0_flower_2 : decode cX0_flower 2 = .ok (.aload_n 0, 1) := dk_42 (dk_at dksX0_flower_0 2 rfl rfl)
theorem dX0_flower_3 : decode cX0_flower 3 = .ok (.iload_n 1, 1) := dk_27 (dk_at dksX0_flower_0 3 rfl rfl)
theorem dX0_flower_4 : decode cX0_flower 4 = .ok (.iload_n 2, 1) := dk_28 (dk_at dksX0_flower_0 4 rfl rfl)
theorem dX0_flower_5 : decode cX0_flower 5 = .ok (.invokevirtual 63, 3) := dk_182 0 63 (dk_at dksX0_flower_0 5 rfl rfl)
theorem dX0_flower_8 : decode cX0_flower 8 = .ok (.i2l, 1) := dk_133 (dk_at dksX0_flower_0 8 rfl rfl)
theorem dX0_flower_9 : decode cX0_flower 9 = .ok (.lastore, 1) := dk_80 (dk_at dksX0_flower_0 9 rfl rfl)
theorem dX0_flower_10 : decode cX0_flower 10 = .ok (.goto 7, 3) := dk_167 0 7 (dk_at dksX0_flower_0 10 rfl rfl)
theorem dX0_flower_13 : decode cX0_flower 13 = .ok (.astore 4, 2) := dk_58 4 (dk_at dksX0_flower_0 13 rfl rfl)
theorem dX0_flower_15 : decode cX0_flower 15 = .ok (.iconst 1, 1) := dk_4 (dk_at dksX0_flower_0 15 rfl rfl)
theorem dX0_flower_16 : decode cX0_flower 16 = .ok (.ireturn, 1) := dk_172 (dk_at dksX0_flower_0 16 rfl rfl)
theorem dX0_flower_17 : decode cX0_flower 17 = .ok (.iconst 0, 1) := dk_3 (dk_at dksX0_flower_0 17 rfl rfl)
theorem dX0_flower_18 : decode cX0_flower 18 = .ok (.ireturn, 1) := dk_172 (dk_at dksX0_flower_0 18 rfl rfl)
theorem q71 : (Jvm.Cond.initialized "OddPairsLaw") ∈ lw_all := lw_g (lw_at lw_m1 0 rfl) rfl
theorem q107 : (Jvm.Cond.classLink "OddPairsLaw" (8 : Nat) "OddPairs") ∈ lw_all := lw_g (lw_at lw_m1 36 rfl) rfl
theorem q109 : (Jvm.Cond.methodLink "OddPairsLaw" (66 : Nat) ({ cls := "OddPairs", name := "<init>", desc := "()V" } : Jvm.MethodName)) ∈ lw_all := lw_g (lw_at lw_m1 38 rfl) rfl
theorem q194 : (Jvm.Cond.methodLink "OddPairsLaw" (70 : Nat) ({ cls := "OddPairs", name := "feed", desc := "(IIIII)I" } : Jvm.MethodName)) ∈ lw_all := lw_g (lw_at lw_m1 123 rfl) rfl
theorem q202 : (Jvm.Cond.methodLink "OddPairsLaw" (85 : Nat) ({ cls := "OddPairs", name := "fault", desc := "()I" } : Jvm.MethodName)) ∈ lw_all := lw_g (lw_at lw_m1 131 rfl) rfl
theorem q206 : (Jvm.Cond.methodLink "OddPairsLaw" (106 : Nat) ({ cls := "OddPairs", name := "finish", desc := "()I" } : Jvm.MethodName)) ∈ lw_all := lw_g (lw_at lw_m1 135 rfl) rfl
theorem q492 : (Jvm.Cond.methodLink "OddPairsLaw" (113 : Nat) ({ cls := "OddPairs", name := "undo", desc := "()I" } : Jvm.MethodName)) ∈ lw_all := lw_g (lw_at lw_m2 181 rfl) rfl
theorem q511 : (Jvm.Cond.methodLink "OddPairsLaw" (135 : Nat) ({ cls := "OddPairs", name := "ways", desc := "()I" } : Jvm.MethodName)) ∈ lw_all := lw_g (lw_at lw_m2 200 rfl) rfl
theorem q531 : (Jvm.Cond.methodLink "OddPairsLaw" (148 : Nat) ({ cls := "OddPairs", name := "print", desc := "()J" } : Jvm.MethodName)) ∈ lw_all := lw_g (lw_at lw_m2 220 rfl) rfl
theorem q537 : (Jvm.Cond.methodLink "OddPairsLaw" (153 : Nat) ({ cls := "OddPairs", name := "status", desc := "(I)I" } : Jvm.MethodName)) ∈ lw_all := lw_g (lw_at lw_m2 226 rfl) rfl
theorem q545 : (Jvm.Cond.methodLink "OddPairsLaw" (75 : Nat) ({ cls := "OddPairsLaw", name := "text", desc := "(LOddPairs;I[J)I" } : Jvm.MethodName)) ∈ lw_all := lw_g (lw_at lw_m2 234 rfl) rfl
theorem q546 : (Jvm.Cond.static ({ cls := "OddPairsLaw", name := "text", desc := "(LOddPairs;I[J)I" } : Jvm.MethodName)) ∈ lw_all := lw_g (lw_at lw_m2 235 rfl) rfl
theorem q547 : (Jvm.Cond.codeWith ({ cls := "OddPairsLaw", name := "text", desc := "(LOddPairs;I[J)I" } : Jvm.MethodName) method_3_code (4 : Nat) (Option.some Jvm.ClassFile.FieldType.int) [((0 : Nat), (9 : Nat), (12 : Nat), (13 : Nat))]) ∈ lw_all := lw_g (lw_at lw_m2 236 rfl) rfl
theorem q548 : (Jvm.Cond.classLink "OddPairsLaw" (13 : Nat) "java/lang/IllegalArgumentException") ∈ lw_all := lw_g (lw_at lw_m2 237 rfl) rfl
theorem q549 : (Jvm.Cond.methodLink "OddPairsLaw" (7 : Nat) ({ cls := "OddPairs", name := "text", desc := "(I)I" } : Jvm.MethodName)) ∈ lw_all := lw_g (lw_at lw_m2 238 rfl) rfl
theorem q1141 : (Jvm.Cond.methodLink "OddPairsLaw" (89 : Nat) ({ cls := "OddPairsLaw", name := "join", desc := "(LOddPairs;III[J)I" } : Jvm.MethodName)) ∈ lw_all := lw_g (lw_at lw_m5 110 rfl) rfl
theorem q1142 : (Jvm.Cond.static ({ cls := "OddPairsLaw", name := "join", desc := "(LOddPairs;III[J)I" } : Jvm.MethodName)) ∈ lw_all := lw_g (lw_at lw_m5 111 rfl) rfl
theorem q1143 : (Jvm.Cond.codeWith ({ cls := "OddPairsLaw", name := "join", desc := "(LOddPairs;III[J)I" } : Jvm.MethodName) method_4_code (6 : Nat) (Option.some Jvm.ClassFile.FieldType.int) [((0 : Nat), (12 : Nat), (15 : Nat), (19 : Nat)), ((0 : Nat), (12 : Nat), (19 : Nat), (13 : Nat))]) ∈ lw_all := lw_g (lw_at lw_m5 112 rfl) rfl
theorem q1144 : (Jvm.Cond.classLink "OddPairsLaw" (19 : Nat) "java/util/NoSuchElementException") ∈ lw_all := lw_g (lw_at lw_m5 113 rfl) rfl
theorem q1145 : (Jvm.Cond.methodLink "OddPairsLaw" (15 : Nat) ({ cls := "OddPairs", name := "join", desc := "(III)I" } : Jvm.MethodName)) ∈ lw_all := lw_g (lw_at lw_m5 114 rfl) rfl
theorem q1164 : (Jvm.Cond.methodLink "OddPairsLaw" (93 : Nat) ({ cls := "OddPairsLaw", name := "cut", desc := "(LOddPairs;II[J)I" } : Jvm.MethodName)) ∈ lw_all := lw_g (lw_at lw_m5 133 rfl) rfl
theorem q1165 : (Jvm.Cond.static ({ cls := "OddPairsLaw", name := "cut", desc := "(LOddPairs;II[J)I" } : Jvm.MethodName)) ∈ lw_all := lw_g (lw_at lw_m5 134 rfl) rfl
theorem q1166 : (Jvm.Cond.codeWith ({ cls := "OddPairsLaw", name := "cut", desc := "(LOddPairs;II[J)I" } : Jvm.MethodName) method_5_code (5 : Nat) (Option.some Jvm.ClassFile.FieldType.int) [((0 : Nat), (10 : Nat), (13 : Nat), (19 : Nat)), ((0 : Nat), (10 : Nat), (17 : Nat), (13 : Nat)), ((0 : Nat), (10 : Nat), (21 : Nat), (25 : Nat))]) ∈ lw_all := lw_g (lw_at lw_m5 135 rfl) rfl
theorem q1167 : (Jvm.Cond.classLink "OddPairsLaw" (25 : Nat) "java/lang/IllegalStateException") ∈ lw_all := lw_g (lw_at lw_m5 136 rfl) rfl
theorem q1168 : (Jvm.Cond.methodLink "OddPairsLaw" (21 : Nat) ({ cls := "OddPairs", name := "cut", desc := "(II)I" } : Jvm.MethodName)) ∈ lw_all := lw_g (lw_at lw_m5 137 rfl) rfl
theorem q1185 : (Jvm.Cond.methodLink "OddPairsLaw" (97 : Nat) ({ cls := "OddPairsLaw", name := "pair", desc := "(LOddPairs;II[J)I" } : Jvm.MethodName)) ∈ lw_all := lw_g (lw_at lw_m5 154 rfl) rfl
theorem q1186 : (Jvm.Cond.static ({ cls := "OddPairsLaw", name := "pair", desc := "(LOddPairs;II[J)I" } : Jvm.MethodName)) ∈ lw_all := lw_g (lw_at lw_m5 155 rfl) rfl
theorem q1187 : (Jvm.Cond.codeWith ({ cls := "OddPairsLaw", name := "pair", desc := "(LOddPairs;II[J)I" } : Jvm.MethodName) method_6_code (5 : Nat) (Option.some Jvm.ClassFile.FieldType.int) [((0 : Nat), (10 : Nat), (13 : Nat), (19 : Nat)), ((0 : Nat), (10 : Nat), (17 : Nat), (13 : Nat)), ((0 : Nat), (10 : Nat), (21 : Nat), (25 : Nat))]) ∈ lw_all := lw_g (lw_at lw_m5 156 rfl) rfl
theorem q1188 : (Jvm.Cond.methodLink "OddPairsLaw" (27 : Nat) ({ cls := "OddPairs", name := "pair", desc := "(II)I" } : Jvm.MethodName)) ∈ lw_all := lw_g (lw_at lw_m5 157 rfl) rfl
theorem q1193 : (Jvm.Cond.methodLink "OddPairsLaw" (100 : Nat) ({ cls := "OddPairsLaw", name := "part", desc := "(LOddPairs;I[J)I" } : Jvm.MethodName)) ∈ lw_all := lw_g (lw_at lw_m5 162 rfl) rfl
theorem q1194 : (Jvm.Cond.static ({ cls := "OddPairsLaw", name := "part", desc := "(LOddPairs;I[J)I" } : Jvm.MethodName)) ∈ lw_all := lw_g (lw_at lw_m5 163 rfl) rfl
theorem q1195 : (Jvm.Cond.codeWith ({ cls := "OddPairsLaw", name := "part", desc := "(LOddPairs;I[J)I" } : Jvm.MethodName) method_7_code (4 : Nat) (Option.some Jvm.ClassFile.FieldType.int) [((0 : Nat), (9 : Nat), (12 : Nat), (19 : Nat)), ((0 : Nat), (9 : Nat), (15 : Nat), (25 : Nat))]) ∈ lw_all := lw_g (lw_at lw_m5 164 rfl) rfl
theorem q1196 : (Jvm.Cond.methodLink "OddPairsLaw" (30 : Nat) ({ cls := "OddPairs", name := "part", desc := "(I)I" } : Jvm.MethodName)) ∈ lw_all := lw_g (lw_at lw_m5 165 rfl) rfl
theorem q1200 : (Jvm.Cond.methodLink "OddPairsLaw" (103 : Nat) ({ cls := "OddPairsLaw", name := "better", desc := "(LOddPairs;I[J)I" } : Jvm.MethodName)) ∈ lw_all := lw_g (lw_at lw_m5 169 rfl) rfl
theorem q1201 : (Jvm.Cond.static ({ cls := "OddPairsLaw", name := "better", desc := "(LOddPairs;I[J)I" } : Jvm.MethodName)) ∈ lw_all := lw_g (lw_at lw_m5 170 rfl) rfl
theorem q1202 : (Jvm.Cond.codeWith ({ cls := "OddPairsLaw", name := "better", desc := "(LOddPairs;I[J)I" } : Jvm.MethodName) method_8_code (4 : Nat) (Option.some Jvm.ClassFile.FieldType.int) [((0 : Nat), (9 : Nat), (12 : Nat), (19 : Nat)), ((0 : Nat), (9 : Nat), (15 : Nat), (25 : Nat))]) ∈ lw_all := lw_g (lw_at lw_m5 171 rfl) rfl
theorem q1203 : (Jvm.Cond.methodLink "OddPairsLaw" (33 : Nat) ({ cls := "OddPairs", name := "better", desc := "(I)I" } : Jvm.MethodName)) ∈ lw_all := lw_g (lw_at lw_m5 172 rfl) rfl
theorem q1243 : (Jvm.Cond.methodLink "OddPairsLaw" (110 : Nat) ({ cls := "OddPairsLaw", name := "shrink", desc := "(LOddPairs;I[J)I" } : Jvm.MethodName)) ∈ lw_all := lw_g (lw_at lw_m5 212 rfl) rfl
theorem q1244 : (Jvm.Cond.static ({ cls := "OddPairsLaw", name := "shrink", desc := "(LOddPairs;I[J)I" } : Jvm.MethodName)) ∈ lw_all := lw_g (lw_at lw_m5 213 rfl) rfl
theorem q1245 : (Jvm.Cond.codeWith ({ cls := "OddPairsLaw", name := "shrink", desc := "(LOddPairs;I[J)I" } : Jvm.MethodName) method_9_code (4 : Nat) (Option.some Jvm.ClassFile.FieldType.int) [((0 : Nat), (9 : Nat), (12 : Nat), (19 : Nat)), ((0 : Nat), (9 : Nat), (15 : Nat), (25 : Nat))]) ∈ lw_all := lw_g (lw_at lw_m5 214 rfl) rfl
theorem q1246 : (Jvm.Cond.methodLink "OddPairsLaw" (36 : Nat) ({ cls := "OddPairs", name := "shrink", desc := "(I)I" } : Jvm.MethodName)) ∈ lw_all := lw_g (lw_at lw_m5 215 rfl) rfl
theorem q1259 : (Jvm.Cond.methodLink "OddPairsLaw" (117 : Nat) ({ cls := "OddPairsLaw", name := "told", desc := "(LOddPairs;I[J)I" } : Jvm.MethodName)) ∈ lw_all := lw_g (lw_at lw_m5 228 rfl) rfl
theorem q1260 : (Jvm.Cond.static ({ cls := "OddPairsLaw", name := "told", desc := "(LOddPairs;I[J)I" } : Jvm.MethodName)) ∈ lw_all := lw_g (lw_at lw_m5 229 rfl) rfl
theorem q1261 : (Jvm.Cond.codeWith ({ cls := "OddPairsLaw", name := "told", desc := "(LOddPairs;I[J)I" } : Jvm.MethodName) method_10_code (4 : Nat) (Option.some Jvm.ClassFile.FieldType.int) [((0 : Nat), (9 : Nat), (12 : Nat), (13 : Nat))]) ∈ lw_all := lw_g (lw_at lw_m5 230 rfl) rfl
theorem q1262 : (Jvm.Cond.methodLink "OddPairsLaw" (39 : Nat) ({ cls := "OddPairs", name := "told", desc := "(I)I" } : Jvm.MethodName)) ∈ lw_all := lw_g (lw_at lw_m5 231 rfl) rfl
theorem q1271 : (Jvm.Cond.methodLink "OddPairsLaw" (120 : Nat) ({ cls := "OddPairsLaw", name := "line", desc := "(LOddPairs;III[J)I" } : Jvm.MethodName)) ∈ lw_all := lw_g (lw_at lw_m6 0 rfl) rfl
theorem q1272 : (Jvm.Cond.static ({ cls := "OddPairsLaw", name := "line", desc := "(LOddPairs;III[J)I" } : Jvm.MethodName)) ∈ lw_all := lw_g (lw_at lw_m6 1 rfl) rfl
theorem q1273 : (Jvm.Cond.codeWith ({ cls := "OddPairsLaw", name := "line", desc := "(LOddPairs;III[J)I" } : Jvm.MethodName) method_11_code (6 : Nat) (Option.some Jvm.ClassFile.FieldType.int) [((0 : Nat), (12 : Nat), (15 : Nat), (19 : Nat)), ((0 : Nat), (12 : Nat), (19 : Nat), (13 : Nat))]) ∈ lw_all := lw_g (lw_at lw_m6 2 rfl) rfl
theorem q1274 : (Jvm.Cond.methodLink "OddPairsLaw" (42 : Nat) ({ cls := "OddPairs", name := "line", desc := "(III)I" } : Jvm.MethodName)) ∈ lw_all := lw_g (lw_at lw_m6 3 rfl) rfl
theorem q1357 : (Jvm.Cond.methodLink "OddPairsLaw" (123 : Nat) ({ cls := "OddPairsLaw", name := "node", desc := "(LOddPairs;II[J)I" } : Jvm.MethodName)) ∈ lw_all := lw_g (lw_at lw_m6 86 rfl) rfl
theorem q1358 : (Jvm.Cond.static ({ cls := "OddPairsLaw", name := "node", desc := "(LOddPairs;II[J)I" } : Jvm.MethodName)) ∈ lw_all := lw_g (lw_at lw_m6 87 rfl) rfl
theorem q1359 : (Jvm.Cond.codeWith ({ cls := "OddPairsLaw", name := "node", desc := "(LOddPairs;II[J)I" } : Jvm.MethodName) method_12_code (5 : Nat) (Option.some Jvm.ClassFile.FieldType.int) [((0 : Nat), (10 : Nat), (13 : Nat), (19 : Nat)), ((0 : Nat), (10 : Nat), (17 : Nat), (13 : Nat))]) ∈ lw_all := lw_g (lw_at lw_m6 88 rfl) rfl
theorem q1360 : (Jvm.Cond.methodLink "OddPairsLaw" (45 : Nat) ({ cls := "OddPairs", name := "node", desc := "(II)I" } : Jvm.MethodName)) ∈ lw_all := lw_g (lw_at lw_m6 89 rfl) rfl
theorem q1400 : (Jvm.Cond.methodLink "OddPairsLaw" (126 : Nat) ({ cls := "OddPairsLaw", name := "sets", desc := "(LOddPairs;I[J)I" } : Jvm.MethodName)) ∈ lw_all := lw_g (lw_at lw_m6 129 rfl) rfl
theorem q1401 : (Jvm.Cond.static ({ cls := "OddPairsLaw", name := "sets", desc := "(LOddPairs;I[J)I" } : Jvm.MethodName)) ∈ lw_all := lw_g (lw_at lw_m6 130 rfl) rfl
theorem q1402 : (Jvm.Cond.codeWith ({ cls := "OddPairsLaw", name := "sets", desc := "(LOddPairs;I[J)I" } : Jvm.MethodName) method_13_code (4 : Nat) (Option.some Jvm.ClassFile.FieldType.int) [((0 : Nat), (9 : Nat), (12 : Nat), (13 : Nat))]) ∈ lw_all := lw_g (lw_at lw_m6 131 rfl) rfl
theorem q1403 : (Jvm.Cond.methodLink "OddPairsLaw" (48 : Nat) ({ cls := "OddPairs", name := "sets", desc := "(I)I" } : Jvm.MethodName)) ∈ lw_all := lw_g (lw_at lw_m6 132 rfl) rfl
theorem q1408 : (Jvm.Cond.methodLink "OddPairsLaw" (129 : Nat) ({ cls := "OddPairsLaw", name := "odd", desc := "(LOddPairs;I[J)I" } : Jvm.MethodName)) ∈ lw_all := lw_g (lw_at lw_m6 137 rfl) rfl
theorem q1409 : (Jvm.Cond.static ({ cls := "OddPairsLaw", name := "odd", desc := "(LOddPairs;I[J)I" } : Jvm.MethodName)) ∈ lw_all := lw_g (lw_at lw_m6 138 rfl) rfl
theorem q1410 : (Jvm.Cond.codeWith ({ cls := "OddPairsLaw", name := "odd", desc := "(LOddPairs;I[J)I" } : Jvm.MethodName) method_14_code (4 : Nat) (Option.some Jvm.ClassFile.FieldType.int) [((0 : Nat), (9 : Nat), (12 : Nat), (13 : Nat))]) ∈ lw_all := lw_g (lw_at lw_m6 139 rfl) rfl
theorem q1411 : (Jvm.Cond.methodLink "OddPairsLaw" (51 : Nat) ({ cls := "OddPairs", name := "odd", desc := "(I)I" } : Jvm.MethodName)) ∈ lw_all := lw_g (lw_at lw_m6 140 rfl) rfl
theorem q1421 : (Jvm.Cond.methodLink "OddPairsLaw" (132 : Nat) ({ cls := "OddPairsLaw", name := "barrier", desc := "(LOddPairs;I[J)I" } : Jvm.MethodName)) ∈ lw_all := lw_g (lw_at lw_m6 150 rfl) rfl
theorem q1422 : (Jvm.Cond.static ({ cls := "OddPairsLaw", name := "barrier", desc := "(LOddPairs;I[J)I" } : Jvm.MethodName)) ∈ lw_all := lw_g (lw_at lw_m6 151 rfl) rfl
theorem q1423 : (Jvm.Cond.codeWith ({ cls := "OddPairsLaw", name := "barrier", desc := "(LOddPairs;I[J)I" } : Jvm.MethodName) method_15_code (4 : Nat) (Option.some Jvm.ClassFile.FieldType.int) [((0 : Nat), (9 : Nat), (12 : Nat), (13 : Nat))]) ∈ lw_all := lw_g (lw_at lw_m6 152 rfl) rfl
theorem q1424 : (Jvm.Cond.methodLink "OddPairsLaw" (54 : Nat) ({ cls := "OddPairs", name := "barrier", desc := "(I)I" } : Jvm.MethodName)) ∈ lw_all := lw_g (lw_at lw_m6 153 rfl) rfl
theorem q1434 : (Jvm.Cond.methodLink "OddPairsLaw" (139 : Nat) ({ cls := "OddPairsLaw", name := "heavy", desc := "(LOddPairs;I[J)I" } : Jvm.MethodName)) ∈ lw_all := lw_g (lw_at lw_m6 163 rfl) rfl
theorem q1435 : (Jvm.Cond.static ({ cls := "OddPairsLaw", name := "heavy", desc := "(LOddPairs;I[J)I" } : Jvm.MethodName)) ∈ lw_all := lw_g (lw_at lw_m6 164 rfl) rfl
theorem q1436 : (Jvm.Cond.codeWith ({ cls := "OddPairsLaw", name := "heavy", desc := "(LOddPairs;I[J)I" } : Jvm.MethodName) method_16_code (4 : Nat) (Option.some Jvm.ClassFile.FieldType.int) [((0 : Nat), (9 : Nat), (12 : Nat), (13 : Nat))]) ∈ lw_all := lw_g (lw_at lw_m6 165 rfl) rfl
theorem q1437 : (Jvm.Cond.methodLink "OddPairsLaw" (57 : Nat) ({ cls := "OddPairs", name := "heavy", desc := "(I)I" } : Jvm.MethodName)) ∈ lw_all := lw_g (lw_at lw_m6 166 rfl) rfl
theorem q1455 : (Jvm.Cond.methodLink "OddPairsLaw" (142 : Nat) ({ cls := "OddPairsLaw", name := "path", desc := "(LOddPairs;II[J)I" } : Jvm.MethodName)) ∈ lw_all := lw_g (lw_at lw_m6 184 rfl) rfl
theorem q1456 : (Jvm.Cond.static ({ cls := "OddPairsLaw", name := "path", desc := "(LOddPairs;II[J)I" } : Jvm.MethodName)) ∈ lw_all := lw_g (lw_at lw_m6 185 rfl) rfl
theorem q1457 : (Jvm.Cond.codeWith ({ cls := "OddPairsLaw", name := "path", desc := "(LOddPairs;II[J)I" } : Jvm.MethodName) method_17_code (5 : Nat) (Option.some Jvm.ClassFile.FieldType.int) [((0 : Nat), (10 : Nat), (13 : Nat), (19 : Nat))]) ∈ lw_all := lw_g (lw_at lw_m6 186 rfl) rfl
theorem q1458 : (Jvm.Cond.methodLink "OddPairsLaw" (60 : Nat) ({ cls := "OddPairs", name := "path", desc := "(II)I" } : Jvm.MethodName)) ∈ lw_all := lw_g (lw_at lw_m6 187 rfl) rfl
theorem q1467 : (Jvm.Cond.methodLink "OddPairsLaw" (145 : Nat) ({ cls := "OddPairsLaw", name := "flower", desc := "(LOddPairs;II[J)I" } : Jvm.MethodName)) ∈ lw_all := lw_g (lw_at lw_m6 196 rfl) rfl
theorem q1468 : (Jvm.Cond.static ({ cls := "OddPairsLaw", name := "flower", desc := "(LOddPairs;II[J)I" } : Jvm.MethodName)) ∈ lw_all := lw_g (lw_at lw_m6 197 rfl) rfl
theorem q1469 : (Jvm.Cond.codeWith ({ cls := "OddPairsLaw", name := "flower", desc := "(LOddPairs;II[J)I" } : Jvm.MethodName) method_18_code (5 : Nat) (Option.some Jvm.ClassFile.FieldType.int) [((0 : Nat), (10 : Nat), (13 : Nat), (19 : Nat))]) ∈ lw_all := lw_g (lw_at lw_m6 198 rfl) rfl
theorem q1470 : (Jvm.Cond.methodLink "OddPairsLaw" (63 : Nat) ({ cls := "OddPairs", name := "flower", desc := "(II)I" } : Jvm.MethodName)) ∈ lw_all := lw_g (lw_at lw_m6 199 rfl) rfl
theorem q1474 : (Jvm.Cond.classLink "OddPairsLaw" (67 : Nat) "OddPairsModel") ∈ lw_all := lw_g (lw_at lw_m6 203 rfl) rfl
theorem q1476 : (Jvm.Cond.methodLink "OddPairsLaw" (69 : Nat) ({ cls := "OddPairsModel", name := "<init>", desc := "()V" } : Jvm.MethodName)) ∈ lw_all := lw_g (lw_at lw_m6 205 rfl) rfl
theorem q1575 : (Jvm.Cond.methodLink "OddPairsLaw" (81 : Nat) ({ cls := "OddPairsModel", name := "thrown", desc := "()I" } : Jvm.MethodName)) ∈ lw_all := lw_g (lw_at lw_m7 64 rfl) rfl
theorem q1579 : (Jvm.Cond.methodLink "OddPairsLaw" (74 : Nat) ({ cls := "OddPairsModel", name := "feed", desc := "(IIIII)I" } : Jvm.MethodName)) ∈ lw_all := lw_g (lw_at lw_m7 68 rfl) rfl
theorem q1583 : (Jvm.Cond.methodLink "OddPairsLaw" (80 : Nat) ({ cls := "OddPairsModel", name := "text", desc := "(I)I" } : Jvm.MethodName)) ∈ lw_all := lw_g (lw_at lw_m7 72 rfl) rfl
theorem q1685 : (Jvm.Cond.methodLink "OddPairsLaw" (88 : Nat) ({ cls := "OddPairsModel", name := "fault", desc := "()I" } : Jvm.MethodName)) ∈ lw_all := lw_g (lw_at lw_m7 174 rfl) rfl
theorem q1689 : (Jvm.Cond.methodLink "OddPairsLaw" (116 : Nat) ({ cls := "OddPairsModel", name := "undo", desc := "()I" } : Jvm.MethodName)) ∈ lw_all := lw_g (lw_at lw_m7 178 rfl) rfl
theorem q1693 : (Jvm.Cond.methodLink "OddPairsLaw" (92 : Nat) ({ cls := "OddPairsModel", name := "join", desc := "(III)I" } : Jvm.MethodName)) ∈ lw_all := lw_g (lw_at lw_m7 182 rfl) rfl
theorem q1701 : (Jvm.Cond.methodLink "OddPairsLaw" (96 : Nat) ({ cls := "OddPairsModel", name := "cut", desc := "(II)I" } : Jvm.MethodName)) ∈ lw_all := lw_g (lw_at lw_m7 190 rfl) rfl
theorem q1713 : (Jvm.Cond.methodLink "OddPairsLaw" (99 : Nat) ({ cls := "OddPairsModel", name := "pair", desc := "(II)I" } : Jvm.MethodName)) ∈ lw_all := lw_g (lw_at lw_m7 202 rfl) rfl
theorem q1725 : (Jvm.Cond.methodLink "OddPairsLaw" (102 : Nat) ({ cls := "OddPairsModel", name := "part", desc := "(I)I" } : Jvm.MethodName)) ∈ lw_all := lw_g (lw_at lw_m7 214 rfl) rfl
theorem q1729 : (Jvm.Cond.methodLink "OddPairsLaw" (105 : Nat) ({ cls := "OddPairsModel", name := "better", desc := "(I)I" } : Jvm.MethodName)) ∈ lw_all := lw_g (lw_at lw_m7 218 rfl) rfl
theorem q1744 : (Jvm.Cond.methodLink "OddPairsLaw" (109 : Nat) ({ cls := "OddPairsModel", name := "finish", desc := "()I" } : Jvm.MethodName)) ∈ lw_all := lw_g (lw_at lw_m7 233 rfl) rfl
theorem q1768 : (Jvm.Cond.methodLink "OddPairsLaw" (112 : Nat) ({ cls := "OddPairsModel", name := "shrink", desc := "(I)I" } : Jvm.MethodName)) ∈ lw_all := lw_g (lw_at lw_m8 17 rfl) rfl
theorem q1780 : (Jvm.Cond.methodLink "OddPairsLaw" (119 : Nat) ({ cls := "OddPairsModel", name := "told", desc := "(I)I" } : Jvm.MethodName)) ∈ lw_all := lw_g (lw_at lw_m8 29 rfl) rfl
theorem q1788 : (Jvm.Cond.methodLink "OddPairsLaw" (122 : Nat) ({ cls := "OddPairsModel", name := "line", desc := "(III)I" } : Jvm.MethodName)) ∈ lw_all := lw_g (lw_at lw_m8 37 rfl) rfl
theorem q1792 : (Jvm.Cond.methodLink "OddPairsLaw" (125 : Nat) ({ cls := "OddPairsModel", name := "node", desc := "(II)I" } : Jvm.MethodName)) ∈ lw_all := lw_g (lw_at lw_m8 41 rfl) rfl
theorem q1819 : (Jvm.Cond.methodLink "OddPairsLaw" (128 : Nat) ({ cls := "OddPairsModel", name := "sets", desc := "(I)I" } : Jvm.MethodName)) ∈ lw_all := lw_g (lw_at lw_m8 68 rfl) rfl
theorem q1823 : (Jvm.Cond.methodLink "OddPairsLaw" (131 : Nat) ({ cls := "OddPairsModel", name := "odd", desc := "(I)I" } : Jvm.MethodName)) ∈ lw_all := lw_g (lw_at lw_m8 72 rfl) rfl
theorem q1835 : (Jvm.Cond.methodLink "OddPairsLaw" (134 : Nat) ({ cls := "OddPairsModel", name := "barrier", desc := "(I)I" } : Jvm.MethodName)) ∈ lw_all := lw_g (lw_at lw_m8 84 rfl) rfl
theorem q1839 : (Jvm.Cond.methodLink "OddPairsLaw" (138 : Nat) ({ cls := "OddPairsModel", name := "ways", desc := "()I" } : Jvm.MethodName)) ∈ lw_all := lw_g (lw_at lw_m8 88 rfl) rfl
theorem q1843 : (Jvm.Cond.methodLink "OddPairsLaw" (141 : Nat) ({ cls := "OddPairsModel", name := "heavy", desc := "(I)I" } : Jvm.MethodName)) ∈ lw_all := lw_g (lw_at lw_m8 92 rfl) rfl
theorem q1847 : (Jvm.Cond.methodLink "OddPairsLaw" (144 : Nat) ({ cls := "OddPairsModel", name := "path", desc := "(II)I" } : Jvm.MethodName)) ∈ lw_all := lw_g (lw_at lw_m8 96 rfl) rfl
theorem q1855 : (Jvm.Cond.methodLink "OddPairsLaw" (147 : Nat) ({ cls := "OddPairsModel", name := "flower", desc := "(II)I" } : Jvm.MethodName)) ∈ lw_all := lw_g (lw_at lw_m8 104 rfl) rfl
theorem q1859 : (Jvm.Cond.methodLink "OddPairsLaw" (152 : Nat) ({ cls := "OddPairsModel", name := "print", desc := "()J" } : Jvm.MethodName)) ∈ lw_all := lw_g (lw_at lw_m8 108 rfl) rfl
theorem q1864 : (Jvm.Cond.methodLink "OddPairsLaw" (156 : Nat) ({ cls := "OddPairsModel", name := "status", desc := "(I)I" } : Jvm.MethodName)) ∈ lw_all := lw_g (lw_at lw_m8 113 rfl) rfl
/-! OddPairs -/
set_option maxRecDepth 100000
def RX1 : String := "OddPairs"
def TX1 : u_T := fun k => match k with
  | 0 => ("OddPairs", "tape", "[B", true)
  | 1 => ("OddPairs", "refused", "[I", true)
  | 2 => ("OddPairs", "kept", "Ljava/util/ArrayDeque;", true)
  | 3 => ("OddPairs", "now", "LOddPairs$Net;", false)
  | 4 => ("OddPairs", "taped", "I", false)
  | _ => ("OddPairs", "faultAt", "I", false)
def tyX1 : Nat → FieldType := fun k => match k with
  | 0 => .array .byte
  | 1 => .array .int
  | 2 => .object "java/util/ArrayDeque"
  | 3 => .object "OddPairs$Net"
  | 4 => .int
  | _ => .int
abbrev wsX10 : List Cond := u_ws RX1 TX1 6
theorem nmX1 : ∀ a, a < 6 → ∀ b, b < 6 → a ≠ b → (TX1 a).2.1 ≠ (TX1 b).2.1 := by decide +kernel
theorem tyX1_ok : ∀ k, k < 6 → parseFieldDescriptor (TX1 k).2.2.1 = some (tyX1 k) := by decide +kernel
abbrev cX1_init : ByteArray := prog_1_method_3_code
def yX1_init : MethodName := ⟨RX1, "<init>", "()V"⟩
def dkwX1_init_2 : List UInt8 := [42, 180, 0, 29, 3, 4, 4, 182, 0, 37, 177]
abbrev dktX1_init_2 : List UInt8 := dkwX1_init_2 ++ []
def dkwX1_init_1 : List UInt8 := [89, 183, 0, 19, 181, 0, 20, 42, 187, 0, 24, 89, 5, 183, 0, 26, 181, 0, 29, 42, 2, 181, 0, 33]
abbrev dktX1_init_1 : List UInt8 := dkwX1_init_1 ++ dktX1_init_2
def dkwX1_init_0 : List UInt8 := [42, 183, 0, 1, 42, 17, 1, 244, 188, 8, 181, 0, 9, 42, 6, 188, 10, 181, 0, 13, 42, 187, 0, 17]
abbrev dktX1_init_0 : List UInt8 := dkwX1_init_0 ++ dktX1_init_1
theorem dksX1_init_0 : cX1_init.data.toList.drop 0 = dktX1_init_0 := by decide +kernel
theorem dksX1_init_1 : cX1_init.data.toList.drop 24 = dktX1_init_1 := dk_seg dksX1_init_0 24 rfl rfl
theorem dksX1_init_2 : cX1_init.data.toList.drop 48 = dktX1_init_2 := dk_seg dksX1_init_1 24 rfl rfl
theorem dX1_init_0 : decode cX1_init 0 = .ok (.aload_n 0, 1) := dk_42 (dk_at dksX1_init_0 0 rfl rfl)
theorem dX1_init_1 : decode cX1_init 1 = .ok (.invokespecial 1, 3) := dk_183 0 1 (dk_at dksX1_init_0 1 rfl rfl)
theorem dX1_init_4 : decode cX1_init 4 = .ok (.aload_n 0, 1) := dk_42 (dk_at dksX1_init_0 4 rfl rfl)
theorem dX1_init_5 : decode cX1_init 5 = .ok (.sipush 500, 3) := dk_17 1 244 (dk_at dksX1_init_0 5 rfl rfl)
theorem dX1_init_8 : decode cX1_init 8 = .ok (.newarray .byte, 2) := dk_188_8 (dk_at dksX1_init_0 8 rfl rfl)
theorem dX1_init_10 : decode cX1_init 10 = .ok (.putfield 9, 3) := dk_181 0 9 (dk_at dksX1_init_0 10 rfl rfl)
theorem dX1_init_13 : decode cX1_init 13 = .ok (.aload_n 0, 1) := dk_42 (dk_at dksX1_init_0 13 rfl rfl)
theorem dX1_init_14 : decode cX1_init 14 = .ok (.iconst 3, 1) := dk_6 (dk_at dksX1_init_0 14 rfl rfl)
theorem dX1_init_15 : decode cX1_init 15 = .ok (.newarray .int, 2) := dk_188_10 (dk_at dksX1_init_0 15 rfl rfl)
theorem dX1_init_17 : decode cX1_init 17 = .ok (.putfield 13, 3) := dk_181 0 13 (dk_at dksX1_init_0 17 rfl rfl)
theorem dX1_init_20 : decode cX1_init 20 = .ok (.aload_n 0, 1) := dk_42 (dk_at dksX1_init_0 20 rfl rfl)
theorem dX1_init_21 : decode cX1_init 21 = .ok (.new 17, 3) := dk_187 0 17 (dk_at dksX1_init_0 21 rfl rfl)
theorem dX1_init_24 : decode cX1_init 24 = .ok (.dup, 1) := dk_89 (dk_at dksX1_init_1 0 rfl rfl)
theorem dX1_init_25 : decode cX1_init 25 = .ok (.invokespecial 19, 3) := dk_183 0 19 (dk_at dksX1_init_1 1 rfl rfl)
theorem dX1_init_28 : decode cX1_init 28 = .ok (.putfield 20, 3) := dk_181 0 20 (dk_at dksX1_init_1 4 rfl rfl)
theorem dX1_init_31 : decode cX1_init 31 = .ok (.aload_n 0, 1) := dk_42 (dk_at dksX1_init_1 7 rfl rfl)
theorem dX1_init_32 : decode cX1_init 32 = .ok (.new 24, 3) := dk_187 0 24 (dk_at dksX1_init_1 8 rfl rfl)
theorem dX1_init_35 : decode cX1_init 35 = .ok (.dup, 1) := dk_89 (dk_at dksX1_init_1 11 rfl rfl)
theorem dX1_init_36 : decode cX1_init 36 = .ok (.iconst 2, 1) := dk_5 (dk_at dksX1_init_1 12 rfl rfl)
theorem dX1_init_37 : decode cX1_init 37 = .ok (.invokespecial 26, 3) := dk_183 0 26 (dk_at dksX1_init_1 13 rfl rfl)
theorem dX1_init_40 : decode cX1_init 40 = .ok (.putfield 29, 3) := dk_181 0 29 (dk_at dksX1_init_1 16 rfl rfl)
theorem dX1_init_43 : decode cX1_init 43 = .ok (.aload_n 0, 1) := dk_42 (dk_at dksX1_init_1 19 rfl rfl)
theorem dX1_init_44 : decode cX1_init 44 = .ok (.iconst (-1), 1) := dk_2 (dk_at dksX1_init_1 20 rfl rfl)
theorem dX1_init_45 : decode cX1_init 45 = .ok (.putfield 33, 3) := dk_181 0 33 (dk_at dksX1_init_1 21 rfl rfl)
theorem dX1_init_48 : decode cX1_init 48 = .ok (.aload_n 0, 1) := dk_42 (dk_at dksX1_init_2 0 rfl rfl)
theorem dX1_init_49 : decode cX1_init 49 = .ok (.getfield 29, 3) := dk_180 0 29 (dk_at dksX1_init_2 1 rfl rfl)
theorem dX1_init_52 : decode cX1_init 52 = .ok (.iconst 0, 1) := dk_3 (dk_at dksX1_init_2 4 rfl rfl)
theorem dX1_init_53 : decode cX1_init 53 = .ok (.iconst 1, 1) := dk_4 (dk_at dksX1_init_2 5 rfl rfl)
theorem dX1_init_54 : decode cX1_init 54 = .ok (.iconst 1, 1) := dk_4 (dk_at dksX1_init_2 6 rfl rfl)
theorem dX1_init_55 : decode cX1_init 55 = .ok (.invokevirtual 37, 3) := dk_182 0 37 (dk_at dksX1_init_2 7 rfl rfl)
theorem dX1_init_58 : decode cX1_init 58 = .ok (.return_, 1) := dk_177 (dk_at dksX1_init_2 10 rfl rfl)
abbrev cX1_feed : ByteArray := prog_1_method_8_code
def yX1_feed : MethodName := ⟨RX1, "feed", "(IIIII)I"⟩
def dkwX1_feed_2 : List UInt8 := [172]
abbrev dktX1_feed_2 : List UInt8 := dkwX1_feed_2 ++ []
def dkwX1_feed_1 : List UInt8 := [182, 0, 69, 42, 29, 182, 0, 69, 42, 21, 4, 182, 0, 69, 42, 21, 5, 182, 0, 69, 42, 180, 0, 66]
abbrev dktX1_feed_1 : List UInt8 := dkwX1_feed_1 ++ dktX1_feed_2
def dkwX1_feed_0 : List UInt8 := [42, 180, 0, 66, 16, 20, 96, 17, 1, 244, 164, 0, 5, 2, 172, 42, 27, 182, 0, 69, 42, 28]
abbrev dktX1_feed_0 : List UInt8 := dkwX1_feed_0 ++ dktX1_feed_1
theorem dksX1_feed_0 : cX1_feed.data.toList.drop 0 = dktX1_feed_0 := by decide +kernel
theorem dksX1_feed_1 : cX1_feed.data.toList.drop 22 = dktX1_feed_1 := dk_seg dksX1_feed_0 22 rfl rfl
theorem dksX1_feed_2 : cX1_feed.data.toList.drop 46 = dktX1_feed_2 := dk_seg dksX1_feed_1 24 rfl rfl
theorem dX1_feed_0 : decode cX1_feed 0 = .ok (.aload_n 0, 1) := dk_42 (dk_at dksX1_feed_0 0 rfl rfl)
theorem dX1_feed_1 : decode cX1_feed 1 = .ok (.getfield 66, 3) := dk_180 0 66 (dk_at dksX1_feed_0 1 rfl rfl)
theorem dX1_feed_4 : decode cX1_feed 4 = .ok (.bipush 20, 2) := dk_16 20 (dk_at dksX1_feed_0 4 rfl rfl)
theorem dX1_feed_6 : decode cX1_feed 6 = .ok (.iadd, 1) := dk_96 (dk_at dksX1_feed_0 6 rfl rfl)
theorem dX1_feed_7 : decode cX1_feed 7 = .ok (.sipush 500, 3) := dk_17 1 244 (dk_at dksX1_feed_0 7 rfl rfl)
theorem dX1_feed_10 : decode cX1_feed 10 = .ok (.if_icmp .le 5, 3) := dk_164 0 5 (dk_at dksX1_feed_0 10 rfl rfl)
theorem dX1_feed_13 : decode cX1_feed 13 = .ok (.iconst (-1), 1) := dk_2 (dk_at dksX1_feed_0 13 rfl rfl)
theorem dX1_feed_14 : decode cX1_feed 14 = .ok (.ireturn, 1) := dk_172 (dk_at dksX1_feed_0 14 rfl rfl)
theorem dX1_feed_15 : decode cX1_feed 15 = .ok (.aload_n 0, 1) := dk_42 (dk_at dksX1_feed_0 15 rfl rfl)
theorem dX1_feed_16 : decode cX1_feed 16 = .ok (.iload_n 1, 1) := dk_27 (dk_at dksX1_feed_0 16 rfl rfl)
theorem dX1_feed_17 : decode cX1_feed 17 = .ok (.invokevirtual 69, 3) := dk_182 0 69 (dk_at dksX1_feed_0 17 rfl rfl)
theorem dX1_feed_20 : decode cX1_feed 20 = .ok (.aload_n 0, 1) := dk_42 (dk_at dksX1_feed_0 20 rfl rfl)
theorem dX1_feed_21 : decode cX1_feed 21 = .ok (.iload_n 2, 1) := dk_28 (dk_at dksX1_feed_0 21 rfl rfl)
theorem dX1_feed_22 : decode cX1_feed 22 = .ok (.invokevirtual 69, 3) := dk_182 0 69 (dk_at dksX1_feed_1 0 rfl rfl)
theorem dX1_feed_25 : decode cX1_feed 25 = .ok (.aload_n 0, 1) := dk_42 (dk_at dksX1_feed_1 3 rfl rfl)
theorem dX1_feed_26 : decode cX1_feed 26 = .ok (.iload_n 3, 1) := dk_29 (dk_at dksX1_feed_1 4 rfl rfl)
theorem dX1_feed_27 : decode cX1_feed 27 = .ok (.invokevirtual 69, 3) := dk_182 0 69 (dk_at dksX1_feed_1 5 rfl rfl)
theorem dX1_feed_30 : decode cX1_feed 30 = .ok (.aload_n 0, 1) := dk_42 (dk_at dksX1_feed_1 8 rfl rfl)
theorem dX1_feed_31 : decode cX1_feed 31 = .ok (.iload 4, 2) := dk_21 4 (dk_at dksX1_feed_1 9 rfl rfl)
theorem dX1_feed_33 : decode cX1_feed 33 = .ok (.invokevirtual 69, 3) := dk_182 0 69 (dk_at dksX1_feed_1 11 rfl rfl)
theorem dX1_feed_36 : decode cX1_feed 36 = .ok (.aload_n 0, 1) := dk_42 (dk_at dksX1_feed_1 14 rfl rfl)
theorem dX1_feed_37 : decode cX1_feed 37 = .ok (.iload 5, 2) := dk_21 5 (dk_at dksX1_feed_1 15 rfl rfl)
theorem dX1_feed_39 : decode cX1_feed 39 = .ok (.invokevirtual 69, 3) := dk_182 0 69 (dk_at dksX1_feed_1 17 rfl rfl)
theorem dX1_feed_42 : decode cX1_feed 42 = .ok (.aload_n 0, 1) := dk_42 (dk_at dksX1_feed_1 20 rfl rfl)
theorem dX1_feed_43 : decode cX1_feed 43 = .ok (.getfield 66, 3) := dk_180 0 66 (dk_at dksX1_feed_1 21 rfl rfl)
theorem dX1_feed_46 : decode cX1_feed 46 = .ok (.ireturn, 1) := dk_172 (dk_at dksX1_feed_2 0 rfl rfl)
abbrev cX1_put : ByteArray := prog_1_method_9_code
def yX1_put : MethodName := ⟨RX1, "put", "(I)V"⟩
def dkwX1_put_1 : List UInt8 := [180, 0, 66, 4, 96, 181, 0, 66, 132, 2, 248, 167, 255, 226, 177]
abbrev dktX1_put_1 : List UInt8 := dkwX1_put_1 ++ []
def dkwX1_put_0 : List UInt8 := [16, 24, 61, 28, 155, 0, 32, 42, 180, 0, 9, 42, 180, 0, 66, 27, 28, 122, 145, 84, 42, 89]
abbrev dktX1_put_0 : List UInt8 := dkwX1_put_0 ++ dktX1_put_1
theorem dksX1_put_0 : cX1_put.data.toList.drop 0 = dktX1_put_0 := by decide +kernel
theorem dksX1_put_1 : cX1_put.data.toList.drop 22 = dktX1_put_1 := dk_seg dksX1_put_0 22 rfl rfl
theorem dX1_put_0 : decode cX1_put 0 = .ok (.bipush 24, 2) := dk_16 24 (dk_at dksX1_put_0 0 rfl rfl)
theorem dX1_put_2 : decode cX1_put 2 = .ok (.istore_n 2, 1) := dk_61 (dk_at dksX1_put_0 2 rfl rfl)
theorem dX1_put_3 : decode cX1_put 3 = .ok (.iload_n 2, 1) := dk_28 (dk_at dksX1_put_0 3 rfl rfl)
theorem dX1_put_4 : decode cX1_put 4 = .ok (.ifCond .lt 32, 3) := dk_155 0 32 (dk_at dksX1_put_0 4 rfl rfl)
theorem dX1_put_7 : decode cX1_put 7 = .ok (.aload_n 0, 1) := dk_42 (dk_at dksX1_put_0 7 rfl rfl)
theorem dX1_put_8 : decode cX1_put 8 = .ok (.getfield 9, 3) := dk_180 0 9 (dk_at dksX1_put_0 8 rfl rfl)
theorem dX1_put_11 : decode cX1_put 11 = .ok (.aload_n 0, 1) := dk_42 (dk_at dksX1_put_0 11 rfl rfl)
theorem dX1_put_12 : decode cX1_put 12 = .ok (.getfield 66, 3) := dk_180 0 66 (dk_at dksX1_put_0 12 rfl rfl)
theorem dX1_put_15 : decode cX1_put 15 = .ok (.iload_n 1, 1) := dk_27 (dk_at dksX1_put_0 15 rfl rfl)
theorem dX1_put_16 : decode cX1_put 16 = .ok (.iload_n 2, 1) := dk_28 (dk_at dksX1_put_0 16 rfl rfl)
theorem dX1_put_17 : decode cX1_put 17 = .ok (.ishr, 1) := dk_122 (dk_at dksX1_put_0 17 rfl rfl)
theorem dX1_put_18 : decode cX1_put 18 = .ok (.i2b, 1) := dk_145 (dk_at dksX1_put_0 18 rfl rfl)
theorem dX1_put_19 : decode cX1_put 19 = .ok (.bastore, 1) := dk_84 (dk_at dksX1_put_0 19 rfl rfl)
theorem dX1_put_20 : decode cX1_put 20 = .ok (.aload_n 0, 1) := dk_42 (dk_at dksX1_put_0 20 rfl rfl)
theorem dX1_put_21 : decode cX1_put 21 = .ok (.dup, 1) := dk_89 (dk_at dksX1_put_0 21 rfl rfl)
theorem dX1_put_22 : decode cX1_put 22 = .ok (.getfield 66, 3) := dk_180 0 66 (dk_at dksX1_put_1 0 rfl rfl)
theorem dX1_put_25 : decode cX1_put 25 = .ok (.iconst 1, 1) := dk_4 (dk_at dksX1_put_1 3 rfl rfl)
theorem dX1_put_26 : decode cX1_put 26 = .ok (.iadd, 1) := dk_96 (dk_at dksX1_put_1 4 rfl rfl)
theorem dX1_put_27 : decode cX1_put 27 = .ok (.putfield 66, 3) := dk_181 0 66 (dk_at dksX1_put_1 5 rfl rfl)
theorem dX1_put_30 : decode cX1_put 30 = .ok (.iinc 2 (-8), 3) := dk_132 2 248 (dk_at dksX1_put_1 8 rfl rfl)
theorem dX1_put_33 : decode cX1_put 33 = .ok (.goto (-30), 3) := dk_167 255 226 (dk_at dksX1_put_1 11 rfl rfl)
theorem dX1_put_36 : decode cX1_put 36 = .ok (.return_, 1) := dk_177 (dk_at dksX1_put_1 14 rfl rfl)
abbrev cX1_fault : ByteArray := prog_1_method_11_code
def yX1_fault : MethodName := ⟨RX1, "fault", "()I"⟩
theorem dX1_fault_0 : decode cX1_fault 0 = .ok (.aload_n 0, 1) := by decide +kernel
theorem dX1_fault_1 : decode cX1_fault 1 = .ok (.getfield 33, 3) := by decide +kernel
theorem dX1_fault_4 : decode cX1_fault 4 = .ok (.ireturn, 1) := by decide +kernel
abbrev cX1_finish : ByteArray := prog_1_method_19_code
def yX1_finish : MethodName := ⟨RX1, "finish", "()I"⟩
def dkwX1_finish_2 : List UInt8 := [182, 0, 134, 27, 100, 172]
abbrev dktX1_finish_2 : List UInt8 := dkwX1_finish_2 ++ []
def dkwX1_finish_1 : List UInt8 := [182, 0, 96, 44, 3, 42, 180, 0, 29, 180, 0, 124, 3, 44, 190, 184, 0, 157, 42, 180, 0, 29]
abbrev dktX1_finish_1 : List UInt8 := dkwX1_finish_1 ++ dktX1_finish_2
def dkwX1_finish_0 : List UInt8 := [42, 180, 0, 29, 182, 0, 134, 60, 187, 0, 150, 89, 42, 180, 0, 29, 183, 0, 152, 182, 0, 153, 77, 42]
abbrev dktX1_finish_0 : List UInt8 := dkwX1_finish_0 ++ dktX1_finish_1
theorem dksX1_finish_0 : cX1_finish.data.toList.drop 0 = dktX1_finish_0 := by decide +kernel
theorem dksX1_finish_1 : cX1_finish.data.toList.drop 24 = dktX1_finish_1 := dk_seg dksX1_finish_0 24 rfl rfl
theorem dksX1_finish_2 : cX1_finish.data.toList.drop 46 = dktX1_finish_2 := dk_seg dksX1_finish_1 22 rfl rfl
theorem dX1_finish_0 : decode cX1_finish 0 = .ok (.aload_n 0, 1) := dk_42 (dk_at dksX1_finish_0 0 rfl rfl)
theorem dX1_finish_1 : decode cX1_finish 1 = .ok (.getfield 29, 3) := dk_180 0 29 (dk_at dksX1_finish_0 1 rfl rfl)
theorem dX1_finish_4 : decode cX1_finish 4 = .ok (.invokevirtual 134, 3) := dk_182 0 134 (dk_at dksX1_finish_0 4 rfl rfl)
theorem dX1_finish_7 : decode cX1_finish 7 = .ok (.istore_n 1, 1) := dk_60 (dk_at dksX1_finish_0 7 rfl rfl)
theorem dX1_finish_8 : decode cX1_finish 8 = .ok (.new 150, 3) := dk_187 0 150 (dk_at dksX1_finish_0 8 rfl rfl)
theorem dX1_finish_11 : decode cX1_finish 11 = .ok (.dup, 1) := dk_89 (dk_at dksX1_finish_0 11 rfl rfl)
theorem dX1_finish_12 : decode cX1_finish 12 = .ok (.aload_n 0, 1) := dk_42 (dk_at dksX1_finish_0 12 rfl rfl)
theorem dX1_finish_13 : decode cX1_finish 13 = .ok (.getfield 29, 3) := dk_180 0 29 (dk_at dksX1_finish_0 13 rfl rfl)
theorem dX1_finish_16 : decode cX1_finish 16 = .ok (.invokespecial 152, 3) := dk_183 0 152 (dk_at dksX1_finish_0 16 rfl rfl)
theorem dX1_finish_19 : decode cX1_finish 19 = .ok (.invokevirtual 153, 3) := dk_182 0 153 (dk_at dksX1_finish_0 19 rfl rfl)
theorem dX1_finish_22 : decode cX1_finish 22 = .ok (.astore_n 2, 1) := dk_77 (dk_at dksX1_finish_0 22 rfl rfl)
theorem dX1_finish_23 : decode cX1_finish 23 = .ok (.aload_n 0, 1) := dk_42 (dk_at dksX1_finish_0 23 rfl rfl)
theorem dX1_finish_24 : decode cX1_finish 24 = .ok (.invokevirtual 96, 3) := dk_182 0 96 (dk_at dksX1_finish_1 0 rfl rfl)
theorem dX1_finish_27 : decode cX1_finish 27 = .ok (.aload_n 2, 1) := dk_44 (dk_at dksX1_finish_1 3 rfl rfl)
theorem dX1_finish_28 : decode cX1_finish 28 = .ok (.iconst 0, 1) := dk_3 (dk_at dksX1_finish_1 4 rfl rfl)
theorem dX1_finish_29 : decode cX1_finish 29 = .ok (.aload_n 0, 1) := dk_42 (dk_at dksX1_finish_1 5 rfl rfl)
theorem dX1_finish_30 : decode cX1_finish 30 = .ok (.getfield 29, 3) := dk_180 0 29 (dk_at dksX1_finish_1 6 rfl rfl)
theorem dX1_finish_33 : decode cX1_finish 33 = .ok (.getfield 124, 3) := dk_180 0 124 (dk_at dksX1_finish_1 9 rfl rfl)
theorem dX1_finish_36 : decode cX1_finish 36 = .ok (.iconst 0, 1) := dk_3 (dk_at dksX1_finish_1 12 rfl rfl)
theorem dX1_finish_37 : decode cX1_finish 37 = .ok (.aload_n 2, 1) := dk_44 (dk_at dksX1_finish_1 13 rfl rfl)
theorem dX1_finish_38 : decode cX1_finish 38 = .ok (.arraylength, 1) := dk_190 (dk_at dksX1_finish_1 14 rfl rfl)
theorem dX1_finish_39 : decode cX1_finish 39 = .ok (.invokestatic 157, 3) := dk_184 0 157 (dk_at dksX1_finish_1 15 rfl rfl)
theorem dX1_finish_42 : decode cX1_finish 42 = .ok (.aload_n 0, 1) := dk_42 (dk_at dksX1_finish_1 18 rfl rfl)
theorem dX1_finish_43 : decode cX1_finish 43 = .ok (.getfield 29, 3) := dk_180 0 29 (dk_at dksX1_finish_1 19 rfl rfl)
theorem dX1_finish_46 : decode cX1_finish 46 = .ok (.invokevirtual 134, 3) := dk_182 0 134 (dk_at dksX1_finish_2 0 rfl rfl)
theorem dX1_finish_49 : decode cX1_finish 49 = .ok (.iload_n 1, 1) := dk_27 (dk_at dksX1_finish_2 3 rfl rfl)
theorem dX1_finish_50 : decode cX1_finish 50 = .ok (.isub, 1) := dk_100 (dk_at dksX1_finish_2 4 rfl rfl)
theorem dX1_finish_51 : decode cX1_finish 51 = .ok (.ireturn, 1) := dk_172 (dk_at dksX1_finish_2 5 rfl rfl)
abbrev cX1_has : ByteArray := prog_1_method_2_code
def yX1_has : MethodName := ⟨RX1, "has", "(II)Z"⟩
def dkwX1_has_0 : List UInt8 := [26, 27, 122, 4, 126, 4, 160, 0, 7, 4, 167, 0, 4, 3, 172]
abbrev dktX1_has_0 : List UInt8 := dkwX1_has_0 ++ []
theorem dksX1_has_0 : cX1_has.data.toList.drop 0 = dktX1_has_0 := by decide +kernel
theorem dX1_has_0 : decode cX1_has 0 = .ok (.iload_n 0, 1) := dk_26 (dk_at dksX1_has_0 0 rfl rfl)
theorem dX1_has_1 : decode cX1_has 1 = .ok (.iload_n 1, 1) := dk_27 (dk_at dksX1_has_0 1 rfl rfl)
theorem dX1_has_2 : decode cX1_has 2 = .ok (.ishr, 1) := dk_122 (dk_at dksX1_has_0 2 rfl rfl)
theorem dX1_has_3 : decode cX1_has 3 = .ok (.iconst 1, 1) := dk_4 (dk_at dksX1_has_0 3 rfl rfl)
theorem dX1_has_4 : decode cX1_has 4 = .ok (.iand, 1) := dk_126 (dk_at dksX1_has_0 4 rfl rfl)
theorem dX1_has_5 : decode cX1_has 5 = .ok (.iconst 1, 1) := dk_4 (dk_at dksX1_has_0 5 rfl rfl)
theorem dX1_has_6 : decode cX1_has 6 = .ok (.if_icmp .ne 7, 3) := dk_160 0 7 (dk_at dksX1_has_0 6 rfl rfl)
theorem dX1_has_9 : decode cX1_has 9 = .ok (.iconst 1, 1) := dk_4 (dk_at dksX1_has_0 9 rfl rfl)
theorem dX1_has_10 : decode cX1_has 10 = .ok (.goto 4, 3) := dk_167 0 4 (dk_at dksX1_has_0 10 rfl rfl)
theorem dX1_has_13 : decode cX1_has 13 = .ok (.iconst 0, 1) := dk_3 (dk_at dksX1_has_0 13 rfl rfl)
theorem dX1_has_14 : decode cX1_has 14 = .ok (.ireturn, 1) := dk_172 (dk_at dksX1_has_0 14 rfl rfl)
abbrev cX1_keeps : ByteArray := prog_1_method_7_code
def yX1_keeps : MethodName := ⟨RX1, "keeps", "()V"⟩
def dkwX1_keeps_1 : List UInt8 := [42, 180, 0, 29, 182, 0, 58, 42, 42, 180, 0, 29, 182, 0, 62, 181, 0, 29, 177]
abbrev dktX1_keeps_1 : List UInt8 := dkwX1_keeps_1 ++ []
def dkwX1_keeps_0 : List UInt8 := [42, 180, 0, 20, 182, 0, 50, 16, 8, 160, 0, 11, 42, 180, 0, 20, 182, 0, 54, 87, 42, 180, 0, 20]
abbrev dktX1_keeps_0 : List UInt8 := dkwX1_keeps_0 ++ dktX1_keeps_1
theorem dksX1_keeps_0 : cX1_keeps.data.toList.drop 0 = dktX1_keeps_0 := by decide +kernel
theorem dksX1_keeps_1 : cX1_keeps.data.toList.drop 24 = dktX1_keeps_1 := dk_seg dksX1_keeps_0 24 rfl rfl
theorem dX1_keeps_0 : decode cX1_keeps 0 = .ok (.aload_n 0, 1) := dk_42 (dk_at dksX1_keeps_0 0 rfl rfl)
theorem dX1_keeps_1 : decode cX1_keeps 1 = .ok (.getfield 20, 3) := dk_180 0 20 (dk_at dksX1_keeps_0 1 rfl rfl)
theorem dX1_keeps_4 : decode cX1_keeps 4 = .ok (.invokevirtual 50, 3) := dk_182 0 50 (dk_at dksX1_keeps_0 4 rfl rfl)
theorem dX1_keeps_7 : decode cX1_keeps 7 = .ok (.bipush 8, 2) := dk_16 8 (dk_at dksX1_keeps_0 7 rfl rfl)
theorem dX1_keeps_9 : decode cX1_keeps 9 = .ok (.if_icmp .ne 11, 3) := dk_160 0 11 (dk_at dksX1_keeps_0 9 rfl rfl)
theorem dX1_keeps_12 : decode cX1_keeps 12 = .ok (.aload_n 0, 1) := dk_42 (dk_at dksX1_keeps_0 12 rfl rfl)
theorem dX1_keeps_13 : decode cX1_keeps 13 = .ok (.getfield 20, 3) := dk_180 0 20 (dk_at dksX1_keeps_0 13 rfl rfl)
theorem dX1_keeps_16 : decode cX1_keeps 16 = .ok (.invokevirtual 54, 3) := dk_182 0 54 (dk_at dksX1_keeps_0 16 rfl rfl)
theorem dX1_keeps_19 : decode cX1_keeps 19 = .ok (.pop, 1) := dk_87 (dk_at dksX1_keeps_0 19 rfl rfl)
theorem dX1_keeps_20 : decode cX1_keeps 20 = .ok (.aload_n 0, 1) := dk_42 (dk_at dksX1_keeps_0 20 rfl rfl)
theorem dX1_keeps_21 : decode cX1_keeps 21 = .ok (.getfield 20, 3) := dk_180 0 20 (dk_at dksX1_keeps_0 21 rfl rfl)
theorem dX1_keeps_24 : decode cX1_keeps 24 = .ok (.aload_n 0, 1) := dk_42 (dk_at dksX1_keeps_1 0 rfl rfl)
theorem dX1_keeps_25 : decode cX1_keeps 25 = .ok (.getfield 29, 3) := dk_180 0 29 (dk_at dksX1_keeps_1 1 rfl rfl)
theorem dX1_keeps_28 : decode cX1_keeps 28 = .ok (.invokevirtual 58, 3) := dk_182 0 58 (dk_at dksX1_keeps_1 4 rfl rfl)
theorem dX1_keeps_31 : decode cX1_keeps 31 = .ok (.aload_n 0, 1) := dk_42 (dk_at dksX1_keeps_1 7 rfl rfl)
theorem dX1_keeps_32 : decode cX1_keeps 32 = .ok (.aload_n 0, 1) := dk_42 (dk_at dksX1_keeps_1 8 rfl rfl)
theorem dX1_keeps_33 : decode cX1_keeps 33 = .ok (.getfield 29, 3) := dk_180 0 29 (dk_at dksX1_keeps_1 9 rfl rfl)
theorem dX1_keeps_36 : decode cX1_keeps 36 = .ok (.invokevirtual 62, 3) := dk_182 0 62 (dk_at dksX1_keeps_1 12 rfl rfl)
theorem dX1_keeps_39 : decode cX1_keeps 39 = .ok (.putfield 29, 3) := dk_181 0 29 (dk_at dksX1_keeps_1 15 rfl rfl)
theorem dX1_keeps_42 : decode cX1_keeps 42 = .ok (.return_, 1) := dk_177 (dk_at dksX1_keeps_1 18 rfl rfl)
abbrev cX1_undo : ByteArray := prog_1_method_22_code
def yX1_undo : MethodName := ⟨RX1, "undo", "()I"⟩
def dkwX1_undo_1 : List UInt8 := [181, 0, 29, 42, 180, 0, 20, 182, 0, 50, 172]
abbrev dktX1_undo_1 : List UInt8 := dkwX1_undo_1 ++ []
def dkwX1_undo_0 : List UInt8 := [42, 180, 0, 20, 182, 0, 183, 153, 0, 5, 2, 172, 42, 42, 180, 0, 20, 182, 0, 187, 192, 0, 24]
abbrev dktX1_undo_0 : List UInt8 := dkwX1_undo_0 ++ dktX1_undo_1
theorem dksX1_undo_0 : cX1_undo.data.toList.drop 0 = dktX1_undo_0 := by decide +kernel
theorem dksX1_undo_1 : cX1_undo.data.toList.drop 23 = dktX1_undo_1 := dk_seg dksX1_undo_0 23 rfl rfl
theorem dX1_undo_0 : decode cX1_undo 0 = .ok (.aload_n 0, 1) := dk_42 (dk_at dksX1_undo_0 0 rfl rfl)
theorem dX1_undo_1 : decode cX1_undo 1 = .ok (.getfield 20, 3) := dk_180 0 20 (dk_at dksX1_undo_0 1 rfl rfl)
theorem dX1_undo_4 : decode cX1_undo 4 = .ok (.invokevirtual 183, 3) := dk_182 0 183 (dk_at dksX1_undo_0 4 rfl rfl)
theorem dX1_undo_7 : decode cX1_undo 7 = .ok (.ifCond .eq 5, 3) := dk_153 0 5 (dk_at dksX1_undo_0 7 rfl rfl)
theorem dX1_undo_10 : decode cX1_undo 10 = .ok (.iconst (-1), 1) := dk_2 (dk_at dksX1_undo_0 10 rfl rfl)
theorem dX1_undo_11 : decode cX1_undo 11 = .ok (.ireturn, 1) := dk_172 (dk_at dksX1_undo_0 11 rfl rfl)
theorem dX1_undo_12 : decode cX1_undo 12 = .ok (.aload_n 0, 1) := dk_42 (dk_at dksX1_undo_0 12 rfl rfl)
theorem dX1_undo_13 : decode cX1_undo 13 = .ok (.aload_n 0, 1) := dk_42 (dk_at dksX1_undo_0 13 rfl rfl)
theorem dX1_undo_14 : decode cX1_undo 14 = .ok (.getfield 20, 3) := dk_180 0 20 (dk_at dksX1_undo_0 14 rfl rfl)
theorem dX1_undo_17 : decode cX1_undo 17 = .ok (.invokevirtual 187, 3) := dk_182 0 187 (dk_at dksX1_undo_0 17 rfl rfl)
theorem dX1_undo_20 : decode cX1_undo 20 = .ok (.checkcast 24, 3) := dk_192 0 24 (dk_at dksX1_undo_0 20 rfl rfl)
theorem dX1_undo_23 : decode cX1_undo 23 = .ok (.putfield 29, 3) := dk_181 0 29 (dk_at dksX1_undo_1 0 rfl rfl)
theorem dX1_undo_26 : decode cX1_undo 26 = .ok (.aload_n 0, 1) := dk_42 (dk_at dksX1_undo_1 3 rfl rfl)
theorem dX1_undo_27 : decode cX1_undo 27 = .ok (.getfield 20, 3) := dk_180 0 20 (dk_at dksX1_undo_1 4 rfl rfl)
theorem dX1_undo_30 : decode cX1_undo 30 = .ok (.invokevirtual 50, 3) := dk_182 0 50 (dk_at dksX1_undo_1 7 rfl rfl)
theorem dX1_undo_33 : decode cX1_undo 33 = .ok (.ireturn, 1) := dk_172 (dk_at dksX1_undo_1 10 rfl rfl)
abbrev cX1_ways : ByteArray := prog_1_method_29_code
def yX1_ways : MethodName := ⟨RX1, "ways", "()I"⟩
def dkwX1_ways_1 : List UInt8 := [182, 1, 7, 172]
abbrev dktX1_ways_1 : List UInt8 := dkwX1_ways_1 ++ []
def dkwX1_ways_0 : List UInt8 := [187, 0, 150, 89, 42, 180, 0, 29, 183, 0, 152, 76, 43, 42, 180, 0, 29, 182, 0, 203, 43, 180, 0, 192]
abbrev dktX1_ways_0 : List UInt8 := dkwX1_ways_0 ++ dktX1_ways_1
theorem dksX1_ways_0 : cX1_ways.data.toList.drop 0 = dktX1_ways_0 := by decide +kernel
theorem dksX1_ways_1 : cX1_ways.data.toList.drop 24 = dktX1_ways_1 := dk_seg dksX1_ways_0 24 rfl rfl
theorem dX1_ways_0 : decode cX1_ways 0 = .ok (.new 150, 3) := dk_187 0 150 (dk_at dksX1_ways_0 0 rfl rfl)
theorem dX1_ways_3 : decode cX1_ways 3 = .ok (.dup, 1) := dk_89 (dk_at dksX1_ways_0 3 rfl rfl)
theorem dX1_ways_4 : decode cX1_ways 4 = .ok (.aload_n 0, 1) := dk_42 (dk_at dksX1_ways_0 4 rfl rfl)
theorem dX1_ways_5 : decode cX1_ways 5 = .ok (.getfield 29, 3) := dk_180 0 29 (dk_at dksX1_ways_0 5 rfl rfl)
theorem dX1_ways_8 : decode cX1_ways 8 = .ok (.invokespecial 152, 3) := dk_183 0 152 (dk_at dksX1_ways_0 8 rfl rfl)
theorem dX1_ways_11 : decode cX1_ways 11 = .ok (.astore_n 1, 1) := dk_76 (dk_at dksX1_ways_0 11 rfl rfl)
theorem dX1_ways_12 : decode cX1_ways 12 = .ok (.aload_n 1, 1) := dk_43 (dk_at dksX1_ways_0 12 rfl rfl)
theorem dX1_ways_13 : decode cX1_ways 13 = .ok (.aload_n 0, 1) := dk_42 (dk_at dksX1_ways_0 13 rfl rfl)
theorem dX1_ways_14 : decode cX1_ways 14 = .ok (.getfield 29, 3) := dk_180 0 29 (dk_at dksX1_ways_0 14 rfl rfl)
theorem dX1_ways_17 : decode cX1_ways 17 = .ok (.invokevirtual 203, 3) := dk_182 0 203 (dk_at dksX1_ways_0 17 rfl rfl)
theorem dX1_ways_20 : decode cX1_ways 20 = .ok (.aload_n 1, 1) := dk_43 (dk_at dksX1_ways_0 20 rfl rfl)
theorem dX1_ways_21 : decode cX1_ways 21 = .ok (.getfield 192, 3) := dk_180 0 192 (dk_at dksX1_ways_0 21 rfl rfl)
theorem dX1_ways_24 : decode cX1_ways 24 = .ok (.invokevirtual 263, 3) := dk_182 1 7 (dk_at dksX1_ways_1 0 rfl rfl)
theorem dX1_ways_27 : decode cX1_ways 27 = .ok (.ireturn, 1) := dk_172 (dk_at dksX1_ways_1 3 rfl rfl)
abbrev cX1_print : ByteArray := prog_1_method_34_code
def yX1_print : MethodName := ⟨RX1, "print", "()J"⟩
def dkwX1_print_4 : List UInt8 := [21, 4, 46, 133, 97, 167, 0, 4, 31, 64, 132, 4, 1, 167, 255, 204, 132, 3, 1, 167, 255, 182, 31, 173]
abbrev dktX1_print_4 : List UInt8 := dkwX1_print_4 ++ []
def dkwX1_print_3 : List UInt8 := [29, 21, 4, 182, 0, 117, 153, 0, 25, 20, 1, 23, 31, 105, 42, 180, 0, 29, 180, 0, 173, 29, 50]
abbrev dktX1_print_3 : List UInt8 := dkwX1_print_3 ++ dktX1_print_4
def dkwX1_print_2 : List UInt8 := [162, 0, 69, 29, 4, 96, 54, 4, 21, 4, 42, 180, 0, 29, 180, 0, 102, 162, 0, 46, 42, 180, 0, 29]
abbrev dktX1_print_2 : List UInt8 := dkwX1_print_2 ++ dktX1_print_3
def dkwX1_print_1 : List UInt8 := [180, 0, 124, 29, 46, 133, 97, 64, 132, 3, 1, 167, 255, 225, 3, 62, 29, 42, 180, 0, 29, 180, 0, 102]
abbrev dktX1_print_1 : List UInt8 := dkwX1_print_1 ++ dktX1_print_2
def dkwX1_print_0 : List UInt8 := [9, 64, 3, 62, 29, 42, 180, 0, 29, 180, 0, 102, 162, 0, 26, 20, 1, 23, 31, 105, 42, 180, 0, 29]
abbrev dktX1_print_0 : List UInt8 := dkwX1_print_0 ++ dktX1_print_1
theorem dksX1_print_0 : cX1_print.data.toList.drop 0 = dktX1_print_0 := by decide +kernel
theorem dksX1_print_1 : cX1_print.data.toList.drop 24 = dktX1_print_1 := dk_seg dksX1_print_0 24 rfl rfl
theorem dksX1_print_2 : cX1_print.data.toList.drop 48 = dktX1_print_2 := dk_seg dksX1_print_1 24 rfl rfl
theorem dksX1_print_3 : cX1_print.data.toList.drop 72 = dktX1_print_3 := dk_seg dksX1_print_2 24 rfl rfl
theorem dksX1_print_4 : cX1_print.data.toList.drop 95 = dktX1_print_4 := dk_seg dksX1_print_3 23 rfl rfl
theorem dX1_print_0 : decode cX1_print 0 = .ok (.lconst 0, 1) := dk_9 (dk_at dksX1_print_0 0 rfl rfl)
theorem dX1_print_1 : decode cX1_print 1 = .ok (.lstore_n 1, 1) := dk_64 (dk_at dksX1_print_0 1 rfl rfl)
theorem dX1_print_2 : decode cX1_print 2 = .ok (.iconst 0, 1) := dk_3 (dk_at dksX1_print_0 2 rfl rfl)
theorem dX1_print_3 : decode cX1_print 3 = .ok (.istore_n 3, 1) := dk_62 (dk_at dksX1_print_0 3 rfl rfl)
theorem dX1_print_4 : decode cX1_print 4 = .ok (.iload_n 3, 1) := dk_29 (dk_at dksX1_print_0 4 rfl rfl)
theorem dX1_print_5 : decode cX1_print 5 = .ok (.aload_n 0, 1) := dk_42 (dk_at dksX1_print_0 5 rfl rfl)
theorem dX1_print_6 : decode cX1_print 6 = .ok (.getfield 29, 3) := dk_180 0 29 (dk_at dksX1_print_0 6 rfl rfl)
theorem dX1_print_9 : decode cX1_print 9 = .ok (.getfield 102, 3) := dk_180 0 102 (dk_at dksX1_print_0 9 rfl rfl)
theorem dX1_print_12 : decode cX1_print 12 = .ok (.if_icmp .ge 26, 3) := dk_162 0 26 (dk_at dksX1_print_0 12 rfl rfl)
theorem dX1_print_15 : decode cX1_print 15 = .ok (.ldc2_w 279, 3) := dk_20 1 23 (dk_at dksX1_print_0 15 rfl rfl)
theorem dX1_print_18 : decode cX1_print 18 = .ok (.lload_n 1, 1) := dk_31 (dk_at dksX1_print_0 18 rfl rfl)
theorem dX1_print_19 : decode cX1_print 19 = .ok (.lmul, 1) := dk_105 (dk_at dksX1_print_0 19 rfl rfl)
theorem dX1_print_20 : decode cX1_print 20 = .ok (.aload_n 0, 1) := dk_42 (dk_at dksX1_print_0 20 rfl rfl)
theorem dX1_print_21 : decode cX1_print 21 = .ok (.getfield 29, 3) := dk_180 0 29 (dk_at dksX1_print_0 21 rfl rfl)
theorem dX1_print_24 : decode cX1_print 24 = .ok (.getfield 124, 3) := dk_180 0 124 (dk_at dksX1_print_1 0 rfl rfl)
theorem dX1_print_27 : decode cX1_print 27 = .ok (.iload_n 3, 1) := dk_29 (dk_at dksX1_print_1 3 rfl rfl)
theorem dX1_print_28 : decode cX1_print 28 = .ok (.iaload, 1) := dk_46 (dk_at dksX1_print_1 4 rfl rfl)
theorem dX1_print_29 : decode cX1_print 29 = .ok (.i2l, 1) := dk_133 (dk_at dksX1_print_1 5 rfl rfl)
theorem dX1_print_30 : decode cX1_print 30 = .ok (.ladd, 1) := dk_97 (dk_at dksX1_print_1 6 rfl rfl)
theorem dX1_print_31 : decode cX1_print 31 = .ok (.lstore_n 1, 1) := dk_64 (dk_at dksX1_print_1 7 rfl rfl)
theorem dX1_print_32 : decode cX1_print 32 = .ok (.iinc 3 1, 3) := dk_132 3 1 (dk_at dksX1_print_1 8 rfl rfl)
theorem dX1_print_35 : decode cX1_print 35 = .ok (.goto (-31), 3) := dk_167 255 225 (dk_at dksX1_print_1 11 rfl rfl)
theorem dX1_print_38 : decode cX1_print 38 = .ok (.iconst 0, 1) := dk_3 (dk_at dksX1_print_1 14 rfl rfl)
theorem dX1_print_39 : decode cX1_print 39 = .ok (.istore_n 3, 1) := dk_62 (dk_at dksX1_print_1 15 rfl rfl)
theorem dX1_print_40 : decode cX1_print 40 = .ok (.iload_n 3, 1) := dk_29 (dk_at dksX1_print_1 16 rfl rfl)
theorem dX1_print_41 : decode cX1_print 41 = .ok (.aload_n 0, 1) := dk_42 (dk_at dksX1_print_1 17 rfl rfl)
theorem dX1_print_42 : decode cX1_print 42 = .ok (.getfield 29, 3) := dk_180 0 29 (dk_at dksX1_print_1 18 rfl rfl)
theorem dX1_print_45 : decode cX1_print 45 = .ok (.getfield 102, 3) := dk_180 0 102 (dk_at dksX1_print_1 21 rfl rfl)
theorem dX1_print_48 : decode cX1_print 48 = .ok (.if_icmp .ge 69, 3) := dk_162 0 69 (dk_at dksX1_print_2 0 rfl rfl)
theorem dX1_print_51 : decode cX1_print 51 = .ok (.iload_n 3, 1) := dk_29 (dk_at dksX1_print_2 3 rfl rfl)
theorem dX1_print_52 : decode cX1_print 52 = .ok (.iconst 1, 1) := dk_4 (dk_at dksX1_print_2 4 rfl rfl)
theorem dX1_print_53 : decode cX1_print 53 = .ok (.iadd, 1) := dk_96 (dk_at dksX1_print_2 5 rfl rfl)
theorem dX1_print_54 : decode cX1_print 54 = .ok (.istore 4, 2) := dk_54 4 (dk_at dksX1_print_2 6 rfl rfl)
theorem dX1_print_56 : decode cX1_print 56 = .ok (.iload 4, 2) := dk_21 4 (dk_at dksX1_print_2 8 rfl rfl)
theorem dX1_print_58 : decode cX1_print 58 = .ok (.aload_n 0, 1) := dk_42 (dk_at dksX1_print_2 10 rfl rfl)
theorem dX1_print_59 : decode cX1_print 59 = .ok (.getfield 29, 3) := dk_180 0 29 (dk_at dksX1_print_2 11 rfl rfl)
theorem dX1_print_62 : decode cX1_print 62 = .ok (.getfield 102, 3) := dk_180 0 102 (dk_at dksX1_print_2 14 rfl rfl)
theorem dX1_print_65 : decode cX1_print 65 = .ok (.if_icmp .ge 46, 3) := dk_162 0 46 (dk_at dksX1_print_2 17 rfl rfl)
theorem dX1_print_68 : decode cX1_print 68 = .ok (.aload_n 0, 1) := dk_42 (dk_at dksX1_print_2 20 rfl rfl)
theorem dX1_print_69 : decode cX1_print 69 = .ok (.getfield 29, 3) := dk_180 0 29 (dk_at dksX1_print_2 21 rfl rfl)
theorem dX1_print_72 : decode cX1_print 72 = .ok (.iload_n 3, 1) := dk_29 (dk_at dksX1_print_3 0 rfl rfl)
theorem dX1_print_73 : decode cX1_print 73 = .ok (.iload 4, 2) := dk_21 4 (dk_at dksX1_print_3 1 rfl rfl)
theorem dX1_print_75 : decode cX1_print 75 = .ok (.invokevirtual 117, 3) := dk_182 0 117 (dk_at dksX1_print_3 3 rfl rfl)
theorem dX1_print_78 : decode cX1_print 78 = .ok (.ifCond .eq 25, 3) := dk_153 0 25 (dk_at dksX1_print_3 6 rfl rfl)
theorem dX1_print_81 : decode cX1_print 81 = .ok (.ldc2_w 279, 3) := dk_20 1 23 (dk_at dksX1_print_3 9 rfl rfl)
theorem dX1_print_84 : decode cX1_print 84 = .ok (.lload_n 1, 1) := dk_31 (dk_at dksX1_print_3 12 rfl rfl)
theorem dX1_print_85 : decode cX1_print 85 = .ok (.lmul, 1) := dk_105 (dk_at dksX1_print_3 13 rfl rfl)
theorem dX1_print_86 : decode cX1_print 86 = .ok (.aload_n 0, 1) := dk_42 (dk_at dksX1_print_3 14 rfl rfl)
theorem dX1_print_87 : decode cX1_print 87 = .ok (.getfield 29, 3) := dk_180 0 29 (dk_at dksX1_print_3 15 rfl rfl)
theorem dX1_print_90 : decode cX1_print 90 = .ok (.getfield 173, 3) := dk_180 0 173 (dk_at dksX1_print_3 18 rfl rfl)
theorem dX1_print_93 : decode cX1_print 93 = .ok (.iload_n 3, 1) := dk_29 (dk_at dksX1_print_3 21 rfl rfl)
theorem dX1_print_94 : decode cX1_print 94 = .ok (.aaload, 1) := dk_50 (dk_at dksX1_print_3 22 rfl rfl)
theorem dX1_print_95 : decode cX1_print 95 = .ok (.iload 4, 2) := dk_21 4 (dk_at dksX1_print_4 0 rfl rfl)
theorem dX1_print_97 : decode cX1_print 97 = .ok (.iaload, 1) := dk_46 (dk_at dksX1_print_4 2 rfl rfl)
theorem dX1_print_98 : decode cX1_print 98 = .ok (.i2l, 1) := dk_133 (dk_at dksX1_print_4 3 rfl rfl)
theorem dX1_print_99 : decode cX1_print 99 = .ok (.ladd, 1) := dk_97 (dk_at dksX1_print_4 4 rfl rfl)
theorem dX1_print_100 : decode cX1_print 100 = .ok (.goto 4, 3) := dk_167 0 4 (dk_at dksX1_print_4 5 rfl rfl)
theorem dX1_print_103 : decode cX1_print 103 = .ok (.lload_n 1, 1) := dk_31 (dk_at dksX1_print_4 8 rfl rfl)
theorem dX1_print_104 : decode cX1_print 104 = .ok (.lstore_n 1, 1) := dk_64 (dk_at dksX1_print_4 9 rfl rfl)
theorem dX1_print_105 : decode cX1_print 105 = .ok (.iinc 4 1, 3) := dk_132 4 1 (dk_at dksX1_print_4 10 rfl rfl)
theorem dX1_print_108 : decode cX1_print 108 = .ok (.goto (-52), 3) := dk_167 255 204 (dk_at dksX1_print_4 13 rfl rfl)
theorem dX1_print_111 : decode cX1_print 111 = .ok (.iinc 3 1, 3) := dk_132 3 1 (dk_at dksX1_print_4 16 rfl rfl)
theorem dX1_print_114 : decode cX1_print 114 = .ok (.goto (-74), 3) := dk_167 255 182 (dk_at dksX1_print_4 19 rfl rfl)
theorem dX1_print_117 : decode cX1_print 117 = .ok (.lload_n 1, 1) := dk_31 (dk_at dksX1_print_4 22 rfl rfl)
theorem dX1_print_118 : decode cX1_print 118 = .ok (.lreturn, 1) := dk_173 (dk_at dksX1_print_4 23 rfl rfl)
abbrev cX1_status : ByteArray := prog_1_method_35_code
def yX1_status : MethodName := ⟨RX1, "status", "(I)I"⟩
def dkwX1_status_0 : List UInt8 := [27, 133, 9, 20, 1, 25, 184, 0, 72, 153, 0, 12, 42, 180, 0, 13, 27, 46, 167, 0, 4, 2, 172]
abbrev dktX1_status_0 : List UInt8 := dkwX1_status_0 ++ []
theorem dksX1_status_0 : cX1_status.data.toList.drop 0 = dktX1_status_0 := by decide +kernel
theorem dX1_status_0 : decode cX1_status 0 = .ok (.iload_n 1, 1) := dk_27 (dk_at dksX1_status_0 0 rfl rfl)
theorem dX1_status_1 : decode cX1_status 1 = .ok (.i2l, 1) := dk_133 (dk_at dksX1_status_0 1 rfl rfl)
theorem dX1_status_2 : decode cX1_status 2 = .ok (.lconst 0, 1) := dk_9 (dk_at dksX1_status_0 2 rfl rfl)
theorem dX1_status_3 : decode cX1_status 3 = .ok (.ldc2_w 281, 3) := dk_20 1 25 (dk_at dksX1_status_0 3 rfl rfl)
theorem dX1_status_6 : decode cX1_status 6 = .ok (.invokestatic 72, 3) := dk_184 0 72 (dk_at dksX1_status_0 6 rfl rfl)
theorem dX1_status_9 : decode cX1_status 9 = .ok (.ifCond .eq 12, 3) := dk_153 0 12 (dk_at dksX1_status_0 9 rfl rfl)
theorem dX1_status_12 : decode cX1_status 12 = .ok (.aload_n 0, 1) := dk_42 (dk_at dksX1_status_0 12 rfl rfl)
theorem dX1_status_13 : decode cX1_status 13 = .ok (.getfield 13, 3) := dk_180 0 13 (dk_at dksX1_status_0 13 rfl rfl)
theorem dX1_status_16 : decode cX1_status 16 = .ok (.iload_n 1, 1) := dk_27 (dk_at dksX1_status_0 16 rfl rfl)
theorem dX1_status_17 : decode cX1_status 17 = .ok (.iaload, 1) := dk_46 (dk_at dksX1_status_0 17 rfl rfl)
theorem dX1_status_18 : decode cX1_status 18 = .ok (.goto 4, 3) := dk_167 0 4 (dk_at dksX1_status_0 18 rfl rfl)
theorem dX1_status_21 : decode cX1_status 21 = .ok (.iconst (-1), 1) := dk_2 (dk_at dksX1_status_0 21 rfl rfl)
theorem dX1_status_22 : decode cX1_status 22 = .ok (.ireturn, 1) := dk_172 (dk_at dksX1_status_0 22 rfl rfl)
abbrev cX1_isIn : ByteArray := prog_1_method_1_code
def yX1_isIn : MethodName := ⟨RX1, "isIn", "(JJJ)Z"⟩
def dkwX1_isIn_0 : List UInt8 := [30, 32, 148, 155, 0, 14, 30, 22, 4, 148, 157, 0, 7, 4, 167, 0, 4, 3, 172]
abbrev dktX1_isIn_0 : List UInt8 := dkwX1_isIn_0 ++ []
theorem dksX1_isIn_0 : cX1_isIn.data.toList.drop 0 = dktX1_isIn_0 := by decide +kernel
theorem dX1_isIn_0 : decode cX1_isIn 0 = .ok (.lload_n 0, 1) := dk_30 (dk_at dksX1_isIn_0 0 rfl rfl)
theorem dX1_isIn_1 : decode cX1_isIn 1 = .ok (.lload_n 2, 1) := dk_32 (dk_at dksX1_isIn_0 1 rfl rfl)
theorem dX1_isIn_2 : decode cX1_isIn 2 = .ok (.lcmp, 1) := dk_148 (dk_at dksX1_isIn_0 2 rfl rfl)
theorem dX1_isIn_3 : decode cX1_isIn 3 = .ok (.ifCond .lt 14, 3) := dk_155 0 14 (dk_at dksX1_isIn_0 3 rfl rfl)
theorem dX1_isIn_6 : decode cX1_isIn 6 = .ok (.lload_n 0, 1) := dk_30 (dk_at dksX1_isIn_0 6 rfl rfl)
theorem dX1_isIn_7 : decode cX1_isIn 7 = .ok (.lload 4, 2) := dk_22 4 (dk_at dksX1_isIn_0 7 rfl rfl)
theorem dX1_isIn_9 : decode cX1_isIn 9 = .ok (.lcmp, 1) := dk_148 (dk_at dksX1_isIn_0 9 rfl rfl)
theorem dX1_isIn_10 : decode cX1_isIn 10 = .ok (.ifCond .gt 7, 3) := dk_157 0 7 (dk_at dksX1_isIn_0 10 rfl rfl)
theorem dX1_isIn_13 : decode cX1_isIn 13 = .ok (.iconst 1, 1) := dk_4 (dk_at dksX1_isIn_0 13 rfl rfl)
theorem dX1_isIn_14 : decode cX1_isIn 14 = .ok (.goto 4, 3) := dk_167 0 4 (dk_at dksX1_isIn_0 14 rfl rfl)
theorem dX1_isIn_17 : decode cX1_isIn 17 = .ok (.iconst 0, 1) := dk_3 (dk_at dksX1_isIn_0 17 rfl rfl)
theorem dX1_isIn_18 : decode cX1_isIn 18 = .ok (.ireturn, 1) := dk_172 (dk_at dksX1_isIn_0 18 rfl rfl)
abbrev cX1_text : ByteArray := prog_1_method_10_code
def yX1_text : MethodName := ⟨RX1, "text", "(I)I"⟩
def dkwX1_text_3 : List UInt8 := [180, 0, 29, 182, 0, 99, 172]
abbrev dktX1_text_3 : List UInt8 := dkwX1_text_3 ++ []
def dkwX1_text_2 : List UInt8 := [180, 0, 90, 181, 0, 33, 45, 180, 0, 93, 16, 10, 100, 172, 42, 182, 0, 96, 42, 44, 181, 0, 29, 42]
abbrev dktX1_text_2 : List UInt8 := dkwX1_text_2 ++ dktX1_text_3
def dkwX1_text_1 : List UInt8 := [181, 0, 33, 187, 0, 80, 89, 42, 27, 183, 0, 82, 182, 0, 85, 77, 167, 0, 20, 78, 42, 45]
abbrev dktX1_text_1 : List UInt8 := dkwX1_text_1 ++ dktX1_text_2
def dkwX1_text_0 : List UInt8 := [42, 27, 133, 9, 42, 180, 0, 66, 133, 184, 0, 72, 182, 0, 76, 42, 3, 181, 0, 66, 42, 2]
abbrev dktX1_text_0 : List UInt8 := dkwX1_text_0 ++ dktX1_text_1
theorem dksX1_text_0 : cX1_text.data.toList.drop 0 = dktX1_text_0 := by decide +kernel
theorem dksX1_text_1 : cX1_text.data.toList.drop 22 = dktX1_text_1 := dk_seg dksX1_text_0 22 rfl rfl
theorem dksX1_text_2 : cX1_text.data.toList.drop 44 = dktX1_text_2 := dk_seg dksX1_text_1 22 rfl rfl
theorem dksX1_text_3 : cX1_text.data.toList.drop 68 = dktX1_text_3 := dk_seg dksX1_text_2 24 rfl rfl
theorem dX1_text_0 : decode cX1_text 0 = .ok (.aload_n 0, 1) := dk_42 (dk_at dksX1_text_0 0 rfl rfl)
theorem dX1_text_1 : decode cX1_text 1 = .ok (.iload_n 1, 1) := dk_27 (dk_at dksX1_text_0 1 rfl rfl)
theorem dX1_text_2 : decode cX1_text 2 = .ok (.i2l, 1) := dk_133 (dk_at dksX1_text_0 2 rfl rfl)
theorem dX1_text_3 : decode cX1_text 3 = .ok (.lconst 0, 1) := dk_9 (dk_at dksX1_text_0 3 rfl rfl)
theorem dX1_text_4 : decode cX1_text 4 = .ok (.aload_n 0, 1) := dk_42 (dk_at dksX1_text_0 4 rfl rfl)
theorem dX1_text_5 : decode cX1_text 5 = .ok (.getfield 66, 3) := dk_180 0 66 (dk_at dksX1_text_0 5 rfl rfl)
theorem dX1_text_8 : decode cX1_text 8 = .ok (.i2l, 1) := dk_133 (dk_at dksX1_text_0 8 rfl rfl)
theorem dX1_text_9 : decode cX1_text 9 = .ok (.invokestatic 72, 3) := dk_184 0 72 (dk_at dksX1_text_0 9 rfl rfl)
theorem dX1_text_12 : decode cX1_text 12 = .ok (.invokevirtual 76, 3) := dk_182 0 76 (dk_at dksX1_text_0 12 rfl rfl)
theorem dX1_text_15 : decode cX1_text 15 = .ok (.aload_n 0, 1) := dk_42 (dk_at dksX1_text_0 15 rfl rfl)
theorem dX1_text_16 : decode cX1_text 16 = .ok (.iconst 0, 1) := dk_3 (dk_at dksX1_text_0 16 rfl rfl)
theorem dX1_text_17 : decode cX1_text 17 = .ok (.putfield 66, 3) := dk_181 0 66 (dk_at dksX1_text_0 17 rfl rfl)
theorem dX1_text_20 : decode cX1_text 20 = .ok (.aload_n 0, 1) := dk_42 (dk_at dksX1_text_0 20 rfl rfl)
theorem dX1_text_21 : decode cX1_text 21 = .ok (.iconst (-1), 1) := dk_2 (dk_at dksX1_text_0 21 rfl rfl)
theorem dX1_text_22 : decode cX1_text 22 = .ok (.putfield 33, 3) := dk_181 0 33 (dk_at dksX1_text_1 0 rfl rfl)
theorem dX1_text_25 : decode cX1_text 25 = .ok (.new 80, 3) := dk_187 0 80 (dk_at dksX1_text_1 3 rfl rfl)
theorem dX1_text_28 : decode cX1_text 28 = .ok (.dup, 1) := dk_89 (dk_at dksX1_text_1 6 rfl rfl)
theorem dX1_text_29 : decode cX1_text 29 = .ok (.aload_n 0, 1) := dk_42 (dk_at dksX1_text_1 7 rfl rfl)
theorem dX1_text_30 : decode cX1_text 30 = .ok (.iload_n 1, 1) := dk_27 (dk_at dksX1_text_1 8 rfl rfl)
theorem dX1_text_31 : decode cX1_text 31 = .ok (.invokespecial 82, 3) := dk_183 0 82 (dk_at dksX1_text_1 9 rfl rfl)
theorem dX1_text_34 : decode cX1_text 34 = .ok (.invokevirtual 85, 3) := dk_182 0 85 (dk_at dksX1_text_1 12 rfl rfl)
theorem dX1_text_37 : decode cX1_text 37 = .ok (.astore_n 2, 1) := dk_77 (dk_at dksX1_text_1 15 rfl rfl)
theorem dX1_text_38 : decode cX1_text 38 = .ok (.goto 20, 3) := dk_167 0 20 (dk_at dksX1_text_1 16 rfl rfl)
theorem dX1_text_41 : decode cX1_text 41 = .ok (.astore_n 3, 1) := dk_78 (dk_at dksX1_text_1 19 rfl rfl)
theorem dX1_text_42 : decode cX1_text 42 = .ok (.aload_n 0, 1) := dk_42 (dk_at dksX1_text_1 20 rfl rfl)
theorem dX1_text_43 : decode cX1_text 43 = .ok (.aload_n 3, 1) := dk_45 (dk_at dksX1_text_1 21 rfl rfl)
theorem dX1_text_44 : decode cX1_text 44 = .ok (.getfield 90, 3) := dk_180 0 90 (dk_at dksX1_text_2 0 rfl rfl)
theorem dX1_text_47 : decode cX1_text 47 = .ok (.putfield 33, 3) := dk_181 0 33 (dk_at dksX1_text_2 3 rfl rfl)
theorem dX1_text_50 : decode cX1_text 50 = .ok (.aload_n 3, 1) := dk_45 (dk_at dksX1_text_2 6 rfl rfl)
theorem dX1_text_51 : decode cX1_text 51 = .ok (.getfield 93, 3) := dk_180 0 93 (dk_at dksX1_text_2 7 rfl rfl)
theorem dX1_text_54 : decode cX1_text 54 = .ok (.bipush 10, 2) := dk_16 10 (dk_at dksX1_text_2 10 rfl rfl)
theorem dX1_text_56 : decode cX1_text 56 = .ok (.isub, 1) := dk_100 (dk_at dksX1_text_2 12 rfl rfl)
theorem dX1_text_57 : decode cX1_text 57 = .ok (.ireturn, 1) := dk_172 (dk_at dksX1_text_2 13 rfl rfl)
theorem dX1_text_58 : decode cX1_text 58 = .ok (.aload_n 0, 1) := dk_42 (dk_at dksX1_text_2 14 rfl rfl)
theorem dX1_text_59 : decode cX1_text 59 = .ok (.invokevirtual 96, 3) := dk_182 0 96 (dk_at dksX1_text_2 15 rfl rfl)
theorem dX1_text_62 : decode cX1_text 62 = .ok (.aload_n 0, 1) := dk_42 (dk_at dksX1_text_2 18 rfl rfl)
theorem dX1_text_63 : decode cX1_text 63 = .ok (.aload_n 2, 1) := dk_44 (dk_at dksX1_text_2 19 rfl rfl)
theorem dX1_text_64 : decode cX1_text 64 = .ok (.putfield 29, 3) := dk_181 0 29 (dk_at dksX1_text_2 20 rfl rfl)
theorem dX1_text_67 : decode cX1_text 67 = .ok (.aload_n 0, 1) := dk_42 (dk_at dksX1_text_2 23 rfl rfl)
theorem dX1_text_68 : decode cX1_text 68 = .ok (.getfield 29, 3) := dk_180 0 29 (dk_at dksX1_text_3 0 rfl rfl)
theorem dX1_text_71 : decode cX1_text 71 = .ok (.invokevirtual 99, 3) := dk_182 0 99 (dk_at dksX1_text_3 3 rfl rfl)
theorem dX1_text_74 : decode cX1_text 74 = .ok (.ireturn, 1) := dk_172 (dk_at dksX1_text_3 6 rfl rfl)
abbrev cX1_need : ByteArray := prog_1_method_4_code
def yX1_need : MethodName := ⟨RX1, "need", "(Z)V"⟩
def dkwX1_need_0 : List UInt8 := [27, 153, 0, 4, 177, 42, 180, 0, 13, 4, 92, 46, 4, 96, 79, 187, 0, 41, 89, 183, 0, 43, 191]
abbrev dktX1_need_0 : List UInt8 := dkwX1_need_0 ++ []
theorem dksX1_need_0 : cX1_need.data.toList.drop 0 = dktX1_need_0 := by decide +kernel
theorem dX1_need_0 : decode cX1_need 0 = .ok (.iload_n 1, 1) := dk_27 (dk_at dksX1_need_0 0 rfl rfl)
theorem dX1_need_1 : decode cX1_need 1 = .ok (.ifCond .eq 4, 3) := dk_153 0 4 (dk_at dksX1_need_0 1 rfl rfl)
theorem dX1_need_4 : decode cX1_need 4 = .ok (.return_, 1) := dk_177 (dk_at dksX1_need_0 4 rfl rfl)
theorem dX1_need_5 : decode cX1_need 5 = .ok (.aload_n 0, 1) := dk_42 (dk_at dksX1_need_0 5 rfl rfl)
theorem dX1_need_6 : decode cX1_need 6 = .ok (.getfield 13, 3) := dk_180 0 13 (dk_at dksX1_need_0 6 rfl rfl)
theorem dX1_need_9 : decode cX1_need 9 = .ok (.iconst 1, 1) := dk_4 (dk_at dksX1_need_0 9 rfl rfl)
theorem dX1_need_10 : decode cX1_need 10 = .ok (.dup2, 1) := dk_92 (dk_at dksX1_need_0 10 rfl rfl)
theorem dX1_need_11 : decode cX1_need 11 = .ok (.iaload, 1) := dk_46 (dk_at dksX1_need_0 11 rfl rfl)
theorem dX1_need_12 : decode cX1_need 12 = .ok (.iconst 1, 1) := dk_4 (dk_at dksX1_need_0 12 rfl rfl)
theorem dX1_need_13 : decode cX1_need 13 = .ok (.iadd, 1) := dk_96 (dk_at dksX1_need_0 13 rfl rfl)
theorem dX1_need_14 : decode cX1_need 14 = .ok (.iastore, 1) := dk_79 (dk_at dksX1_need_0 14 rfl rfl)
theorem dX1_need_15 : decode cX1_need 15 = .ok (.new 41, 3) := dk_187 0 41 (dk_at dksX1_need_0 15 rfl rfl)
theorem dX1_need_18 : decode cX1_need 18 = .ok (.dup, 1) := dk_89 (dk_at dksX1_need_0 18 rfl rfl)
theorem dX1_need_19 : decode cX1_need 19 = .ok (.invokespecial 43, 3) := dk_183 0 43 (dk_at dksX1_need_0 19 rfl rfl)
theorem dX1_need_22 : decode cX1_need 22 = .ok (.athrow, 1) := dk_191 (dk_at dksX1_need_0 22 rfl rfl)
abbrev cX1_join : ByteArray := prog_1_method_14_code
def yX1_join : MethodName := ⟨RX1, "join", "(III)I"⟩
def dkwX1_join_2 : List UInt8 := [180, 0, 29, 182, 0, 99, 172]
abbrev dktX1_join_2 : List UInt8 := dkwX1_join_2 ++ []
def dkwX1_join_1 : List UInt8 := [4, 167, 0, 4, 3, 182, 0, 76, 42, 182, 0, 96, 42, 180, 0, 29, 27, 28, 29, 182, 0, 37, 42]
abbrev dktX1_join_1 : List UInt8 := dkwX1_join_1 ++ dktX1_join_2
def dkwX1_join_0 : List UInt8 := [42, 27, 28, 182, 0, 111, 42, 27, 28, 159, 0, 19, 29, 133, 9, 20, 0, 115, 184, 0, 72, 153, 0, 7]
abbrev dktX1_join_0 : List UInt8 := dkwX1_join_0 ++ dktX1_join_1
theorem dksX1_join_0 : cX1_join.data.toList.drop 0 = dktX1_join_0 := by decide +kernel
theorem dksX1_join_1 : cX1_join.data.toList.drop 24 = dktX1_join_1 := dk_seg dksX1_join_0 24 rfl rfl
theorem dksX1_join_2 : cX1_join.data.toList.drop 47 = dktX1_join_2 := dk_seg dksX1_join_1 23 rfl rfl
theorem dX1_join_0 : decode cX1_join 0 = .ok (.aload_n 0, 1) := dk_42 (dk_at dksX1_join_0 0 rfl rfl)
theorem dX1_join_1 : decode cX1_join 1 = .ok (.iload_n 1, 1) := dk_27 (dk_at dksX1_join_0 1 rfl rfl)
theorem dX1_join_2 : decode cX1_join 2 = .ok (.iload_n 2, 1) := dk_28 (dk_at dksX1_join_0 2 rfl rfl)
theorem dX1_join_3 : decode cX1_join 3 = .ok (.invokevirtual 111, 3) := dk_182 0 111 (dk_at dksX1_join_0 3 rfl rfl)
theorem dX1_join_6 : decode cX1_join 6 = .ok (.aload_n 0, 1) := dk_42 (dk_at dksX1_join_0 6 rfl rfl)
theorem dX1_join_7 : decode cX1_join 7 = .ok (.iload_n 1, 1) := dk_27 (dk_at dksX1_join_0 7 rfl rfl)
theorem dX1_join_8 : decode cX1_join 8 = .ok (.iload_n 2, 1) := dk_28 (dk_at dksX1_join_0 8 rfl rfl)
theorem dX1_join_9 : decode cX1_join 9 = .ok (.if_icmp .eq 19, 3) := dk_159 0 19 (dk_at dksX1_join_0 9 rfl rfl)
theorem dX1_join_12 : decode cX1_join 12 = .ok (.iload_n 3, 1) := dk_29 (dk_at dksX1_join_0 12 rfl rfl)
theorem dX1_join_13 : decode cX1_join 13 = .ok (.i2l, 1) := dk_133 (dk_at dksX1_join_0 13 rfl rfl)
theorem dX1_join_14 : decode cX1_join 14 = .ok (.lconst 0, 1) := dk_9 (dk_at dksX1_join_0 14 rfl rfl)
theorem dX1_join_15 : decode cX1_join 15 = .ok (.ldc2_w 115, 3) := dk_20 0 115 (dk_at dksX1_join_0 15 rfl rfl)
theorem dX1_join_18 : decode cX1_join 18 = .ok (.invokestatic 72, 3) := dk_184 0 72 (dk_at dksX1_join_0 18 rfl rfl)
theorem dX1_join_21 : decode cX1_join 21 = .ok (.ifCond .eq 7, 3) := dk_153 0 7 (dk_at dksX1_join_0 21 rfl rfl)
theorem dX1_join_24 : decode cX1_join 24 = .ok (.iconst 1, 1) := dk_4 (dk_at dksX1_join_1 0 rfl rfl)
theorem dX1_join_25 : decode cX1_join 25 = .ok (.goto 4, 3) := dk_167 0 4 (dk_at dksX1_join_1 1 rfl rfl)
theorem dX1_join_28 : decode cX1_join 28 = .ok (.iconst 0, 1) := dk_3 (dk_at dksX1_join_1 4 rfl rfl)
theorem dX1_join_29 : decode cX1_join 29 = .ok (.invokevirtual 76, 3) := dk_182 0 76 (dk_at dksX1_join_1 5 rfl rfl)
theorem dX1_join_32 : decode cX1_join 32 = .ok (.aload_n 0, 1) := dk_42 (dk_at dksX1_join_1 8 rfl rfl)
theorem dX1_join_33 : decode cX1_join 33 = .ok (.invokevirtual 96, 3) := dk_182 0 96 (dk_at dksX1_join_1 9 rfl rfl)
theorem dX1_join_36 : decode cX1_join 36 = .ok (.aload_n 0, 1) := dk_42 (dk_at dksX1_join_1 12 rfl rfl)
theorem dX1_join_37 : decode cX1_join 37 = .ok (.getfield 29, 3) := dk_180 0 29 (dk_at dksX1_join_1 13 rfl rfl)
theorem dX1_join_40 : decode cX1_join 40 = .ok (.iload_n 1, 1) := dk_27 (dk_at dksX1_join_1 16 rfl rfl)
theorem dX1_join_41 : decode cX1_join 41 = .ok (.iload_n 2, 1) := dk_28 (dk_at dksX1_join_1 17 rfl rfl)
theorem dX1_join_42 : decode cX1_join 42 = .ok (.iload_n 3, 1) := dk_29 (dk_at dksX1_join_1 18 rfl rfl)
theorem dX1_join_43 : decode cX1_join 43 = .ok (.invokevirtual 37, 3) := dk_182 0 37 (dk_at dksX1_join_1 19 rfl rfl)
theorem dX1_join_46 : decode cX1_join 46 = .ok (.aload_n 0, 1) := dk_42 (dk_at dksX1_join_1 22 rfl rfl)
theorem dX1_join_47 : decode cX1_join 47 = .ok (.getfield 29, 3) := dk_180 0 29 (dk_at dksX1_join_2 0 rfl rfl)
theorem dX1_join_50 : decode cX1_join 50 = .ok (.invokevirtual 99, 3) := dk_182 0 99 (dk_at dksX1_join_2 3 rfl rfl)
theorem dX1_join_53 : decode cX1_join 53 = .ok (.ireturn, 1) := dk_172 (dk_at dksX1_join_2 6 rfl rfl)
abbrev cX1_needTwo : ByteArray := prog_1_method_13_code
def yX1_needTwo : MethodName := ⟨RX1, "needTwo", "(II)V"⟩
def dkwX1_needTwo_0 : List UInt8 := [42, 27, 182, 0, 108, 42, 28, 182, 0, 108, 177]
abbrev dktX1_needTwo_0 : List UInt8 := dkwX1_needTwo_0 ++ []
theorem dksX1_needTwo_0 : cX1_needTwo.data.toList.drop 0 = dktX1_needTwo_0 := by decide +kernel
theorem dX1_needTwo_0 : decode cX1_needTwo 0 = .ok (.aload_n 0, 1) := dk_42 (dk_at dksX1_needTwo_0 0 rfl rfl)
theorem dX1_needTwo_1 : decode cX1_needTwo 1 = .ok (.iload_n 1, 1) := dk_27 (dk_at dksX1_needTwo_0 1 rfl rfl)
theorem dX1_needTwo_2 : decode cX1_needTwo 2 = .ok (.invokevirtual 108, 3) := dk_182 0 108 (dk_at dksX1_needTwo_0 2 rfl rfl)
theorem dX1_needTwo_5 : decode cX1_needTwo 5 = .ok (.aload_n 0, 1) := dk_42 (dk_at dksX1_needTwo_0 5 rfl rfl)
theorem dX1_needTwo_6 : decode cX1_needTwo 6 = .ok (.iload_n 2, 1) := dk_28 (dk_at dksX1_needTwo_0 6 rfl rfl)
theorem dX1_needTwo_7 : decode cX1_needTwo 7 = .ok (.invokevirtual 108, 3) := dk_182 0 108 (dk_at dksX1_needTwo_0 7 rfl rfl)
theorem dX1_needTwo_10 : decode cX1_needTwo 10 = .ok (.return_, 1) := dk_177 (dk_at dksX1_needTwo_0 10 rfl rfl)
abbrev cX1_needNode : ByteArray := prog_1_method_12_code
def yX1_needNode : MethodName := ⟨RX1, "needNode", "(I)V"⟩
def dkwX1_needNode_0 : List UInt8 := [42, 27, 133, 9, 42, 180, 0, 29, 180, 0, 102, 4, 100, 133, 184, 0, 72, 182, 0, 105, 177]
abbrev dktX1_needNode_0 : List UInt8 := dkwX1_needNode_0 ++ []
theorem dksX1_needNode_0 : cX1_needNode.data.toList.drop 0 = dktX1_needNode_0 := by decide +kernel
theorem dX1_needNode_0 : decode cX1_needNode 0 = .ok (.aload_n 0, 1) := dk_42 (dk_at dksX1_needNode_0 0 rfl rfl)
theorem dX1_needNode_1 : decode cX1_needNode 1 = .ok (.iload_n 1, 1) := dk_27 (dk_at dksX1_needNode_0 1 rfl rfl)
theorem dX1_needNode_2 : decode cX1_needNode 2 = .ok (.i2l, 1) := dk_133 (dk_at dksX1_needNode_0 2 rfl rfl)
theorem dX1_needNode_3 : decode cX1_needNode 3 = .ok (.lconst 0, 1) := dk_9 (dk_at dksX1_needNode_0 3 rfl rfl)
theorem dX1_needNode_4 : decode cX1_needNode 4 = .ok (.aload_n 0, 1) := dk_42 (dk_at dksX1_needNode_0 4 rfl rfl)
theorem dX1_needNode_5 : decode cX1_needNode 5 = .ok (.getfield 29, 3) := dk_180 0 29 (dk_at dksX1_needNode_0 5 rfl rfl)
theorem dX1_needNode_8 : decode cX1_needNode 8 = .ok (.getfield 102, 3) := dk_180 0 102 (dk_at dksX1_needNode_0 8 rfl rfl)
theorem dX1_needNode_11 : decode cX1_needNode 11 = .ok (.iconst 1, 1) := dk_4 (dk_at dksX1_needNode_0 11 rfl rfl)
theorem dX1_needNode_12 : decode cX1_needNode 12 = .ok (.isub, 1) := dk_100 (dk_at dksX1_needNode_0 12 rfl rfl)
theorem dX1_needNode_13 : decode cX1_needNode 13 = .ok (.i2l, 1) := dk_133 (dk_at dksX1_needNode_0 13 rfl rfl)
theorem dX1_needNode_14 : decode cX1_needNode 14 = .ok (.invokestatic 72, 3) := dk_184 0 72 (dk_at dksX1_needNode_0 14 rfl rfl)
theorem dX1_needNode_17 : decode cX1_needNode 17 = .ok (.invokevirtual 105, 3) := dk_182 0 105 (dk_at dksX1_needNode_0 17 rfl rfl)
theorem dX1_needNode_20 : decode cX1_needNode 20 = .ok (.return_, 1) := dk_177 (dk_at dksX1_needNode_0 20 rfl rfl)
abbrev cX1_needThere : ByteArray := prog_1_method_5_code
def yX1_needThere : MethodName := ⟨RX1, "needThere", "(Z)V"⟩
def dkwX1_needThere_0 : List UInt8 := [27, 153, 0, 4, 177, 42, 180, 0, 13, 3, 92, 46, 4, 96, 79, 187, 0, 44, 89, 183, 0, 46, 191]
abbrev dktX1_needThere_0 : List UInt8 := dkwX1_needThere_0 ++ []
theorem dksX1_needThere_0 : cX1_needThere.data.toList.drop 0 = dktX1_needThere_0 := by decide +kernel
theorem dX1_needThere_0 : decode cX1_needThere 0 = .ok (.iload_n 1, 1) := dk_27 (dk_at dksX1_needThere_0 0 rfl rfl)
theorem dX1_needThere_1 : decode cX1_needThere 1 = .ok (.ifCond .eq 4, 3) := dk_153 0 4 (dk_at dksX1_needThere_0 1 rfl rfl)
theorem dX1_needThere_4 : decode cX1_needThere 4 = .ok (.return_, 1) := dk_177 (dk_at dksX1_needThere_0 4 rfl rfl)
theorem dX1_needThere_5 : decode cX1_needThere 5 = .ok (.aload_n 0, 1) := dk_42 (dk_at dksX1_needThere_0 5 rfl rfl)
theorem dX1_needThere_6 : decode cX1_needThere 6 = .ok (.getfield 13, 3) := dk_180 0 13 (dk_at dksX1_needThere_0 6 rfl rfl)
theorem dX1_needThere_9 : decode cX1_needThere 9 = .ok (.iconst 0, 1) := dk_3 (dk_at dksX1_needThere_0 9 rfl rfl)
theorem dX1_needThere_10 : decode cX1_needThere 10 = .ok (.dup2, 1) := dk_92 (dk_at dksX1_needThere_0 10 rfl rfl)
theorem dX1_needThere_11 : decode cX1_needThere 11 = .ok (.iaload, 1) := dk_46 (dk_at dksX1_needThere_0 11 rfl rfl)
theorem dX1_needThere_12 : decode cX1_needThere 12 = .ok (.iconst 1, 1) := dk_4 (dk_at dksX1_needThere_0 12 rfl rfl)
theorem dX1_needThere_13 : decode cX1_needThere 13 = .ok (.iadd, 1) := dk_96 (dk_at dksX1_needThere_0 13 rfl rfl)
theorem dX1_needThere_14 : decode cX1_needThere 14 = .ok (.iastore, 1) := dk_79 (dk_at dksX1_needThere_0 14 rfl rfl)
theorem dX1_needThere_15 : decode cX1_needThere 15 = .ok (.new 44, 3) := dk_187 0 44 (dk_at dksX1_needThere_0 15 rfl rfl)
theorem dX1_needThere_18 : decode cX1_needThere 18 = .ok (.dup, 1) := dk_89 (dk_at dksX1_needThere_0 18 rfl rfl)
theorem dX1_needThere_19 : decode cX1_needThere 19 = .ok (.invokespecial 46, 3) := dk_183 0 46 (dk_at dksX1_needThere_0 19 rfl rfl)
theorem dX1_needThere_22 : decode cX1_needThere 22 = .ok (.athrow, 1) := dk_191 (dk_at dksX1_needThere_0 22 rfl rfl)
abbrev cX1_cut : ByteArray := prog_1_method_15_code
def yX1_cut : MethodName := ⟨RX1, "cut", "(II)I"⟩
def dkwX1_cut_3 : List UInt8 := [180, 0, 29, 182, 0, 99, 172]
abbrev dktX1_cut_3 : List UInt8 := dkwX1_cut_3 ++ []
def dkwX1_cut_2 : List UInt8 := [28, 160, 0, 12, 42, 180, 0, 29, 27, 182, 0, 127, 87, 42, 180, 0, 29, 27, 28, 2, 182, 0, 37, 42]
abbrev dktX1_cut_2 : List UInt8 := dkwX1_cut_2 ++ dktX1_cut_3
def dkwX1_cut_1 : List UInt8 := [180, 0, 29, 27, 28, 182, 0, 117, 182, 0, 121, 42, 182, 0, 96, 42, 180, 0, 29, 180, 0, 124, 27, 46]
abbrev dktX1_cut_1 : List UInt8 := dkwX1_cut_1 ++ dktX1_cut_2
def dkwX1_cut_0 : List UInt8 := [42, 27, 28, 182, 0, 111, 42, 27, 28, 159, 0, 7, 4, 167, 0, 4, 3, 182, 0, 76, 42, 42]
abbrev dktX1_cut_0 : List UInt8 := dkwX1_cut_0 ++ dktX1_cut_1
theorem dksX1_cut_0 : cX1_cut.data.toList.drop 0 = dktX1_cut_0 := by decide +kernel
theorem dksX1_cut_1 : cX1_cut.data.toList.drop 22 = dktX1_cut_1 := dk_seg dksX1_cut_0 22 rfl rfl
theorem dksX1_cut_2 : cX1_cut.data.toList.drop 46 = dktX1_cut_2 := dk_seg dksX1_cut_1 24 rfl rfl
theorem dksX1_cut_3 : cX1_cut.data.toList.drop 70 = dktX1_cut_3 := dk_seg dksX1_cut_2 24 rfl rfl
theorem dX1_cut_0 : decode cX1_cut 0 = .ok (.aload_n 0, 1) := dk_42 (dk_at dksX1_cut_0 0 rfl rfl)
theorem dX1_cut_1 : decode cX1_cut 1 = .ok (.iload_n 1, 1) := dk_27 (dk_at dksX1_cut_0 1 rfl rfl)
theorem dX1_cut_2 : decode cX1_cut 2 = .ok (.iload_n 2, 1) := dk_28 (dk_at dksX1_cut_0 2 rfl rfl)
theorem dX1_cut_3 : decode cX1_cut 3 = .ok (.invokevirtual 111, 3) := dk_182 0 111 (dk_at dksX1_cut_0 3 rfl rfl)
theorem dX1_cut_6 : decode cX1_cut 6 = .ok (.aload_n 0, 1) := dk_42 (dk_at dksX1_cut_0 6 rfl rfl)
theorem dX1_cut_7 : decode cX1_cut 7 = .ok (.iload_n 1, 1) := dk_27 (dk_at dksX1_cut_0 7 rfl rfl)
theorem dX1_cut_8 : decode cX1_cut 8 = .ok (.iload_n 2, 1) := dk_28 (dk_at dksX1_cut_0 8 rfl rfl)
theorem dX1_cut_9 : decode cX1_cut 9 = .ok (.if_icmp .eq 7, 3) := dk_159 0 7 (dk_at dksX1_cut_0 9 rfl rfl)
theorem dX1_cut_12 : decode cX1_cut 12 = .ok (.iconst 1, 1) := dk_4 (dk_at dksX1_cut_0 12 rfl rfl)
theorem dX1_cut_13 : decode cX1_cut 13 = .ok (.goto 4, 3) := dk_167 0 4 (dk_at dksX1_cut_0 13 rfl rfl)
theorem dX1_cut_16 : decode cX1_cut 16 = .ok (.iconst 0, 1) := dk_3 (dk_at dksX1_cut_0 16 rfl rfl)
theorem dX1_cut_17 : decode cX1_cut 17 = .ok (.invokevirtual 76, 3) := dk_182 0 76 (dk_at dksX1_cut_0 17 rfl rfl)
theorem dX1_cut_20 : decode cX1_cut 20 = .ok (.aload_n 0, 1) := dk_42 (dk_at dksX1_cut_0 20 rfl rfl)
theorem dX1_cut_21 : decode cX1_cut 21 = .ok (.aload_n 0, 1) := dk_42 (dk_at dksX1_cut_0 21 rfl rfl)
theorem dX1_cut_22 : decode cX1_cut 22 = .ok (.getfield 29, 3) := dk_180 0 29 (dk_at dksX1_cut_1 0 rfl rfl)
theorem dX1_cut_25 : decode cX1_cut 25 = .ok (.iload_n 1, 1) := dk_27 (dk_at dksX1_cut_1 3 rfl rfl)
theorem dX1_cut_26 : decode cX1_cut 26 = .ok (.iload_n 2, 1) := dk_28 (dk_at dksX1_cut_1 4 rfl rfl)
theorem dX1_cut_27 : decode cX1_cut 27 = .ok (.invokevirtual 117, 3) := dk_182 0 117 (dk_at dksX1_cut_1 5 rfl rfl)
theorem dX1_cut_30 : decode cX1_cut 30 = .ok (.invokevirtual 121, 3) := dk_182 0 121 (dk_at dksX1_cut_1 8 rfl rfl)
theorem dX1_cut_33 : decode cX1_cut 33 = .ok (.aload_n 0, 1) := dk_42 (dk_at dksX1_cut_1 11 rfl rfl)
theorem dX1_cut_34 : decode cX1_cut 34 = .ok (.invokevirtual 96, 3) := dk_182 0 96 (dk_at dksX1_cut_1 12 rfl rfl)
theorem dX1_cut_37 : decode cX1_cut 37 = .ok (.aload_n 0, 1) := dk_42 (dk_at dksX1_cut_1 15 rfl rfl)
theorem dX1_cut_38 : decode cX1_cut 38 = .ok (.getfield 29, 3) := dk_180 0 29 (dk_at dksX1_cut_1 16 rfl rfl)
theorem dX1_cut_41 : decode cX1_cut 41 = .ok (.getfield 124, 3) := dk_180 0 124 (dk_at dksX1_cut_1 19 rfl rfl)
theorem dX1_cut_44 : decode cX1_cut 44 = .ok (.iload_n 1, 1) := dk_27 (dk_at dksX1_cut_1 22 rfl rfl)
theorem dX1_cut_45 : decode cX1_cut 45 = .ok (.iaload, 1) := dk_46 (dk_at dksX1_cut_1 23 rfl rfl)
theorem dX1_cut_46 : decode cX1_cut 46 = .ok (.iload_n 2, 1) := dk_28 (dk_at dksX1_cut_2 0 rfl rfl)
theorem dX1_cut_47 : decode cX1_cut 47 = .ok (.if_icmp .ne 12, 3) := dk_160 0 12 (dk_at dksX1_cut_2 1 rfl rfl)
theorem dX1_cut_50 : decode cX1_cut 50 = .ok (.aload_n 0, 1) := dk_42 (dk_at dksX1_cut_2 4 rfl rfl)
theorem dX1_cut_51 : decode cX1_cut 51 = .ok (.getfield 29, 3) := dk_180 0 29 (dk_at dksX1_cut_2 5 rfl rfl)
theorem dX1_cut_54 : decode cX1_cut 54 = .ok (.iload_n 1, 1) := dk_27 (dk_at dksX1_cut_2 8 rfl rfl)
theorem dX1_cut_55 : decode cX1_cut 55 = .ok (.invokevirtual 127, 3) := dk_182 0 127 (dk_at dksX1_cut_2 9 rfl rfl)
theorem dX1_cut_58 : decode cX1_cut 58 = .ok (.pop, 1) := dk_87 (dk_at dksX1_cut_2 12 rfl rfl)
theorem dX1_cut_59 : decode cX1_cut 59 = .ok (.aload_n 0, 1) := dk_42 (dk_at dksX1_cut_2 13 rfl rfl)
theorem dX1_cut_60 : decode cX1_cut 60 = .ok (.getfield 29, 3) := dk_180 0 29 (dk_at dksX1_cut_2 14 rfl rfl)
theorem dX1_cut_63 : decode cX1_cut 63 = .ok (.iload_n 1, 1) := dk_27 (dk_at dksX1_cut_2 17 rfl rfl)
theorem dX1_cut_64 : decode cX1_cut 64 = .ok (.iload_n 2, 1) := dk_28 (dk_at dksX1_cut_2 18 rfl rfl)
theorem dX1_cut_65 : decode cX1_cut 65 = .ok (.iconst (-1), 1) := dk_2 (dk_at dksX1_cut_2 19 rfl rfl)
theorem dX1_cut_66 : decode cX1_cut 66 = .ok (.invokevirtual 37, 3) := dk_182 0 37 (dk_at dksX1_cut_2 20 rfl rfl)
theorem dX1_cut_69 : decode cX1_cut 69 = .ok (.aload_n 0, 1) := dk_42 (dk_at dksX1_cut_2 23 rfl rfl)
theorem dX1_cut_70 : decode cX1_cut 70 = .ok (.getfield 29, 3) := dk_180 0 29 (dk_at dksX1_cut_3 0 rfl rfl)
theorem dX1_cut_73 : decode cX1_cut 73 = .ok (.invokevirtual 99, 3) := dk_182 0 99 (dk_at dksX1_cut_3 3 rfl rfl)
theorem dX1_cut_76 : decode cX1_cut 76 = .ok (.ireturn, 1) := dk_172 (dk_at dksX1_cut_3 6 rfl rfl)
abbrev cX1_needNow : ByteArray := prog_1_method_6_code
def yX1_needNow : MethodName := ⟨RX1, "needNow", "(Z)V"⟩
def dkwX1_needNow_0 : List UInt8 := [27, 153, 0, 4, 177, 42, 180, 0, 13, 5, 92, 46, 4, 96, 79, 187, 0, 47, 89, 183, 0, 49, 191]
abbrev dktX1_needNow_0 : List UInt8 := dkwX1_needNow_0 ++ []
theorem dksX1_needNow_0 : cX1_needNow.data.toList.drop 0 = dktX1_needNow_0 := by decide +kernel
theorem dX1_needNow_0 : decode cX1_needNow 0 = .ok (.iload_n 1, 1) := dk_27 (dk_at dksX1_needNow_0 0 rfl rfl)
theorem dX1_needNow_1 : decode cX1_needNow 1 = .ok (.ifCond .eq 4, 3) := dk_153 0 4 (dk_at dksX1_needNow_0 1 rfl rfl)
theorem dX1_needNow_4 : decode cX1_needNow 4 = .ok (.return_, 1) := dk_177 (dk_at dksX1_needNow_0 4 rfl rfl)
theorem dX1_needNow_5 : decode cX1_needNow 5 = .ok (.aload_n 0, 1) := dk_42 (dk_at dksX1_needNow_0 5 rfl rfl)
theorem dX1_needNow_6 : decode cX1_needNow 6 = .ok (.getfield 13, 3) := dk_180 0 13 (dk_at dksX1_needNow_0 6 rfl rfl)
theorem dX1_needNow_9 : decode cX1_needNow 9 = .ok (.iconst 2, 1) := dk_5 (dk_at dksX1_needNow_0 9 rfl rfl)
theorem dX1_needNow_10 : decode cX1_needNow 10 = .ok (.dup2, 1) := dk_92 (dk_at dksX1_needNow_0 10 rfl rfl)
theorem dX1_needNow_11 : decode cX1_needNow 11 = .ok (.iaload, 1) := dk_46 (dk_at dksX1_needNow_0 11 rfl rfl)
theorem dX1_needNow_12 : decode cX1_needNow 12 = .ok (.iconst 1, 1) := dk_4 (dk_at dksX1_needNow_0 12 rfl rfl)
theorem dX1_needNow_13 : decode cX1_needNow 13 = .ok (.iadd, 1) := dk_96 (dk_at dksX1_needNow_0 13 rfl rfl)
theorem dX1_needNow_14 : decode cX1_needNow 14 = .ok (.iastore, 1) := dk_79 (dk_at dksX1_needNow_0 14 rfl rfl)
theorem dX1_needNow_15 : decode cX1_needNow 15 = .ok (.new 47, 3) := dk_187 0 47 (dk_at dksX1_needNow_0 15 rfl rfl)
theorem dX1_needNow_18 : decode cX1_needNow 18 = .ok (.dup, 1) := dk_89 (dk_at dksX1_needNow_0 18 rfl rfl)
theorem dX1_needNow_19 : decode cX1_needNow 19 = .ok (.invokespecial 49, 3) := dk_183 0 49 (dk_at dksX1_needNow_0 19 rfl rfl)
theorem dX1_needNow_22 : decode cX1_needNow 22 = .ok (.athrow, 1) := dk_191 (dk_at dksX1_needNow_0 22 rfl rfl)
abbrev cX1_pair : ByteArray := prog_1_method_16_code
def yX1_pair : MethodName := ⟨RX1, "pair", "(II)I"⟩
def dkwX1_pair_3 : List UInt8 := [182, 0, 96, 42, 180, 0, 29, 27, 28, 182, 0, 131, 42, 180, 0, 29, 182, 0, 134, 172]
abbrev dktX1_pair_3 : List UInt8 := dkwX1_pair_3 ++ []
def dkwX1_pair_2 : List UInt8 := [42, 180, 0, 29, 180, 0, 124, 28, 46, 2, 160, 0, 7, 4, 167, 0, 4, 3, 182, 0, 121, 42]
abbrev dktX1_pair_2 : List UInt8 := dkwX1_pair_2 ++ dktX1_pair_3
def dkwX1_pair_1 : List UInt8 := [180, 0, 29, 27, 28, 182, 0, 117, 153, 0, 33, 42, 180, 0, 29, 180, 0, 124, 27, 46, 2, 160, 0, 20]
abbrev dktX1_pair_1 : List UInt8 := dkwX1_pair_1 ++ dktX1_pair_2
def dkwX1_pair_0 : List UInt8 := [42, 27, 28, 182, 0, 111, 42, 27, 28, 159, 0, 7, 4, 167, 0, 4, 3, 182, 0, 76, 42, 42]
abbrev dktX1_pair_0 : List UInt8 := dkwX1_pair_0 ++ dktX1_pair_1
theorem dksX1_pair_0 : cX1_pair.data.toList.drop 0 = dktX1_pair_0 := by decide +kernel
theorem dksX1_pair_1 : cX1_pair.data.toList.drop 22 = dktX1_pair_1 := dk_seg dksX1_pair_0 22 rfl rfl
theorem dksX1_pair_2 : cX1_pair.data.toList.drop 46 = dktX1_pair_2 := dk_seg dksX1_pair_1 24 rfl rfl
theorem dksX1_pair_3 : cX1_pair.data.toList.drop 68 = dktX1_pair_3 := dk_seg dksX1_pair_2 22 rfl rfl
theorem dX1_pair_0 : decode cX1_pair 0 = .ok (.aload_n 0, 1) := dk_42 (dk_at dksX1_pair_0 0 rfl rfl)
theorem dX1_pair_1 : decode cX1_pair 1 = .ok (.iload_n 1, 1) := dk_27 (dk_at dksX1_pair_0 1 rfl rfl)
theorem dX1_pair_2 : decode cX1_pair 2 = .ok (.iload_n 2, 1) := dk_28 (dk_at dksX1_pair_0 2 rfl rfl)
theorem dX1_pair_3 : decode cX1_pair 3 = .ok (.invokevirtual 111, 3) := dk_182 0 111 (dk_at dksX1_pair_0 3 rfl rfl)
theorem dX1_pair_6 : decode cX1_pair 6 = .ok (.aload_n 0, 1) := dk_42 (dk_at dksX1_pair_0 6 rfl rfl)
theorem dX1_pair_7 : decode cX1_pair 7 = .ok (.iload_n 1, 1) := dk_27 (dk_at dksX1_pair_0 7 rfl rfl)
theorem dX1_pair_8 : decode cX1_pair 8 = .ok (.iload_n 2, 1) := dk_28 (dk_at dksX1_pair_0 8 rfl rfl)
theorem dX1_pair_9 : decode cX1_pair 9 = .ok (.if_icmp .eq 7, 3) := dk_159 0 7 (dk_at dksX1_pair_0 9 rfl rfl)
theorem dX1_pair_12 : decode cX1_pair 12 = .ok (.iconst 1, 1) := dk_4 (dk_at dksX1_pair_0 12 rfl rfl)
theorem dX1_pair_13 : decode cX1_pair 13 = .ok (.goto 4, 3) := dk_167 0 4 (dk_at dksX1_pair_0 13 rfl rfl)
theorem dX1_pair_16 : decode cX1_pair 16 = .ok (.iconst 0, 1) := dk_3 (dk_at dksX1_pair_0 16 rfl rfl)
theorem dX1_pair_17 : decode cX1_pair 17 = .ok (.invokevirtual 76, 3) := dk_182 0 76 (dk_at dksX1_pair_0 17 rfl rfl)
theorem dX1_pair_20 : decode cX1_pair 20 = .ok (.aload_n 0, 1) := dk_42 (dk_at dksX1_pair_0 20 rfl rfl)
theorem dX1_pair_21 : decode cX1_pair 21 = .ok (.aload_n 0, 1) := dk_42 (dk_at dksX1_pair_0 21 rfl rfl)
theorem dX1_pair_22 : decode cX1_pair 22 = .ok (.getfield 29, 3) := dk_180 0 29 (dk_at dksX1_pair_1 0 rfl rfl)
theorem dX1_pair_25 : decode cX1_pair 25 = .ok (.iload_n 1, 1) := dk_27 (dk_at dksX1_pair_1 3 rfl rfl)
theorem dX1_pair_26 : decode cX1_pair 26 = .ok (.iload_n 2, 1) := dk_28 (dk_at dksX1_pair_1 4 rfl rfl)
theorem dX1_pair_27 : decode cX1_pair 27 = .ok (.invokevirtual 117, 3) := dk_182 0 117 (dk_at dksX1_pair_1 5 rfl rfl)
theorem dX1_pair_30 : decode cX1_pair 30 = .ok (.ifCond .eq 33, 3) := dk_153 0 33 (dk_at dksX1_pair_1 8 rfl rfl)
theorem dX1_pair_33 : decode cX1_pair 33 = .ok (.aload_n 0, 1) := dk_42 (dk_at dksX1_pair_1 11 rfl rfl)
theorem dX1_pair_34 : decode cX1_pair 34 = .ok (.getfield 29, 3) := dk_180 0 29 (dk_at dksX1_pair_1 12 rfl rfl)
theorem dX1_pair_37 : decode cX1_pair 37 = .ok (.getfield 124, 3) := dk_180 0 124 (dk_at dksX1_pair_1 15 rfl rfl)
theorem dX1_pair_40 : decode cX1_pair 40 = .ok (.iload_n 1, 1) := dk_27 (dk_at dksX1_pair_1 18 rfl rfl)
theorem dX1_pair_41 : decode cX1_pair 41 = .ok (.iaload, 1) := dk_46 (dk_at dksX1_pair_1 19 rfl rfl)
theorem dX1_pair_42 : decode cX1_pair 42 = .ok (.iconst (-1), 1) := dk_2 (dk_at dksX1_pair_1 20 rfl rfl)
theorem dX1_pair_43 : decode cX1_pair 43 = .ok (.if_icmp .ne 20, 3) := dk_160 0 20 (dk_at dksX1_pair_1 21 rfl rfl)
theorem dX1_pair_46 : decode cX1_pair 46 = .ok (.aload_n 0, 1) := dk_42 (dk_at dksX1_pair_2 0 rfl rfl)
theorem dX1_pair_47 : decode cX1_pair 47 = .ok (.getfield 29, 3) := dk_180 0 29 (dk_at dksX1_pair_2 1 rfl rfl)
theorem dX1_pair_50 : decode cX1_pair 50 = .ok (.getfield 124, 3) := dk_180 0 124 (dk_at dksX1_pair_2 4 rfl rfl)
theorem dX1_pair_53 : decode cX1_pair 53 = .ok (.iload_n 2, 1) := dk_28 (dk_at dksX1_pair_2 7 rfl rfl)
theorem dX1_pair_54 : decode cX1_pair 54 = .ok (.iaload, 1) := dk_46 (dk_at dksX1_pair_2 8 rfl rfl)
theorem dX1_pair_55 : decode cX1_pair 55 = .ok (.iconst (-1), 1) := dk_2 (dk_at dksX1_pair_2 9 rfl rfl)
theorem dX1_pair_56 : decode cX1_pair 56 = .ok (.if_icmp .ne 7, 3) := dk_160 0 7 (dk_at dksX1_pair_2 10 rfl rfl)
theorem dX1_pair_59 : decode cX1_pair 59 = .ok (.iconst 1, 1) := dk_4 (dk_at dksX1_pair_2 13 rfl rfl)
theorem dX1_pair_60 : decode cX1_pair 60 = .ok (.goto 4, 3) := dk_167 0 4 (dk_at dksX1_pair_2 14 rfl rfl)
theorem dX1_pair_63 : decode cX1_pair 63 = .ok (.iconst 0, 1) := dk_3 (dk_at dksX1_pair_2 17 rfl rfl)
theorem dX1_pair_64 : decode cX1_pair 64 = .ok (.invokevirtual 121, 3) := dk_182 0 121 (dk_at dksX1_pair_2 18 rfl rfl)
theorem dX1_pair_67 : decode cX1_pair 67 = .ok (.aload_n 0, 1) := dk_42 (dk_at dksX1_pair_2 21 rfl rfl)
theorem dX1_pair_68 : decode cX1_pair 68 = .ok (.invokevirtual 96, 3) := dk_182 0 96 (dk_at dksX1_pair_3 0 rfl rfl)
theorem dX1_pair_71 : decode cX1_pair 71 = .ok (.aload_n 0, 1) := dk_42 (dk_at dksX1_pair_3 3 rfl rfl)
theorem dX1_pair_72 : decode cX1_pair 72 = .ok (.getfield 29, 3) := dk_180 0 29 (dk_at dksX1_pair_3 4 rfl rfl)
theorem dX1_pair_75 : decode cX1_pair 75 = .ok (.iload_n 1, 1) := dk_27 (dk_at dksX1_pair_3 7 rfl rfl)
theorem dX1_pair_76 : decode cX1_pair 76 = .ok (.iload_n 2, 1) := dk_28 (dk_at dksX1_pair_3 8 rfl rfl)
theorem dX1_pair_77 : decode cX1_pair 77 = .ok (.invokevirtual 131, 3) := dk_182 0 131 (dk_at dksX1_pair_3 9 rfl rfl)
theorem dX1_pair_80 : decode cX1_pair 80 = .ok (.aload_n 0, 1) := dk_42 (dk_at dksX1_pair_3 12 rfl rfl)
theorem dX1_pair_81 : decode cX1_pair 81 = .ok (.getfield 29, 3) := dk_180 0 29 (dk_at dksX1_pair_3 13 rfl rfl)
theorem dX1_pair_84 : decode cX1_pair 84 = .ok (.invokevirtual 134, 3) := dk_182 0 134 (dk_at dksX1_pair_3 16 rfl rfl)
theorem dX1_pair_87 : decode cX1_pair 87 = .ok (.ireturn, 1) := dk_172 (dk_at dksX1_pair_3 19 rfl rfl)
abbrev cX1_part : ByteArray := prog_1_method_17_code
def yX1_part : MethodName := ⟨RX1, "part", "(I)I"⟩
def dkwX1_part_1 : List UInt8 := [182, 0, 121, 42, 182, 0, 96, 42, 180, 0, 29, 27, 182, 0, 127, 172]
abbrev dktX1_part_1 : List UInt8 := dkwX1_part_1 ++ []
def dkwX1_part_0 : List UInt8 := [42, 27, 182, 0, 108, 42, 42, 180, 0, 29, 180, 0, 124, 27, 46, 2, 159, 0, 7, 4, 167, 0, 4, 3]
abbrev dktX1_part_0 : List UInt8 := dkwX1_part_0 ++ dktX1_part_1
theorem dksX1_part_0 : cX1_part.data.toList.drop 0 = dktX1_part_0 := by decide +kernel
theorem dksX1_part_1 : cX1_part.data.toList.drop 24 = dktX1_part_1 := dk_seg dksX1_part_0 24 rfl rfl
theorem dX1_part_0 : decode cX1_part 0 = .ok (.aload_n 0, 1) := dk_42 (dk_at dksX1_part_0 0 rfl rfl)
theorem dX1_part_1 : decode cX1_part 1 = .ok (.iload_n 1, 1) := dk_27 (dk_at dksX1_part_0 1 rfl rfl)
theorem dX1_part_2 : decode cX1_part 2 = .ok (.invokevirtual 108, 3) := dk_182 0 108 (dk_at dksX1_part_0 2 rfl rfl)
theorem dX1_part_5 : decode cX1_part 5 = .ok (.aload_n 0, 1) := dk_42 (dk_at dksX1_part_0 5 rfl rfl)
theorem dX1_part_6 : decode cX1_part 6 = .ok (.aload_n 0, 1) := dk_42 (dk_at dksX1_part_0 6 rfl rfl)
theorem dX1_part_7 : decode cX1_part 7 = .ok (.getfield 29, 3) := dk_180 0 29 (dk_at dksX1_part_0 7 rfl rfl)
theorem dX1_part_10 : decode cX1_part 10 = .ok (.getfield 124, 3) := dk_180 0 124 (dk_at dksX1_part_0 10 rfl rfl)
theorem dX1_part_13 : decode cX1_part 13 = .ok (.iload_n 1, 1) := dk_27 (dk_at dksX1_part_0 13 rfl rfl)
theorem dX1_part_14 : decode cX1_part 14 = .ok (.iaload, 1) := dk_46 (dk_at dksX1_part_0 14 rfl rfl)
theorem dX1_part_15 : decode cX1_part 15 = .ok (.iconst (-1), 1) := dk_2 (dk_at dksX1_part_0 15 rfl rfl)
theorem dX1_part_16 : decode cX1_part 16 = .ok (.if_icmp .eq 7, 3) := dk_159 0 7 (dk_at dksX1_part_0 16 rfl rfl)
theorem dX1_part_19 : decode cX1_part 19 = .ok (.iconst 1, 1) := dk_4 (dk_at dksX1_part_0 19 rfl rfl)
theorem dX1_part_20 : decode cX1_part 20 = .ok (.goto 4, 3) := dk_167 0 4 (dk_at dksX1_part_0 20 rfl rfl)
theorem dX1_part_23 : decode cX1_part 23 = .ok (.iconst 0, 1) := dk_3 (dk_at dksX1_part_0 23 rfl rfl)
theorem dX1_part_24 : decode cX1_part 24 = .ok (.invokevirtual 121, 3) := dk_182 0 121 (dk_at dksX1_part_1 0 rfl rfl)
theorem dX1_part_27 : decode cX1_part 27 = .ok (.aload_n 0, 1) := dk_42 (dk_at dksX1_part_1 3 rfl rfl)
theorem dX1_part_28 : decode cX1_part 28 = .ok (.invokevirtual 96, 3) := dk_182 0 96 (dk_at dksX1_part_1 4 rfl rfl)
theorem dX1_part_31 : decode cX1_part 31 = .ok (.aload_n 0, 1) := dk_42 (dk_at dksX1_part_1 7 rfl rfl)
theorem dX1_part_32 : decode cX1_part 32 = .ok (.getfield 29, 3) := dk_180 0 29 (dk_at dksX1_part_1 8 rfl rfl)
theorem dX1_part_35 : decode cX1_part 35 = .ok (.iload_n 1, 1) := dk_27 (dk_at dksX1_part_1 11 rfl rfl)
theorem dX1_part_36 : decode cX1_part 36 = .ok (.invokevirtual 127, 3) := dk_182 0 127 (dk_at dksX1_part_1 12 rfl rfl)
theorem dX1_part_39 : decode cX1_part 39 = .ok (.ireturn, 1) := dk_172 (dk_at dksX1_part_1 15 rfl rfl)
abbrev cX1_better : ByteArray := prog_1_method_18_code
def yX1_better : MethodName := ⟨RX1, "better", "(I)I"⟩
def dkwX1_better_3 : List UInt8 := [182, 0, 131, 132, 3, 2, 167, 255, 224, 42, 180, 0, 29, 182, 0, 134, 172]
abbrev dktX1_better_3 : List UInt8 := dkwX1_better_3 ++ []
def dkwX1_better_2 : List UInt8 := [180, 0, 146, 162, 0, 30, 42, 180, 0, 29, 44, 180, 0, 147, 29, 46, 44, 180, 0, 147, 29, 4, 96, 46]
abbrev dktX1_better_2 : List UInt8 := dkwX1_better_2 ++ dktX1_better_3
def dkwX1_better_1 : List UInt8 := [180, 0, 146, 158, 0, 7, 4, 167, 0, 4, 3, 182, 0, 121, 42, 182, 0, 96, 3, 62, 29, 44]
abbrev dktX1_better_1 : List UInt8 := dkwX1_better_1 ++ dktX1_better_2
def dkwX1_better_0 : List UInt8 := [42, 27, 182, 0, 108, 187, 0, 137, 89, 42, 180, 0, 29, 183, 0, 139, 27, 182, 0, 142, 77, 42, 44]
abbrev dktX1_better_0 : List UInt8 := dkwX1_better_0 ++ dktX1_better_1
theorem dksX1_better_0 : cX1_better.data.toList.drop 0 = dktX1_better_0 := by decide +kernel
theorem dksX1_better_1 : cX1_better.data.toList.drop 23 = dktX1_better_1 := dk_seg dksX1_better_0 23 rfl rfl
theorem dksX1_better_2 : cX1_better.data.toList.drop 45 = dktX1_better_2 := dk_seg dksX1_better_1 22 rfl rfl
theorem dksX1_better_3 : cX1_better.data.toList.drop 69 = dktX1_better_3 := dk_seg dksX1_better_2 24 rfl rfl
theorem dX1_better_0 : decode cX1_better 0 = .ok (.aload_n 0, 1) := dk_42 (dk_at dksX1_better_0 0 rfl rfl)
theorem dX1_better_1 : decode cX1_better 1 = .ok (.iload_n 1, 1) := dk_27 (dk_at dksX1_better_0 1 rfl rfl)
theorem dX1_better_2 : decode cX1_better 2 = .ok (.invokevirtual 108, 3) := dk_182 0 108 (dk_at dksX1_better_0 2 rfl rfl)
theorem dX1_better_5 : decode cX1_better 5 = .ok (.new 137, 3) := dk_187 0 137 (dk_at dksX1_better_0 5 rfl rfl)
theorem dX1_better_8 : decode cX1_better 8 = .ok (.dup, 1) := dk_89 (dk_at dksX1_better_0 8 rfl rfl)
theorem dX1_better_9 : decode cX1_better 9 = .ok (.aload_n 0, 1) := dk_42 (dk_at dksX1_better_0 9 rfl rfl)
theorem dX1_better_10 : decode cX1_better 10 = .ok (.getfield 29, 3) := dk_180 0 29 (dk_at dksX1_better_0 10 rfl rfl)
theorem dX1_better_13 : decode cX1_better 13 = .ok (.invokespecial 139, 3) := dk_183 0 139 (dk_at dksX1_better_0 13 rfl rfl)
theorem dX1_better_16 : decode cX1_better 16 = .ok (.iload_n 1, 1) := dk_27 (dk_at dksX1_better_0 16 rfl rfl)
theorem dX1_better_17 : decode cX1_better 17 = .ok (.invokevirtual 142, 3) := dk_182 0 142 (dk_at dksX1_better_0 17 rfl rfl)
theorem dX1_better_20 : decode cX1_better 20 = .ok (.astore_n 2, 1) := dk_77 (dk_at dksX1_better_0 20 rfl rfl)
theorem dX1_better_21 : decode cX1_better 21 = .ok (.aload_n 0, 1) := dk_42 (dk_at dksX1_better_0 21 rfl rfl)
theorem dX1_better_22 : decode cX1_better 22 = .ok (.aload_n 2, 1) := dk_44 (dk_at dksX1_better_0 22 rfl rfl)
theorem dX1_better_23 : decode cX1_better 23 = .ok (.getfield 146, 3) := dk_180 0 146 (dk_at dksX1_better_1 0 rfl rfl)
theorem dX1_better_26 : decode cX1_better 26 = .ok (.ifCond .le 7, 3) := dk_158 0 7 (dk_at dksX1_better_1 3 rfl rfl)
theorem dX1_better_29 : decode cX1_better 29 = .ok (.iconst 1, 1) := dk_4 (dk_at dksX1_better_1 6 rfl rfl)
theorem dX1_better_30 : decode cX1_better 30 = .ok (.goto 4, 3) := dk_167 0 4 (dk_at dksX1_better_1 7 rfl rfl)
theorem dX1_better_33 : decode cX1_better 33 = .ok (.iconst 0, 1) := dk_3 (dk_at dksX1_better_1 10 rfl rfl)
theorem dX1_better_34 : decode cX1_better 34 = .ok (.invokevirtual 121, 3) := dk_182 0 121 (dk_at dksX1_better_1 11 rfl rfl)
theorem dX1_better_37 : decode cX1_better 37 = .ok (.aload_n 0, 1) := dk_42 (dk_at dksX1_better_1 14 rfl rfl)
theorem dX1_better_38 : decode cX1_better 38 = .ok (.invokevirtual 96, 3) := dk_182 0 96 (dk_at dksX1_better_1 15 rfl rfl)
theorem dX1_better_41 : decode cX1_better 41 = .ok (.iconst 0, 1) := dk_3 (dk_at dksX1_better_1 18 rfl rfl)
theorem dX1_better_42 : decode cX1_better 42 = .ok (.istore_n 3, 1) := dk_62 (dk_at dksX1_better_1 19 rfl rfl)
theorem dX1_better_43 : decode cX1_better 43 = .ok (.iload_n 3, 1) := dk_29 (dk_at dksX1_better_1 20 rfl rfl)
theorem dX1_better_44 : decode cX1_better 44 = .ok (.aload_n 2, 1) := dk_44 (dk_at dksX1_better_1 21 rfl rfl)
theorem dX1_better_45 : decode cX1_better 45 = .ok (.getfield 146, 3) := dk_180 0 146 (dk_at dksX1_better_2 0 rfl rfl)
theorem dX1_better_48 : decode cX1_better 48 = .ok (.if_icmp .ge 30, 3) := dk_162 0 30 (dk_at dksX1_better_2 3 rfl rfl)
theorem dX1_better_51 : decode cX1_better 51 = .ok (.aload_n 0, 1) := dk_42 (dk_at dksX1_better_2 6 rfl rfl)
theorem dX1_better_52 : decode cX1_better 52 = .ok (.getfield 29, 3) := dk_180 0 29 (dk_at dksX1_better_2 7 rfl rfl)
theorem dX1_better_55 : decode cX1_better 55 = .ok (.aload_n 2, 1) := dk_44 (dk_at dksX1_better_2 10 rfl rfl)
theorem dX1_better_56 : decode cX1_better 56 = .ok (.getfield 147, 3) := dk_180 0 147 (dk_at dksX1_better_2 11 rfl rfl)
theorem dX1_better_59 : decode cX1_better 59 = .ok (.iload_n 3, 1) := dk_29 (dk_at dksX1_better_2 14 rfl rfl)
theorem dX1_better_60 : decode cX1_better 60 = .ok (.iaload, 1) := dk_46 (dk_at dksX1_better_2 15 rfl rfl)
theorem dX1_better_61 : decode cX1_better 61 = .ok (.aload_n 2, 1) := dk_44 (dk_at dksX1_better_2 16 rfl rfl)
theorem dX1_better_62 : decode cX1_better 62 = .ok (.getfield 147, 3) := dk_180 0 147 (dk_at dksX1_better_2 17 rfl rfl)
theorem dX1_better_65 : decode cX1_better 65 = .ok (.iload_n 3, 1) := dk_29 (dk_at dksX1_better_2 20 rfl rfl)
theorem dX1_better_66 : decode cX1_better 66 = .ok (.iconst 1, 1) := dk_4 (dk_at dksX1_better_2 21 rfl rfl)
theorem dX1_better_67 : decode cX1_better 67 = .ok (.iadd, 1) := dk_96 (dk_at dksX1_better_2 22 rfl rfl)
theorem dX1_better_68 : decode cX1_better 68 = .ok (.iaload, 1) := dk_46 (dk_at dksX1_better_2 23 rfl rfl)
theorem dX1_better_69 : decode cX1_better 69 = .ok (.invokevirtual 131, 3) := dk_182 0 131 (dk_at dksX1_better_3 0 rfl rfl)
theorem dX1_better_72 : decode cX1_better 72 = .ok (.iinc 3 2, 3) := dk_132 3 2 (dk_at dksX1_better_3 3 rfl rfl)
theorem dX1_better_75 : decode cX1_better 75 = .ok (.goto (-32), 3) := dk_167 255 224 (dk_at dksX1_better_3 6 rfl rfl)
theorem dX1_better_78 : decode cX1_better 78 = .ok (.aload_n 0, 1) := dk_42 (dk_at dksX1_better_3 9 rfl rfl)
theorem dX1_better_79 : decode cX1_better 79 = .ok (.getfield 29, 3) := dk_180 0 29 (dk_at dksX1_better_3 10 rfl rfl)
theorem dX1_better_82 : decode cX1_better 82 = .ok (.invokevirtual 134, 3) := dk_182 0 134 (dk_at dksX1_better_3 13 rfl rfl)
theorem dX1_better_85 : decode cX1_better 85 = .ok (.ireturn, 1) := dk_172 (dk_at dksX1_better_3 16 rfl rfl)
abbrev cX1_shrink : ByteArray := prog_1_method_20_code
def yX1_shrink : MethodName := ⟨RX1, "shrink", "(I)I"⟩
def dkwX1_shrink_4 : List UInt8 := [172]
abbrev dktX1_shrink_4 : List UInt8 := dkwX1_shrink_4 ++ []
def dkwX1_shrink_3 : List UInt8 := [42, 182, 0, 96, 42, 42, 180, 0, 29, 27, 29, 184, 0, 166, 181, 0, 29, 42, 180, 0, 29, 180, 0, 102]
abbrev dktX1_shrink_3 : List UInt8 := dkwX1_shrink_3 ++ dktX1_shrink_4
def dkwX1_shrink_2 : List UInt8 := [180, 0, 146, 162, 0, 21, 29, 4, 44, 180, 0, 147, 21, 4, 46, 120, 128, 62, 132, 4, 1, 167, 255, 232]
abbrev dktX1_shrink_2 : List UInt8 := dkwX1_shrink_2 ++ dktX1_shrink_3
def dkwX1_shrink_1 : List UInt8 := [180, 0, 146, 158, 0, 7, 4, 167, 0, 4, 3, 182, 0, 121, 3, 62, 4, 54, 4, 21, 4, 44]
abbrev dktX1_shrink_1 : List UInt8 := dkwX1_shrink_1 ++ dktX1_shrink_2
def dkwX1_shrink_0 : List UInt8 := [42, 27, 182, 0, 108, 187, 0, 137, 89, 42, 180, 0, 29, 183, 0, 139, 27, 182, 0, 163, 77, 42, 44]
abbrev dktX1_shrink_0 : List UInt8 := dkwX1_shrink_0 ++ dktX1_shrink_1
theorem dksX1_shrink_0 : cX1_shrink.data.toList.drop 0 = dktX1_shrink_0 := by decide +kernel
theorem dksX1_shrink_1 : cX1_shrink.data.toList.drop 23 = dktX1_shrink_1 := dk_seg dksX1_shrink_0 23 rfl rfl
theorem dksX1_shrink_2 : cX1_shrink.data.toList.drop 45 = dktX1_shrink_2 := dk_seg dksX1_shrink_1 22 rfl rfl
theorem dksX1_shrink_3 : cX1_shrink.data.toList.drop 69 = dktX1_shrink_3 := dk_seg dksX1_shrink_2 24 rfl rfl
theorem dksX1_shrink_4 : cX1_shrink.data.toList.drop 93 = dktX1_shrink_4 := dk_seg dksX1_shrink_3 24 rfl rfl
theorem dX1_shrink_0 : decode cX1_shrink 0 = .ok (.aload_n 0, 1) := dk_42 (dk_at dksX1_shrink_0 0 rfl rfl)
theorem dX1_shrink_1 : decode cX1_shrink 1 = .ok (.iload_n 1, 1) := dk_27 (dk_at dksX1_shrink_0 1 rfl rfl)
theorem dX1_shrink_2 : decode cX1_shrink 2 = .ok (.invokevirtual 108, 3) := dk_182 0 108 (dk_at dksX1_shrink_0 2 rfl rfl)
theorem dX1_shrink_5 : decode cX1_shrink 5 = .ok (.new 137, 3) := dk_187 0 137 (dk_at dksX1_shrink_0 5 rfl rfl)
theorem dX1_shrink_8 : decode cX1_shrink 8 = .ok (.dup, 1) := dk_89 (dk_at dksX1_shrink_0 8 rfl rfl)
theorem dX1_shrink_9 : decode cX1_shrink 9 = .ok (.aload_n 0, 1) := dk_42 (dk_at dksX1_shrink_0 9 rfl rfl)
theorem dX1_shrink_10 : decode cX1_shrink 10 = .ok (.getfield 29, 3) := dk_180 0 29 (dk_at dksX1_shrink_0 10 rfl rfl)
theorem dX1_shrink_13 : decode cX1_shrink 13 = .ok (.invokespecial 139, 3) := dk_183 0 139 (dk_at dksX1_shrink_0 13 rfl rfl)
theorem dX1_shrink_16 : decode cX1_shrink 16 = .ok (.iload_n 1, 1) := dk_27 (dk_at dksX1_shrink_0 16 rfl rfl)
theorem dX1_shrink_17 : decode cX1_shrink 17 = .ok (.invokevirtual 163, 3) := dk_182 0 163 (dk_at dksX1_shrink_0 17 rfl rfl)
theorem dX1_shrink_20 : decode cX1_shrink 20 = .ok (.astore_n 2, 1) := dk_77 (dk_at dksX1_shrink_0 20 rfl rfl)
theorem dX1_shrink_21 : decode cX1_shrink 21 = .ok (.aload_n 0, 1) := dk_42 (dk_at dksX1_shrink_0 21 rfl rfl)
theorem dX1_shrink_22 : decode cX1_shrink 22 = .ok (.aload_n 2, 1) := dk_44 (dk_at dksX1_shrink_0 22 rfl rfl)
theorem dX1_shrink_23 : decode cX1_shrink 23 = .ok (.getfield 146, 3) := dk_180 0 146 (dk_at dksX1_shrink_1 0 rfl rfl)
theorem dX1_shrink_26 : decode cX1_shrink 26 = .ok (.ifCond .le 7, 3) := dk_158 0 7 (dk_at dksX1_shrink_1 3 rfl rfl)
theorem dX1_shrink_29 : decode cX1_shrink 29 = .ok (.iconst 1, 1) := dk_4 (dk_at dksX1_shrink_1 6 rfl rfl)
theorem dX1_shrink_30 : decode cX1_shrink 30 = .ok (.goto 4, 3) := dk_167 0 4 (dk_at dksX1_shrink_1 7 rfl rfl)
theorem dX1_shrink_33 : decode cX1_shrink 33 = .ok (.iconst 0, 1) := dk_3 (dk_at dksX1_shrink_1 10 rfl rfl)
theorem dX1_shrink_34 : decode cX1_shrink 34 = .ok (.invokevirtual 121, 3) := dk_182 0 121 (dk_at dksX1_shrink_1 11 rfl rfl)
theorem dX1_shrink_37 : decode cX1_shrink 37 = .ok (.iconst 0, 1) := dk_3 (dk_at dksX1_shrink_1 14 rfl rfl)
theorem dX1_shrink_38 : decode cX1_shrink 38 = .ok (.istore_n 3, 1) := dk_62 (dk_at dksX1_shrink_1 15 rfl rfl)
theorem dX1_shrink_39 : decode cX1_shrink 39 = .ok (.iconst 1, 1) := dk_4 (dk_at dksX1_shrink_1 16 rfl rfl)
theorem dX1_shrink_40 : decode cX1_shrink 40 = .ok (.istore 4, 2) := dk_54 4 (dk_at dksX1_shrink_1 17 rfl rfl)
theorem dX1_shrink_42 : decode cX1_shrink 42 = .ok (.iload 4, 2) := dk_21 4 (dk_at dksX1_shrink_1 19 rfl rfl)
theorem dX1_shrink_44 : decode cX1_shrink 44 = .ok (.aload_n 2, 1) := dk_44 (dk_at dksX1_shrink_1 21 rfl rfl)
theorem dX1_shrink_45 : decode cX1_shrink 45 = .ok (.getfield 146, 3) := dk_180 0 146 (dk_at dksX1_shrink_2 0 rfl rfl)
theorem dX1_shrink_48 : decode cX1_shrink 48 = .ok (.if_icmp .ge 21, 3) := dk_162 0 21 (dk_at dksX1_shrink_2 3 rfl rfl)
theorem dX1_shrink_51 : decode cX1_shrink 51 = .ok (.iload_n 3, 1) := dk_29 (dk_at dksX1_shrink_2 6 rfl rfl)
theorem dX1_shrink_52 : decode cX1_shrink 52 = .ok (.iconst 1, 1) := dk_4 (dk_at dksX1_shrink_2 7 rfl rfl)
theorem dX1_shrink_53 : decode cX1_shrink 53 = .ok (.aload_n 2, 1) := dk_44 (dk_at dksX1_shrink_2 8 rfl rfl)
theorem dX1_shrink_54 : decode cX1_shrink 54 = .ok (.getfield 147, 3) := dk_180 0 147 (dk_at dksX1_shrink_2 9 rfl rfl)
theorem dX1_shrink_57 : decode cX1_shrink 57 = .ok (.iload 4, 2) := dk_21 4 (dk_at dksX1_shrink_2 12 rfl rfl)
theorem dX1_shrink_59 : decode cX1_shrink 59 = .ok (.iaload, 1) := dk_46 (dk_at dksX1_shrink_2 14 rfl rfl)
theorem dX1_shrink_60 : decode cX1_shrink 60 = .ok (.ishl, 1) := dk_120 (dk_at dksX1_shrink_2 15 rfl rfl)
theorem dX1_shrink_61 : decode cX1_shrink 61 = .ok (.ior, 1) := dk_128 (dk_at dksX1_shrink_2 16 rfl rfl)
theorem dX1_shrink_62 : decode cX1_shrink 62 = .ok (.istore_n 3, 1) := dk_62 (dk_at dksX1_shrink_2 17 rfl rfl)
theorem dX1_shrink_63 : decode cX1_shrink 63 = .ok (.iinc 4 1, 3) := dk_132 4 1 (dk_at dksX1_shrink_2 18 rfl rfl)
theorem dX1_shrink_66 : decode cX1_shrink 66 = .ok (.goto (-24), 3) := dk_167 255 232 (dk_at dksX1_shrink_2 21 rfl rfl)
theorem dX1_shrink_69 : decode cX1_shrink 69 = .ok (.aload_n 0, 1) := dk_42 (dk_at dksX1_shrink_3 0 rfl rfl)
theorem dX1_shrink_70 : decode cX1_shrink 70 = .ok (.invokevirtual 96, 3) := dk_182 0 96 (dk_at dksX1_shrink_3 1 rfl rfl)
theorem dX1_shrink_73 : decode cX1_shrink 73 = .ok (.aload_n 0, 1) := dk_42 (dk_at dksX1_shrink_3 4 rfl rfl)
theorem dX1_shrink_74 : decode cX1_shrink 74 = .ok (.aload_n 0, 1) := dk_42 (dk_at dksX1_shrink_3 5 rfl rfl)
theorem dX1_shrink_75 : decode cX1_shrink 75 = .ok (.getfield 29, 3) := dk_180 0 29 (dk_at dksX1_shrink_3 6 rfl rfl)
theorem dX1_shrink_78 : decode cX1_shrink 78 = .ok (.iload_n 1, 1) := dk_27 (dk_at dksX1_shrink_3 9 rfl rfl)
theorem dX1_shrink_79 : decode cX1_shrink 79 = .ok (.iload_n 3, 1) := dk_29 (dk_at dksX1_shrink_3 10 rfl rfl)
theorem dX1_shrink_80 : decode cX1_shrink 80 = .ok (.invokestatic 166, 3) := dk_184 0 166 (dk_at dksX1_shrink_3 11 rfl rfl)
theorem dX1_shrink_83 : decode cX1_shrink 83 = .ok (.putfield 29, 3) := dk_181 0 29 (dk_at dksX1_shrink_3 14 rfl rfl)
theorem dX1_shrink_86 : decode cX1_shrink 86 = .ok (.aload_n 0, 1) := dk_42 (dk_at dksX1_shrink_3 17 rfl rfl)
theorem dX1_shrink_87 : decode cX1_shrink 87 = .ok (.getfield 29, 3) := dk_180 0 29 (dk_at dksX1_shrink_3 18 rfl rfl)
theorem dX1_shrink_90 : decode cX1_shrink 90 = .ok (.getfield 102, 3) := dk_180 0 102 (dk_at dksX1_shrink_3 21 rfl rfl)
theorem dX1_shrink_93 : decode cX1_shrink 93 = .ok (.ireturn, 1) := dk_172 (dk_at dksX1_shrink_4 0 rfl rfl)
abbrev cX1_shrunk : ByteArray := prog_1_method_21_code
def yX1_shrunk : MethodName := ⟨RX1, "shrunk", "(LOddPairs$Net;II)LOddPairs$Net;"⟩
def dkwX1_shrunk_9 : List UInt8 := [21, 6, 46, 45, 42, 180, 0, 124, 21, 6, 46, 46, 182, 0, 131, 132, 6, 1, 167, 255, 118, 25, 5, 176]
abbrev dktX1_shrunk_9 : List UInt8 := dkwX1_shrunk_9 ++ []
def dkwX1_shrunk_8 : List UInt8 := [46, 2, 159, 0, 37, 45, 21, 6, 46, 45, 42, 180, 0, 124, 21, 6, 46, 46, 159, 0, 21, 25, 5, 45]
abbrev dktX1_shrunk_8 : List UInt8 := dkwX1_shrunk_8 ++ dktX1_shrunk_9
def dkwX1_shrunk_7 : List UInt8 := [21, 6, 50, 21, 7, 46, 184, 0, 177, 182, 0, 37, 132, 7, 1, 167, 255, 181, 42, 180, 0, 124, 21, 6]
abbrev dktX1_shrunk_7 : List UInt8 := dkwX1_shrunk_7 ++ dktX1_shrunk_8
def dkwX1_shrunk_6 : List UInt8 := [46, 45, 21, 7, 46, 25, 5, 180, 0, 173, 45, 21, 6, 46, 50, 45, 21, 7, 46, 46, 42, 180, 0, 173]
abbrev dktX1_shrunk_6 : List UInt8 := dkwX1_shrunk_6 ++ dktX1_shrunk_7
def dkwX1_shrunk_5 : List UInt8 := [21, 7, 182, 0, 117, 153, 0, 55, 45, 21, 6, 46, 45, 21, 7, 46, 159, 0, 44, 25, 5, 45, 21, 6]
abbrev dktX1_shrunk_5 : List UInt8 := dkwX1_shrunk_5 ++ dktX1_shrunk_6
def dkwX1_shrunk_4 : List UInt8 := [21, 6, 42, 180, 0, 102, 162, 0, 135, 3, 54, 7, 21, 7, 42, 180, 0, 102, 162, 0, 72, 42, 21, 6]
abbrev dktX1_shrunk_4 : List UInt8 := dkwX1_shrunk_4 ++ dktX1_shrunk_5
def dkwX1_shrunk_3 : List UInt8 := [27, 46, 79, 132, 5, 1, 167, 255, 228, 187, 0, 24, 89, 21, 4, 183, 0, 26, 58, 5, 3, 54, 6]
abbrev dktX1_shrunk_3 : List UInt8 := dkwX1_shrunk_3 ++ dktX1_shrunk_4
def dkwX1_shrunk_2 : List UInt8 := [54, 5, 21, 5, 42, 180, 0, 102, 162, 0, 25, 28, 21, 5, 184, 0, 170, 153, 0, 10, 45, 21, 5, 45]
abbrev dktX1_shrunk_2 : List UInt8 := dkwX1_shrunk_2 ++ dktX1_shrunk_3
def dkwX1_shrunk_1 : List UInt8 := [21, 5, 184, 0, 170, 154, 0, 12, 45, 21, 5, 21, 4, 132, 4, 1, 79, 132, 5, 1, 167, 255, 226, 3]
abbrev dktX1_shrunk_1 : List UInt8 := dkwX1_shrunk_1 ++ dktX1_shrunk_2
def dkwX1_shrunk_0 : List UInt8 := [42, 180, 0, 102, 188, 10, 78, 3, 54, 4, 3, 54, 5, 21, 5, 42, 180, 0, 102, 162, 0, 27, 28]
abbrev dktX1_shrunk_0 : List UInt8 := dkwX1_shrunk_0 ++ dktX1_shrunk_1
theorem dksX1_shrunk_0 : cX1_shrunk.data.toList.drop 0 = dktX1_shrunk_0 := by decide +kernel
theorem dksX1_shrunk_1 : cX1_shrunk.data.toList.drop 23 = dktX1_shrunk_1 := dk_seg dksX1_shrunk_0 23 rfl rfl
theorem dksX1_shrunk_2 : cX1_shrunk.data.toList.drop 47 = dktX1_shrunk_2 := dk_seg dksX1_shrunk_1 24 rfl rfl
theorem dksX1_shrunk_3 : cX1_shrunk.data.toList.drop 71 = dktX1_shrunk_3 := dk_seg dksX1_shrunk_2 24 rfl rfl
theorem dksX1_shrunk_4 : cX1_shrunk.data.toList.drop 94 = dktX1_shrunk_4 := dk_seg dksX1_shrunk_3 23 rfl rfl
theorem dksX1_shrunk_5 : cX1_shrunk.data.toList.drop 118 = dktX1_shrunk_5 := dk_seg dksX1_shrunk_4 24 rfl rfl
theorem dksX1_shrunk_6 : cX1_shrunk.data.toList.drop 142 = dktX1_shrunk_6 := dk_seg dksX1_shrunk_5 24 rfl rfl
theorem dksX1_shrunk_7 : cX1_shrunk.data.toList.drop 166 = dktX1_shrunk_7 := dk_seg dksX1_shrunk_6 24 rfl rfl
theorem dksX1_shrunk_8 : cX1_shrunk.data.toList.drop 190 = dktX1_shrunk_8 := dk_seg dksX1_shrunk_7 24 rfl rfl
theorem dksX1_shrunk_9 : cX1_shrunk.data.toList.drop 214 = dktX1_shrunk_9 := dk_seg dksX1_shrunk_8 24 rfl rfl
theorem dX1_shrunk_0 : decode cX1_shrunk 0 = .ok (.aload_n 0, 1) := dk_42 (dk_at dksX1_shrunk_0 0 rfl rfl)
theorem dX1_shrunk_1 : decode cX1_shrunk 1 = .ok (.getfield 102, 3) := dk_180 0 102 (dk_at dksX1_shrunk_0 1 rfl rfl)
theorem dX1_shrunk_4 : decode cX1_shrunk 4 = .ok (.newarray .int, 2) := dk_188_10 (dk_at dksX1_shrunk_0 4 rfl rfl)
theorem dX1_shrunk_6 : decode cX1_shrunk 6 = .ok (.astore_n 3, 1) := dk_78 (dk_at dksX1_shrunk_0 6 rfl rfl)
theorem dX1_shrunk_7 : decode cX1_shrunk 7 = .ok (.iconst 0, 1) := dk_3 (dk_at dksX1_shrunk_0 7 rfl rfl)
theorem dX1_shrunk_8 : decode cX1_shrunk 8 = .ok (.istore 4, 2) := dk_54 4 (dk_at dksX1_shrunk_0 8 rfl rfl)
theorem dX1_shrunk_10 : decode cX1_shrunk 10 = .ok (.iconst 0, 1) := dk_3 (dk_at dksX1_shrunk_0 10 rfl rfl)
theorem dX1_shrunk_11 : decode cX1_shrunk 11 = .ok (.istore 5, 2) := dk_54 5 (dk_at dksX1_shrunk_0 11 rfl rfl)
theorem dX1_shrunk_13 : decode cX1_shrunk 13 = .ok (.iload 5, 2) := dk_21 5 (dk_at dksX1_shrunk_0 13 rfl rfl)
theorem dX1_shrunk_15 : decode cX1_shrunk 15 = .ok (.aload_n 0, 1) := dk_42 (dk_at dksX1_shrunk_0 15 rfl rfl)
theorem dX1_shrunk_16 : decode cX1_shrunk 16 = .ok (.getfield 102, 3) := dk_180 0 102 (dk_at dksX1_shrunk_0 16 rfl rfl)
theorem dX1_shrunk_19 : decode cX1_shrunk 19 = .ok (.if_icmp .ge 27, 3) := dk_162 0 27 (dk_at dksX1_shrunk_0 19 rfl rfl)
theorem dX1_shrunk_22 : decode cX1_shrunk 22 = .ok (.iload_n 2, 1) := dk_28 (dk_at dksX1_shrunk_0 22 rfl rfl)
theorem dX1_shrunk_23 : decode cX1_shrunk 23 = .ok (.iload 5, 2) := dk_21 5 (dk_at dksX1_shrunk_1 0 rfl rfl)
theorem dX1_shrunk_25 : decode cX1_shrunk 25 = .ok (.invokestatic 170, 3) := dk_184 0 170 (dk_at dksX1_shrunk_1 2 rfl rfl)
theorem dX1_shrunk_28 : decode cX1_shrunk 28 = .ok (.ifCond .ne 12, 3) := dk_154 0 12 (dk_at dksX1_shrunk_1 5 rfl rfl)
theorem dX1_shrunk_31 : decode cX1_shrunk 31 = .ok (.aload_n 3, 1) := dk_45 (dk_at dksX1_shrunk_1 8 rfl rfl)
theorem dX1_shrunk_32 : decode cX1_shrunk 32 = .ok (.iload 5, 2) := dk_21 5 (dk_at dksX1_shrunk_1 9 rfl rfl)
theorem dX1_shrunk_34 : decode cX1_shrunk 34 = .ok (.iload 4, 2) := dk_21 4 (dk_at dksX1_shrunk_1 11 rfl rfl)
theorem dX1_shrunk_36 : decode cX1_shrunk 36 = .ok (.iinc 4 1, 3) := dk_132 4 1 (dk_at dksX1_shrunk_1 13 rfl rfl)
theorem dX1_shrunk_39 : decode cX1_shrunk 39 = .ok (.iastore, 1) := dk_79 (dk_at dksX1_shrunk_1 16 rfl rfl)
theorem dX1_shrunk_40 : decode cX1_shrunk 40 = .ok (.iinc 5 1, 3) := dk_132 5 1 (dk_at dksX1_shrunk_1 17 rfl rfl)
theorem dX1_shrunk_43 : decode cX1_shrunk 43 = .ok (.goto (-30), 3) := dk_167 255 226 (dk_at dksX1_shrunk_1 20 rfl rfl)
theorem dX1_shrunk_46 : decode cX1_shrunk 46 = .ok (.iconst 0, 1) := dk_3 (dk_at dksX1_shrunk_1 23 rfl rfl)
theorem dX1_shrunk_47 : decode cX1_shrunk 47 = .ok (.istore 5, 2) := dk_54 5 (dk_at dksX1_shrunk_2 0 rfl rfl)
theorem dX1_shrunk_49 : decode cX1_shrunk 49 = .ok (.iload 5, 2) := dk_21 5 (dk_at dksX1_shrunk_2 2 rfl rfl)
theorem dX1_shrunk_51 : decode cX1_shrunk 51 = .ok (.aload_n 0, 1) := dk_42 (dk_at dksX1_shrunk_2 4 rfl rfl)
theorem dX1_shrunk_52 : decode cX1_shrunk 52 = .ok (.getfield 102, 3) := dk_180 0 102 (dk_at dksX1_shrunk_2 5 rfl rfl)
theorem dX1_shrunk_55 : decode cX1_shrunk 55 = .ok (.if_icmp .ge 25, 3) := dk_162 0 25 (dk_at dksX1_shrunk_2 8 rfl rfl)
theorem dX1_shrunk_58 : decode cX1_shrunk 58 = .ok (.iload_n 2, 1) := dk_28 (dk_at dksX1_shrunk_2 11 rfl rfl)
theorem dX1_shrunk_59 : decode cX1_shrunk 59 = .ok (.iload 5, 2) := dk_21 5 (dk_at dksX1_shrunk_2 12 rfl rfl)
theorem dX1_shrunk_61 : decode cX1_shrunk 61 = .ok (.invokestatic 170, 3) := dk_184 0 170 (dk_at dksX1_shrunk_2 14 rfl rfl)
theorem dX1_shrunk_64 : decode cX1_shrunk 64 = .ok (.ifCond .eq 10, 3) := dk_153 0 10 (dk_at dksX1_shrunk_2 17 rfl rfl)
theorem dX1_shrunk_67 : decode cX1_shrunk 67 = .ok (.aload_n 3, 1) := dk_45 (dk_at dksX1_shrunk_2 20 rfl rfl)
theorem dX1_shrunk_68 : decode cX1_shrunk 68 = .ok (.iload 5, 2) := dk_21 5 (dk_at dksX1_shrunk_2 21 rfl rfl)
theorem dX1_shrunk_70 : decode cX1_shrunk 70 = .ok (.aload_n 3, 1) := dk_45 (dk_at dksX1_shrunk_2 23 rfl rfl)
theorem dX1_shrunk_71 : decode cX1_shrunk 71 = .ok (.iload_n 1, 1) := dk_27 (dk_at dksX1_shrunk_3 0 rfl rfl)
theorem dX1_shrunk_72 : decode cX1_shrunk 72 = .ok (.iaload, 1) := dk_46 (dk_at dksX1_shrunk_3 1 rfl rfl)
theorem dX1_shrunk_73 : decode cX1_shrunk 73 = .ok (.iastore, 1) := dk_79 (dk_at dksX1_shrunk_3 2 rfl rfl)
theorem dX1_shrunk_74 : decode cX1_shrunk 74 = .ok (.iinc 5 1, 3) := dk_132 5 1 (dk_at dksX1_shrunk_3 3 rfl rfl)
theorem dX1_shrunk_77 : decode cX1_shrunk 77 = .ok (.goto (-28), 3) := dk_167 255 228 (dk_at dksX1_shrunk_3 6 rfl rfl)
theorem dX1_shrunk_80 : decode cX1_shrunk 80 = .ok (.new 24, 3) := dk_187 0 24 (dk_at dksX1_shrunk_3 9 rfl rfl)
theorem dX1_shrunk_83 : decode cX1_shrunk 83 = .ok (.dup, 1) := dk_89 (dk_at dksX1_shrunk_3 12 rfl rfl)
theorem dX1_shrunk_84 : decode cX1_shrunk 84 = .ok (.iload 4, 2) := dk_21 4 (dk_at dksX1_shrunk_3 13 rfl rfl)
theorem dX1_shrunk_86 : decode cX1_shrunk 86 = .ok (.invokespecial 26, 3) := dk_183 0 26 (dk_at dksX1_shrunk_3 15 rfl rfl)
theorem dX1_shrunk_89 : decode cX1_shrunk 89 = .ok (.astore 5, 2) := dk_58 5 (dk_at dksX1_shrunk_3 18 rfl rfl)
theorem dX1_shrunk_91 : decode cX1_shrunk 91 = .ok (.iconst 0, 1) := dk_3 (dk_at dksX1_shrunk_3 20 rfl rfl)
theorem dX1_shrunk_92 : decode cX1_shrunk 92 = .ok (.istore 6, 2) := dk_54 6 (dk_at dksX1_shrunk_3 21 rfl rfl)
theorem dX1_shrunk_94 : decode cX1_shrunk 94 = .ok (.iload 6, 2) := dk_21 6 (dk_at dksX1_shrunk_4 0 rfl rfl)
theorem dX1_shrunk_96 : decode cX1_shrunk 96 = .ok (.aload_n 0, 1) := dk_42 (dk_at dksX1_shrunk_4 2 rfl rfl)
theorem dX1_shrunk_97 : decode cX1_shrunk 97 = .ok (.getfield 102, 3) := dk_180 0 102 (dk_at dksX1_shrunk_4 3 rfl rfl)
theorem dX1_shrunk_100 : decode cX1_shrunk 100 = .ok (.if_icmp .ge 135, 3) := dk_162 0 135 (dk_at dksX1_shrunk_4 6 rfl rfl)
theorem dX1_shrunk_103 : decode cX1_shrunk 103 = .ok (.iconst 0, 1) := dk_3 (dk_at dksX1_shrunk_4 9 rfl rfl)
theorem dX1_shrunk_104 : decode cX1_shrunk 104 = .ok (.istore 7, 2) := dk_54 7 (dk_at dksX1_shrunk_4 10 rfl rfl)
theorem dX1_shrunk_106 : decode cX1_shrunk 106 = .ok (.iload 7, 2) := dk_21 7 (dk_at dksX1_shrunk_4 12 rfl rfl)
theorem dX1_shrunk_108 : decode cX1_shrunk 108 = .ok (.aload_n 0, 1) := dk_42 (dk_at dksX1_shrunk_4 14 rfl rfl)
theorem dX1_shrunk_109 : decode cX1_shrunk 109 = .ok (.getfield 102, 3) := dk_180 0 102 (dk_at dksX1_shrunk_4 15 rfl rfl)
theorem dX1_shrunk_112 : decode cX1_shrunk 112 = .ok (.if_icmp .ge 72, 3) := dk_162 0 72 (dk_at dksX1_shrunk_4 18 rfl rfl)
theorem dX1_shrunk_115 : decode cX1_shrunk 115 = .ok (.aload_n 0, 1) := dk_42 (dk_at dksX1_shrunk_4 21 rfl rfl)
theorem dX1_shrunk_116 : decode cX1_shrunk 116 = .ok (.iload 6, 2) := dk_21 6 (dk_at dksX1_shrunk_4 22 rfl rfl)
theorem dX1_shrunk_118 : decode cX1_shrunk 118 = .ok (.iload 7, 2) := dk_21 7 (dk_at dksX1_shrunk_5 0 rfl rfl)
theorem dX1_shrunk_120 : decode cX1_shrunk 120 = .ok (.invokevirtual 117, 3) := dk_182 0 117 (dk_at dksX1_shrunk_5 2 rfl rfl)
theorem dX1_shrunk_123 : decode cX1_shrunk 123 = .ok (.ifCond .eq 55, 3) := dk_153 0 55 (dk_at dksX1_shrunk_5 5 rfl rfl)
theorem dX1_shrunk_126 : decode cX1_shrunk 126 = .ok (.aload_n 3, 1) := dk_45 (dk_at dksX1_shrunk_5 8 rfl rfl)
theorem dX1_shrunk_127 : decode cX1_shrunk 127 = .ok (.iload 6, 2) := dk_21 6 (dk_at dksX1_shrunk_5 9 rfl rfl)
theorem dX1_shrunk_129 : decode cX1_shrunk 129 = .ok (.iaload, 1) := dk_46 (dk_at dksX1_shrunk_5 11 rfl rfl)
theorem dX1_shrunk_130 : decode cX1_shrunk 130 = .ok (.aload_n 3, 1) := dk_45 (dk_at dksX1_shrunk_5 12 rfl rfl)
theorem dX1_shrunk_131 : decode cX1_shrunk 131 = .ok (.iload 7, 2) := dk_21 7 (dk_at dksX1_shrunk_5 13 rfl rfl)
theorem dX1_shrunk_133 : decode cX1_shrunk 133 = .ok (.iaload, 1) := dk_46 (dk_at dksX1_shrunk_5 15 rfl rfl)
theorem dX1_shrunk_134 : decode cX1_shrunk 134 = .ok (.if_icmp .eq 44, 3) := dk_159 0 44 (dk_at dksX1_shrunk_5 16 rfl rfl)
theorem dX1_shrunk_137 : decode cX1_shrunk 137 = .ok (.aload 5, 2) := dk_25 5 (dk_at dksX1_shrunk_5 19 rfl rfl)
theorem dX1_shrunk_139 : decode cX1_shrunk 139 = .ok (.aload_n 3, 1) := dk_45 (dk_at dksX1_shrunk_5 21 rfl rfl)
theorem dX1_shrunk_140 : decode cX1_shrunk 140 = .ok (.iload 6, 2) := dk_21 6 (dk_at dksX1_shrunk_5 22 rfl rfl)
theorem dX1_shrunk_142 : decode cX1_shrunk 142 = .ok (.iaload, 1) := dk_46 (dk_at dksX1_shrunk_6 0 rfl rfl)
theorem dX1_shrunk_143 : decode cX1_shrunk 143 = .ok (.aload_n 3, 1) := dk_45 (dk_at dksX1_shrunk_6 1 rfl rfl)
theorem dX1_shrunk_144 : decode cX1_shrunk 144 = .ok (.iload 7, 2) := dk_21 7 (dk_at dksX1_shrunk_6 2 rfl rfl)
theorem dX1_shrunk_146 : decode cX1_shrunk 146 = .ok (.iaload, 1) := dk_46 (dk_at dksX1_shrunk_6 4 rfl rfl)
theorem dX1_shrunk_147 : decode cX1_shrunk 147 = .ok (.aload 5, 2) := dk_25 5 (dk_at dksX1_shrunk_6 5 rfl rfl)
theorem dX1_shrunk_149 : decode cX1_shrunk 149 = .ok (.getfield 173, 3) := dk_180 0 173 (dk_at dksX1_shrunk_6 7 rfl rfl)
theorem dX1_shrunk_152 : decode cX1_shrunk 152 = .ok (.aload_n 3, 1) := dk_45 (dk_at dksX1_shrunk_6 10 rfl rfl)
theorem dX1_shrunk_153 : decode cX1_shrunk 153 = .ok (.iload 6, 2) := dk_21 6 (dk_at dksX1_shrunk_6 11 rfl rfl)
theorem dX1_shrunk_155 : decode cX1_shrunk 155 = .ok (.iaload, 1) := dk_46 (dk_at dksX1_shrunk_6 13 rfl rfl)
theorem dX1_shrunk_156 : decode cX1_shrunk 156 = .ok (.aaload, 1) := dk_50 (dk_at dksX1_shrunk_6 14 rfl rfl)
theorem dX1_shrunk_157 : decode cX1_shrunk 157 = .ok (.aload_n 3, 1) := dk_45 (dk_at dksX1_shrunk_6 15 rfl rfl)
theorem dX1_shrunk_158 : decode cX1_shrunk 158 = .ok (.iload 7, 2) := dk_21 7 (dk_at dksX1_shrunk_6 16 rfl rfl)
theorem dX1_shrunk_160 : decode cX1_shrunk 160 = .ok (.iaload, 1) := dk_46 (dk_at dksX1_shrunk_6 18 rfl rfl)
theorem dX1_shrunk_161 : decode cX1_shrunk 161 = .ok (.iaload, 1) := dk_46 (dk_at dksX1_shrunk_6 19 rfl rfl)
theorem dX1_shrunk_162 : decode cX1_shrunk 162 = .ok (.aload_n 0, 1) := dk_42 (dk_at dksX1_shrunk_6 20 rfl rfl)
theorem dX1_shrunk_163 : decode cX1_shrunk 163 = .ok (.getfield 173, 3) := dk_180 0 173 (dk_at dksX1_shrunk_6 21 rfl rfl)
theorem dX1_shrunk_166 : decode cX1_shrunk 166 = .ok (.iload 6, 2) := dk_21 6 (dk_at dksX1_shrunk_7 0 rfl rfl)
theorem dX1_shrunk_168 : decode cX1_shrunk 168 = .ok (.aaload, 1) := dk_50 (dk_at dksX1_shrunk_7 2 rfl rfl)
theorem dX1_shrunk_169 : decode cX1_shrunk 169 = .ok (.iload 7, 2) := dk_21 7 (dk_at dksX1_shrunk_7 3 rfl rfl)
theorem dX1_shrunk_171 : decode cX1_shrunk 171 = .ok (.iaload, 1) := dk_46 (dk_at dksX1_shrunk_7 5 rfl rfl)
theorem dX1_shrunk_172 : decode cX1_shrunk 172 = .ok (.invokestatic 177, 3) := dk_184 0 177 (dk_at dksX1_shrunk_7 6 rfl rfl)
theorem dX1_shrunk_175 : decode cX1_shrunk 175 = .ok (.invokevirtual 37, 3) := dk_182 0 37 (dk_at dksX1_shrunk_7 9 rfl rfl)
theorem dX1_shrunk_178 : decode cX1_shrunk 178 = .ok (.iinc 7 1, 3) := dk_132 7 1 (dk_at dksX1_shrunk_7 12 rfl rfl)
theorem dX1_shrunk_181 : decode cX1_shrunk 181 = .ok (.goto (-75), 3) := dk_167 255 181 (dk_at dksX1_shrunk_7 15 rfl rfl)
theorem dX1_shrunk_184 : decode cX1_shrunk 184 = .ok (.aload_n 0, 1) := dk_42 (dk_at dksX1_shrunk_7 18 rfl rfl)
theorem dX1_shrunk_185 : decode cX1_shrunk 185 = .ok (.getfield 124, 3) := dk_180 0 124 (dk_at dksX1_shrunk_7 19 rfl rfl)
theorem dX1_shrunk_188 : decode cX1_shrunk 188 = .ok (.iload 6, 2) := dk_21 6 (dk_at dksX1_shrunk_7 22 rfl rfl)
theorem dX1_shrunk_190 : decode cX1_shrunk 190 = .ok (.iaload, 1) := dk_46 (dk_at dksX1_shrunk_8 0 rfl rfl)
theorem dX1_shrunk_191 : decode cX1_shrunk 191 = .ok (.iconst (-1), 1) := dk_2 (dk_at dksX1_shrunk_8 1 rfl rfl)
theorem dX1_shrunk_192 : decode cX1_shrunk 192 = .ok (.if_icmp .eq 37, 3) := dk_159 0 37 (dk_at dksX1_shrunk_8 2 rfl rfl)
theorem dX1_shrunk_195 : decode cX1_shrunk 195 = .ok (.aload_n 3, 1) := dk_45 (dk_at dksX1_shrunk_8 5 rfl rfl)
theorem dX1_shrunk_196 : decode cX1_shrunk 196 = .ok (.iload 6, 2) := dk_21 6 (dk_at dksX1_shrunk_8 6 rfl rfl)
theorem dX1_shrunk_198 : decode cX1_shrunk 198 = .ok (.iaload, 1) := dk_46 (dk_at dksX1_shrunk_8 8 rfl rfl)
theorem dX1_shrunk_199 : decode cX1_shrunk 199 = .ok (.aload_n 3, 1) := dk_45 (dk_at dksX1_shrunk_8 9 rfl rfl)
theorem dX1_shrunk_200 : decode cX1_shrunk 200 = .ok (.aload_n 0, 1) := dk_42 (dk_at dksX1_shrunk_8 10 rfl rfl)
theorem dX1_shrunk_201 : decode cX1_shrunk 201 = .ok (.getfield 124, 3) := dk_180 0 124 (dk_at dksX1_shrunk_8 11 rfl rfl)
theorem dX1_shrunk_204 : decode cX1_shrunk 204 = .ok (.iload 6, 2) := dk_21 6 (dk_at dksX1_shrunk_8 14 rfl rfl)
theorem dX1_shrunk_206 : decode cX1_shrunk 206 = .ok (.iaload, 1) := dk_46 (dk_at dksX1_shrunk_8 16 rfl rfl)
theorem dX1_shrunk_207 : decode cX1_shrunk 207 = .ok (.iaload, 1) := dk_46 (dk_at dksX1_shrunk_8 17 rfl rfl)
theorem dX1_shrunk_208 : decode cX1_shrunk 208 = .ok (.if_icmp .eq 21, 3) := dk_159 0 21 (dk_at dksX1_shrunk_8 18 rfl rfl)
theorem dX1_shrunk_211 : decode cX1_shrunk 211 = .ok (.aload 5, 2) := dk_25 5 (dk_at dksX1_shrunk_8 21 rfl rfl)
theorem dX1_shrunk_213 : decode cX1_shrunk 213 = .ok (.aload_n 3, 1) := dk_45 (dk_at dksX1_shrunk_8 23 rfl rfl)
theorem dX1_shrunk_214 : decode cX1_shrunk 214 = .ok (.iload 6, 2) := dk_21 6 (dk_at dksX1_shrunk_9 0 rfl rfl)
theorem dX1_shrunk_216 : decode cX1_shrunk 216 = .ok (.iaload, 1) := dk_46 (dk_at dksX1_shrunk_9 2 rfl rfl)
theorem dX1_shrunk_217 : decode cX1_shrunk 217 = .ok (.aload_n 3, 1) := dk_45 (dk_at dksX1_shrunk_9 3 rfl rfl)
theorem dX1_shrunk_218 : decode cX1_shrunk 218 = .ok (.aload_n 0, 1) := dk_42 (dk_at dksX1_shrunk_9 4 rfl rfl)
theorem dX1_shrunk_219 : decode cX1_shrunk 219 = .ok (.getfield 124, 3) := dk_180 0 124 (dk_at dksX1_shrunk_9 5 rfl rfl)
theorem dX1_shrunk_222 : decode cX1_shrunk 222 = .ok (.iload 6, 2) := dk_21 6 (dk_at dksX1_shrunk_9 8 rfl rfl)
theorem dX1_shrunk_224 : decode cX1_shrunk 224 = .ok (.iaload, 1) := dk_46 (dk_at dksX1_shrunk_9 10 rfl rfl)
theorem dX1_shrunk_225 : decode cX1_shrunk 225 = .ok (.iaload, 1) := dk_46 (dk_at dksX1_shrunk_9 11 rfl rfl)
theorem dX1_shrunk_226 : decode cX1_shrunk 226 = .ok (.invokevirtual 131, 3) := dk_182 0 131 (dk_at dksX1_shrunk_9 12 rfl rfl)
theorem dX1_shrunk_229 : decode cX1_shrunk 229 = .ok (.iinc 6 1, 3) := dk_132 6 1 (dk_at dksX1_shrunk_9 15 rfl rfl)
theorem dX1_shrunk_232 : decode cX1_shrunk 232 = .ok (.goto (-138), 3) := dk_167 255 118 (dk_at dksX1_shrunk_9 18 rfl rfl)
theorem dX1_shrunk_235 : decode cX1_shrunk 235 = .ok (.aload 5, 2) := dk_25 5 (dk_at dksX1_shrunk_9 21 rfl rfl)
theorem dX1_shrunk_237 : decode cX1_shrunk 237 = .ok (.areturn, 1) := dk_176 (dk_at dksX1_shrunk_9 23 rfl rfl)
abbrev cX1_told : ByteArray := prog_1_method_23_code
def yX1_told : MethodName := ⟨RX1, "told", "(I)I"⟩
def dkwX1_told_7 : List UInt8 := [180, 0, 66, 172, 42, 180, 0, 20, 182, 0, 50, 172]
abbrev dktX1_told_7 : List UInt8 := dkwX1_told_7 ++ []
def dkwX1_told_6 : List UInt8 := [180, 0, 29, 180, 0, 124, 29, 46, 46, 167, 0, 4, 3, 96, 61, 132, 3, 1, 167, 255, 203, 28, 172, 42]
abbrev dktX1_told_6 : List UInt8 := dkwX1_told_6 ++ dktX1_told_7
def dkwX1_told_5 : List UInt8 := [180, 0, 29, 180, 0, 124, 29, 46, 29, 164, 0, 25, 42, 180, 0, 29, 180, 0, 173, 29, 50, 42]
abbrev dktX1_told_5 : List UInt8 := dkwX1_told_5 ++ dktX1_told_6
def dkwX1_told_4 : List UInt8 := [183, 0, 152, 182, 0, 195, 172, 3, 61, 3, 62, 29, 42, 180, 0, 29, 180, 0, 102, 162, 0, 48, 28, 42]
abbrev dktX1_told_4 : List UInt8 := dkwX1_told_4 ++ dktX1_told_5
def dkwX1_told_3 : List UInt8 := [187, 0, 150, 89, 42, 180, 0, 29, 183, 0, 152, 180, 0, 192, 172, 187, 0, 150, 89, 42, 180, 0, 29]
abbrev dktX1_told_3 : List UInt8 := dkwX1_told_3 ++ dktX1_told_4
def dkwX1_told_2 : List UInt8 := [42, 180, 0, 29, 180, 0, 102, 172, 42, 180, 0, 29, 182, 0, 99, 172, 42, 180, 0, 29, 182, 0, 134, 172]
abbrev dktX1_told_2 : List UInt8 := dkwX1_told_2 ++ dktX1_told_3
def dkwX1_told_1 : List UInt8 := [170, 0, 0, 0, 0, 163, 0, 0, 0, 0, 0, 0, 0, 6, 0, 0, 0, 42, 0, 0, 0, 50, 0, 0, 0, 58, 0, 0, 0, 66, 0, 0, 0, 81, 0, 0, 0, 96, 0, 0, 0, 158]
abbrev dktX1_told_1 : List UInt8 := dkwX1_told_1 ++ dktX1_told_2
def dkwX1_told_0 : List UInt8 := [42, 27, 133, 9, 20, 0, 190, 184, 0, 72, 182, 0, 76, 27]
abbrev dktX1_told_0 : List UInt8 := dkwX1_told_0 ++ dktX1_told_1
theorem dksX1_told_0 : cX1_told.data.toList.drop 0 = dktX1_told_0 := by decide +kernel
theorem dksX1_told_1 : cX1_told.data.toList.drop 14 = dktX1_told_1 := dk_seg dksX1_told_0 14 rfl rfl
theorem dksX1_told_2 : cX1_told.data.toList.drop 56 = dktX1_told_2 := dk_seg dksX1_told_1 42 rfl rfl
theorem dksX1_told_3 : cX1_told.data.toList.drop 80 = dktX1_told_3 := dk_seg dksX1_told_2 24 rfl rfl
theorem dksX1_told_4 : cX1_told.data.toList.drop 103 = dktX1_told_4 := dk_seg dksX1_told_3 23 rfl rfl
theorem dksX1_told_5 : cX1_told.data.toList.drop 127 = dktX1_told_5 := dk_seg dksX1_told_4 24 rfl rfl
theorem dksX1_told_6 : cX1_told.data.toList.drop 149 = dktX1_told_6 := dk_seg dksX1_told_5 22 rfl rfl
theorem dksX1_told_7 : cX1_told.data.toList.drop 173 = dktX1_told_7 := dk_seg dksX1_told_6 24 rfl rfl
theorem dX1_told_0 : decode cX1_told 0 = .ok (.aload_n 0, 1) := dk_42 (dk_at dksX1_told_0 0 rfl rfl)
theorem dX1_told_1 : decode cX1_told 1 = .ok (.iload_n 1, 1) := dk_27 (dk_at dksX1_told_0 1 rfl rfl)
theorem dX1_told_2 : decode cX1_told 2 = .ok (.i2l, 1) := dk_133 (dk_at dksX1_told_0 2 rfl rfl)
theorem dX1_told_3 : decode cX1_told 3 = .ok (.lconst 0, 1) := dk_9 (dk_at dksX1_told_0 3 rfl rfl)
theorem dX1_told_4 : decode cX1_told 4 = .ok (.ldc2_w 190, 3) := dk_20 0 190 (dk_at dksX1_told_0 4 rfl rfl)
theorem dX1_told_7 : decode cX1_told 7 = .ok (.invokestatic 72, 3) := dk_184 0 72 (dk_at dksX1_told_0 7 rfl rfl)
theorem dX1_told_10 : decode cX1_told 10 = .ok (.invokevirtual 76, 3) := dk_182 0 76 (dk_at dksX1_told_0 10 rfl rfl)
theorem dX1_told_13 : decode cX1_told 13 = .ok (.iload_n 1, 1) := dk_27 (dk_at dksX1_told_0 13 rfl rfl)
theorem dX1_told_14 : decode cX1_told 14 = .ok (.tableswitch 163 0 6 #[42, 50, 58, 66, 81, 96, 158], 42) := by decide +kernel
theorem dX1_told_56 : decode cX1_told 56 = .ok (.aload_n 0, 1) := dk_42 (dk_at dksX1_told_2 0 rfl rfl)
theorem dX1_told_57 : decode cX1_told 57 = .ok (.getfield 29, 3) := dk_180 0 29 (dk_at dksX1_told_2 1 rfl rfl)
theorem dX1_told_60 : decode cX1_told 60 = .ok (.getfield 102, 3) := dk_180 0 102 (dk_at dksX1_told_2 4 rfl rfl)
theorem dX1_told_63 : decode cX1_told 63 = .ok (.ireturn, 1) := dk_172 (dk_at dksX1_told_2 7 rfl rfl)
theorem dX1_told_64 : decode cX1_told 64 = .ok (.aload_n 0, 1) := dk_42 (dk_at dksX1_told_2 8 rfl rfl)
theorem dX1_told_65 : decode cX1_told 65 = .ok (.getfield 29, 3) := dk_180 0 29 (dk_at dksX1_told_2 9 rfl rfl)
theorem dX1_told_68 : decode cX1_told 68 = .ok (.invokevirtual 99, 3) := dk_182 0 99 (dk_at dksX1_told_2 12 rfl rfl)
theorem dX1_told_71 : decode cX1_told 71 = .ok (.ireturn, 1) := dk_172 (dk_at dksX1_told_2 15 rfl rfl)
theorem dX1_told_72 : decode cX1_told 72 = .ok (.aload_n 0, 1) := dk_42 (dk_at dksX1_told_2 16 rfl rfl)
theorem dX1_told_73 : decode cX1_told 73 = .ok (.getfield 29, 3) := dk_180 0 29 (dk_at dksX1_told_2 17 rfl rfl)
theorem dX1_told_76 : decode cX1_told 76 = .ok (.invokevirtual 134, 3) := dk_182 0 134 (dk_at dksX1_told_2 20 rfl rfl)
theorem dX1_told_79 : decode cX1_told 79 = .ok (.ireturn, 1) := dk_172 (dk_at dksX1_told_2 23 rfl rfl)
theorem dX1_told_80 : decode cX1_told 80 = .ok (.new 150, 3) := dk_187 0 150 (dk_at dksX1_told_3 0 rfl rfl)
theorem dX1_told_83 : decode cX1_told 83 = .ok (.dup, 1) := dk_89 (dk_at dksX1_told_3 3 rfl rfl)
theorem dX1_told_84 : decode cX1_told 84 = .ok (.aload_n 0, 1) := dk_42 (dk_at dksX1_told_3 4 rfl rfl)
theorem dX1_told_85 : decode cX1_told 85 = .ok (.getfield 29, 3) := dk_180 0 29 (dk_at dksX1_told_3 5 rfl rfl)
theorem dX1_told_88 : decode cX1_told 88 = .ok (.invokespecial 152, 3) := dk_183 0 152 (dk_at dksX1_told_3 8 rfl rfl)
theorem dX1_told_91 : decode cX1_told 91 = .ok (.getfield 192, 3) := dk_180 0 192 (dk_at dksX1_told_3 11 rfl rfl)
theorem dX1_told_94 : decode cX1_told 94 = .ok (.ireturn, 1) := dk_172 (dk_at dksX1_told_3 14 rfl rfl)
theorem dX1_told_95 : decode cX1_told 95 = .ok (.new 150, 3) := dk_187 0 150 (dk_at dksX1_told_3 15 rfl rfl)
theorem dX1_told_98 : decode cX1_told 98 = .ok (.dup, 1) := dk_89 (dk_at dksX1_told_3 18 rfl rfl)
theorem dX1_told_99 : decode cX1_told 99 = .ok (.aload_n 0, 1) := dk_42 (dk_at dksX1_told_3 19 rfl rfl)
theorem dX1_told_100 : decode cX1_told 100 = .ok (.getfield 29, 3) := dk_180 0 29 (dk_at dksX1_told_3 20 rfl rfl)
theorem dX1_told_103 : decode cX1_told 103 = .ok (.invokespecial 152, 3) := dk_183 0 152 (dk_at dksX1_told_4 0 rfl rfl)
theorem dX1_told_106 : decode cX1_told 106 = .ok (.invokevirtual 195, 3) := dk_182 0 195 (dk_at dksX1_told_4 3 rfl rfl)
theorem dX1_told_109 : decode cX1_told 109 = .ok (.ireturn, 1) := dk_172 (dk_at dksX1_told_4 6 rfl rfl)
theorem dX1_told_110 : decode cX1_told 110 = .ok (.iconst 0, 1) := dk_3 (dk_at dksX1_told_4 7 rfl rfl)
theorem dX1_told_111 : decode cX1_told 111 = .ok (.istore_n 2, 1) := dk_61 (dk_at dksX1_told_4 8 rfl rfl)
theorem dX1_told_112 : decode cX1_told 112 = .ok (.iconst 0, 1) := dk_3 (dk_at dksX1_told_4 9 rfl rfl)
theorem dX1_told_113 : decode cX1_told 113 = .ok (.istore_n 3, 1) := dk_62 (dk_at dksX1_told_4 10 rfl rfl)
theorem dX1_told_114 : decode cX1_told 114 = .ok (.iload_n 3, 1) := dk_29 (dk_at dksX1_told_4 11 rfl rfl)
theorem dX1_told_115 : decode cX1_told 115 = .ok (.aload_n 0, 1) := dk_42 (dk_at dksX1_told_4 12 rfl rfl)
theorem dX1_told_116 : decode cX1_told 116 = .ok (.getfield 29, 3) := dk_180 0 29 (dk_at dksX1_told_4 13 rfl rfl)
theorem dX1_told_119 : decode cX1_told 119 = .ok (.getfield 102, 3) := dk_180 0 102 (dk_at dksX1_told_4 16 rfl rfl)
theorem dX1_told_122 : decode cX1_told 122 = .ok (.if_icmp .ge 48, 3) := dk_162 0 48 (dk_at dksX1_told_4 19 rfl rfl)
theorem dX1_told_125 : decode cX1_told 125 = .ok (.iload_n 2, 1) := dk_28 (dk_at dksX1_told_4 22 rfl rfl)
theorem dX1_told_126 : decode cX1_told 126 = .ok (.aload_n 0, 1) := dk_42 (dk_at dksX1_told_4 23 rfl rfl)
theorem dX1_told_127 : decode cX1_told 127 = .ok (.getfield 29, 3) := dk_180 0 29 (dk_at dksX1_told_5 0 rfl rfl)
theorem dX1_told_130 : decode cX1_told 130 = .ok (.getfield 124, 3) := dk_180 0 124 (dk_at dksX1_told_5 3 rfl rfl)
theorem dX1_told_133 : decode cX1_told 133 = .ok (.iload_n 3, 1) := dk_29 (dk_at dksX1_told_5 6 rfl rfl)
theorem dX1_told_134 : decode cX1_told 134 = .ok (.iaload, 1) := dk_46 (dk_at dksX1_told_5 7 rfl rfl)
theorem dX1_told_135 : decode cX1_told 135 = .ok (.iload_n 3, 1) := dk_29 (dk_at dksX1_told_5 8 rfl rfl)
theorem dX1_told_136 : decode cX1_told 136 = .ok (.if_icmp .le 25, 3) := dk_164 0 25 (dk_at dksX1_told_5 9 rfl rfl)
theorem dX1_told_139 : decode cX1_told 139 = .ok (.aload_n 0, 1) := dk_42 (dk_at dksX1_told_5 12 rfl rfl)
theorem dX1_told_140 : decode cX1_told 140 = .ok (.getfield 29, 3) := dk_180 0 29 (dk_at dksX1_told_5 13 rfl rfl)
theorem dX1_told_143 : decode cX1_told 143 = .ok (.getfield 173, 3) := dk_180 0 173 (dk_at dksX1_told_5 16 rfl rfl)
theorem dX1_told_146 : decode cX1_told 146 = .ok (.iload_n 3, 1) := dk_29 (dk_at dksX1_told_5 19 rfl rfl)
theorem dX1_told_147 : decode cX1_told 147 = .ok (.aaload, 1) := dk_50 (dk_at dksX1_told_5 20 rfl rfl)
theorem dX1_told_148 : decode cX1_told 148 = .ok (.aload_n 0, 1) := dk_42 (dk_at dksX1_told_5 21 rfl rfl)
theorem dX1_told_149 : decode cX1_told 149 = .ok (.getfield 29, 3) := dk_180 0 29 (dk_at dksX1_told_6 0 rfl rfl)
theorem dX1_told_152 : decode cX1_told 152 = .ok (.getfield 124, 3) := dk_180 0 124 (dk_at dksX1_told_6 3 rfl rfl)
theorem dX1_told_155 : decode cX1_told 155 = .ok (.iload_n 3, 1) := dk_29 (dk_at dksX1_told_6 6 rfl rfl)
theorem dX1_told_156 : decode cX1_told 156 = .ok (.iaload, 1) := dk_46 (dk_at dksX1_told_6 7 rfl rfl)
theorem dX1_told_157 : decode cX1_told 157 = .ok (.iaload, 1) := dk_46 (dk_at dksX1_told_6 8 rfl rfl)
theorem dX1_told_158 : decode cX1_told 158 = .ok (.goto 4, 3) := dk_167 0 4 (dk_at dksX1_told_6 9 rfl rfl)
theorem dX1_told_161 : decode cX1_told 161 = .ok (.iconst 0, 1) := dk_3 (dk_at dksX1_told_6 12 rfl rfl)
theorem dX1_told_162 : decode cX1_told 162 = .ok (.iadd, 1) := dk_96 (dk_at dksX1_told_6 13 rfl rfl)
theorem dX1_told_163 : decode cX1_told 163 = .ok (.istore_n 2, 1) := dk_61 (dk_at dksX1_told_6 14 rfl rfl)
theorem dX1_told_164 : decode cX1_told 164 = .ok (.iinc 3 1, 3) := dk_132 3 1 (dk_at dksX1_told_6 15 rfl rfl)
theorem dX1_told_167 : decode cX1_told 167 = .ok (.goto (-53), 3) := dk_167 255 203 (dk_at dksX1_told_6 18 rfl rfl)
theorem dX1_told_170 : decode cX1_told 170 = .ok (.iload_n 2, 1) := dk_28 (dk_at dksX1_told_6 21 rfl rfl)
theorem dX1_told_171 : decode cX1_told 171 = .ok (.ireturn, 1) := dk_172 (dk_at dksX1_told_6 22 rfl rfl)
theorem dX1_told_172 : decode cX1_told 172 = .ok (.aload_n 0, 1) := dk_42 (dk_at dksX1_told_6 23 rfl rfl)
theorem dX1_told_173 : decode cX1_told 173 = .ok (.getfield 66, 3) := dk_180 0 66 (dk_at dksX1_told_7 0 rfl rfl)
theorem dX1_told_176 : decode cX1_told 176 = .ok (.ireturn, 1) := dk_172 (dk_at dksX1_told_7 3 rfl rfl)
theorem dX1_told_177 : decode cX1_told 177 = .ok (.aload_n 0, 1) := dk_42 (dk_at dksX1_told_7 4 rfl rfl)
theorem dX1_told_178 : decode cX1_told 178 = .ok (.getfield 20, 3) := dk_180 0 20 (dk_at dksX1_told_7 5 rfl rfl)
theorem dX1_told_181 : decode cX1_told 181 = .ok (.invokevirtual 50, 3) := dk_182 0 50 (dk_at dksX1_told_7 8 rfl rfl)
theorem dX1_told_184 : decode cX1_told 184 = .ok (.ireturn, 1) := dk_172 (dk_at dksX1_told_7 11 rfl rfl)
abbrev cX1_line : ByteArray := prog_1_method_24_code
def yX1_line : MethodName := ⟨RX1, "line", "(III)I"⟩
def dkwX1_line_10 : List UInt8 := [191]
abbrev dktX1_line_10 : List UInt8 := dkwX1_line_10 ++ []
def dkwX1_line_9 : List UInt8 := [21, 8, 172, 58, 8, 25, 7, 182, 0, 214, 167, 0, 12, 58, 9, 25, 8, 25, 9, 182, 0, 219, 25, 8]
abbrev dktX1_line_9 : List UInt8 := dkwX1_line_9 ++ dktX1_line_10
def dkwX1_line_8 : List UInt8 := [58, 7, 25, 7, 182, 0, 212, 21, 6, 162, 0, 7, 4, 167, 0, 4, 3, 54, 8, 25, 7, 182, 0, 214]
abbrev dktX1_line_8 : List UInt8 := dkwX1_line_8 ++ dktX1_line_9
def dkwX1_line_7 : List UInt8 := [4, 100, 160, 0, 7, 4, 167, 0, 4, 3, 172, 187, 0, 207, 89, 42, 180, 0, 29, 27, 28, 183, 0, 209]
abbrev dktX1_line_7 : List UInt8 := dkwX1_line_7 ++ dktX1_line_8
def dkwX1_line_6 : List UInt8 := [25, 5, 42, 180, 0, 29, 182, 0, 203, 4, 27, 120, 4, 28, 120, 128, 2, 130, 126, 182, 0, 205, 21, 6]
abbrev dktX1_line_6 : List UInt8 := dkwX1_line_6 ++ dktX1_line_7
def dkwX1_line_5 : List UInt8 := [183, 0, 202, 58, 5, 25, 5, 42, 180, 0, 29, 182, 0, 203, 182, 0, 205, 54, 6, 29, 6, 160, 0, 38]
abbrev dktX1_line_5 : List UInt8 := dkwX1_line_5 ++ dktX1_line_6
def dkwX1_line_4 : List UInt8 := [160, 0, 7, 4, 167, 0, 4, 3, 172, 21, 4, 154, 0, 5, 3, 172, 187, 0, 200, 89, 42, 180, 0, 29]
abbrev dktX1_line_4 : List UInt8 := dkwX1_line_4 ++ dktX1_line_5
def dkwX1_line_3 : List UInt8 := [180, 0, 29, 180, 0, 173, 27, 50, 28, 46, 167, 0, 21, 42, 180, 0, 29, 180, 0, 124, 27, 46, 28]
abbrev dktX1_line_3 : List UInt8 := dkwX1_line_3 ++ dktX1_line_4
def dkwX1_line_2 : List UInt8 := [29, 154, 0, 16, 21, 4, 153, 0, 7, 4, 167, 0, 44, 3, 167, 0, 40, 29, 4, 160, 0, 17, 42]
abbrev dktX1_line_2 : List UInt8 := dkwX1_line_2 ++ dktX1_line_3
def dkwX1_line_1 : List UInt8 := [4, 167, 0, 4, 3, 182, 0, 76, 42, 180, 0, 29, 27, 28, 182, 0, 117, 54, 4, 29, 6, 162, 0, 58]
abbrev dktX1_line_1 : List UInt8 := dkwX1_line_1 ++ dktX1_line_2
def dkwX1_line_0 : List UInt8 := [42, 27, 28, 182, 0, 111, 42, 27, 28, 159, 0, 19, 29, 133, 9, 20, 0, 198, 184, 0, 72, 153, 0, 7]
abbrev dktX1_line_0 : List UInt8 := dkwX1_line_0 ++ dktX1_line_1
theorem dksX1_line_0 : cX1_line.data.toList.drop 0 = dktX1_line_0 := by decide +kernel
theorem dksX1_line_1 : cX1_line.data.toList.drop 24 = dktX1_line_1 := dk_seg dksX1_line_0 24 rfl rfl
theorem dksX1_line_2 : cX1_line.data.toList.drop 48 = dktX1_line_2 := dk_seg dksX1_line_1 24 rfl rfl
theorem dksX1_line_3 : cX1_line.data.toList.drop 71 = dktX1_line_3 := dk_seg dksX1_line_2 23 rfl rfl
theorem dksX1_line_4 : cX1_line.data.toList.drop 94 = dktX1_line_4 := dk_seg dksX1_line_3 23 rfl rfl
theorem dksX1_line_5 : cX1_line.data.toList.drop 118 = dktX1_line_5 := dk_seg dksX1_line_4 24 rfl rfl
theorem dksX1_line_6 : cX1_line.data.toList.drop 142 = dktX1_line_6 := dk_seg dksX1_line_5 24 rfl rfl
theorem dksX1_line_7 : cX1_line.data.toList.drop 166 = dktX1_line_7 := dk_seg dksX1_line_6 24 rfl rfl
theorem dksX1_line_8 : cX1_line.data.toList.drop 190 = dktX1_line_8 := dk_seg dksX1_line_7 24 rfl rfl
theorem dksX1_line_9 : cX1_line.data.toList.drop 214 = dktX1_line_9 := dk_seg dksX1_line_8 24 rfl rfl
theorem dksX1_line_10 : cX1_line.data.toList.drop 238 = dktX1_line_10 := dk_seg dksX1_line_9 24 rfl rfl
theorem dX1_line_0 : decode cX1_line 0 = .ok (.aload_n 0, 1) := dk_42 (dk_at dksX1_line_0 0 rfl rfl)
theorem dX1_line_1 : decode cX1_line 1 = .ok (.iload_n 1, 1) := dk_27 (dk_at dksX1_line_0 1 rfl rfl)
theorem dX1_line_2 : decode cX1_line 2 = .ok (.iload_n 2, 1) := dk_28 (dk_at dksX1_line_0 2 rfl rfl)
theorem dX1_line_3 : decode cX1_line 3 = .ok (.invokevirtual 111, 3) := dk_182 0 111 (dk_at dksX1_line_0 3 rfl rfl)
theorem dX1_line_6 : decode cX1_line 6 = .ok (.aload_n 0, 1) := dk_42 (dk_at dksX1_line_0 6 rfl rfl)
theorem dX1_line_7 : decode cX1_line 7 = .ok (.iload_n 1, 1) := dk_27 (dk_at dksX1_line_0 7 rfl rfl)
theorem dX1_line_8 : decode cX1_line 8 = .ok (.iload_n 2, 1) := dk_28 (dk_at dksX1_line_0 8 rfl rfl)
theorem dX1_line_9 : decode cX1_line 9 = .ok (.if_icmp .eq 19, 3) := dk_159 0 19 (dk_at dksX1_line_0 9 rfl rfl)
theorem dX1_line_12 : decode cX1_line 12 = .ok (.iload_n 3, 1) := dk_29 (dk_at dksX1_line_0 12 rfl rfl)
theorem dX1_line_13 : decode cX1_line 13 = .ok (.i2l, 1) := dk_133 (dk_at dksX1_line_0 13 rfl rfl)
theorem dX1_line_14 : decode cX1_line 14 = .ok (.lconst 0, 1) := dk_9 (dk_at dksX1_line_0 14 rfl rfl)
theorem dX1_line_15 : decode cX1_line 15 = .ok (.ldc2_w 198, 3) := dk_20 0 198 (dk_at dksX1_line_0 15 rfl rfl)
theorem dX1_line_18 : decode cX1_line 18 = .ok (.invokestatic 72, 3) := dk_184 0 72 (dk_at dksX1_line_0 18 rfl rfl)
theorem dX1_line_21 : decode cX1_line 21 = .ok (.ifCond .eq 7, 3) := dk_153 0 7 (dk_at dksX1_line_0 21 rfl rfl)
theorem dX1_line_24 : decode cX1_line 24 = .ok (.iconst 1, 1) := dk_4 (dk_at dksX1_line_1 0 rfl rfl)
theorem dX1_line_25 : decode cX1_line 25 = .ok (.goto 4, 3) := dk_167 0 4 (dk_at dksX1_line_1 1 rfl rfl)
theorem dX1_line_28 : decode cX1_line 28 = .ok (.iconst 0, 1) := dk_3 (dk_at dksX1_line_1 4 rfl rfl)
theorem dX1_line_29 : decode cX1_line 29 = .ok (.invokevirtual 76, 3) := dk_182 0 76 (dk_at dksX1_line_1 5 rfl rfl)
theorem dX1_line_32 : decode cX1_line 32 = .ok (.aload_n 0, 1) := dk_42 (dk_at dksX1_line_1 8 rfl rfl)
theorem dX1_line_33 : decode cX1_line 33 = .ok (.getfield 29, 3) := dk_180 0 29 (dk_at dksX1_line_1 9 rfl rfl)
theorem dX1_line_36 : decode cX1_line 36 = .ok (.iload_n 1, 1) := dk_27 (dk_at dksX1_line_1 12 rfl rfl)
theorem dX1_line_37 : decode cX1_line 37 = .ok (.iload_n 2, 1) := dk_28 (dk_at dksX1_line_1 13 rfl rfl)
theorem dX1_line_38 : decode cX1_line 38 = .ok (.invokevirtual 117, 3) := dk_182 0 117 (dk_at dksX1_line_1 14 rfl rfl)
theorem dX1_line_41 : decode cX1_line 41 = .ok (.istore 4, 2) := dk_54 4 (dk_at dksX1_line_1 17 rfl rfl)
theorem dX1_line_43 : decode cX1_line 43 = .ok (.iload_n 3, 1) := dk_29 (dk_at dksX1_line_1 19 rfl rfl)
theorem dX1_line_44 : decode cX1_line 44 = .ok (.iconst 3, 1) := dk_6 (dk_at dksX1_line_1 20 rfl rfl)
theorem dX1_line_45 : decode cX1_line 45 = .ok (.if_icmp .ge 58, 3) := dk_162 0 58 (dk_at dksX1_line_1 21 rfl rfl)
theorem dX1_line_48 : decode cX1_line 48 = .ok (.iload_n 3, 1) := dk_29 (dk_at dksX1_line_2 0 rfl rfl)
theorem dX1_line_49 : decode cX1_line 49 = .ok (.ifCond .ne 16, 3) := dk_154 0 16 (dk_at dksX1_line_2 1 rfl rfl)
theorem dX1_line_52 : decode cX1_line 52 = .ok (.iload 4, 2) := dk_21 4 (dk_at dksX1_line_2 4 rfl rfl)
theorem dX1_line_54 : decode cX1_line 54 = .ok (.ifCond .eq 7, 3) := dk_153 0 7 (dk_at dksX1_line_2 6 rfl rfl)
theorem dX1_line_57 : decode cX1_line 57 = .ok (.iconst 1, 1) := dk_4 (dk_at dksX1_line_2 9 rfl rfl)
theorem dX1_line_58 : decode cX1_line 58 = .ok (.goto 44, 3) := dk_167 0 44 (dk_at dksX1_line_2 10 rfl rfl)
theorem dX1_line_61 : decode cX1_line 61 = .ok (.iconst 0, 1) := dk_3 (dk_at dksX1_line_2 13 rfl rfl)
theorem dX1_line_62 : decode cX1_line 62 = .ok (.goto 40, 3) := dk_167 0 40 (dk_at dksX1_line_2 14 rfl rfl)
theorem dX1_line_65 : decode cX1_line 65 = .ok (.iload_n 3, 1) := dk_29 (dk_at dksX1_line_2 17 rfl rfl)
theorem dX1_line_66 : decode cX1_line 66 = .ok (.iconst 1, 1) := dk_4 (dk_at dksX1_line_2 18 rfl rfl)
theorem dX1_line_67 : decode cX1_line 67 = .ok (.if_icmp .ne 17, 3) := dk_160 0 17 (dk_at dksX1_line_2 19 rfl rfl)
theorem dX1_line_70 : decode cX1_line 70 = .ok (.aload_n 0, 1) := dk_42 (dk_at dksX1_line_2 22 rfl rfl)
theorem dX1_line_71 : decode cX1_line 71 = .ok (.getfield 29, 3) := dk_180 0 29 (dk_at dksX1_line_3 0 rfl rfl)
theorem dX1_line_74 : decode cX1_line 74 = .ok (.getfield 173, 3) := dk_180 0 173 (dk_at dksX1_line_3 3 rfl rfl)
theorem dX1_line_77 : decode cX1_line 77 = .ok (.iload_n 1, 1) := dk_27 (dk_at dksX1_line_3 6 rfl rfl)
theorem dX1_line_78 : decode cX1_line 78 = .ok (.aaload, 1) := dk_50 (dk_at dksX1_line_3 7 rfl rfl)
theorem dX1_line_79 : decode cX1_line 79 = .ok (.iload_n 2, 1) := dk_28 (dk_at dksX1_line_3 8 rfl rfl)
theorem dX1_line_80 : decode cX1_line 80 = .ok (.iaload, 1) := dk_46 (dk_at dksX1_line_3 9 rfl rfl)
theorem dX1_line_81 : decode cX1_line 81 = .ok (.goto 21, 3) := dk_167 0 21 (dk_at dksX1_line_3 10 rfl rfl)
theorem dX1_line_84 : decode cX1_line 84 = .ok (.aload_n 0, 1) := dk_42 (dk_at dksX1_line_3 13 rfl rfl)
theorem dX1_line_85 : decode cX1_line 85 = .ok (.getfield 29, 3) := dk_180 0 29 (dk_at dksX1_line_3 14 rfl rfl)
theorem dX1_line_88 : decode cX1_line 88 = .ok (.getfield 124, 3) := dk_180 0 124 (dk_at dksX1_line_3 17 rfl rfl)
theorem dX1_line_91 : decode cX1_line 91 = .ok (.iload_n 1, 1) := dk_27 (dk_at dksX1_line_3 20 rfl rfl)
theorem dX1_line_92 : decode cX1_line 92 = .ok (.iaload, 1) := dk_46 (dk_at dksX1_line_3 21 rfl rfl)
theorem dX1_line_93 : decode cX1_line 93 = .ok (.iload_n 2, 1) := dk_28 (dk_at dksX1_line_3 22 rfl rfl)
theorem dX1_line_94 : decode cX1_line 94 = .ok (.if_icmp .ne 7, 3) := dk_160 0 7 (dk_at dksX1_line_4 0 rfl rfl)
theorem dX1_line_97 : decode cX1_line 97 = .ok (.iconst 1, 1) := dk_4 (dk_at dksX1_line_4 3 rfl rfl)
theorem dX1_line_98 : decode cX1_line 98 = .ok (.goto 4, 3) := dk_167 0 4 (dk_at dksX1_line_4 4 rfl rfl)
theorem dX1_line_101 : decode cX1_line 101 = .ok (.iconst 0, 1) := dk_3 (dk_at dksX1_line_4 7 rfl rfl)
theorem dX1_line_102 : decode cX1_line 102 = .ok (.ireturn, 1) := dk_172 (dk_at dksX1_line_4 8 rfl rfl)
theorem dX1_line_103 : decode cX1_line 103 = .ok (.iload 4, 2) := dk_21 4 (dk_at dksX1_line_4 9 rfl rfl)
theorem dX1_line_105 : decode cX1_line 105 = .ok (.ifCond .ne 5, 3) := dk_154 0 5 (dk_at dksX1_line_4 11 rfl rfl)
theorem dX1_line_108 : decode cX1_line 108 = .ok (.iconst 0, 1) := dk_3 (dk_at dksX1_line_4 14 rfl rfl)
theorem dX1_line_109 : decode cX1_line 109 = .ok (.ireturn, 1) := dk_172 (dk_at dksX1_line_4 15 rfl rfl)
theorem dX1_line_110 : decode cX1_line 110 = .ok (.new 200, 3) := dk_187 0 200 (dk_at dksX1_line_4 16 rfl rfl)
theorem dX1_line_113 : decode cX1_line 113 = .ok (.dup, 1) := dk_89 (dk_at dksX1_line_4 19 rfl rfl)
theorem dX1_line_114 : decode cX1_line 114 = .ok (.aload_n 0, 1) := dk_42 (dk_at dksX1_line_4 20 rfl rfl)
theorem dX1_line_115 : decode cX1_line 115 = .ok (.getfield 29, 3) := dk_180 0 29 (dk_at dksX1_line_4 21 rfl rfl)
theorem dX1_line_118 : decode cX1_line 118 = .ok (.invokespecial 202, 3) := dk_183 0 202 (dk_at dksX1_line_5 0 rfl rfl)
theorem dX1_line_121 : decode cX1_line 121 = .ok (.astore 5, 2) := dk_58 5 (dk_at dksX1_line_5 3 rfl rfl)
theorem dX1_line_123 : decode cX1_line 123 = .ok (.aload 5, 2) := dk_25 5 (dk_at dksX1_line_5 5 rfl rfl)
theorem dX1_line_125 : decode cX1_line 125 = .ok (.aload_n 0, 1) := dk_42 (dk_at dksX1_line_5 7 rfl rfl)
theorem dX1_line_126 : decode cX1_line 126 = .ok (.getfield 29, 3) := dk_180 0 29 (dk_at dksX1_line_5 8 rfl rfl)
theorem dX1_line_129 : decode cX1_line 129 = .ok (.invokevirtual 203, 3) := dk_182 0 203 (dk_at dksX1_line_5 11 rfl rfl)
theorem dX1_line_132 : decode cX1_line 132 = .ok (.invokevirtual 205, 3) := dk_182 0 205 (dk_at dksX1_line_5 14 rfl rfl)
theorem dX1_line_135 : decode cX1_line 135 = .ok (.istore 6, 2) := dk_54 6 (dk_at dksX1_line_5 17 rfl rfl)
theorem dX1_line_137 : decode cX1_line 137 = .ok (.iload_n 3, 1) := dk_29 (dk_at dksX1_line_5 19 rfl rfl)
theorem dX1_line_138 : decode cX1_line 138 = .ok (.iconst 3, 1) := dk_6 (dk_at dksX1_line_5 20 rfl rfl)
theorem dX1_line_139 : decode cX1_line 139 = .ok (.if_icmp .ne 38, 3) := dk_160 0 38 (dk_at dksX1_line_5 21 rfl rfl)
theorem dX1_line_142 : decode cX1_line 142 = .ok (.aload 5, 2) := dk_25 5 (dk_at dksX1_line_6 0 rfl rfl)
theorem dX1_line_144 : decode cX1_line 144 = .ok (.aload_n 0, 1) := dk_42 (dk_at dksX1_line_6 2 rfl rfl)
theorem dX1_line_145 : decode cX1_line 145 = .ok (.getfield 29, 3) := dk_180 0 29 (dk_at dksX1_line_6 3 rfl rfl)
theorem dX1_line_148 : decode cX1_line 148 = .ok (.invokevirtual 203, 3) := dk_182 0 203 (dk_at dksX1_line_6 6 rfl rfl)
theorem dX1_line_151 : decode cX1_line 151 = .ok (.iconst 1, 1) := dk_4 (dk_at dksX1_line_6 9 rfl rfl)
theorem dX1_line_152 : decode cX1_line 152 = .ok (.iload_n 1, 1) := dk_27 (dk_at dksX1_line_6 10 rfl rfl)
theorem dX1_line_153 : decode cX1_line 153 = .ok (.ishl, 1) := dk_120 (dk_at dksX1_line_6 11 rfl rfl)
theorem dX1_line_154 : decode cX1_line 154 = .ok (.iconst 1, 1) := dk_4 (dk_at dksX1_line_6 12 rfl rfl)
theorem dX1_line_155 : decode cX1_line 155 = .ok (.iload_n 2, 1) := dk_28 (dk_at dksX1_line_6 13 rfl rfl)
theorem dX1_line_156 : decode cX1_line 156 = .ok (.ishl, 1) := dk_120 (dk_at dksX1_line_6 14 rfl rfl)
theorem dX1_line_157 : decode cX1_line 157 = .ok (.ior, 1) := dk_128 (dk_at dksX1_line_6 15 rfl rfl)
theorem dX1_line_158 : decode cX1_line 158 = .ok (.iconst (-1), 1) := dk_2 (dk_at dksX1_line_6 16 rfl rfl)
theorem dX1_line_159 : decode cX1_line 159 = .ok (.ixor, 1) := dk_130 (dk_at dksX1_line_6 17 rfl rfl)
theorem dX1_line_160 : decode cX1_line 160 = .ok (.iand, 1) := dk_126 (dk_at dksX1_line_6 18 rfl rfl)
theorem dX1_line_161 : decode cX1_line 161 = .ok (.invokevirtual 205, 3) := dk_182 0 205 (dk_at dksX1_line_6 19 rfl rfl)
theorem dX1_line_164 : decode cX1_line 164 = .ok (.iload 6, 2) := dk_21 6 (dk_at dksX1_line_6 22 rfl rfl)
theorem dX1_line_166 : decode cX1_line 166 = .ok (.iconst 1, 1) := dk_4 (dk_at dksX1_line_7 0 rfl rfl)
theorem dX1_line_167 : decode cX1_line 167 = .ok (.isub, 1) := dk_100 (dk_at dksX1_line_7 1 rfl rfl)
theorem dX1_line_168 : decode cX1_line 168 = .ok (.if_icmp .ne 7, 3) := dk_160 0 7 (dk_at dksX1_line_7 2 rfl rfl)
theorem dX1_line_171 : decode cX1_line 171 = .ok (.iconst 1, 1) := dk_4 (dk_at dksX1_line_7 5 rfl rfl)
theorem dX1_line_172 : decode cX1_line 172 = .ok (.goto 4, 3) := dk_167 0 4 (dk_at dksX1_line_7 6 rfl rfl)
theorem dX1_line_175 : decode cX1_line 175 = .ok (.iconst 0, 1) := dk_3 (dk_at dksX1_line_7 9 rfl rfl)
theorem dX1_line_176 : decode cX1_line 176 = .ok (.ireturn, 1) := dk_172 (dk_at dksX1_line_7 10 rfl rfl)
theorem dX1_line_177 : decode cX1_line 177 = .ok (.new 207, 3) := dk_187 0 207 (dk_at dksX1_line_7 11 rfl rfl)
theorem dX1_line_180 : decode cX1_line 180 = .ok (.dup, 1) := dk_89 (dk_at dksX1_line_7 14 rfl rfl)
theorem dX1_line_181 : decode cX1_line 181 = .ok (.aload_n 0, 1) := dk_42 (dk_at dksX1_line_7 15 rfl rfl)
theorem dX1_line_182 : decode cX1_line 182 = .ok (.getfield 29, 3) := dk_180 0 29 (dk_at dksX1_line_7 16 rfl rfl)
theorem dX1_line_185 : decode cX1_line 185 = .ok (.iload_n 1, 1) := dk_27 (dk_at dksX1_line_7 19 rfl rfl)
theorem dX1_line_186 : decode cX1_line 186 = .ok (.iload_n 2, 1) := dk_28 (dk_at dksX1_line_7 20 rfl rfl)
theorem dX1_line_187 : decode cX1_line 187 = .ok (.invokespecial 209, 3) := dk_183 0 209 (dk_at dksX1_line_7 21 rfl rfl)
theorem dX1_line_190 : decode cX1_line 190 = .ok (.astore 7, 2) := dk_58 7 (dk_at dksX1_line_8 0 rfl rfl)
theorem dX1_line_192 : decode cX1_line 192 = .ok (.aload 7, 2) := dk_25 7 (dk_at dksX1_line_8 2 rfl rfl)
theorem dX1_line_194 : decode cX1_line 194 = .ok (.invokevirtual 212, 3) := dk_182 0 212 (dk_at dksX1_line_8 4 rfl rfl)
theorem dX1_line_197 : decode cX1_line 197 = .ok (.iload 6, 2) := dk_21 6 (dk_at dksX1_line_8 7 rfl rfl)
theorem dX1_line_199 : decode cX1_line 199 = .ok (.if_icmp .ge 7, 3) := dk_162 0 7 (dk_at dksX1_line_8 9 rfl rfl)
theorem dX1_line_202 : decode cX1_line 202 = .ok (.iconst 1, 1) := dk_4 (dk_at dksX1_line_8 12 rfl rfl)
theorem dX1_line_203 : decode cX1_line 203 = .ok (.goto 4, 3) := dk_167 0 4 (dk_at dksX1_line_8 13 rfl rfl)
theorem dX1_line_206 : decode cX1_line 206 = .ok (.iconst 0, 1) := dk_3 (dk_at dksX1_line_8 16 rfl rfl)
theorem dX1_line_207 : decode cX1_line 207 = .ok (.istore 8, 2) := dk_54 8 (dk_at dksX1_line_8 17 rfl rfl)
theorem dX1_line_209 : decode cX1_line 209 = .ok (.aload 7, 2) := dk_25 7 (dk_at dksX1_line_8 19 rfl rfl)
theorem dX1_line_211 : decode cX1_line 211 = .ok (.invokevirtual 214, 3) := dk_182 0 214 (dk_at dksX1_line_8 21 rfl rfl)
theorem dX1_line_214 : decode cX1_line 214 = .ok (.iload 8, 2) := dk_21 8 (dk_at dksX1_line_9 0 rfl rfl)
theorem dX1_line_216 : decode cX1_line 216 = .ok (.ireturn, 1) := dk_172 (dk_at dksX1_line_9 2 rfl rfl)
theorem dX1_line_217 : decode cX1_line 217 = .ok (.astore 8, 2) := dk_58 8 (dk_at dksX1_line_9 3 rfl rfl)
theorem dX1_line_219 : decode cX1_line 219 = .ok (.aload 7, 2) := dk_25 7 (dk_at dksX1_line_9 5 rfl rfl)
theorem dX1_line_221 : decode cX1_line 221 = .ok (.invokevirtual 214, 3) := dk_182 0 214 (dk_at dksX1_line_9 7 rfl rfl)
theorem dX1_line_224 : decode cX1_line 224 = .ok (.goto 12, 3) := dk_167 0 12 (dk_at dksX1_line_9 10 rfl rfl)
theorem dX1_line_227 : decode cX1_line 227 = .ok (.astore 9, 2) := dk_58 9 (dk_at dksX1_line_9 13 rfl rfl)
theorem dX1_line_229 : decode cX1_line 229 = .ok (.aload 8, 2) := dk_25 8 (dk_at dksX1_line_9 15 rfl rfl)
theorem dX1_line_231 : decode cX1_line 231 = .ok (.aload 9, 2) := dk_25 9 (dk_at dksX1_line_9 17 rfl rfl)
theorem dX1_line_233 : decode cX1_line 233 = .ok (.invokevirtual 219, 3) := dk_182 0 219 (dk_at dksX1_line_9 19 rfl rfl)
theorem dX1_line_236 : decode cX1_line 236 = .ok (.aload 8, 2) := dk_25 8 (dk_at dksX1_line_9 22 rfl rfl)
theorem dX1_line_238 : decode cX1_line 238 = .ok (.athrow, 1) := dk_191 (dk_at dksX1_line_10 0 rfl rfl)
abbrev cX1_node : ByteArray := prog_1_method_25_code
def yX1_node : MethodName := ⟨RX1, "node", "(II)I"⟩
def dkwX1_node_7 : List UInt8 := [46, 172]
abbrev dktX1_node_7 : List UInt8 := dkwX1_node_7 ++ []
def dkwX1_node_6 : List UInt8 := [153, 0, 7, 4, 167, 0, 4, 5, 172, 187, 0, 150, 89, 42, 180, 0, 29, 183, 0, 152, 182, 0, 153, 27]
abbrev dktX1_node_6 : List UInt8 := dkwX1_node_6 ++ dktX1_node_7
def dkwX1_node_5 : List UInt8 := [182, 0, 250, 27, 184, 0, 170, 153, 0, 7, 3, 167, 0, 20, 25, 4, 182, 0, 253, 27, 184, 0, 170]
abbrev dktX1_node_5 : List UInt8 := dkwX1_node_5 ++ dktX1_node_6
def dkwX1_node_4 : List UInt8 := [184, 0, 241, 182, 0, 247, 172, 187, 0, 150, 89, 42, 180, 0, 29, 183, 0, 152, 58, 4, 25, 4]
abbrev dktX1_node_4 : List UInt8 := dkwX1_node_4 ++ dktX1_node_5
def dkwX1_node_3 : List UInt8 := [187, 0, 137, 89, 42, 180, 0, 29, 183, 0, 139, 182, 0, 231, 78, 45, 180, 0, 235, 45, 180, 0, 238, 27]
abbrev dktX1_node_3 : List UInt8 := dkwX1_node_3 ++ dktX1_node_4
def dkwX1_node_2 : List UInt8 := [42, 180, 0, 29, 27, 182, 0, 223, 184, 0, 226, 172, 42, 180, 0, 29, 180, 0, 124, 27, 46, 172]
abbrev dktX1_node_2 : List UInt8 := dkwX1_node_2 ++ dktX1_node_3
def dkwX1_node_1 : List UInt8 := [170, 0, 0, 0, 129, 0, 0, 0, 0, 0, 0, 0, 3, 0, 0, 0, 29, 0, 0, 0, 41, 0, 0, 0, 51, 0, 0, 0, 82]
abbrev dktX1_node_1 : List UInt8 := dkwX1_node_1 ++ dktX1_node_2
def dkwX1_node_0 : List UInt8 := [42, 27, 182, 0, 108, 42, 28, 133, 9, 20, 0, 198, 184, 0, 72, 182, 0, 76, 28]
abbrev dktX1_node_0 : List UInt8 := dkwX1_node_0 ++ dktX1_node_1
theorem dksX1_node_0 : cX1_node.data.toList.drop 0 = dktX1_node_0 := by decide +kernel
theorem dksX1_node_1 : cX1_node.data.toList.drop 19 = dktX1_node_1 := dk_seg dksX1_node_0 19 rfl rfl
theorem dksX1_node_2 : cX1_node.data.toList.drop 48 = dktX1_node_2 := dk_seg dksX1_node_1 29 rfl rfl
theorem dksX1_node_3 : cX1_node.data.toList.drop 70 = dktX1_node_3 := dk_seg dksX1_node_2 22 rfl rfl
theorem dksX1_node_4 : cX1_node.data.toList.drop 94 = dktX1_node_4 := dk_seg dksX1_node_3 24 rfl rfl
theorem dksX1_node_5 : cX1_node.data.toList.drop 116 = dktX1_node_5 := dk_seg dksX1_node_4 22 rfl rfl
theorem dksX1_node_6 : cX1_node.data.toList.drop 139 = dktX1_node_6 := dk_seg dksX1_node_5 23 rfl rfl
theorem dksX1_node_7 : cX1_node.data.toList.drop 163 = dktX1_node_7 := dk_seg dksX1_node_6 24 rfl rfl
theorem dX1_node_0 : decode cX1_node 0 = .ok (.aload_n 0, 1) := dk_42 (dk_at dksX1_node_0 0 rfl rfl)
theorem dX1_node_1 : decode cX1_node 1 = .ok (.iload_n 1, 1) := dk_27 (dk_at dksX1_node_0 1 rfl rfl)
theorem dX1_node_2 : decode cX1_node 2 = .ok (.invokevirtual 108, 3) := dk_182 0 108 (dk_at dksX1_node_0 2 rfl rfl)
theorem dX1_node_5 : decode cX1_node 5 = .ok (.aload_n 0, 1) := dk_42 (dk_at dksX1_node_0 5 rfl rfl)
theorem dX1_node_6 : decode cX1_node 6 = .ok (.iload_n 2, 1) := dk_28 (dk_at dksX1_node_0 6 rfl rfl)
theorem dX1_node_7 : decode cX1_node 7 = .ok (.i2l, 1) := dk_133 (dk_at dksX1_node_0 7 rfl rfl)
theorem dX1_node_8 : decode cX1_node 8 = .ok (.lconst 0, 1) := dk_9 (dk_at dksX1_node_0 8 rfl rfl)
theorem dX1_node_9 : decode cX1_node 9 = .ok (.ldc2_w 198, 3) := dk_20 0 198 (dk_at dksX1_node_0 9 rfl rfl)
theorem dX1_node_12 : decode cX1_node 12 = .ok (.invokestatic 72, 3) := dk_184 0 72 (dk_at dksX1_node_0 12 rfl rfl)
theorem dX1_node_15 : decode cX1_node 15 = .ok (.invokevirtual 76, 3) := dk_182 0 76 (dk_at dksX1_node_0 15 rfl rfl)
theorem dX1_node_18 : decode cX1_node 18 = .ok (.iload_n 2, 1) := dk_28 (dk_at dksX1_node_0 18 rfl rfl)
theorem dX1_node_19 : decode cX1_node 19 = .ok (.tableswitch 129 0 3 #[29, 41, 51, 82], 29) := by decide +kernel
theorem dX1_node_48 : decode cX1_node 48 = .ok (.aload_n 0, 1) := dk_42 (dk_at dksX1_node_2 0 rfl rfl)
theorem dX1_node_49 : decode cX1_node 49 = .ok (.getfield 29, 3) := dk_180 0 29 (dk_at dksX1_node_2 1 rfl rfl)
theorem dX1_node_52 : decode cX1_node 52 = .ok (.iload_n 1, 1) := dk_27 (dk_at dksX1_node_2 4 rfl rfl)
theorem dX1_node_53 : decode cX1_node 53 = .ok (.invokevirtual 223, 3) := dk_182 0 223 (dk_at dksX1_node_2 5 rfl rfl)
theorem dX1_node_56 : decode cX1_node 56 = .ok (.invokestatic 226, 3) := dk_184 0 226 (dk_at dksX1_node_2 8 rfl rfl)
theorem dX1_node_59 : decode cX1_node 59 = .ok (.ireturn, 1) := dk_172 (dk_at dksX1_node_2 11 rfl rfl)
theorem dX1_node_60 : decode cX1_node 60 = .ok (.aload_n 0, 1) := dk_42 (dk_at dksX1_node_2 12 rfl rfl)
theorem dX1_node_61 : decode cX1_node 61 = .ok (.getfield 29, 3) := dk_180 0 29 (dk_at dksX1_node_2 13 rfl rfl)
theorem dX1_node_64 : decode cX1_node 64 = .ok (.getfield 124, 3) := dk_180 0 124 (dk_at dksX1_node_2 16 rfl rfl)
theorem dX1_node_67 : decode cX1_node 67 = .ok (.iload_n 1, 1) := dk_27 (dk_at dksX1_node_2 19 rfl rfl)
theorem dX1_node_68 : decode cX1_node 68 = .ok (.iaload, 1) := dk_46 (dk_at dksX1_node_2 20 rfl rfl)
theorem dX1_node_69 : decode cX1_node 69 = .ok (.ireturn, 1) := dk_172 (dk_at dksX1_node_2 21 rfl rfl)
theorem dX1_node_70 : decode cX1_node 70 = .ok (.new 137, 3) := dk_187 0 137 (dk_at dksX1_node_3 0 rfl rfl)
theorem dX1_node_73 : decode cX1_node 73 = .ok (.dup, 1) := dk_89 (dk_at dksX1_node_3 3 rfl rfl)
theorem dX1_node_74 : decode cX1_node 74 = .ok (.aload_n 0, 1) := dk_42 (dk_at dksX1_node_3 4 rfl rfl)
theorem dX1_node_75 : decode cX1_node 75 = .ok (.getfield 29, 3) := dk_180 0 29 (dk_at dksX1_node_3 5 rfl rfl)
theorem dX1_node_78 : decode cX1_node 78 = .ok (.invokespecial 139, 3) := dk_183 0 139 (dk_at dksX1_node_3 8 rfl rfl)
theorem dX1_node_81 : decode cX1_node 81 = .ok (.invokevirtual 231, 3) := dk_182 0 231 (dk_at dksX1_node_3 11 rfl rfl)
theorem dX1_node_84 : decode cX1_node 84 = .ok (.astore_n 3, 1) := dk_78 (dk_at dksX1_node_3 14 rfl rfl)
theorem dX1_node_85 : decode cX1_node 85 = .ok (.aload_n 3, 1) := dk_45 (dk_at dksX1_node_3 15 rfl rfl)
theorem dX1_node_86 : decode cX1_node 86 = .ok (.getfield 235, 3) := dk_180 0 235 (dk_at dksX1_node_3 16 rfl rfl)
theorem dX1_node_89 : decode cX1_node 89 = .ok (.aload_n 3, 1) := dk_45 (dk_at dksX1_node_3 19 rfl rfl)
theorem dX1_node_90 : decode cX1_node 90 = .ok (.getfield 238, 3) := dk_180 0 238 (dk_at dksX1_node_3 20 rfl rfl)
theorem dX1_node_93 : decode cX1_node 93 = .ok (.iload_n 1, 1) := dk_27 (dk_at dksX1_node_3 23 rfl rfl)
theorem dX1_node_94 : decode cX1_node 94 = .ok (.invokestatic 241, 3) := dk_184 0 241 (dk_at dksX1_node_4 0 rfl rfl)
theorem dX1_node_97 : decode cX1_node 97 = .ok (.invokevirtual 247, 3) := dk_182 0 247 (dk_at dksX1_node_4 3 rfl rfl)
theorem dX1_node_100 : decode cX1_node 100 = .ok (.ireturn, 1) := dk_172 (dk_at dksX1_node_4 6 rfl rfl)
theorem dX1_node_101 : decode cX1_node 101 = .ok (.new 150, 3) := dk_187 0 150 (dk_at dksX1_node_4 7 rfl rfl)
theorem dX1_node_104 : decode cX1_node 104 = .ok (.dup, 1) := dk_89 (dk_at dksX1_node_4 10 rfl rfl)
theorem dX1_node_105 : decode cX1_node 105 = .ok (.aload_n 0, 1) := dk_42 (dk_at dksX1_node_4 11 rfl rfl)
theorem dX1_node_106 : decode cX1_node 106 = .ok (.getfield 29, 3) := dk_180 0 29 (dk_at dksX1_node_4 12 rfl rfl)
theorem dX1_node_109 : decode cX1_node 109 = .ok (.invokespecial 152, 3) := dk_183 0 152 (dk_at dksX1_node_4 15 rfl rfl)
theorem dX1_node_112 : decode cX1_node 112 = .ok (.astore 4, 2) := dk_58 4 (dk_at dksX1_node_4 18 rfl rfl)
theorem dX1_node_114 : decode cX1_node 114 = .ok (.aload 4, 2) := dk_25 4 (dk_at dksX1_node_4 20 rfl rfl)
theorem dX1_node_116 : decode cX1_node 116 = .ok (.invokevirtual 250, 3) := dk_182 0 250 (dk_at dksX1_node_5 0 rfl rfl)
theorem dX1_node_119 : decode cX1_node 119 = .ok (.iload_n 1, 1) := dk_27 (dk_at dksX1_node_5 3 rfl rfl)
theorem dX1_node_120 : decode cX1_node 120 = .ok (.invokestatic 170, 3) := dk_184 0 170 (dk_at dksX1_node_5 4 rfl rfl)
theorem dX1_node_123 : decode cX1_node 123 = .ok (.ifCond .eq 7, 3) := dk_153 0 7 (dk_at dksX1_node_5 7 rfl rfl)
theorem dX1_node_126 : decode cX1_node 126 = .ok (.iconst 0, 1) := dk_3 (dk_at dksX1_node_5 10 rfl rfl)
theorem dX1_node_127 : decode cX1_node 127 = .ok (.goto 20, 3) := dk_167 0 20 (dk_at dksX1_node_5 11 rfl rfl)
theorem dX1_node_130 : decode cX1_node 130 = .ok (.aload 4, 2) := dk_25 4 (dk_at dksX1_node_5 14 rfl rfl)
theorem dX1_node_132 : decode cX1_node 132 = .ok (.invokevirtual 253, 3) := dk_182 0 253 (dk_at dksX1_node_5 16 rfl rfl)
theorem dX1_node_135 : decode cX1_node 135 = .ok (.iload_n 1, 1) := dk_27 (dk_at dksX1_node_5 19 rfl rfl)
theorem dX1_node_136 : decode cX1_node 136 = .ok (.invokestatic 170, 3) := dk_184 0 170 (dk_at dksX1_node_5 20 rfl rfl)
theorem dX1_node_139 : decode cX1_node 139 = .ok (.ifCond .eq 7, 3) := dk_153 0 7 (dk_at dksX1_node_6 0 rfl rfl)
theorem dX1_node_142 : decode cX1_node 142 = .ok (.iconst 1, 1) := dk_4 (dk_at dksX1_node_6 3 rfl rfl)
theorem dX1_node_143 : decode cX1_node 143 = .ok (.goto 4, 3) := dk_167 0 4 (dk_at dksX1_node_6 4 rfl rfl)
theorem dX1_node_146 : decode cX1_node 146 = .ok (.iconst 2, 1) := dk_5 (dk_at dksX1_node_6 7 rfl rfl)
theorem dX1_node_147 : decode cX1_node 147 = .ok (.ireturn, 1) := dk_172 (dk_at dksX1_node_6 8 rfl rfl)
theorem dX1_node_148 : decode cX1_node 148 = .ok (.new 150, 3) := dk_187 0 150 (dk_at dksX1_node_6 9 rfl rfl)
theorem dX1_node_151 : decode cX1_node 151 = .ok (.dup, 1) := dk_89 (dk_at dksX1_node_6 12 rfl rfl)
theorem dX1_node_152 : decode cX1_node 152 = .ok (.aload_n 0, 1) := dk_42 (dk_at dksX1_node_6 13 rfl rfl)
theorem dX1_node_153 : decode cX1_node 153 = .ok (.getfield 29, 3) := dk_180 0 29 (dk_at dksX1_node_6 14 rfl rfl)
theorem dX1_node_156 : decode cX1_node 156 = .ok (.invokespecial 152, 3) := dk_183 0 152 (dk_at dksX1_node_6 17 rfl rfl)
theorem dX1_node_159 : decode cX1_node 159 = .ok (.invokevirtual 153, 3) := dk_182 0 153 (dk_at dksX1_node_6 20 rfl rfl)
theorem dX1_node_162 : decode cX1_node 162 = .ok (.iload_n 1, 1) := dk_27 (dk_at dksX1_node_6 23 rfl rfl)
theorem dX1_node_163 : decode cX1_node 163 = .ok (.iaload, 1) := dk_46 (dk_at dksX1_node_7 0 rfl rfl)
theorem dX1_node_164 : decode cX1_node 164 = .ok (.ireturn, 1) := dk_172 (dk_at dksX1_node_7 1 rfl rfl)
abbrev cX1_sets : ByteArray := prog_1_method_26_code
def yX1_sets : MethodName := ⟨RX1, "sets", "(I)I"⟩
def dkwX1_sets_5 : List UInt8 := [182, 0, 203, 44, 182, 0, 250, 2, 130, 126, 44, 182, 0, 253, 2, 130, 126, 172]
abbrev dktX1_sets_5 : List UInt8 := dkwX1_sets_5 ++ []
def dkwX1_sets_4 : List UInt8 := [44, 182, 0, 250, 167, 0, 36, 27, 4, 160, 0, 10, 44, 182, 0, 253, 167, 0, 24, 42, 180, 0, 29]
abbrev dktX1_sets_4 : List UInt8 := dkwX1_sets_4 ++ dktX1_sets_5
def dkwX1_sets_3 : List UInt8 := [44, 180, 0, 238, 2, 130, 126, 172, 187, 0, 150, 89, 42, 180, 0, 29, 183, 0, 152, 77, 27, 154, 0, 10]
abbrev dktX1_sets_3 : List UInt8 := dkwX1_sets_3 ++ dktX1_sets_4
def dkwX1_sets_2 : List UInt8 := [160, 0, 10, 44, 180, 0, 238, 167, 0, 24, 42, 180, 0, 29, 182, 0, 203, 44, 180, 0, 235, 2, 130, 126]
abbrev dktX1_sets_2 : List UInt8 := dkwX1_sets_2 ++ dktX1_sets_3
def dkwX1_sets_1 : List UInt8 := [180, 0, 29, 183, 0, 139, 182, 0, 231, 77, 27, 6, 160, 0, 10, 44, 180, 0, 235, 167, 0, 36, 27, 7]
abbrev dktX1_sets_1 : List UInt8 := dkwX1_sets_1 ++ dktX1_sets_2
def dkwX1_sets_0 : List UInt8 := [42, 27, 133, 9, 20, 0, 255, 184, 0, 72, 182, 0, 76, 27, 5, 164, 0, 64, 187, 0, 137, 89, 42]
abbrev dktX1_sets_0 : List UInt8 := dkwX1_sets_0 ++ dktX1_sets_1
theorem dksX1_sets_0 : cX1_sets.data.toList.drop 0 = dktX1_sets_0 := by decide +kernel
theorem dksX1_sets_1 : cX1_sets.data.toList.drop 23 = dktX1_sets_1 := dk_seg dksX1_sets_0 23 rfl rfl
theorem dksX1_sets_2 : cX1_sets.data.toList.drop 47 = dktX1_sets_2 := dk_seg dksX1_sets_1 24 rfl rfl
theorem dksX1_sets_3 : cX1_sets.data.toList.drop 71 = dktX1_sets_3 := dk_seg dksX1_sets_2 24 rfl rfl
theorem dksX1_sets_4 : cX1_sets.data.toList.drop 95 = dktX1_sets_4 := dk_seg dksX1_sets_3 24 rfl rfl
theorem dksX1_sets_5 : cX1_sets.data.toList.drop 118 = dktX1_sets_5 := dk_seg dksX1_sets_4 23 rfl rfl
theorem dX1_sets_0 : decode cX1_sets 0 = .ok (.aload_n 0, 1) := dk_42 (dk_at dksX1_sets_0 0 rfl rfl)
theorem dX1_sets_1 : decode cX1_sets 1 = .ok (.iload_n 1, 1) := dk_27 (dk_at dksX1_sets_0 1 rfl rfl)
theorem dX1_sets_2 : decode cX1_sets 2 = .ok (.i2l, 1) := dk_133 (dk_at dksX1_sets_0 2 rfl rfl)
theorem dX1_sets_3 : decode cX1_sets 3 = .ok (.lconst 0, 1) := dk_9 (dk_at dksX1_sets_0 3 rfl rfl)
theorem dX1_sets_4 : decode cX1_sets 4 = .ok (.ldc2_w 255, 3) := dk_20 0 255 (dk_at dksX1_sets_0 4 rfl rfl)
theorem dX1_sets_7 : decode cX1_sets 7 = .ok (.invokestatic 72, 3) := dk_184 0 72 (dk_at dksX1_sets_0 7 rfl rfl)
theorem dX1_sets_10 : decode cX1_sets 10 = .ok (.invokevirtual 76, 3) := dk_182 0 76 (dk_at dksX1_sets_0 10 rfl rfl)
theorem dX1_sets_13 : decode cX1_sets 13 = .ok (.iload_n 1, 1) := dk_27 (dk_at dksX1_sets_0 13 rfl rfl)
theorem dX1_sets_14 : decode cX1_sets 14 = .ok (.iconst 2, 1) := dk_5 (dk_at dksX1_sets_0 14 rfl rfl)
theorem dX1_sets_15 : decode cX1_sets 15 = .ok (.if_icmp .le 64, 3) := dk_164 0 64 (dk_at dksX1_sets_0 15 rfl rfl)
theorem dX1_sets_18 : decode cX1_sets 18 = .ok (.new 137, 3) := dk_187 0 137 (dk_at dksX1_sets_0 18 rfl rfl)
theorem dX1_sets_21 : decode cX1_sets 21 = .ok (.dup, 1) := dk_89 (dk_at dksX1_sets_0 21 rfl rfl)
theorem dX1_sets_22 : decode cX1_sets 22 = .ok (.aload_n 0, 1) := dk_42 (dk_at dksX1_sets_0 22 rfl rfl)
theorem dX1_sets_23 : decode cX1_sets 23 = .ok (.getfield 29, 3) := dk_180 0 29 (dk_at dksX1_sets_1 0 rfl rfl)
theorem dX1_sets_26 : decode cX1_sets 26 = .ok (.invokespecial 139, 3) := dk_183 0 139 (dk_at dksX1_sets_1 3 rfl rfl)
theorem dX1_sets_29 : decode cX1_sets 29 = .ok (.invokevirtual 231, 3) := dk_182 0 231 (dk_at dksX1_sets_1 6 rfl rfl)
theorem dX1_sets_32 : decode cX1_sets 32 = .ok (.astore_n 2, 1) := dk_77 (dk_at dksX1_sets_1 9 rfl rfl)
theorem dX1_sets_33 : decode cX1_sets 33 = .ok (.iload_n 1, 1) := dk_27 (dk_at dksX1_sets_1 10 rfl rfl)
theorem dX1_sets_34 : decode cX1_sets 34 = .ok (.iconst 3, 1) := dk_6 (dk_at dksX1_sets_1 11 rfl rfl)
theorem dX1_sets_35 : decode cX1_sets 35 = .ok (.if_icmp .ne 10, 3) := dk_160 0 10 (dk_at dksX1_sets_1 12 rfl rfl)
theorem dX1_sets_38 : decode cX1_sets 38 = .ok (.aload_n 2, 1) := dk_44 (dk_at dksX1_sets_1 15 rfl rfl)
theorem dX1_sets_39 : decode cX1_sets 39 = .ok (.getfield 235, 3) := dk_180 0 235 (dk_at dksX1_sets_1 16 rfl rfl)
theorem dX1_sets_42 : decode cX1_sets 42 = .ok (.goto 36, 3) := dk_167 0 36 (dk_at dksX1_sets_1 19 rfl rfl)
theorem dX1_sets_45 : decode cX1_sets 45 = .ok (.iload_n 1, 1) := dk_27 (dk_at dksX1_sets_1 22 rfl rfl)
theorem dX1_sets_46 : decode cX1_sets 46 = .ok (.iconst 4, 1) := dk_7 (dk_at dksX1_sets_1 23 rfl rfl)
theorem dX1_sets_47 : decode cX1_sets 47 = .ok (.if_icmp .ne 10, 3) := dk_160 0 10 (dk_at dksX1_sets_2 0 rfl rfl)
theorem dX1_sets_50 : decode cX1_sets 50 = .ok (.aload_n 2, 1) := dk_44 (dk_at dksX1_sets_2 3 rfl rfl)
theorem dX1_sets_51 : decode cX1_sets 51 = .ok (.getfield 238, 3) := dk_180 0 238 (dk_at dksX1_sets_2 4 rfl rfl)
theorem dX1_sets_54 : decode cX1_sets 54 = .ok (.goto 24, 3) := dk_167 0 24 (dk_at dksX1_sets_2 7 rfl rfl)
theorem dX1_sets_57 : decode cX1_sets 57 = .ok (.aload_n 0, 1) := dk_42 (dk_at dksX1_sets_2 10 rfl rfl)
theorem dX1_sets_58 : decode cX1_sets 58 = .ok (.getfield 29, 3) := dk_180 0 29 (dk_at dksX1_sets_2 11 rfl rfl)
theorem dX1_sets_61 : decode cX1_sets 61 = .ok (.invokevirtual 203, 3) := dk_182 0 203 (dk_at dksX1_sets_2 14 rfl rfl)
theorem dX1_sets_64 : decode cX1_sets 64 = .ok (.aload_n 2, 1) := dk_44 (dk_at dksX1_sets_2 17 rfl rfl)
theorem dX1_sets_65 : decode cX1_sets 65 = .ok (.getfield 235, 3) := dk_180 0 235 (dk_at dksX1_sets_2 18 rfl rfl)
theorem dX1_sets_68 : decode cX1_sets 68 = .ok (.iconst (-1), 1) := dk_2 (dk_at dksX1_sets_2 21 rfl rfl)
theorem dX1_sets_69 : decode cX1_sets 69 = .ok (.ixor, 1) := dk_130 (dk_at dksX1_sets_2 22 rfl rfl)
theorem dX1_sets_70 : decode cX1_sets 70 = .ok (.iand, 1) := dk_126 (dk_at dksX1_sets_2 23 rfl rfl)
theorem dX1_sets_71 : decode cX1_sets 71 = .ok (.aload_n 2, 1) := dk_44 (dk_at dksX1_sets_3 0 rfl rfl)
theorem dX1_sets_72 : decode cX1_sets 72 = .ok (.getfield 238, 3) := dk_180 0 238 (dk_at dksX1_sets_3 1 rfl rfl)
theorem dX1_sets_75 : decode cX1_sets 75 = .ok (.iconst (-1), 1) := dk_2 (dk_at dksX1_sets_3 4 rfl rfl)
theorem dX1_sets_76 : decode cX1_sets 76 = .ok (.ixor, 1) := dk_130 (dk_at dksX1_sets_3 5 rfl rfl)
theorem dX1_sets_77 : decode cX1_sets 77 = .ok (.iand, 1) := dk_126 (dk_at dksX1_sets_3 6 rfl rfl)
theorem dX1_sets_78 : decode cX1_sets 78 = .ok (.ireturn, 1) := dk_172 (dk_at dksX1_sets_3 7 rfl rfl)
theorem dX1_sets_79 : decode cX1_sets 79 = .ok (.new 150, 3) := dk_187 0 150 (dk_at dksX1_sets_3 8 rfl rfl)
theorem dX1_sets_82 : decode cX1_sets 82 = .ok (.dup, 1) := dk_89 (dk_at dksX1_sets_3 11 rfl rfl)
theorem dX1_sets_83 : decode cX1_sets 83 = .ok (.aload_n 0, 1) := dk_42 (dk_at dksX1_sets_3 12 rfl rfl)
theorem dX1_sets_84 : decode cX1_sets 84 = .ok (.getfield 29, 3) := dk_180 0 29 (dk_at dksX1_sets_3 13 rfl rfl)
theorem dX1_sets_87 : decode cX1_sets 87 = .ok (.invokespecial 152, 3) := dk_183 0 152 (dk_at dksX1_sets_3 16 rfl rfl)
theorem dX1_sets_90 : decode cX1_sets 90 = .ok (.astore_n 2, 1) := dk_77 (dk_at dksX1_sets_3 19 rfl rfl)
theorem dX1_sets_91 : decode cX1_sets 91 = .ok (.iload_n 1, 1) := dk_27 (dk_at dksX1_sets_3 20 rfl rfl)
theorem dX1_sets_92 : decode cX1_sets 92 = .ok (.ifCond .ne 10, 3) := dk_154 0 10 (dk_at dksX1_sets_3 21 rfl rfl)
theorem dX1_sets_95 : decode cX1_sets 95 = .ok (.aload_n 2, 1) := dk_44 (dk_at dksX1_sets_4 0 rfl rfl)
theorem dX1_sets_96 : decode cX1_sets 96 = .ok (.invokevirtual 250, 3) := dk_182 0 250 (dk_at dksX1_sets_4 1 rfl rfl)
theorem dX1_sets_99 : decode cX1_sets 99 = .ok (.goto 36, 3) := dk_167 0 36 (dk_at dksX1_sets_4 4 rfl rfl)
theorem dX1_sets_102 : decode cX1_sets 102 = .ok (.iload_n 1, 1) := dk_27 (dk_at dksX1_sets_4 7 rfl rfl)
theorem dX1_sets_103 : decode cX1_sets 103 = .ok (.iconst 1, 1) := dk_4 (dk_at dksX1_sets_4 8 rfl rfl)
theorem dX1_sets_104 : decode cX1_sets 104 = .ok (.if_icmp .ne 10, 3) := dk_160 0 10 (dk_at dksX1_sets_4 9 rfl rfl)
theorem dX1_sets_107 : decode cX1_sets 107 = .ok (.aload_n 2, 1) := dk_44 (dk_at dksX1_sets_4 12 rfl rfl)
theorem dX1_sets_108 : decode cX1_sets 108 = .ok (.invokevirtual 253, 3) := dk_182 0 253 (dk_at dksX1_sets_4 13 rfl rfl)
theorem dX1_sets_111 : decode cX1_sets 111 = .ok (.goto 24, 3) := dk_167 0 24 (dk_at dksX1_sets_4 16 rfl rfl)
theorem dX1_sets_114 : decode cX1_sets 114 = .ok (.aload_n 0, 1) := dk_42 (dk_at dksX1_sets_4 19 rfl rfl)
theorem dX1_sets_115 : decode cX1_sets 115 = .ok (.getfield 29, 3) := dk_180 0 29 (dk_at dksX1_sets_4 20 rfl rfl)
theorem dX1_sets_118 : decode cX1_sets 118 = .ok (.invokevirtual 203, 3) := dk_182 0 203 (dk_at dksX1_sets_5 0 rfl rfl)
theorem dX1_sets_121 : decode cX1_sets 121 = .ok (.aload_n 2, 1) := dk_44 (dk_at dksX1_sets_5 3 rfl rfl)
theorem dX1_sets_122 : decode cX1_sets 122 = .ok (.invokevirtual 250, 3) := dk_182 0 250 (dk_at dksX1_sets_5 4 rfl rfl)
theorem dX1_sets_125 : decode cX1_sets 125 = .ok (.iconst (-1), 1) := dk_2 (dk_at dksX1_sets_5 7 rfl rfl)
theorem dX1_sets_126 : decode cX1_sets 126 = .ok (.ixor, 1) := dk_130 (dk_at dksX1_sets_5 8 rfl rfl)
theorem dX1_sets_127 : decode cX1_sets 127 = .ok (.iand, 1) := dk_126 (dk_at dksX1_sets_5 9 rfl rfl)
theorem dX1_sets_128 : decode cX1_sets 128 = .ok (.aload_n 2, 1) := dk_44 (dk_at dksX1_sets_5 10 rfl rfl)
theorem dX1_sets_129 : decode cX1_sets 129 = .ok (.invokevirtual 253, 3) := dk_182 0 253 (dk_at dksX1_sets_5 11 rfl rfl)
theorem dX1_sets_132 : decode cX1_sets 132 = .ok (.iconst (-1), 1) := dk_2 (dk_at dksX1_sets_5 14 rfl rfl)
theorem dX1_sets_133 : decode cX1_sets 133 = .ok (.ixor, 1) := dk_130 (dk_at dksX1_sets_5 15 rfl rfl)
theorem dX1_sets_134 : decode cX1_sets 134 = .ok (.iand, 1) := dk_126 (dk_at dksX1_sets_5 16 rfl rfl)
theorem dX1_sets_135 : decode cX1_sets 135 = .ok (.ireturn, 1) := dk_172 (dk_at dksX1_sets_5 17 rfl rfl)
abbrev cX1_odd : ByteArray := prog_1_method_27_code
def yX1_odd : MethodName := ⟨RX1, "odd", "(I)I"⟩
def dkwX1_odd_1 : List UInt8 := [182, 1, 1, 172]
abbrev dktX1_odd_1 : List UInt8 := dkwX1_odd_1 ++ []
def dkwX1_odd_0 : List UInt8 := [42, 27, 133, 9, 42, 180, 0, 29, 182, 0, 203, 133, 184, 0, 72, 182, 0, 76, 42, 180, 0, 29, 27]
abbrev dktX1_odd_0 : List UInt8 := dkwX1_odd_0 ++ dktX1_odd_1
theorem dksX1_odd_0 : cX1_odd.data.toList.drop 0 = dktX1_odd_0 := by decide +kernel
theorem dksX1_odd_1 : cX1_odd.data.toList.drop 23 = dktX1_odd_1 := dk_seg dksX1_odd_0 23 rfl rfl
theorem dX1_odd_0 : decode cX1_odd 0 = .ok (.aload_n 0, 1) := dk_42 (dk_at dksX1_odd_0 0 rfl rfl)
theorem dX1_odd_1 : decode cX1_odd 1 = .ok (.iload_n 1, 1) := dk_27 (dk_at dksX1_odd_0 1 rfl rfl)
theorem dX1_odd_2 : decode cX1_odd 2 = .ok (.i2l, 1) := dk_133 (dk_at dksX1_odd_0 2 rfl rfl)
theorem dX1_odd_3 : decode cX1_odd 3 = .ok (.lconst 0, 1) := dk_9 (dk_at dksX1_odd_0 3 rfl rfl)
theorem dX1_odd_4 : decode cX1_odd 4 = .ok (.aload_n 0, 1) := dk_42 (dk_at dksX1_odd_0 4 rfl rfl)
theorem dX1_odd_5 : decode cX1_odd 5 = .ok (.getfield 29, 3) := dk_180 0 29 (dk_at dksX1_odd_0 5 rfl rfl)
theorem dX1_odd_8 : decode cX1_odd 8 = .ok (.invokevirtual 203, 3) := dk_182 0 203 (dk_at dksX1_odd_0 8 rfl rfl)
theorem dX1_odd_11 : decode cX1_odd 11 = .ok (.i2l, 1) := dk_133 (dk_at dksX1_odd_0 11 rfl rfl)
theorem dX1_odd_12 : decode cX1_odd 12 = .ok (.invokestatic 72, 3) := dk_184 0 72 (dk_at dksX1_odd_0 12 rfl rfl)
theorem dX1_odd_15 : decode cX1_odd 15 = .ok (.invokevirtual 76, 3) := dk_182 0 76 (dk_at dksX1_odd_0 15 rfl rfl)
theorem dX1_odd_18 : decode cX1_odd 18 = .ok (.aload_n 0, 1) := dk_42 (dk_at dksX1_odd_0 18 rfl rfl)
theorem dX1_odd_19 : decode cX1_odd 19 = .ok (.getfield 29, 3) := dk_180 0 29 (dk_at dksX1_odd_0 19 rfl rfl)
theorem dX1_odd_22 : decode cX1_odd 22 = .ok (.iload_n 1, 1) := dk_27 (dk_at dksX1_odd_0 22 rfl rfl)
theorem dX1_odd_23 : decode cX1_odd 23 = .ok (.invokevirtual 257, 3) := dk_182 1 1 (dk_at dksX1_odd_1 0 rfl rfl)
theorem dX1_odd_26 : decode cX1_odd 26 = .ok (.ireturn, 1) := dk_172 (dk_at dksX1_odd_1 3 rfl rfl)
abbrev cX1_barrier : ByteArray := prog_1_method_28_code
def yX1_barrier : MethodName := ⟨RX1, "barrier", "(I)I"⟩
def dkwX1_barrier_1 : List UInt8 := [160, 0, 7, 4, 167, 0, 4, 3, 182, 1, 3, 172]
abbrev dktX1_barrier_1 : List UInt8 := dkwX1_barrier_1 ++ []
def dkwX1_barrier_0 : List UInt8 := [42, 27, 133, 9, 10, 184, 0, 72, 182, 0, 76, 187, 0, 150, 89, 42, 180, 0, 29, 183, 0, 152, 27, 4]
abbrev dktX1_barrier_0 : List UInt8 := dkwX1_barrier_0 ++ dktX1_barrier_1
theorem dksX1_barrier_0 : cX1_barrier.data.toList.drop 0 = dktX1_barrier_0 := by decide +kernel
theorem dksX1_barrier_1 : cX1_barrier.data.toList.drop 24 = dktX1_barrier_1 := dk_seg dksX1_barrier_0 24 rfl rfl
theorem dX1_barrier_0 : decode cX1_barrier 0 = .ok (.aload_n 0, 1) := dk_42 (dk_at dksX1_barrier_0 0 rfl rfl)
theorem dX1_barrier_1 : decode cX1_barrier 1 = .ok (.iload_n 1, 1) := dk_27 (dk_at dksX1_barrier_0 1 rfl rfl)
theorem dX1_barrier_2 : decode cX1_barrier 2 = .ok (.i2l, 1) := dk_133 (dk_at dksX1_barrier_0 2 rfl rfl)
theorem dX1_barrier_3 : decode cX1_barrier 3 = .ok (.lconst 0, 1) := dk_9 (dk_at dksX1_barrier_0 3 rfl rfl)
theorem dX1_barrier_4 : decode cX1_barrier 4 = .ok (.lconst 1, 1) := dk_10 (dk_at dksX1_barrier_0 4 rfl rfl)
theorem dX1_barrier_5 : decode cX1_barrier 5 = .ok (.invokestatic 72, 3) := dk_184 0 72 (dk_at dksX1_barrier_0 5 rfl rfl)
theorem dX1_barrier_8 : decode cX1_barrier 8 = .ok (.invokevirtual 76, 3) := dk_182 0 76 (dk_at dksX1_barrier_0 8 rfl rfl)
theorem dX1_barrier_11 : decode cX1_barrier 11 = .ok (.new 150, 3) := dk_187 0 150 (dk_at dksX1_barrier_0 11 rfl rfl)
theorem dX1_barrier_14 : decode cX1_barrier 14 = .ok (.dup, 1) := dk_89 (dk_at dksX1_barrier_0 14 rfl rfl)
theorem dX1_barrier_15 : decode cX1_barrier 15 = .ok (.aload_n 0, 1) := dk_42 (dk_at dksX1_barrier_0 15 rfl rfl)
theorem dX1_barrier_16 : decode cX1_barrier 16 = .ok (.getfield 29, 3) := dk_180 0 29 (dk_at dksX1_barrier_0 16 rfl rfl)
theorem dX1_barrier_19 : decode cX1_barrier 19 = .ok (.invokespecial 152, 3) := dk_183 0 152 (dk_at dksX1_barrier_0 19 rfl rfl)
theorem dX1_barrier_22 : decode cX1_barrier 22 = .ok (.iload_n 1, 1) := dk_27 (dk_at dksX1_barrier_0 22 rfl rfl)
theorem dX1_barrier_23 : decode cX1_barrier 23 = .ok (.iconst 1, 1) := dk_4 (dk_at dksX1_barrier_0 23 rfl rfl)
theorem dX1_barrier_24 : decode cX1_barrier 24 = .ok (.if_icmp .ne 7, 3) := dk_160 0 7 (dk_at dksX1_barrier_1 0 rfl rfl)
theorem dX1_barrier_27 : decode cX1_barrier 27 = .ok (.iconst 1, 1) := dk_4 (dk_at dksX1_barrier_1 3 rfl rfl)
theorem dX1_barrier_28 : decode cX1_barrier 28 = .ok (.goto 4, 3) := dk_167 0 4 (dk_at dksX1_barrier_1 4 rfl rfl)
theorem dX1_barrier_31 : decode cX1_barrier 31 = .ok (.iconst 0, 1) := dk_3 (dk_at dksX1_barrier_1 7 rfl rfl)
theorem dX1_barrier_32 : decode cX1_barrier 32 = .ok (.invokevirtual 259, 3) := dk_182 1 3 (dk_at dksX1_barrier_1 8 rfl rfl)
theorem dX1_barrier_35 : decode cX1_barrier 35 = .ok (.ireturn, 1) := dk_172 (dk_at dksX1_barrier_1 11 rfl rfl)
abbrev cX1_heavy : ByteArray := prog_1_method_30_code
def yX1_heavy : MethodName := ⟨RX1, "heavy", "(I)I"⟩
def dkwX1_heavy_2 : List UInt8 := [180, 0, 192, 27, 154, 0, 7, 45, 167, 0, 5, 25, 4, 182, 1, 14, 172]
abbrev dktX1_heavy_2 : List UInt8 := dkwX1_heavy_2 ++ []
def dkwX1_heavy_1 : List UInt8 := [186, 1, 10, 0, 0, 78, 186, 1, 13, 0, 0, 58, 4, 44, 42, 180, 0, 29, 182, 0, 203, 44]
abbrev dktX1_heavy_1 : List UInt8 := dkwX1_heavy_1 ++ dktX1_heavy_2
def dkwX1_heavy_0 : List UInt8 := [42, 27, 133, 9, 10, 184, 0, 72, 182, 0, 76, 187, 0, 150, 89, 42, 180, 0, 29, 183, 0, 152, 77]
abbrev dktX1_heavy_0 : List UInt8 := dkwX1_heavy_0 ++ dktX1_heavy_1
theorem dksX1_heavy_0 : cX1_heavy.data.toList.drop 0 = dktX1_heavy_0 := by decide +kernel
theorem dksX1_heavy_1 : cX1_heavy.data.toList.drop 23 = dktX1_heavy_1 := dk_seg dksX1_heavy_0 23 rfl rfl
theorem dksX1_heavy_2 : cX1_heavy.data.toList.drop 45 = dktX1_heavy_2 := dk_seg dksX1_heavy_1 22 rfl rfl
theorem dX1_heavy_0 : decode cX1_heavy 0 = .ok (.aload_n 0, 1) := dk_42 (dk_at dksX1_heavy_0 0 rfl rfl)
theorem dX1_heavy_1 : decode cX1_heavy 1 = .ok (.iload_n 1, 1) := dk_27 (dk_at dksX1_heavy_0 1 rfl rfl)
theorem dX1_heavy_2 : decode cX1_heavy 2 = .ok (.i2l, 1) := dk_133 (dk_at dksX1_heavy_0 2 rfl rfl)
theorem dX1_heavy_3 : decode cX1_heavy 3 = .ok (.lconst 0, 1) := dk_9 (dk_at dksX1_heavy_0 3 rfl rfl)
theorem dX1_heavy_4 : decode cX1_heavy 4 = .ok (.lconst 1, 1) := dk_10 (dk_at dksX1_heavy_0 4 rfl rfl)
theorem dX1_heavy_5 : decode cX1_heavy 5 = .ok (.invokestatic 72, 3) := dk_184 0 72 (dk_at dksX1_heavy_0 5 rfl rfl)
theorem dX1_heavy_8 : decode cX1_heavy 8 = .ok (.invokevirtual 76, 3) := dk_182 0 76 (dk_at dksX1_heavy_0 8 rfl rfl)
theorem dX1_heavy_11 : decode cX1_heavy 11 = .ok (.new 150, 3) := dk_187 0 150 (dk_at dksX1_heavy_0 11 rfl rfl)
theorem dX1_heavy_14 : decode cX1_heavy 14 = .ok (.dup, 1) := dk_89 (dk_at dksX1_heavy_0 14 rfl rfl)
theorem dX1_heavy_15 : decode cX1_heavy 15 = .ok (.aload_n 0, 1) := dk_42 (dk_at dksX1_heavy_0 15 rfl rfl)
theorem dX1_heavy_16 : decode cX1_heavy 16 = .ok (.getfield 29, 3) := dk_180 0 29 (dk_at dksX1_heavy_0 16 rfl rfl)
theorem dX1_heavy_19 : decode cX1_heavy 19 = .ok (.invokespecial 152, 3) := dk_183 0 152 (dk_at dksX1_heavy_0 19 rfl rfl)
theorem dX1_heavy_22 : decode cX1_heavy 22 = .ok (.astore_n 2, 1) := dk_77 (dk_at dksX1_heavy_0 22 rfl rfl)
theorem dX1_heavy_23 : decode cX1_heavy 23 = .ok (.invokedynamic 266, 5) := by decide +kernel
theorem dX1_heavy_28 : decode cX1_heavy 28 = .ok (.astore_n 3, 1) := dk_78 (dk_at dksX1_heavy_1 5 rfl rfl)
theorem dX1_heavy_29 : decode cX1_heavy 29 = .ok (.invokedynamic 269, 5) := by decide +kernel
theorem dX1_heavy_34 : decode cX1_heavy 34 = .ok (.astore 4, 2) := dk_58 4 (dk_at dksX1_heavy_1 11 rfl rfl)
theorem dX1_heavy_36 : decode cX1_heavy 36 = .ok (.aload_n 2, 1) := dk_44 (dk_at dksX1_heavy_1 13 rfl rfl)
theorem dX1_heavy_37 : decode cX1_heavy 37 = .ok (.aload_n 0, 1) := dk_42 (dk_at dksX1_heavy_1 14 rfl rfl)
theorem dX1_heavy_38 : decode cX1_heavy 38 = .ok (.getfield 29, 3) := dk_180 0 29 (dk_at dksX1_heavy_1 15 rfl rfl)
theorem dX1_heavy_41 : decode cX1_heavy 41 = .ok (.invokevirtual 203, 3) := dk_182 0 203 (dk_at dksX1_heavy_1 18 rfl rfl)
theorem dX1_heavy_44 : decode cX1_heavy 44 = .ok (.aload_n 2, 1) := dk_44 (dk_at dksX1_heavy_1 21 rfl rfl)
theorem dX1_heavy_45 : decode cX1_heavy 45 = .ok (.getfield 192, 3) := dk_180 0 192 (dk_at dksX1_heavy_2 0 rfl rfl)
theorem dX1_heavy_48 : decode cX1_heavy 48 = .ok (.iload_n 1, 1) := dk_27 (dk_at dksX1_heavy_2 3 rfl rfl)
theorem dX1_heavy_49 : decode cX1_heavy 49 = .ok (.ifCond .ne 7, 3) := dk_154 0 7 (dk_at dksX1_heavy_2 4 rfl rfl)
theorem dX1_heavy_52 : decode cX1_heavy 52 = .ok (.aload_n 3, 1) := dk_45 (dk_at dksX1_heavy_2 7 rfl rfl)
theorem dX1_heavy_53 : decode cX1_heavy 53 = .ok (.goto 5, 3) := dk_167 0 5 (dk_at dksX1_heavy_2 8 rfl rfl)
theorem dX1_heavy_56 : decode cX1_heavy 56 = .ok (.aload 4, 2) := dk_25 4 (dk_at dksX1_heavy_2 11 rfl rfl)
theorem dX1_heavy_58 : decode cX1_heavy 58 = .ok (.invokevirtual 270, 3) := dk_182 1 14 (dk_at dksX1_heavy_2 13 rfl rfl)
theorem dX1_heavy_61 : decode cX1_heavy 61 = .ok (.ireturn, 1) := dk_172 (dk_at dksX1_heavy_2 16 rfl rfl)
abbrev cX1_lambda_heavy_0 : ByteArray := prog_1_method_37_code
def yX1_lambda_heavy_0 : MethodName := ⟨RX1, "lambda$heavy$0", "(II)I"⟩
def dkwX1_lambda_heavy_0_0 : List UInt8 := [26, 27, 184, 0, 177, 172]
abbrev dktX1_lambda_heavy_0_0 : List UInt8 := dkwX1_lambda_heavy_0_0 ++ []
theorem dksX1_lambda_heavy_0_0 : cX1_lambda_heavy_0.data.toList.drop 0 = dktX1_lambda_heavy_0_0 := by decide +kernel
theorem dX1_lambda_heavy_0_0 : decode cX1_lambda_heavy_0 0 = .ok (.iload_n 0, 1) := dk_26 (dk_at dksX1_lambda_heavy_0_0 0 rfl rfl)
theorem dX1_lambda_heavy_0_1 : decode cX1_lambda_heavy_0 1 = .ok (.iload_n 1, 1) := dk_27 (dk_at dksX1_lambda_heavy_0_0 1 rfl rfl)
theorem dX1_lambda_heavy_0_2 : decode cX1_lambda_heavy_0 2 = .ok (.invokestatic 177, 3) := dk_184 0 177 (dk_at dksX1_lambda_heavy_0_0 2 rfl rfl)
theorem dX1_lambda_heavy_0_5 : decode cX1_lambda_heavy_0 5 = .ok (.ireturn, 1) := dk_172 (dk_at dksX1_lambda_heavy_0_0 5 rfl rfl)
abbrev cX1_lambda_heavy_1 : ByteArray := prog_1_method_36_code
def yX1_lambda_heavy_1 : MethodName := ⟨RX1, "lambda$heavy$1", "(II)I"⟩
def dkwX1_lambda_heavy_1_0 : List UInt8 := [26, 27, 184, 1, 27, 172]
abbrev dktX1_lambda_heavy_1_0 : List UInt8 := dkwX1_lambda_heavy_1_0 ++ []
theorem dksX1_lambda_heavy_1_0 : cX1_lambda_heavy_1.data.toList.drop 0 = dktX1_lambda_heavy_1_0 := by decide +kernel
theorem dX1_lambda_heavy_1_0 : decode cX1_lambda_heavy_1 0 = .ok (.iload_n 0, 1) := dk_26 (dk_at dksX1_lambda_heavy_1_0 0 rfl rfl)
theorem dX1_lambda_heavy_1_1 : decode cX1_lambda_heavy_1 1 = .ok (.iload_n 1, 1) := dk_27 (dk_at dksX1_lambda_heavy_1_0 1 rfl rfl)
theorem dX1_lambda_heavy_1_2 : decode cX1_lambda_heavy_1 2 = .ok (.invokestatic 283, 3) := dk_184 1 27 (dk_at dksX1_lambda_heavy_1_0 2 rfl rfl)
theorem dX1_lambda_heavy_1_5 : decode cX1_lambda_heavy_1 5 = .ok (.ireturn, 1) := dk_172 (dk_at dksX1_lambda_heavy_1_0 5 rfl rfl)
abbrev cX1_path : ByteArray := prog_1_method_32_code
def yX1_path : MethodName := ⟨RX1, "path", "(II)I"⟩
def dkwX1_path_2 : List UInt8 := [21, 4, 172]
abbrev dktX1_path_2 : List UInt8 := dkwX1_path_2 ++ []
def dkwX1_path_1 : List UInt8 := [182, 1, 19, 54, 4, 28, 2, 160, 0, 16, 21, 4, 2, 159, 0, 10, 21, 4, 4, 100, 167, 0, 5]
abbrev dktX1_path_1 : List UInt8 := dkwX1_path_1 ++ dktX1_path_2
def dkwX1_path_0 : List UInt8 := [42, 27, 182, 0, 108, 187, 0, 137, 89, 42, 180, 0, 29, 183, 0, 139, 27, 182, 0, 142, 78, 42, 45, 28]
abbrev dktX1_path_0 : List UInt8 := dkwX1_path_0 ++ dktX1_path_1
theorem dksX1_path_0 : cX1_path.data.toList.drop 0 = dktX1_path_0 := by decide +kernel
theorem dksX1_path_1 : cX1_path.data.toList.drop 24 = dktX1_path_1 := dk_seg dksX1_path_0 24 rfl rfl
theorem dksX1_path_2 : cX1_path.data.toList.drop 47 = dktX1_path_2 := dk_seg dksX1_path_1 23 rfl rfl
theorem dX1_path_0 : decode cX1_path 0 = .ok (.aload_n 0, 1) := dk_42 (dk_at dksX1_path_0 0 rfl rfl)
theorem dX1_path_1 : decode cX1_path 1 = .ok (.iload_n 1, 1) := dk_27 (dk_at dksX1_path_0 1 rfl rfl)
theorem dX1_path_2 : decode cX1_path 2 = .ok (.invokevirtual 108, 3) := dk_182 0 108 (dk_at dksX1_path_0 2 rfl rfl)
theorem dX1_path_5 : decode cX1_path 5 = .ok (.new 137, 3) := dk_187 0 137 (dk_at dksX1_path_0 5 rfl rfl)
theorem dX1_path_8 : decode cX1_path 8 = .ok (.dup, 1) := dk_89 (dk_at dksX1_path_0 8 rfl rfl)
theorem dX1_path_9 : decode cX1_path 9 = .ok (.aload_n 0, 1) := dk_42 (dk_at dksX1_path_0 9 rfl rfl)
theorem dX1_path_10 : decode cX1_path 10 = .ok (.getfield 29, 3) := dk_180 0 29 (dk_at dksX1_path_0 10 rfl rfl)
theorem dX1_path_13 : decode cX1_path 13 = .ok (.invokespecial 139, 3) := dk_183 0 139 (dk_at dksX1_path_0 13 rfl rfl)
theorem dX1_path_16 : decode cX1_path 16 = .ok (.iload_n 1, 1) := dk_27 (dk_at dksX1_path_0 16 rfl rfl)
theorem dX1_path_17 : decode cX1_path 17 = .ok (.invokevirtual 142, 3) := dk_182 0 142 (dk_at dksX1_path_0 17 rfl rfl)
theorem dX1_path_20 : decode cX1_path 20 = .ok (.astore_n 3, 1) := dk_78 (dk_at dksX1_path_0 20 rfl rfl)
theorem dX1_path_21 : decode cX1_path 21 = .ok (.aload_n 0, 1) := dk_42 (dk_at dksX1_path_0 21 rfl rfl)
theorem dX1_path_22 : decode cX1_path 22 = .ok (.aload_n 3, 1) := dk_45 (dk_at dksX1_path_0 22 rfl rfl)
theorem dX1_path_23 : decode cX1_path 23 = .ok (.iload_n 2, 1) := dk_28 (dk_at dksX1_path_0 23 rfl rfl)
theorem dX1_path_24 : decode cX1_path 24 = .ok (.invokevirtual 275, 3) := dk_182 1 19 (dk_at dksX1_path_1 0 rfl rfl)
theorem dX1_path_27 : decode cX1_path 27 = .ok (.istore 4, 2) := dk_54 4 (dk_at dksX1_path_1 3 rfl rfl)
theorem dX1_path_29 : decode cX1_path 29 = .ok (.iload_n 2, 1) := dk_28 (dk_at dksX1_path_1 5 rfl rfl)
theorem dX1_path_30 : decode cX1_path 30 = .ok (.iconst (-1), 1) := dk_2 (dk_at dksX1_path_1 6 rfl rfl)
theorem dX1_path_31 : decode cX1_path 31 = .ok (.if_icmp .ne 16, 3) := dk_160 0 16 (dk_at dksX1_path_1 7 rfl rfl)
theorem dX1_path_34 : decode cX1_path 34 = .ok (.iload 4, 2) := dk_21 4 (dk_at dksX1_path_1 10 rfl rfl)
theorem dX1_path_36 : decode cX1_path 36 = .ok (.iconst (-1), 1) := dk_2 (dk_at dksX1_path_1 12 rfl rfl)
theorem dX1_path_37 : decode cX1_path 37 = .ok (.if_icmp .eq 10, 3) := dk_159 0 10 (dk_at dksX1_path_1 13 rfl rfl)
theorem dX1_path_40 : decode cX1_path 40 = .ok (.iload 4, 2) := dk_21 4 (dk_at dksX1_path_1 16 rfl rfl)
theorem dX1_path_42 : decode cX1_path 42 = .ok (.iconst 1, 1) := dk_4 (dk_at dksX1_path_1 18 rfl rfl)
theorem dX1_path_43 : decode cX1_path 43 = .ok (.isub, 1) := dk_100 (dk_at dksX1_path_1 19 rfl rfl)
theorem dX1_path_44 : decode cX1_path 44 = .ok (.goto 5, 3) := dk_167 0 5 (dk_at dksX1_path_1 20 rfl rfl)
theorem dX1_path_47 : decode cX1_path 47 = .ok (.iload 4, 2) := dk_21 4 (dk_at dksX1_path_2 0 rfl rfl)
theorem dX1_path_49 : decode cX1_path 49 = .ok (.ireturn, 1) := dk_172 (dk_at dksX1_path_2 2 rfl rfl)
abbrev cX1_rowTold : ByteArray := prog_1_method_31_code
def yX1_rowTold : MethodName := ⟨RX1, "rowTold", "(LOddPairs$Walk;I)I"⟩
def dkwX1_rowTold_2 : List UInt8 := [172]
abbrev dktX1_rowTold_2 : List UInt8 := dkwX1_rowTold_2 ++ []
def dkwX1_rowTold_1 : List UInt8 := [184, 0, 72, 182, 0, 105, 28, 2, 160, 0, 10, 43, 180, 0, 146, 167, 0, 9, 43, 180, 0, 147, 28, 46]
abbrev dktX1_rowTold_1 : List UInt8 := dkwX1_rowTold_1 ++ dktX1_rowTold_2
def dkwX1_rowTold_0 : List UInt8 := [43, 180, 0, 146, 154, 0, 5, 2, 172, 42, 28, 133, 20, 1, 17, 43, 180, 0, 146, 4, 100, 133]
abbrev dktX1_rowTold_0 : List UInt8 := dkwX1_rowTold_0 ++ dktX1_rowTold_1
theorem dksX1_rowTold_0 : cX1_rowTold.data.toList.drop 0 = dktX1_rowTold_0 := by decide +kernel
theorem dksX1_rowTold_1 : cX1_rowTold.data.toList.drop 22 = dktX1_rowTold_1 := dk_seg dksX1_rowTold_0 22 rfl rfl
theorem dksX1_rowTold_2 : cX1_rowTold.data.toList.drop 46 = dktX1_rowTold_2 := dk_seg dksX1_rowTold_1 24 rfl rfl
theorem dX1_rowTold_0 : decode cX1_rowTold 0 = .ok (.aload_n 1, 1) := dk_43 (dk_at dksX1_rowTold_0 0 rfl rfl)
theorem dX1_rowTold_1 : decode cX1_rowTold 1 = .ok (.getfield 146, 3) := dk_180 0 146 (dk_at dksX1_rowTold_0 1 rfl rfl)
theorem dX1_rowTold_4 : decode cX1_rowTold 4 = .ok (.ifCond .ne 5, 3) := dk_154 0 5 (dk_at dksX1_rowTold_0 4 rfl rfl)
theorem dX1_rowTold_7 : decode cX1_rowTold 7 = .ok (.iconst (-1), 1) := dk_2 (dk_at dksX1_rowTold_0 7 rfl rfl)
theorem dX1_rowTold_8 : decode cX1_rowTold 8 = .ok (.ireturn, 1) := dk_172 (dk_at dksX1_rowTold_0 8 rfl rfl)
theorem dX1_rowTold_9 : decode cX1_rowTold 9 = .ok (.aload_n 0, 1) := dk_42 (dk_at dksX1_rowTold_0 9 rfl rfl)
theorem dX1_rowTold_10 : decode cX1_rowTold 10 = .ok (.iload_n 2, 1) := dk_28 (dk_at dksX1_rowTold_0 10 rfl rfl)
theorem dX1_rowTold_11 : decode cX1_rowTold 11 = .ok (.i2l, 1) := dk_133 (dk_at dksX1_rowTold_0 11 rfl rfl)
theorem dX1_rowTold_12 : decode cX1_rowTold 12 = .ok (.ldc2_w 273, 3) := dk_20 1 17 (dk_at dksX1_rowTold_0 12 rfl rfl)
theorem dX1_rowTold_15 : decode cX1_rowTold 15 = .ok (.aload_n 1, 1) := dk_43 (dk_at dksX1_rowTold_0 15 rfl rfl)
theorem dX1_rowTold_16 : decode cX1_rowTold 16 = .ok (.getfield 146, 3) := dk_180 0 146 (dk_at dksX1_rowTold_0 16 rfl rfl)
theorem dX1_rowTold_19 : decode cX1_rowTold 19 = .ok (.iconst 1, 1) := dk_4 (dk_at dksX1_rowTold_0 19 rfl rfl)
theorem dX1_rowTold_20 : decode cX1_rowTold 20 = .ok (.isub, 1) := dk_100 (dk_at dksX1_rowTold_0 20 rfl rfl)
theorem dX1_rowTold_21 : decode cX1_rowTold 21 = .ok (.i2l, 1) := dk_133 (dk_at dksX1_rowTold_0 21 rfl rfl)
theorem dX1_rowTold_22 : decode cX1_rowTold 22 = .ok (.invokestatic 72, 3) := dk_184 0 72 (dk_at dksX1_rowTold_1 0 rfl rfl)
theorem dX1_rowTold_25 : decode cX1_rowTold 25 = .ok (.invokevirtual 105, 3) := dk_182 0 105 (dk_at dksX1_rowTold_1 3 rfl rfl)
theorem dX1_rowTold_28 : decode cX1_rowTold 28 = .ok (.iload_n 2, 1) := dk_28 (dk_at dksX1_rowTold_1 6 rfl rfl)
theorem dX1_rowTold_29 : decode cX1_rowTold 29 = .ok (.iconst (-1), 1) := dk_2 (dk_at dksX1_rowTold_1 7 rfl rfl)
theorem dX1_rowTold_30 : decode cX1_rowTold 30 = .ok (.if_icmp .ne 10, 3) := dk_160 0 10 (dk_at dksX1_rowTold_1 8 rfl rfl)
theorem dX1_rowTold_33 : decode cX1_rowTold 33 = .ok (.aload_n 1, 1) := dk_43 (dk_at dksX1_rowTold_1 11 rfl rfl)
theorem dX1_rowTold_34 : decode cX1_rowTold 34 = .ok (.getfield 146, 3) := dk_180 0 146 (dk_at dksX1_rowTold_1 12 rfl rfl)
theorem dX1_rowTold_37 : decode cX1_rowTold 37 = .ok (.goto 9, 3) := dk_167 0 9 (dk_at dksX1_rowTold_1 15 rfl rfl)
theorem dX1_rowTold_40 : decode cX1_rowTold 40 = .ok (.aload_n 1, 1) := dk_43 (dk_at dksX1_rowTold_1 18 rfl rfl)
theorem dX1_rowTold_41 : decode cX1_rowTold 41 = .ok (.getfield 147, 3) := dk_180 0 147 (dk_at dksX1_rowTold_1 19 rfl rfl)
theorem dX1_rowTold_44 : decode cX1_rowTold 44 = .ok (.iload_n 2, 1) := dk_28 (dk_at dksX1_rowTold_1 22 rfl rfl)
theorem dX1_rowTold_45 : decode cX1_rowTold 45 = .ok (.iaload, 1) := dk_46 (dk_at dksX1_rowTold_1 23 rfl rfl)
theorem dX1_rowTold_46 : decode cX1_rowTold 46 = .ok (.ireturn, 1) := dk_172 (dk_at dksX1_rowTold_2 0 rfl rfl)
abbrev cX1_flower : ByteArray := prog_1_method_33_code
def yX1_flower : MethodName := ⟨RX1, "flower", "(II)I"⟩
def dkwX1_flower_1 : List UInt8 := [182, 1, 19, 172]
abbrev dktX1_flower_1 : List UInt8 := dkwX1_flower_1 ++ []
def dkwX1_flower_0 : List UInt8 := [42, 27, 182, 0, 108, 42, 187, 0, 137, 89, 42, 180, 0, 29, 183, 0, 139, 27, 182, 0, 163, 28]
abbrev dktX1_flower_0 : List UInt8 := dkwX1_flower_0 ++ dktX1_flower_1
theorem dksX1_flower_0 : cX1_flower.data.toList.drop 0 = dktX1_flower_0 := by decide +kernel
theorem dksX1_flower_1 : cX1_flower.data.toList.drop 22 = dktX1_flower_1 := dk_seg dksX1_flower_0 22 rfl rfl
theorem dX1_flower_0 : decode cX1_flower 0 = .ok (.aload_n 0, 1) := dk_42 (dk_at dksX1_flower_0 0 rfl rfl)
theorem dX1_flower_1 : decode cX1_flower 1 = .ok (.iload_n 1, 1) := dk_27 (dk_at dksX1_flower_0 1 rfl rfl)
theorem dX1_flower_2 : decode cX1_flower 2 = .ok (.invokevirtual 108, 3) := dk_182 0 108 (dk_at dksX1_flower_0 2 rfl rfl)
theorem dX1_flower_5 : decode cX1_flower 5 = .ok (.aload_n 0, 1) := dk_42 (dk_at dksX1_flower_0 5 rfl rfl)
theorem dX1_flower_6 : decode cX1_flower 6 = .ok (.new 137, 3) := dk_187 0 137 (dk_at dksX1_flower_0 6 rfl rfl)
theorem dX1_flower_9 : decode cX1_flower 9 = .ok (.dup, 1) := dk_89 (dk_at dksX1_flower_0 9 rfl rfl)
theorem dX1_flower_10 : decode cX1_flower 10 = .ok (.aload_n 0, 1) := dk_42 (dk_at dksX1_flower_0 10 rfl rfl)
theorem dX1_flower_11 : decode cX1_flower 11 = .ok (.getfield 29, 3) := dk_180 0 29 (dk_at dksX1_flower_0 11 rfl rfl)
theorem dX1_flower_14 : decode cX1_flower 14 = .ok (.invokespecial 139, 3) := dk_183 0 139 (dk_at dksX1_flower_0 14 rfl rfl)
theorem dX1_flower_17 : decode cX1_flower 17 = .ok (.iload_n 1, 1) := dk_27 (dk_at dksX1_flower_0 17 rfl rfl)
theorem dX1_flower_18 : decode cX1_flower 18 = .ok (.invokevirtual 163, 3) := dk_182 0 163 (dk_at dksX1_flower_0 18 rfl rfl)
theorem dX1_flower_21 : decode cX1_flower 21 = .ok (.iload_n 2, 1) := dk_28 (dk_at dksX1_flower_0 21 rfl rfl)
theorem dX1_flower_22 : decode cX1_flower 22 = .ok (.invokevirtual 275, 3) := dk_182 1 19 (dk_at dksX1_flower_1 0 rfl rfl)
theorem dX1_flower_25 : decode cX1_flower 25 = .ok (.ireturn, 1) := dk_172 (dk_at dksX1_flower_1 3 rfl rfl)
theorem q72 : (Jvm.Cond.initialized "OddPairs") ∈ lw_all := lw_g (lw_at lw_m1 1 rfl) rfl
theorem q108 : (Jvm.Cond.instantiable "OddPairs" (6 : Nat)) ∈ lw_all := lw_g (lw_at lw_m1 37 rfl) rfl
theorem q110 : (Jvm.Cond.instanceMethod ({ cls := "OddPairs", name := "<init>", desc := "()V" } : Jvm.MethodName)) ∈ lw_all := lw_g (lw_at lw_m1 39 rfl) rfl
theorem q111 : (Jvm.Cond.code ({ cls := "OddPairs", name := "<init>", desc := "()V" } : Jvm.MethodName) prog_1_method_3_code (1 : Nat) (Option.none : Option Jvm.ClassFile.FieldType)) ∈ lw_all := lw_g (lw_at lw_m1 40 rfl) rfl
theorem q112 : (Jvm.Cond.methodLink "OddPairs" (1 : Nat) ({ cls := "java/lang/Object", name := "<init>", desc := "()V" } : Jvm.MethodName)) ∈ lw_all := lw_g (lw_at lw_m1 41 rfl) rfl
theorem q115 : (Jvm.Cond.classLink "OddPairs" (17 : Nat) "java/util/ArrayDeque") ∈ lw_all := lw_g (lw_at lw_m1 44 rfl) rfl
theorem q117 : (Jvm.Cond.methodLink "OddPairs" (19 : Nat) ({ cls := "java/util/ArrayDeque", name := "<init>", desc := "()V" } : Jvm.MethodName)) ∈ lw_all := lw_g (lw_at lw_m1 46 rfl) rfl
theorem q138 : (Jvm.Cond.classLink "OddPairs" (24 : Nat) "OddPairs$Net") ∈ lw_all := lw_g (lw_at lw_m1 67 rfl) rfl
theorem q140 : (Jvm.Cond.methodLink "OddPairs" (26 : Nat) ({ cls := "OddPairs$Net", name := "<init>", desc := "(I)V" } : Jvm.MethodName)) ∈ lw_all := lw_g (lw_at lw_m1 69 rfl) rfl
theorem q154 : (Jvm.Cond.fieldLinkNest "OddPairs" (102 : Nat) "OddPairs$Net" "many" "I" "OddPairs") ∈ lw_tbl := lw_at lw_m1 83 rfl
theorem q158 : (Jvm.Cond.fieldLinkNest "OddPairs" (173 : Nat) "OddPairs$Net" "weight" "[[I" "OddPairs") ∈ lw_tbl := lw_at lw_m1 87 rfl
theorem q162 : (Jvm.Cond.fieldLinkNest "OddPairs" (124 : Nat) "OddPairs$Net" "mate" "[I" "OddPairs") ∈ lw_tbl := lw_at lw_m1 91 rfl
theorem q170 : (Jvm.Cond.methodLink "OddPairs" (37 : Nat) ({ cls := "OddPairs$Net", name := "joins", desc := "(III)V" } : Jvm.MethodName)) ∈ lw_all := lw_g (lw_at lw_m1 99 rfl) rfl
theorem q175 : (Jvm.Cond.fieldLink "OddPairs" (9 : Nat) "OddPairs" "tape" "[B") ∈ lw_all := lw_g (lw_at lw_m1 104 rfl) rfl
theorem q176 : (Jvm.Cond.fieldLink "OddPairs" (13 : Nat) "OddPairs" "refused" "[I") ∈ lw_all := lw_g (lw_at lw_m1 105 rfl) rfl
theorem q177 : (Jvm.Cond.fieldLink "OddPairs" (20 : Nat) "OddPairs" "kept" "Ljava/util/ArrayDeque;") ∈ lw_all := lw_g (lw_at lw_m1 106 rfl) rfl
theorem q178 : (Jvm.Cond.fieldLink "OddPairs" (29 : Nat) "OddPairs" "now" "LOddPairs$Net;") ∈ lw_all := lw_g (lw_at lw_m1 107 rfl) rfl
theorem q179 : (Jvm.Cond.fieldLink "OddPairs" (66 : Nat) "OddPairs" "taped" "I") ∈ lw_all := lw_g (lw_at lw_m1 108 rfl) rfl
theorem q180 : (Jvm.Cond.fieldLink "OddPairs" (33 : Nat) "OddPairs" "faultAt" "I") ∈ lw_all := lw_g (lw_at lw_m1 109 rfl) rfl
theorem q181 : (Jvm.Cond.laysFinal "OddPairs" "OddPairs" "tape" "[B") ∈ lw_all := lw_g (lw_at lw_m1 110 rfl) rfl
theorem q182 : (Jvm.Cond.soleField "OddPairs" "tape") ∈ lw_all := lw_g (lw_at lw_m1 111 rfl) rfl
theorem q183 : (Jvm.Cond.laysFinal "OddPairs" "OddPairs" "refused" "[I") ∈ lw_all := lw_g (lw_at lw_m1 112 rfl) rfl
theorem q184 : (Jvm.Cond.soleField "OddPairs" "refused") ∈ lw_all := lw_g (lw_at lw_m1 113 rfl) rfl
theorem q185 : (Jvm.Cond.laysFinal "OddPairs" "OddPairs" "kept" "Ljava/util/ArrayDeque;") ∈ lw_all := lw_g (lw_at lw_m1 114 rfl) rfl
theorem q186 : (Jvm.Cond.soleField "OddPairs" "kept") ∈ lw_all := lw_g (lw_at lw_m1 115 rfl) rfl
theorem q187 : (Jvm.Cond.lays "OddPairs" "OddPairs" "now" "LOddPairs$Net;") ∈ lw_all := lw_g (lw_at lw_m1 116 rfl) rfl
theorem q188 : (Jvm.Cond.soleField "OddPairs" "now") ∈ lw_all := lw_g (lw_at lw_m1 117 rfl) rfl
theorem q189 : (Jvm.Cond.lays "OddPairs" "OddPairs" "taped" "I") ∈ lw_all := lw_g (lw_at lw_m1 118 rfl) rfl
theorem q190 : (Jvm.Cond.soleField "OddPairs" "taped") ∈ lw_all := lw_g (lw_at lw_m1 119 rfl) rfl
theorem q191 : (Jvm.Cond.lays "OddPairs" "OddPairs" "faultAt" "I") ∈ lw_all := lw_g (lw_at lw_m1 120 rfl) rfl
theorem q192 : (Jvm.Cond.soleField "OddPairs" "faultAt") ∈ lw_all := lw_g (lw_at lw_m1 121 rfl) rfl
theorem q193 : (Jvm.Cond.superclass "OddPairs" "java/lang/Object") ∈ lw_all := lw_g (lw_at lw_m1 122 rfl) rfl
theorem q195 : (Jvm.Cond.instanceMethod ({ cls := "OddPairs", name := "feed", desc := "(IIIII)I" } : Jvm.MethodName)) ∈ lw_all := lw_g (lw_at lw_m1 124 rfl) rfl
theorem q196 : (Jvm.Cond.selects "OddPairs" ({ cls := "OddPairs", name := "feed", desc := "(IIIII)I" } : Jvm.MethodName) ({ cls := "OddPairs", name := "feed", desc := "(IIIII)I" } : Jvm.MethodName)) ∈ lw_all := lw_g (lw_at lw_m1 125 rfl) rfl
theorem q197 : (Jvm.Cond.code ({ cls := "OddPairs", name := "feed", desc := "(IIIII)I" } : Jvm.MethodName) prog_1_method_8_code (6 : Nat) (Option.some Jvm.ClassFile.FieldType.int)) ∈ lw_all := lw_g (lw_at lw_m1 126 rfl) rfl
theorem q198 : (Jvm.Cond.methodLink "OddPairs" (69 : Nat) ({ cls := "OddPairs", name := "put", desc := "(I)V" } : Jvm.MethodName)) ∈ lw_all := lw_g (lw_at lw_m1 127 rfl) rfl
theorem q199 : (Jvm.Cond.privateMethod ({ cls := "OddPairs", name := "put", desc := "(I)V" } : Jvm.MethodName)) ∈ lw_tbl := lw_at lw_m1 128 rfl
theorem q200 : (Jvm.Cond.instanceMethod ({ cls := "OddPairs", name := "put", desc := "(I)V" } : Jvm.MethodName)) ∈ lw_all := lw_g (lw_at lw_m1 129 rfl) rfl
theorem q201 : (Jvm.Cond.code ({ cls := "OddPairs", name := "put", desc := "(I)V" } : Jvm.MethodName) prog_1_method_9_code (3 : Nat) (Option.none : Option Jvm.ClassFile.FieldType)) ∈ lw_all := lw_g (lw_at lw_m1 130 rfl) rfl
theorem q203 : (Jvm.Cond.instanceMethod ({ cls := "OddPairs", name := "fault", desc := "()I" } : Jvm.MethodName)) ∈ lw_all := lw_g (lw_at lw_m1 132 rfl) rfl
theorem q204 : (Jvm.Cond.selects "OddPairs" ({ cls := "OddPairs", name := "fault", desc := "()I" } : Jvm.MethodName) ({ cls := "OddPairs", name := "fault", desc := "()I" } : Jvm.MethodName)) ∈ lw_all := lw_g (lw_at lw_m1 133 rfl) rfl
theorem q205 : (Jvm.Cond.code ({ cls := "OddPairs", name := "fault", desc := "()I" } : Jvm.MethodName) prog_1_method_11_code (1 : Nat) (Option.some Jvm.ClassFile.FieldType.int)) ∈ lw_all := lw_g (lw_at lw_m1 134 rfl) rfl
theorem q207 : (Jvm.Cond.instanceMethod ({ cls := "OddPairs", name := "finish", desc := "()I" } : Jvm.MethodName)) ∈ lw_all := lw_g (lw_at lw_m1 136 rfl) rfl
theorem q208 : (Jvm.Cond.selects "OddPairs" ({ cls := "OddPairs", name := "finish", desc := "()I" } : Jvm.MethodName) ({ cls := "OddPairs", name := "finish", desc := "()I" } : Jvm.MethodName)) ∈ lw_all := lw_g (lw_at lw_m1 137 rfl) rfl
theorem q209 : (Jvm.Cond.code ({ cls := "OddPairs", name := "finish", desc := "()I" } : Jvm.MethodName) prog_1_method_19_code (3 : Nat) (Option.some Jvm.ClassFile.FieldType.int)) ∈ lw_all := lw_g (lw_at lw_m1 138 rfl) rfl
theorem q210 : (Jvm.Cond.methodLink "OddPairs" (134 : Nat) ({ cls := "OddPairs$Net", name := "pairMany", desc := "()I" } : Jvm.MethodName)) ∈ lw_all := lw_g (lw_at lw_m1 139 rfl) rfl
theorem q214 : (Jvm.Cond.classLink "OddPairs" (150 : Nat) "OddPairs$Greatest") ∈ lw_all := lw_g (lw_at lw_m1 143 rfl) rfl
theorem q216 : (Jvm.Cond.methodLink "OddPairs" (152 : Nat) ({ cls := "OddPairs$Greatest", name := "<init>", desc := "(LOddPairs$Net;)V" } : Jvm.MethodName)) ∈ lw_all := lw_g (lw_at lw_m1 145 rfl) rfl
theorem q271 : (Jvm.Cond.static ({ cls := "OddPairs", name := "has", desc := "(II)Z" } : Jvm.MethodName)) ∈ lw_all := lw_g (lw_at lw_m1 200 rfl) rfl
theorem q272 : (Jvm.Cond.code ({ cls := "OddPairs", name := "has", desc := "(II)Z" } : Jvm.MethodName) prog_1_method_2_code (2 : Nat) (Option.some Jvm.ClassFile.FieldType.boolean)) ∈ lw_all := lw_g (lw_at lw_m1 201 rfl) rfl
theorem q303 : (Jvm.Cond.fieldLinkNest "OddPairs" (192 : Nat) "OddPairs$Greatest" "most" "I" "OddPairs") ∈ lw_tbl := lw_at lw_m1 232 rfl
theorem q311 : (Jvm.Cond.methodLink "OddPairs" (153 : Nat) ({ cls := "OddPairs$Greatest", name := "first", desc := "()[I" } : Jvm.MethodName)) ∈ lw_all := lw_g (lw_at lw_m2 0 rfl) rfl
theorem q318 : (Jvm.Cond.methodLink "OddPairs" (96 : Nat) ({ cls := "OddPairs", name := "keeps", desc := "()V" } : Jvm.MethodName)) ∈ lw_all := lw_g (lw_at lw_m2 7 rfl) rfl
theorem q319 : (Jvm.Cond.privateMethod ({ cls := "OddPairs", name := "keeps", desc := "()V" } : Jvm.MethodName)) ∈ lw_tbl := lw_at lw_m2 8 rfl
theorem q320 : (Jvm.Cond.instanceMethod ({ cls := "OddPairs", name := "keeps", desc := "()V" } : Jvm.MethodName)) ∈ lw_all := lw_g (lw_at lw_m2 9 rfl) rfl
theorem q321 : (Jvm.Cond.code ({ cls := "OddPairs", name := "keeps", desc := "()V" } : Jvm.MethodName) prog_1_method_7_code (1 : Nat) (Option.none : Option Jvm.ClassFile.FieldType)) ∈ lw_all := lw_g (lw_at lw_m2 10 rfl) rfl
theorem q322 : (Jvm.Cond.methodLink "OddPairs" (50 : Nat) ({ cls := "java/util/ArrayDeque", name := "size", desc := "()I" } : Jvm.MethodName)) ∈ lw_all := lw_g (lw_at lw_m2 11 rfl) rfl
theorem q329 : (Jvm.Cond.methodLink "OddPairs" (54 : Nat) ({ cls := "java/util/ArrayDeque", name := "removeFirst", desc := "()Ljava/lang/Object;" } : Jvm.MethodName)) ∈ lw_all := lw_g (lw_at lw_m2 18 rfl) rfl
theorem q408 : (Jvm.Cond.methodLink "OddPairs" (58 : Nat) ({ cls := "java/util/ArrayDeque", name := "addLast", desc := "(Ljava/lang/Object;)V" } : Jvm.MethodName)) ∈ lw_all := lw_g (lw_at lw_m2 97 rfl) rfl
theorem q452 : (Jvm.Cond.selects "OddPairs" ({ cls := "java/lang/Object", name := "getClass", desc := "()Ljava/lang/Class;" } : Jvm.MethodName) ({ cls := "java/lang/Object", name := "getClass", desc := "()Ljava/lang/Class;" } : Jvm.MethodName)) ∈ lw_all := lw_g (lw_at lw_m2 141 rfl) rfl
theorem q484 : (Jvm.Cond.methodLink "OddPairs" (62 : Nat) ({ cls := "OddPairs$Net", name := "like", desc := "()LOddPairs$Net;" } : Jvm.MethodName)) ∈ lw_all := lw_g (lw_at lw_m2 173 rfl) rfl
theorem q491 : (Jvm.Cond.methodLink "OddPairs" (157 : Nat) ({ cls := "java/lang/System", name := "arraycopy", desc := "(Ljava/lang/Object;ILjava/lang/Object;II)V" } : Jvm.MethodName)) ∈ lw_all := lw_g (lw_at lw_m2 180 rfl) rfl
theorem q493 : (Jvm.Cond.instanceMethod ({ cls := "OddPairs", name := "undo", desc := "()I" } : Jvm.MethodName)) ∈ lw_all := lw_g (lw_at lw_m2 182 rfl) rfl
theorem q494 : (Jvm.Cond.selects "OddPairs" ({ cls := "OddPairs", name := "undo", desc := "()I" } : Jvm.MethodName) ({ cls := "OddPairs", name := "undo", desc := "()I" } : Jvm.MethodName)) ∈ lw_all := lw_g (lw_at lw_m2 183 rfl) rfl
theorem q495 : (Jvm.Cond.code ({ cls := "OddPairs", name := "undo", desc := "()I" } : Jvm.MethodName) prog_1_method_22_code (1 : Nat) (Option.some Jvm.ClassFile.FieldType.int)) ∈ lw_all := lw_g (lw_at lw_m2 184 rfl) rfl
theorem q496 : (Jvm.Cond.methodLink "OddPairs" (183 : Nat) ({ cls := "java/util/ArrayDeque", name := "isEmpty", desc := "()Z" } : Jvm.MethodName)) ∈ lw_all := lw_g (lw_at lw_m2 185 rfl) rfl
theorem q500 : (Jvm.Cond.methodLink "OddPairs" (187 : Nat) ({ cls := "java/util/ArrayDeque", name := "removeLast", desc := "()Ljava/lang/Object;" } : Jvm.MethodName)) ∈ lw_all := lw_g (lw_at lw_m2 189 rfl) rfl
theorem q512 : (Jvm.Cond.instanceMethod ({ cls := "OddPairs", name := "ways", desc := "()I" } : Jvm.MethodName)) ∈ lw_all := lw_g (lw_at lw_m2 201 rfl) rfl
theorem q513 : (Jvm.Cond.selects "OddPairs" ({ cls := "OddPairs", name := "ways", desc := "()I" } : Jvm.MethodName) ({ cls := "OddPairs", name := "ways", desc := "()I" } : Jvm.MethodName)) ∈ lw_all := lw_g (lw_at lw_m2 202 rfl) rfl
theorem q514 : (Jvm.Cond.code ({ cls := "OddPairs", name := "ways", desc := "()I" } : Jvm.MethodName) prog_1_method_29_code (2 : Nat) (Option.some Jvm.ClassFile.FieldType.int)) ∈ lw_all := lw_g (lw_at lw_m2 203 rfl) rfl
theorem q515 : (Jvm.Cond.methodLink "OddPairs" (203 : Nat) ({ cls := "OddPairs$Net", name := "all", desc := "()I" } : Jvm.MethodName)) ∈ lw_all := lw_g (lw_at lw_m2 204 rfl) rfl
theorem q516 : (Jvm.Cond.methodLink "OddPairs" (263 : Nat) ({ cls := "OddPairs$Greatest", name := "ways", desc := "(II)I" } : Jvm.MethodName)) ∈ lw_all := lw_g (lw_at lw_m2 205 rfl) rfl
theorem q532 : (Jvm.Cond.instanceMethod ({ cls := "OddPairs", name := "print", desc := "()J" } : Jvm.MethodName)) ∈ lw_all := lw_g (lw_at lw_m2 221 rfl) rfl
theorem q533 : (Jvm.Cond.selects "OddPairs" ({ cls := "OddPairs", name := "print", desc := "()J" } : Jvm.MethodName) ({ cls := "OddPairs", name := "print", desc := "()J" } : Jvm.MethodName)) ∈ lw_all := lw_g (lw_at lw_m2 222 rfl) rfl
theorem q534 : (Jvm.Cond.code ({ cls := "OddPairs", name := "print", desc := "()J" } : Jvm.MethodName) prog_1_method_34_code (5 : Nat) (Option.some Jvm.ClassFile.FieldType.long)) ∈ lw_all := lw_g (lw_at lw_m2 223 rfl) rfl
theorem q535 : (Jvm.Cond.constantLong "OddPairs" (279 : Nat) (31 : Int64)) ∈ lw_all := lw_g (lw_at lw_m2 224 rfl) rfl
theorem q536 : (Jvm.Cond.methodLink "OddPairs" (117 : Nat) ({ cls := "OddPairs$Net", name := "isLine", desc := "(II)Z" } : Jvm.MethodName)) ∈ lw_all := lw_g (lw_at lw_m2 225 rfl) rfl
theorem q538 : (Jvm.Cond.instanceMethod ({ cls := "OddPairs", name := "status", desc := "(I)I" } : Jvm.MethodName)) ∈ lw_all := lw_g (lw_at lw_m2 227 rfl) rfl
theorem q539 : (Jvm.Cond.selects "OddPairs" ({ cls := "OddPairs", name := "status", desc := "(I)I" } : Jvm.MethodName) ({ cls := "OddPairs", name := "status", desc := "(I)I" } : Jvm.MethodName)) ∈ lw_all := lw_g (lw_at lw_m2 228 rfl) rfl
theorem q540 : (Jvm.Cond.code ({ cls := "OddPairs", name := "status", desc := "(I)I" } : Jvm.MethodName) prog_1_method_35_code (2 : Nat) (Option.some Jvm.ClassFile.FieldType.int)) ∈ lw_all := lw_g (lw_at lw_m2 229 rfl) rfl
theorem q541 : (Jvm.Cond.constantLong "OddPairs" (281 : Nat) (2 : Int64)) ∈ lw_all := lw_g (lw_at lw_m2 230 rfl) rfl
theorem q542 : (Jvm.Cond.methodLink "OddPairs" (72 : Nat) ({ cls := "OddPairs", name := "isIn", desc := "(JJJ)Z" } : Jvm.MethodName)) ∈ lw_all := lw_g (lw_at lw_m2 231 rfl) rfl
theorem q543 : (Jvm.Cond.static ({ cls := "OddPairs", name := "isIn", desc := "(JJJ)Z" } : Jvm.MethodName)) ∈ lw_all := lw_g (lw_at lw_m2 232 rfl) rfl
theorem q544 : (Jvm.Cond.code ({ cls := "OddPairs", name := "isIn", desc := "(JJJ)Z" } : Jvm.MethodName) prog_1_method_1_code (6 : Nat) (Option.some Jvm.ClassFile.FieldType.boolean)) ∈ lw_all := lw_g (lw_at lw_m2 233 rfl) rfl
theorem q550 : (Jvm.Cond.instanceMethod ({ cls := "OddPairs", name := "text", desc := "(I)I" } : Jvm.MethodName)) ∈ lw_all := lw_g (lw_at lw_m2 239 rfl) rfl
theorem q551 : (Jvm.Cond.selects "OddPairs" ({ cls := "OddPairs", name := "text", desc := "(I)I" } : Jvm.MethodName) ({ cls := "OddPairs", name := "text", desc := "(I)I" } : Jvm.MethodName)) ∈ lw_all := lw_g (lw_at lw_m3 0 rfl) rfl
theorem q552 : (Jvm.Cond.codeWith ({ cls := "OddPairs", name := "text", desc := "(I)I" } : Jvm.MethodName) prog_1_method_10_code (4 : Nat) (Option.some Jvm.ClassFile.FieldType.int) [((25 : Nat), (38 : Nat), (41 : Nat), (88 : Nat))]) ∈ lw_all := lw_g (lw_at lw_m3 1 rfl) rfl
theorem q553 : (Jvm.Cond.classLink "OddPairs" (88 : Nat) "OddPairs$Wrong") ∈ lw_all := lw_g (lw_at lw_m3 2 rfl) rfl
theorem q554 : (Jvm.Cond.methodLink "OddPairs" (76 : Nat) ({ cls := "OddPairs", name := "need", desc := "(Z)V" } : Jvm.MethodName)) ∈ lw_all := lw_g (lw_at lw_m3 3 rfl) rfl
theorem q555 : (Jvm.Cond.privateMethod ({ cls := "OddPairs", name := "need", desc := "(Z)V" } : Jvm.MethodName)) ∈ lw_tbl := lw_at lw_m3 4 rfl
theorem q556 : (Jvm.Cond.instanceMethod ({ cls := "OddPairs", name := "need", desc := "(Z)V" } : Jvm.MethodName)) ∈ lw_all := lw_g (lw_at lw_m3 5 rfl) rfl
theorem q557 : (Jvm.Cond.code ({ cls := "OddPairs", name := "need", desc := "(Z)V" } : Jvm.MethodName) prog_1_method_4_code (2 : Nat) (Option.none : Option Jvm.ClassFile.FieldType)) ∈ lw_all := lw_g (lw_at lw_m3 6 rfl) rfl
theorem q558 : (Jvm.Cond.classLink "OddPairs" (41 : Nat) "java/lang/IllegalArgumentException") ∈ lw_all := lw_g (lw_at lw_m3 7 rfl) rfl
theorem q567 : (Jvm.Cond.methodLink "OddPairs" (43 : Nat) ({ cls := "java/lang/IllegalArgumentException", name := "<init>", desc := "()V" } : Jvm.MethodName)) ∈ lw_all := lw_g (lw_at lw_m3 16 rfl) rfl
theorem q573 : (Jvm.Cond.classLink "OddPairs" (80 : Nat) "OddPairs$Reader") ∈ lw_all := lw_g (lw_at lw_m3 22 rfl) rfl
theorem q575 : (Jvm.Cond.methodLink "OddPairs" (82 : Nat) ({ cls := "OddPairs$Reader", name := "<init>", desc := "(LOddPairs;I)V" } : Jvm.MethodName)) ∈ lw_all := lw_g (lw_at lw_m3 24 rfl) rfl
theorem q624 : (Jvm.Cond.methodLink "OddPairs" (85 : Nat) ({ cls := "OddPairs$Reader", name := "all", desc := "()LOddPairs$Net;" } : Jvm.MethodName)) ∈ lw_all := lw_g (lw_at lw_m3 73 rfl) rfl
theorem q935 : (Jvm.Cond.fieldLinkNest "OddPairs" (93 : Nat) "OddPairs$Wrong" "kind" "I" "OddPairs") ∈ lw_tbl := lw_at lw_m4 144 rfl
theorem q937 : (Jvm.Cond.fieldLinkNest "OddPairs" (90 : Nat) "OddPairs$Wrong" "place" "I" "OddPairs") ∈ lw_tbl := lw_at lw_m4 146 rfl
theorem q1132 : (Jvm.Cond.methodLink "OddPairs" (99 : Nat) ({ cls := "OddPairs$Net", name := "lines", desc := "()I" } : Jvm.MethodName)) ∈ lw_all := lw_g (lw_at lw_m5 101 rfl) rfl
theorem q1146 : (Jvm.Cond.instanceMethod ({ cls := "OddPairs", name := "join", desc := "(III)I" } : Jvm.MethodName)) ∈ lw_all := lw_g (lw_at lw_m5 115 rfl) rfl
theorem q1147 : (Jvm.Cond.selects "OddPairs" ({ cls := "OddPairs", name := "join", desc := "(III)I" } : Jvm.MethodName) ({ cls := "OddPairs", name := "join", desc := "(III)I" } : Jvm.MethodName)) ∈ lw_all := lw_g (lw_at lw_m5 116 rfl) rfl
theorem q1148 : (Jvm.Cond.code ({ cls := "OddPairs", name := "join", desc := "(III)I" } : Jvm.MethodName) prog_1_method_14_code (4 : Nat) (Option.some Jvm.ClassFile.FieldType.int)) ∈ lw_all := lw_g (lw_at lw_m5 117 rfl) rfl
theorem q1149 : (Jvm.Cond.methodLink "OddPairs" (111 : Nat) ({ cls := "OddPairs", name := "needTwo", desc := "(II)V" } : Jvm.MethodName)) ∈ lw_all := lw_g (lw_at lw_m5 118 rfl) rfl
theorem q1150 : (Jvm.Cond.privateMethod ({ cls := "OddPairs", name := "needTwo", desc := "(II)V" } : Jvm.MethodName)) ∈ lw_tbl := lw_at lw_m5 119 rfl
theorem q1151 : (Jvm.Cond.instanceMethod ({ cls := "OddPairs", name := "needTwo", desc := "(II)V" } : Jvm.MethodName)) ∈ lw_all := lw_g (lw_at lw_m5 120 rfl) rfl
theorem q1152 : (Jvm.Cond.code ({ cls := "OddPairs", name := "needTwo", desc := "(II)V" } : Jvm.MethodName) prog_1_method_13_code (3 : Nat) (Option.none : Option Jvm.ClassFile.FieldType)) ∈ lw_all := lw_g (lw_at lw_m5 121 rfl) rfl
theorem q1153 : (Jvm.Cond.methodLink "OddPairs" (108 : Nat) ({ cls := "OddPairs", name := "needNode", desc := "(I)V" } : Jvm.MethodName)) ∈ lw_all := lw_g (lw_at lw_m5 122 rfl) rfl
theorem q1154 : (Jvm.Cond.privateMethod ({ cls := "OddPairs", name := "needNode", desc := "(I)V" } : Jvm.MethodName)) ∈ lw_tbl := lw_at lw_m5 123 rfl
theorem q1155 : (Jvm.Cond.instanceMethod ({ cls := "OddPairs", name := "needNode", desc := "(I)V" } : Jvm.MethodName)) ∈ lw_all := lw_g (lw_at lw_m5 124 rfl) rfl
theorem q1156 : (Jvm.Cond.code ({ cls := "OddPairs", name := "needNode", desc := "(I)V" } : Jvm.MethodName) prog_1_method_12_code (2 : Nat) (Option.none : Option Jvm.ClassFile.FieldType)) ∈ lw_all := lw_g (lw_at lw_m5 125 rfl) rfl
theorem q1157 : (Jvm.Cond.methodLink "OddPairs" (105 : Nat) ({ cls := "OddPairs", name := "needThere", desc := "(Z)V" } : Jvm.MethodName)) ∈ lw_all := lw_g (lw_at lw_m5 126 rfl) rfl
theorem q1158 : (Jvm.Cond.privateMethod ({ cls := "OddPairs", name := "needThere", desc := "(Z)V" } : Jvm.MethodName)) ∈ lw_tbl := lw_at lw_m5 127 rfl
theorem q1159 : (Jvm.Cond.instanceMethod ({ cls := "OddPairs", name := "needThere", desc := "(Z)V" } : Jvm.MethodName)) ∈ lw_all := lw_g (lw_at lw_m5 128 rfl) rfl
theorem q1160 : (Jvm.Cond.code ({ cls := "OddPairs", name := "needThere", desc := "(Z)V" } : Jvm.MethodName) prog_1_method_5_code (2 : Nat) (Option.none : Option Jvm.ClassFile.FieldType)) ∈ lw_all := lw_g (lw_at lw_m5 129 rfl) rfl
theorem q1161 : (Jvm.Cond.classLink "OddPairs" (44 : Nat) "java/util/NoSuchElementException") ∈ lw_all := lw_g (lw_at lw_m5 130 rfl) rfl
theorem q1162 : (Jvm.Cond.methodLink "OddPairs" (46 : Nat) ({ cls := "java/util/NoSuchElementException", name := "<init>", desc := "()V" } : Jvm.MethodName)) ∈ lw_all := lw_g (lw_at lw_m5 131 rfl) rfl
theorem q1163 : (Jvm.Cond.constantLong "OddPairs" (115 : Nat) (999 : Int64)) ∈ lw_all := lw_g (lw_at lw_m5 132 rfl) rfl
theorem q1169 : (Jvm.Cond.instanceMethod ({ cls := "OddPairs", name := "cut", desc := "(II)I" } : Jvm.MethodName)) ∈ lw_all := lw_g (lw_at lw_m5 138 rfl) rfl
theorem q1170 : (Jvm.Cond.selects "OddPairs" ({ cls := "OddPairs", name := "cut", desc := "(II)I" } : Jvm.MethodName) ({ cls := "OddPairs", name := "cut", desc := "(II)I" } : Jvm.MethodName)) ∈ lw_all := lw_g (lw_at lw_m5 139 rfl) rfl
theorem q1171 : (Jvm.Cond.code ({ cls := "OddPairs", name := "cut", desc := "(II)I" } : Jvm.MethodName) prog_1_method_15_code (3 : Nat) (Option.some Jvm.ClassFile.FieldType.int)) ∈ lw_all := lw_g (lw_at lw_m5 140 rfl) rfl
theorem q1172 : (Jvm.Cond.methodLink "OddPairs" (121 : Nat) ({ cls := "OddPairs", name := "needNow", desc := "(Z)V" } : Jvm.MethodName)) ∈ lw_all := lw_g (lw_at lw_m5 141 rfl) rfl
theorem q1173 : (Jvm.Cond.privateMethod ({ cls := "OddPairs", name := "needNow", desc := "(Z)V" } : Jvm.MethodName)) ∈ lw_tbl := lw_at lw_m5 142 rfl
theorem q1174 : (Jvm.Cond.instanceMethod ({ cls := "OddPairs", name := "needNow", desc := "(Z)V" } : Jvm.MethodName)) ∈ lw_all := lw_g (lw_at lw_m5 143 rfl) rfl
theorem q1175 : (Jvm.Cond.code ({ cls := "OddPairs", name := "needNow", desc := "(Z)V" } : Jvm.MethodName) prog_1_method_6_code (2 : Nat) (Option.none : Option Jvm.ClassFile.FieldType)) ∈ lw_all := lw_g (lw_at lw_m5 144 rfl) rfl
theorem q1176 : (Jvm.Cond.classLink "OddPairs" (47 : Nat) "java/lang/IllegalStateException") ∈ lw_all := lw_g (lw_at lw_m5 145 rfl) rfl
theorem q1177 : (Jvm.Cond.methodLink "OddPairs" (49 : Nat) ({ cls := "java/lang/IllegalStateException", name := "<init>", desc := "()V" } : Jvm.MethodName)) ∈ lw_all := lw_g (lw_at lw_m5 146 rfl) rfl
theorem q1181 : (Jvm.Cond.methodLink "OddPairs" (127 : Nat) ({ cls := "OddPairs$Net", name := "parts", desc := "(I)I" } : Jvm.MethodName)) ∈ lw_all := lw_g (lw_at lw_m5 150 rfl) rfl
theorem q1189 : (Jvm.Cond.instanceMethod ({ cls := "OddPairs", name := "pair", desc := "(II)I" } : Jvm.MethodName)) ∈ lw_all := lw_g (lw_at lw_m5 158 rfl) rfl
theorem q1190 : (Jvm.Cond.selects "OddPairs" ({ cls := "OddPairs", name := "pair", desc := "(II)I" } : Jvm.MethodName) ({ cls := "OddPairs", name := "pair", desc := "(II)I" } : Jvm.MethodName)) ∈ lw_all := lw_g (lw_at lw_m5 159 rfl) rfl
theorem q1191 : (Jvm.Cond.code ({ cls := "OddPairs", name := "pair", desc := "(II)I" } : Jvm.MethodName) prog_1_method_16_code (3 : Nat) (Option.some Jvm.ClassFile.FieldType.int)) ∈ lw_all := lw_g (lw_at lw_m5 160 rfl) rfl
theorem q1192 : (Jvm.Cond.methodLink "OddPairs" (131 : Nat) ({ cls := "OddPairs$Net", name := "pairs", desc := "(II)V" } : Jvm.MethodName)) ∈ lw_all := lw_g (lw_at lw_m5 161 rfl) rfl
theorem q1197 : (Jvm.Cond.instanceMethod ({ cls := "OddPairs", name := "part", desc := "(I)I" } : Jvm.MethodName)) ∈ lw_all := lw_g (lw_at lw_m5 166 rfl) rfl
theorem q1198 : (Jvm.Cond.selects "OddPairs" ({ cls := "OddPairs", name := "part", desc := "(I)I" } : Jvm.MethodName) ({ cls := "OddPairs", name := "part", desc := "(I)I" } : Jvm.MethodName)) ∈ lw_all := lw_g (lw_at lw_m5 167 rfl) rfl
theorem q1199 : (Jvm.Cond.code ({ cls := "OddPairs", name := "part", desc := "(I)I" } : Jvm.MethodName) prog_1_method_17_code (2 : Nat) (Option.some Jvm.ClassFile.FieldType.int)) ∈ lw_all := lw_g (lw_at lw_m5 168 rfl) rfl
theorem q1204 : (Jvm.Cond.instanceMethod ({ cls := "OddPairs", name := "better", desc := "(I)I" } : Jvm.MethodName)) ∈ lw_all := lw_g (lw_at lw_m5 173 rfl) rfl
theorem q1205 : (Jvm.Cond.selects "OddPairs" ({ cls := "OddPairs", name := "better", desc := "(I)I" } : Jvm.MethodName) ({ cls := "OddPairs", name := "better", desc := "(I)I" } : Jvm.MethodName)) ∈ lw_all := lw_g (lw_at lw_m5 174 rfl) rfl
theorem q1206 : (Jvm.Cond.code ({ cls := "OddPairs", name := "better", desc := "(I)I" } : Jvm.MethodName) prog_1_method_18_code (4 : Nat) (Option.some Jvm.ClassFile.FieldType.int)) ∈ lw_all := lw_g (lw_at lw_m5 175 rfl) rfl
theorem q1207 : (Jvm.Cond.classLink "OddPairs" (137 : Nat) "OddPairs$Walk") ∈ lw_all := lw_g (lw_at lw_m5 176 rfl) rfl
theorem q1209 : (Jvm.Cond.methodLink "OddPairs" (139 : Nat) ({ cls := "OddPairs$Walk", name := "<init>", desc := "(LOddPairs$Net;)V" } : Jvm.MethodName)) ∈ lw_all := lw_g (lw_at lw_m5 178 rfl) rfl
theorem q1215 : (Jvm.Cond.fieldLinkNest "OddPairs" (147 : Nat) "OddPairs$Walk" "row" "[I" "OddPairs") ∈ lw_tbl := lw_at lw_m5 184 rfl
theorem q1217 : (Jvm.Cond.fieldLinkNest "OddPairs" (146 : Nat) "OddPairs$Walk" "many" "I" "OddPairs") ∈ lw_tbl := lw_at lw_m5 186 rfl
theorem q1219 : (Jvm.Cond.fieldLinkNest "OddPairs" (235 : Nat) "OddPairs$Walk" "even" "I" "OddPairs") ∈ lw_tbl := lw_at lw_m5 188 rfl
theorem q1221 : (Jvm.Cond.fieldLinkNest "OddPairs" (238 : Nat) "OddPairs$Walk" "odd" "I" "OddPairs") ∈ lw_tbl := lw_at lw_m5 190 rfl
theorem q1233 : (Jvm.Cond.methodLink "OddPairs" (142 : Nat) ({ cls := "OddPairs$Walk", name := "path", desc := "(I)LOddPairs$Walk;" } : Jvm.MethodName)) ∈ lw_all := lw_g (lw_at lw_m5 202 rfl) rfl
theorem q1247 : (Jvm.Cond.instanceMethod ({ cls := "OddPairs", name := "shrink", desc := "(I)I" } : Jvm.MethodName)) ∈ lw_all := lw_g (lw_at lw_m5 216 rfl) rfl
theorem q1248 : (Jvm.Cond.selects "OddPairs" ({ cls := "OddPairs", name := "shrink", desc := "(I)I" } : Jvm.MethodName) ({ cls := "OddPairs", name := "shrink", desc := "(I)I" } : Jvm.MethodName)) ∈ lw_all := lw_g (lw_at lw_m5 217 rfl) rfl
theorem q1249 : (Jvm.Cond.code ({ cls := "OddPairs", name := "shrink", desc := "(I)I" } : Jvm.MethodName) prog_1_method_20_code (5 : Nat) (Option.some Jvm.ClassFile.FieldType.int)) ∈ lw_all := lw_g (lw_at lw_m5 218 rfl) rfl
theorem q1250 : (Jvm.Cond.methodLink "OddPairs" (163 : Nat) ({ cls := "OddPairs$Walk", name := "flower", desc := "(I)LOddPairs$Walk;" } : Jvm.MethodName)) ∈ lw_all := lw_g (lw_at lw_m5 219 rfl) rfl
theorem q1254 : (Jvm.Cond.methodLink "OddPairs" (166 : Nat) ({ cls := "OddPairs", name := "shrunk", desc := "(LOddPairs$Net;II)LOddPairs$Net;" } : Jvm.MethodName)) ∈ lw_all := lw_g (lw_at lw_m5 223 rfl) rfl
theorem q1255 : (Jvm.Cond.static ({ cls := "OddPairs", name := "shrunk", desc := "(LOddPairs$Net;II)LOddPairs$Net;" } : Jvm.MethodName)) ∈ lw_all := lw_g (lw_at lw_m5 224 rfl) rfl
theorem q1256 : (Jvm.Cond.code ({ cls := "OddPairs", name := "shrunk", desc := "(LOddPairs$Net;II)LOddPairs$Net;" } : Jvm.MethodName) prog_1_method_21_code (8 : Nat) (Option.some (Jvm.ClassFile.FieldType.object "OddPairs$Net"))) ∈ lw_all := lw_g (lw_at lw_m5 225 rfl) rfl
theorem q1257 : (Jvm.Cond.methodLink "OddPairs" (170 : Nat) ({ cls := "OddPairs", name := "has", desc := "(II)Z" } : Jvm.MethodName)) ∈ lw_all := lw_g (lw_at lw_m5 226 rfl) rfl
theorem q1258 : (Jvm.Cond.methodLink "OddPairs" (177 : Nat) ({ cls := "java/lang/Math", name := "max", desc := "(II)I" } : Jvm.MethodName)) ∈ lw_all := lw_g (lw_at lw_m5 227 rfl) rfl
theorem q1263 : (Jvm.Cond.instanceMethod ({ cls := "OddPairs", name := "told", desc := "(I)I" } : Jvm.MethodName)) ∈ lw_all := lw_g (lw_at lw_m5 232 rfl) rfl
theorem q1264 : (Jvm.Cond.selects "OddPairs" ({ cls := "OddPairs", name := "told", desc := "(I)I" } : Jvm.MethodName) ({ cls := "OddPairs", name := "told", desc := "(I)I" } : Jvm.MethodName)) ∈ lw_all := lw_g (lw_at lw_m5 233 rfl) rfl
theorem q1265 : (Jvm.Cond.code ({ cls := "OddPairs", name := "told", desc := "(I)I" } : Jvm.MethodName) prog_1_method_23_code (4 : Nat) (Option.some Jvm.ClassFile.FieldType.int)) ∈ lw_all := lw_g (lw_at lw_m5 234 rfl) rfl
theorem q1266 : (Jvm.Cond.constantLong "OddPairs" (190 : Nat) (7 : Int64)) ∈ lw_all := lw_g (lw_at lw_m5 235 rfl) rfl
theorem q1267 : (Jvm.Cond.methodLink "OddPairs" (195 : Nat) ({ cls := "OddPairs$Greatest", name := "missing", desc := "()I" } : Jvm.MethodName)) ∈ lw_all := lw_g (lw_at lw_m5 236 rfl) rfl
theorem q1275 : (Jvm.Cond.instanceMethod ({ cls := "OddPairs", name := "line", desc := "(III)I" } : Jvm.MethodName)) ∈ lw_all := lw_g (lw_at lw_m6 4 rfl) rfl
theorem q1276 : (Jvm.Cond.selects "OddPairs" ({ cls := "OddPairs", name := "line", desc := "(III)I" } : Jvm.MethodName) ({ cls := "OddPairs", name := "line", desc := "(III)I" } : Jvm.MethodName)) ∈ lw_all := lw_g (lw_at lw_m6 5 rfl) rfl
theorem q1277 : (Jvm.Cond.codeWith ({ cls := "OddPairs", name := "line", desc := "(III)I" } : Jvm.MethodName) prog_1_method_24_code (10 : Nat) (Option.some Jvm.ClassFile.FieldType.int) [((192 : Nat), (209 : Nat), (217 : Nat), (217 : Nat)), ((219 : Nat), (224 : Nat), (227 : Nat), (217 : Nat))]) ∈ lw_all := lw_g (lw_at lw_m6 6 rfl) rfl
theorem q1278 : (Jvm.Cond.classLink "OddPairs" (217 : Nat) "java/lang/Throwable") ∈ lw_all := lw_g (lw_at lw_m6 7 rfl) rfl
theorem q1279 : (Jvm.Cond.constantLong "OddPairs" (198 : Nat) (4 : Int64)) ∈ lw_all := lw_g (lw_at lw_m6 8 rfl) rfl
theorem q1280 : (Jvm.Cond.classLink "OddPairs" (200 : Nat) "OddPairs$Trees") ∈ lw_all := lw_g (lw_at lw_m6 9 rfl) rfl
theorem q1281 : (Jvm.Cond.methodLink "OddPairs" (202 : Nat) ({ cls := "OddPairs$Trees", name := "<init>", desc := "(LOddPairs$Net;)V" } : Jvm.MethodName)) ∈ lw_all := lw_g (lw_at lw_m6 10 rfl) rfl
theorem q1282 : (Jvm.Cond.methodLink "OddPairs" (205 : Nat) ({ cls := "OddPairs$Trees", name := "most", desc := "(I)I" } : Jvm.MethodName)) ∈ lw_all := lw_g (lw_at lw_m6 11 rfl) rfl
theorem q1283 : (Jvm.Cond.classLink "OddPairs" (207 : Nat) "OddPairs$Without") ∈ lw_all := lw_g (lw_at lw_m6 12 rfl) rfl
theorem q1285 : (Jvm.Cond.methodLink "OddPairs" (209 : Nat) ({ cls := "OddPairs$Without", name := "<init>", desc := "(LOddPairs$Net;II)V" } : Jvm.MethodName)) ∈ lw_all := lw_g (lw_at lw_m6 14 rfl) rfl
theorem q1303 : (Jvm.Cond.methodLink "OddPairs" (212 : Nat) ({ cls := "OddPairs$Without", name := "most", desc := "()I" } : Jvm.MethodName)) ∈ lw_all := lw_g (lw_at lw_m6 32 rfl) rfl
theorem q1311 : (Jvm.Cond.methodLink "OddPairs" (214 : Nat) ({ cls := "OddPairs$Without", name := "close", desc := "()V" } : Jvm.MethodName)) ∈ lw_all := lw_g (lw_at lw_m6 40 rfl) rfl
theorem q1315 : (Jvm.Cond.methodLink "OddPairs" (219 : Nat) ({ cls := "java/lang/Throwable", name := "addSuppressed", desc := "(Ljava/lang/Throwable;)V" } : Jvm.MethodName)) ∈ lw_all := lw_g (lw_at lw_m6 44 rfl) rfl
theorem q1361 : (Jvm.Cond.instanceMethod ({ cls := "OddPairs", name := "node", desc := "(II)I" } : Jvm.MethodName)) ∈ lw_all := lw_g (lw_at lw_m6 90 rfl) rfl
theorem q1362 : (Jvm.Cond.selects "OddPairs" ({ cls := "OddPairs", name := "node", desc := "(II)I" } : Jvm.MethodName) ({ cls := "OddPairs", name := "node", desc := "(II)I" } : Jvm.MethodName)) ∈ lw_all := lw_g (lw_at lw_m6 91 rfl) rfl
theorem q1363 : (Jvm.Cond.code ({ cls := "OddPairs", name := "node", desc := "(II)I" } : Jvm.MethodName) prog_1_method_25_code (5 : Nat) (Option.some Jvm.ClassFile.FieldType.int)) ∈ lw_all := lw_g (lw_at lw_m6 92 rfl) rfl
theorem q1364 : (Jvm.Cond.methodLink "OddPairs" (223 : Nat) ({ cls := "OddPairs$Net", name := "beside", desc := "(I)I" } : Jvm.MethodName)) ∈ lw_all := lw_g (lw_at lw_m6 93 rfl) rfl
theorem q1365 : (Jvm.Cond.methodLink "OddPairs" (226 : Nat) ({ cls := "java/lang/Integer", name := "bitCount", desc := "(I)I" } : Jvm.MethodName)) ∈ lw_all := lw_g (lw_at lw_m6 94 rfl) rfl
theorem q1366 : (Jvm.Cond.methodLink "OddPairs" (231 : Nat) ({ cls := "OddPairs$Walk", name := "labels", desc := "()LOddPairs$Walk;" } : Jvm.MethodName)) ∈ lw_all := lw_g (lw_at lw_m6 95 rfl) rfl
theorem q1374 : (Jvm.Cond.methodLink "OddPairs" (241 : Nat) ({ cls := "OddPairs$Label", name := "of", desc := "(III)LOddPairs$Label;" } : Jvm.MethodName)) ∈ lw_all := lw_g (lw_at lw_m6 103 rfl) rfl
theorem q1384 : (Jvm.Cond.methodLink "OddPairs" (247 : Nat) ({ cls := "OddPairs$Label", name := "ordinal", desc := "()I" } : Jvm.MethodName)) ∈ lw_all := lw_g (lw_at lw_m6 113 rfl) rfl
theorem q1390 : (Jvm.Cond.methodLink "OddPairs" (250 : Nat) ({ cls := "OddPairs$Greatest", name := "missed", desc := "()I" } : Jvm.MethodName)) ∈ lw_all := lw_g (lw_at lw_m6 119 rfl) rfl
theorem q1394 : (Jvm.Cond.methodLink "OddPairs" (253 : Nat) ({ cls := "OddPairs$Greatest", name := "beside", desc := "()I" } : Jvm.MethodName)) ∈ lw_all := lw_g (lw_at lw_m6 123 rfl) rfl
theorem q1404 : (Jvm.Cond.instanceMethod ({ cls := "OddPairs", name := "sets", desc := "(I)I" } : Jvm.MethodName)) ∈ lw_all := lw_g (lw_at lw_m6 133 rfl) rfl
theorem q1405 : (Jvm.Cond.selects "OddPairs" ({ cls := "OddPairs", name := "sets", desc := "(I)I" } : Jvm.MethodName) ({ cls := "OddPairs", name := "sets", desc := "(I)I" } : Jvm.MethodName)) ∈ lw_all := lw_g (lw_at lw_m6 134 rfl) rfl
theorem q1406 : (Jvm.Cond.code ({ cls := "OddPairs", name := "sets", desc := "(I)I" } : Jvm.MethodName) prog_1_method_26_code (3 : Nat) (Option.some Jvm.ClassFile.FieldType.int)) ∈ lw_all := lw_g (lw_at lw_m6 135 rfl) rfl
theorem q1407 : (Jvm.Cond.constantLong "OddPairs" (255 : Nat) (5 : Int64)) ∈ lw_all := lw_g (lw_at lw_m6 136 rfl) rfl
theorem q1412 : (Jvm.Cond.instanceMethod ({ cls := "OddPairs", name := "odd", desc := "(I)I" } : Jvm.MethodName)) ∈ lw_all := lw_g (lw_at lw_m6 141 rfl) rfl
theorem q1413 : (Jvm.Cond.selects "OddPairs" ({ cls := "OddPairs", name := "odd", desc := "(I)I" } : Jvm.MethodName) ({ cls := "OddPairs", name := "odd", desc := "(I)I" } : Jvm.MethodName)) ∈ lw_all := lw_g (lw_at lw_m6 142 rfl) rfl
theorem q1414 : (Jvm.Cond.code ({ cls := "OddPairs", name := "odd", desc := "(I)I" } : Jvm.MethodName) prog_1_method_27_code (2 : Nat) (Option.some Jvm.ClassFile.FieldType.int)) ∈ lw_all := lw_g (lw_at lw_m6 143 rfl) rfl
theorem q1415 : (Jvm.Cond.methodLink "OddPairs" (257 : Nat) ({ cls := "OddPairs$Net", name := "odd", desc := "(I)I" } : Jvm.MethodName)) ∈ lw_all := lw_g (lw_at lw_m6 144 rfl) rfl
theorem q1425 : (Jvm.Cond.instanceMethod ({ cls := "OddPairs", name := "barrier", desc := "(I)I" } : Jvm.MethodName)) ∈ lw_all := lw_g (lw_at lw_m6 154 rfl) rfl
theorem q1426 : (Jvm.Cond.selects "OddPairs" ({ cls := "OddPairs", name := "barrier", desc := "(I)I" } : Jvm.MethodName) ({ cls := "OddPairs", name := "barrier", desc := "(I)I" } : Jvm.MethodName)) ∈ lw_all := lw_g (lw_at lw_m6 155 rfl) rfl
theorem q1427 : (Jvm.Cond.code ({ cls := "OddPairs", name := "barrier", desc := "(I)I" } : Jvm.MethodName) prog_1_method_28_code (2 : Nat) (Option.some Jvm.ClassFile.FieldType.int)) ∈ lw_all := lw_g (lw_at lw_m6 156 rfl) rfl
theorem q1428 : (Jvm.Cond.methodLink "OddPairs" (259 : Nat) ({ cls := "OddPairs$Greatest", name := "barrier", desc := "(Z)I" } : Jvm.MethodName)) ∈ lw_all := lw_g (lw_at lw_m6 157 rfl) rfl
theorem q1438 : (Jvm.Cond.instanceMethod ({ cls := "OddPairs", name := "heavy", desc := "(I)I" } : Jvm.MethodName)) ∈ lw_all := lw_g (lw_at lw_m6 167 rfl) rfl
theorem q1439 : (Jvm.Cond.selects "OddPairs" ({ cls := "OddPairs", name := "heavy", desc := "(I)I" } : Jvm.MethodName) ({ cls := "OddPairs", name := "heavy", desc := "(I)I" } : Jvm.MethodName)) ∈ lw_all := lw_g (lw_at lw_m6 168 rfl) rfl
theorem q1440 : (Jvm.Cond.code ({ cls := "OddPairs", name := "heavy", desc := "(I)I" } : Jvm.MethodName) prog_1_method_30_code (5 : Nat) (Option.some Jvm.ClassFile.FieldType.int)) ∈ lw_all := lw_g (lw_at lw_m6 169 rfl) rfl
theorem q1441 : (Jvm.Cond.static ({ cls := "OddPairs", name := "lambda$heavy$0", desc := "(II)I" } : Jvm.MethodName)) ∈ lw_all := lw_g (lw_at lw_m6 170 rfl) rfl
theorem q1442 : (Jvm.Cond.code ({ cls := "OddPairs", name := "lambda$heavy$0", desc := "(II)I" } : Jvm.MethodName) prog_1_method_37_code (2 : Nat) (Option.some Jvm.ClassFile.FieldType.int)) ∈ lw_all := lw_g (lw_at lw_m6 171 rfl) rfl
theorem q1443 : (Jvm.Cond.static ({ cls := "OddPairs", name := "lambda$heavy$1", desc := "(II)I" } : Jvm.MethodName)) ∈ lw_all := lw_g (lw_at lw_m6 172 rfl) rfl
theorem q1444 : (Jvm.Cond.code ({ cls := "OddPairs", name := "lambda$heavy$1", desc := "(II)I" } : Jvm.MethodName) prog_1_method_36_code (2 : Nat) (Option.some Jvm.ClassFile.FieldType.int)) ∈ lw_all := lw_g (lw_at lw_m6 173 rfl) rfl
theorem q1445 : (Jvm.Cond.methodLink "OddPairs" (283 : Nat) ({ cls := "java/lang/Math", name := "min", desc := "(II)I" } : Jvm.MethodName)) ∈ lw_all := lw_g (lw_at lw_m6 174 rfl) rfl
theorem q1446 : (Jvm.Cond.methodLink "OddPairs" (270 : Nat) ({ cls := "OddPairs$Greatest", name := "weight", desc := "(IILOddPairs$Pick;)I" } : Jvm.MethodName)) ∈ lw_all := lw_g (lw_at lw_m6 175 rfl) rfl
theorem q1459 : (Jvm.Cond.instanceMethod ({ cls := "OddPairs", name := "path", desc := "(II)I" } : Jvm.MethodName)) ∈ lw_all := lw_g (lw_at lw_m6 188 rfl) rfl
theorem q1460 : (Jvm.Cond.selects "OddPairs" ({ cls := "OddPairs", name := "path", desc := "(II)I" } : Jvm.MethodName) ({ cls := "OddPairs", name := "path", desc := "(II)I" } : Jvm.MethodName)) ∈ lw_all := lw_g (lw_at lw_m6 189 rfl) rfl
theorem q1461 : (Jvm.Cond.code ({ cls := "OddPairs", name := "path", desc := "(II)I" } : Jvm.MethodName) prog_1_method_32_code (5 : Nat) (Option.some Jvm.ClassFile.FieldType.int)) ∈ lw_all := lw_g (lw_at lw_m6 190 rfl) rfl
theorem q1462 : (Jvm.Cond.methodLink "OddPairs" (275 : Nat) ({ cls := "OddPairs", name := "rowTold", desc := "(LOddPairs$Walk;I)I" } : Jvm.MethodName)) ∈ lw_all := lw_g (lw_at lw_m6 191 rfl) rfl
theorem q1463 : (Jvm.Cond.privateMethod ({ cls := "OddPairs", name := "rowTold", desc := "(LOddPairs$Walk;I)I" } : Jvm.MethodName)) ∈ lw_tbl := lw_at lw_m6 192 rfl
theorem q1464 : (Jvm.Cond.instanceMethod ({ cls := "OddPairs", name := "rowTold", desc := "(LOddPairs$Walk;I)I" } : Jvm.MethodName)) ∈ lw_all := lw_g (lw_at lw_m6 193 rfl) rfl
theorem q1465 : (Jvm.Cond.code ({ cls := "OddPairs", name := "rowTold", desc := "(LOddPairs$Walk;I)I" } : Jvm.MethodName) prog_1_method_31_code (3 : Nat) (Option.some Jvm.ClassFile.FieldType.int)) ∈ lw_all := lw_g (lw_at lw_m6 194 rfl) rfl
theorem q1466 : (Jvm.Cond.constantLong "OddPairs" (273 : Nat) (-1 : Int64)) ∈ lw_all := lw_g (lw_at lw_m6 195 rfl) rfl
theorem q1471 : (Jvm.Cond.instanceMethod ({ cls := "OddPairs", name := "flower", desc := "(II)I" } : Jvm.MethodName)) ∈ lw_all := lw_g (lw_at lw_m6 200 rfl) rfl
theorem q1472 : (Jvm.Cond.selects "OddPairs" ({ cls := "OddPairs", name := "flower", desc := "(II)I" } : Jvm.MethodName) ({ cls := "OddPairs", name := "flower", desc := "(II)I" } : Jvm.MethodName)) ∈ lw_all := lw_g (lw_at lw_m6 201 rfl) rfl
theorem q1473 : (Jvm.Cond.code ({ cls := "OddPairs", name := "flower", desc := "(II)I" } : Jvm.MethodName) prog_1_method_33_code (3 : Nat) (Option.some Jvm.ClassFile.FieldType.int)) ∈ lw_all := lw_g (lw_at lw_m6 202 rfl) rfl
theorem q1883 : (Jvm.Cond.castable "OddPairs" "java/lang/Object") ∈ lw_tbl := lw_at lw_m8 132 rfl
theorem in_X1 : ∀ w ∈ wsX10, w ∈ lw_all := lw_in wsX10 [181, 183, 185, 187, 189, 191] (by decide +kernel) (by decide +kernel)
