/-! OddPairs$Net -/
set_option maxRecDepth 100000
def RX2 : String := "OddPairs$Net"
def TX2 : u_T := fun k => match k with
  | 0 => ("OddPairs$Net", "many", "I", true)
  | 1 => ("OddPairs$Net", "weight", "[[I", true)
  | _ => ("OddPairs$Net", "mate", "[I", true)
def tyX2 : Nat → FieldType := fun k => match k with
  | 0 => .int
  | 1 => .array (.array .int)
  | _ => .array .int
abbrev wsX20 : List Cond := u_ws RX2 TX2 3
theorem nmX2 : ∀ a, a < 3 → ∀ b, b < 3 → a ≠ b → (TX2 a).2.1 ≠ (TX2 b).2.1 := by decide +kernel
theorem tyX2_ok : ∀ k, k < 3 → parseFieldDescriptor (TX2 k).2.2.1 = some (tyX2 k) := by decide +kernel
abbrev cX2_init : ByteArray := prog_4_method_1_code
def yX2_init : MethodName := ⟨RX2, "<init>", "(I)V"⟩
def dkwX2_init_2 : List UInt8 := [58, 5, 25, 5, 2, 184, 0, 24, 132, 4, 1, 167, 255, 235, 42, 180, 0, 20, 2, 184, 0, 24, 177]
abbrev dktX2_init_2 : List UInt8 := dkwX2_init_2 ++ []
def dkwX2_init_1 : List UInt8 := [181, 0, 20, 42, 180, 0, 17, 77, 44, 190, 62, 3, 54, 4, 21, 4, 29, 162, 0, 21, 44, 21, 4, 50]
abbrev dktX2_init_1 : List UInt8 := dkwX2_init_1 ++ dktX2_init_2
def dkwX2_init_0 : List UInt8 := [42, 183, 0, 3, 42, 27, 181, 0, 9, 42, 27, 27, 197, 0, 15, 2, 181, 0, 17, 42, 27, 188, 10]
abbrev dktX2_init_0 : List UInt8 := dkwX2_init_0 ++ dktX2_init_1
theorem dksX2_init_0 : cX2_init.data.toList.drop 0 = dktX2_init_0 := by decide +kernel
theorem dksX2_init_1 : cX2_init.data.toList.drop 23 = dktX2_init_1 := dk_seg dksX2_init_0 23 rfl rfl
theorem dksX2_init_2 : cX2_init.data.toList.drop 47 = dktX2_init_2 := dk_seg dksX2_init_1 24 rfl rfl
theorem dX2_init_0 : decode cX2_init 0 = .ok (.aload_n 0, 1) := dk_42 (dk_at dksX2_init_0 0 rfl rfl)
theorem dX2_init_1 : decode cX2_init 1 = .ok (.invokespecial 3, 3) := dk_183 0 3 (dk_at dksX2_init_0 1 rfl rfl)
theorem dX2_init_4 : decode cX2_init 4 = .ok (.aload_n 0, 1) := dk_42 (dk_at dksX2_init_0 4 rfl rfl)
theorem dX2_init_5 : decode cX2_init 5 = .ok (.iload_n 1, 1) := dk_27 (dk_at dksX2_init_0 5 rfl rfl)
theorem dX2_init_6 : decode cX2_init 6 = .ok (.putfield 9, 3) := dk_181 0 9 (dk_at dksX2_init_0 6 rfl rfl)
theorem dX2_init_9 : decode cX2_init 9 = .ok (.aload_n 0, 1) := dk_42 (dk_at dksX2_init_0 9 rfl rfl)
theorem dX2_init_10 : decode cX2_init 10 = .ok (.iload_n 1, 1) := dk_27 (dk_at dksX2_init_0 10 rfl rfl)
theorem dX2_init_11 : decode cX2_init 11 = .ok (.iload_n 1, 1) := dk_27 (dk_at dksX2_init_0 11 rfl rfl)
theorem dX2_init_12 : decode cX2_init 12 = .ok (.multianewarray 15 2, 4) := by decide +kernel
theorem dX2_init_16 : decode cX2_init 16 = .ok (.putfield 17, 3) := dk_181 0 17 (dk_at dksX2_init_0 16 rfl rfl)
theorem dX2_init_19 : decode cX2_init 19 = .ok (.aload_n 0, 1) := dk_42 (dk_at dksX2_init_0 19 rfl rfl)
theorem dX2_init_20 : decode cX2_init 20 = .ok (.iload_n 1, 1) := dk_27 (dk_at dksX2_init_0 20 rfl rfl)
theorem dX2_init_21 : decode cX2_init 21 = .ok (.newarray .int, 2) := dk_188_10 (dk_at dksX2_init_0 21 rfl rfl)
theorem dX2_init_23 : decode cX2_init 23 = .ok (.putfield 20, 3) := dk_181 0 20 (dk_at dksX2_init_1 0 rfl rfl)
theorem dX2_init_26 : decode cX2_init 26 = .ok (.aload_n 0, 1) := dk_42 (dk_at dksX2_init_1 3 rfl rfl)
theorem dX2_init_27 : decode cX2_init 27 = .ok (.getfield 17, 3) := dk_180 0 17 (dk_at dksX2_init_1 4 rfl rfl)
theorem dX2_init_30 : decode cX2_init 30 = .ok (.astore_n 2, 1) := dk_77 (dk_at dksX2_init_1 7 rfl rfl)
theorem dX2_init_31 : decode cX2_init 31 = .ok (.aload_n 2, 1) := dk_44 (dk_at dksX2_init_1 8 rfl rfl)
theorem dX2_init_32 : decode cX2_init 32 = .ok (.arraylength, 1) := dk_190 (dk_at dksX2_init_1 9 rfl rfl)
theorem dX2_init_33 : decode cX2_init 33 = .ok (.istore_n 3, 1) := dk_62 (dk_at dksX2_init_1 10 rfl rfl)
theorem dX2_init_34 : decode cX2_init 34 = .ok (.iconst 0, 1) := dk_3 (dk_at dksX2_init_1 11 rfl rfl)
theorem dX2_init_35 : decode cX2_init 35 = .ok (.istore 4, 2) := dk_54 4 (dk_at dksX2_init_1 12 rfl rfl)
theorem dX2_init_37 : decode cX2_init 37 = .ok (.iload 4, 2) := dk_21 4 (dk_at dksX2_init_1 14 rfl rfl)
theorem dX2_init_39 : decode cX2_init 39 = .ok (.iload_n 3, 1) := dk_29 (dk_at dksX2_init_1 16 rfl rfl)
theorem dX2_init_40 : decode cX2_init 40 = .ok (.if_icmp .ge 21, 3) := dk_162 0 21 (dk_at dksX2_init_1 17 rfl rfl)
theorem dX2_init_43 : decode cX2_init 43 = .ok (.aload_n 2, 1) := dk_44 (dk_at dksX2_init_1 20 rfl rfl)
theorem dX2_init_44 : decode cX2_init 44 = .ok (.iload 4, 2) := dk_21 4 (dk_at dksX2_init_1 21 rfl rfl)
theorem dX2_init_46 : decode cX2_init 46 = .ok (.aaload, 1) := dk_50 (dk_at dksX2_init_1 23 rfl rfl)
theorem dX2_init_47 : decode cX2_init 47 = .ok (.astore 5, 2) := dk_58 5 (dk_at dksX2_init_2 0 rfl rfl)
theorem dX2_init_49 : decode cX2_init 49 = .ok (.aload 5, 2) := dk_25 5 (dk_at dksX2_init_2 2 rfl rfl)
theorem dX2_init_51 : decode cX2_init 51 = .ok (.iconst (-1), 1) := dk_2 (dk_at dksX2_init_2 4 rfl rfl)
theorem dX2_init_52 : decode cX2_init 52 = .ok (.invokestatic 24, 3) := dk_184 0 24 (dk_at dksX2_init_2 5 rfl rfl)
theorem dX2_init_55 : decode cX2_init 55 = .ok (.iinc 4 1, 3) := dk_132 4 1 (dk_at dksX2_init_2 8 rfl rfl)
theorem dX2_init_58 : decode cX2_init 58 = .ok (.goto (-21), 3) := dk_167 255 235 (dk_at dksX2_init_2 11 rfl rfl)
theorem dX2_init_61 : decode cX2_init 61 = .ok (.aload_n 0, 1) := dk_42 (dk_at dksX2_init_2 14 rfl rfl)
theorem dX2_init_62 : decode cX2_init 62 = .ok (.getfield 20, 3) := dk_180 0 20 (dk_at dksX2_init_2 15 rfl rfl)
theorem dX2_init_65 : decode cX2_init 65 = .ok (.iconst (-1), 1) := dk_2 (dk_at dksX2_init_2 18 rfl rfl)
theorem dX2_init_66 : decode cX2_init 66 = .ok (.invokestatic 24, 3) := dk_184 0 24 (dk_at dksX2_init_2 19 rfl rfl)
theorem dX2_init_69 : decode cX2_init 69 = .ok (.return_, 1) := dk_177 (dk_at dksX2_init_2 22 rfl rfl)
abbrev cX2_joins : ByteArray := prog_4_method_4_code
def yX2_joins : MethodName := ⟨RX2, "joins", "(III)V"⟩
def dkwX2_joins_0 : List UInt8 := [42, 180, 0, 17, 27, 50, 28, 29, 79, 42, 180, 0, 17, 28, 50, 27, 29, 79, 177]
abbrev dktX2_joins_0 : List UInt8 := dkwX2_joins_0 ++ []
theorem dksX2_joins_0 : cX2_joins.data.toList.drop 0 = dktX2_joins_0 := by decide +kernel
theorem dX2_joins_0 : decode cX2_joins 0 = .ok (.aload_n 0, 1) := dk_42 (dk_at dksX2_joins_0 0 rfl rfl)
theorem dX2_joins_1 : decode cX2_joins 1 = .ok (.getfield 17, 3) := dk_180 0 17 (dk_at dksX2_joins_0 1 rfl rfl)
theorem dX2_joins_4 : decode cX2_joins 4 = .ok (.iload_n 1, 1) := dk_27 (dk_at dksX2_joins_0 4 rfl rfl)
theorem dX2_joins_5 : decode cX2_joins 5 = .ok (.aaload, 1) := dk_50 (dk_at dksX2_joins_0 5 rfl rfl)
theorem dX2_joins_6 : decode cX2_joins 6 = .ok (.iload_n 2, 1) := dk_28 (dk_at dksX2_joins_0 6 rfl rfl)
theorem dX2_joins_7 : decode cX2_joins 7 = .ok (.iload_n 3, 1) := dk_29 (dk_at dksX2_joins_0 7 rfl rfl)
theorem dX2_joins_8 : decode cX2_joins 8 = .ok (.iastore, 1) := dk_79 (dk_at dksX2_joins_0 8 rfl rfl)
theorem dX2_joins_9 : decode cX2_joins 9 = .ok (.aload_n 0, 1) := dk_42 (dk_at dksX2_joins_0 9 rfl rfl)
theorem dX2_joins_10 : decode cX2_joins 10 = .ok (.getfield 17, 3) := dk_180 0 17 (dk_at dksX2_joins_0 10 rfl rfl)
theorem dX2_joins_13 : decode cX2_joins 13 = .ok (.iload_n 2, 1) := dk_28 (dk_at dksX2_joins_0 13 rfl rfl)
theorem dX2_joins_14 : decode cX2_joins 14 = .ok (.aaload, 1) := dk_50 (dk_at dksX2_joins_0 14 rfl rfl)
theorem dX2_joins_15 : decode cX2_joins 15 = .ok (.iload_n 1, 1) := dk_27 (dk_at dksX2_joins_0 15 rfl rfl)
theorem dX2_joins_16 : decode cX2_joins 16 = .ok (.iload_n 3, 1) := dk_29 (dk_at dksX2_joins_0 16 rfl rfl)
theorem dX2_joins_17 : decode cX2_joins 17 = .ok (.iastore, 1) := dk_79 (dk_at dksX2_joins_0 17 rfl rfl)
theorem dX2_joins_18 : decode cX2_joins 18 = .ok (.return_, 1) := dk_177 (dk_at dksX2_joins_0 18 rfl rfl)
abbrev cX2_pairMany : ByteArray := prog_4_method_11_code
def yX2_pairMany : MethodName := ⟨RX2, "pairMany", "()I"⟩
def dkwX2_pairMany_2 : List UInt8 := [108, 172]
abbrev dktX2_pairMany_2 : List UInt8 := dkwX2_pairMany_2 ++ []
def dkwX2_pairMany_1 : List UInt8 := [54, 5, 27, 21, 5, 2, 160, 0, 7, 3, 167, 0, 4, 4, 96, 60, 132, 4, 1, 167, 255, 227, 27, 5]
abbrev dktX2_pairMany_1 : List UInt8 := dkwX2_pairMany_1 ++ dktX2_pairMany_2
def dkwX2_pairMany_0 : List UInt8 := [3, 60, 42, 180, 0, 20, 77, 44, 190, 62, 3, 54, 4, 21, 4, 29, 162, 0, 29, 44, 21, 4, 46]
abbrev dktX2_pairMany_0 : List UInt8 := dkwX2_pairMany_0 ++ dktX2_pairMany_1
theorem dksX2_pairMany_0 : cX2_pairMany.data.toList.drop 0 = dktX2_pairMany_0 := by decide +kernel
theorem dksX2_pairMany_1 : cX2_pairMany.data.toList.drop 23 = dktX2_pairMany_1 := dk_seg dksX2_pairMany_0 23 rfl rfl
theorem dksX2_pairMany_2 : cX2_pairMany.data.toList.drop 47 = dktX2_pairMany_2 := dk_seg dksX2_pairMany_1 24 rfl rfl
theorem dX2_pairMany_0 : decode cX2_pairMany 0 = .ok (.iconst 0, 1) := dk_3 (dk_at dksX2_pairMany_0 0 rfl rfl)
theorem dX2_pairMany_1 : decode cX2_pairMany 1 = .ok (.istore_n 1, 1) := dk_60 (dk_at dksX2_pairMany_0 1 rfl rfl)
theorem dX2_pairMany_2 : decode cX2_pairMany 2 = .ok (.aload_n 0, 1) := dk_42 (dk_at dksX2_pairMany_0 2 rfl rfl)
theorem dX2_pairMany_3 : decode cX2_pairMany 3 = .ok (.getfield 20, 3) := dk_180 0 20 (dk_at dksX2_pairMany_0 3 rfl rfl)
theorem dX2_pairMany_6 : decode cX2_pairMany 6 = .ok (.astore_n 2, 1) := dk_77 (dk_at dksX2_pairMany_0 6 rfl rfl)
theorem dX2_pairMany_7 : decode cX2_pairMany 7 = .ok (.aload_n 2, 1) := dk_44 (dk_at dksX2_pairMany_0 7 rfl rfl)
theorem dX2_pairMany_8 : decode cX2_pairMany 8 = .ok (.arraylength, 1) := dk_190 (dk_at dksX2_pairMany_0 8 rfl rfl)
theorem dX2_pairMany_9 : decode cX2_pairMany 9 = .ok (.istore_n 3, 1) := dk_62 (dk_at dksX2_pairMany_0 9 rfl rfl)
theorem dX2_pairMany_10 : decode cX2_pairMany 10 = .ok (.iconst 0, 1) := dk_3 (dk_at dksX2_pairMany_0 10 rfl rfl)
theorem dX2_pairMany_11 : decode cX2_pairMany 11 = .ok (.istore 4, 2) := dk_54 4 (dk_at dksX2_pairMany_0 11 rfl rfl)
theorem dX2_pairMany_13 : decode cX2_pairMany 13 = .ok (.iload 4, 2) := dk_21 4 (dk_at dksX2_pairMany_0 13 rfl rfl)
theorem dX2_pairMany_15 : decode cX2_pairMany 15 = .ok (.iload_n 3, 1) := dk_29 (dk_at dksX2_pairMany_0 15 rfl rfl)
theorem dX2_pairMany_16 : decode cX2_pairMany 16 = .ok (.if_icmp .ge 29, 3) := dk_162 0 29 (dk_at dksX2_pairMany_0 16 rfl rfl)
theorem dX2_pairMany_19 : decode cX2_pairMany 19 = .ok (.aload_n 2, 1) := dk_44 (dk_at dksX2_pairMany_0 19 rfl rfl)
theorem dX2_pairMany_20 : decode cX2_pairMany 20 = .ok (.iload 4, 2) := dk_21 4 (dk_at dksX2_pairMany_0 20 rfl rfl)
theorem dX2_pairMany_22 : decode cX2_pairMany 22 = .ok (.iaload, 1) := dk_46 (dk_at dksX2_pairMany_0 22 rfl rfl)
theorem dX2_pairMany_23 : decode cX2_pairMany 23 = .ok (.istore 5, 2) := dk_54 5 (dk_at dksX2_pairMany_1 0 rfl rfl)
theorem dX2_pairMany_25 : decode cX2_pairMany 25 = .ok (.iload_n 1, 1) := dk_27 (dk_at dksX2_pairMany_1 2 rfl rfl)
theorem dX2_pairMany_26 : decode cX2_pairMany 26 = .ok (.iload 5, 2) := dk_21 5 (dk_at dksX2_pairMany_1 3 rfl rfl)
theorem dX2_pairMany_28 : decode cX2_pairMany 28 = .ok (.iconst (-1), 1) := dk_2 (dk_at dksX2_pairMany_1 5 rfl rfl)
theorem dX2_pairMany_29 : decode cX2_pairMany 29 = .ok (.if_icmp .ne 7, 3) := dk_160 0 7 (dk_at dksX2_pairMany_1 6 rfl rfl)
theorem dX2_pairMany_32 : decode cX2_pairMany 32 = .ok (.iconst 0, 1) := dk_3 (dk_at dksX2_pairMany_1 9 rfl rfl)
theorem dX2_pairMany_33 : decode cX2_pairMany 33 = .ok (.goto 4, 3) := dk_167 0 4 (dk_at dksX2_pairMany_1 10 rfl rfl)
theorem dX2_pairMany_36 : decode cX2_pairMany 36 = .ok (.iconst 1, 1) := dk_4 (dk_at dksX2_pairMany_1 13 rfl rfl)
theorem dX2_pairMany_37 : decode cX2_pairMany 37 = .ok (.iadd, 1) := dk_96 (dk_at dksX2_pairMany_1 14 rfl rfl)
theorem dX2_pairMany_38 : decode cX2_pairMany 38 = .ok (.istore_n 1, 1) := dk_60 (dk_at dksX2_pairMany_1 15 rfl rfl)
theorem dX2_pairMany_39 : decode cX2_pairMany 39 = .ok (.iinc 4 1, 3) := dk_132 4 1 (dk_at dksX2_pairMany_1 16 rfl rfl)
theorem dX2_pairMany_42 : decode cX2_pairMany 42 = .ok (.goto (-29), 3) := dk_167 255 227 (dk_at dksX2_pairMany_1 19 rfl rfl)
theorem dX2_pairMany_45 : decode cX2_pairMany 45 = .ok (.iload_n 1, 1) := dk_27 (dk_at dksX2_pairMany_1 22 rfl rfl)
theorem dX2_pairMany_46 : decode cX2_pairMany 46 = .ok (.iconst 2, 1) := dk_5 (dk_at dksX2_pairMany_1 23 rfl rfl)
theorem dX2_pairMany_47 : decode cX2_pairMany 47 = .ok (.idiv, 1) := dk_108 (dk_at dksX2_pairMany_2 0 rfl rfl)
theorem dX2_pairMany_48 : decode cX2_pairMany 48 = .ok (.ireturn, 1) := dk_172 (dk_at dksX2_pairMany_2 1 rfl rfl)
abbrev cX2_all : ByteArray := prog_4_method_8_code
def yX2_all : MethodName := ⟨RX2, "all", "()I"⟩
def dkwX2_all_0 : List UInt8 := [4, 42, 180, 0, 9, 120, 4, 100, 172]
abbrev dktX2_all_0 : List UInt8 := dkwX2_all_0 ++ []
theorem dksX2_all_0 : cX2_all.data.toList.drop 0 = dktX2_all_0 := by decide +kernel
theorem dX2_all_0 : decode cX2_all 0 = .ok (.iconst 1, 1) := dk_4 (dk_at dksX2_all_0 0 rfl rfl)
theorem dX2_all_1 : decode cX2_all 1 = .ok (.aload_n 0, 1) := dk_42 (dk_at dksX2_all_0 1 rfl rfl)
theorem dX2_all_2 : decode cX2_all 2 = .ok (.getfield 9, 3) := dk_180 0 9 (dk_at dksX2_all_0 2 rfl rfl)
theorem dX2_all_5 : decode cX2_all 5 = .ok (.ishl, 1) := dk_120 (dk_at dksX2_all_0 5 rfl rfl)
theorem dX2_all_6 : decode cX2_all 6 = .ok (.iconst 1, 1) := dk_4 (dk_at dksX2_all_0 6 rfl rfl)
theorem dX2_all_7 : decode cX2_all 7 = .ok (.isub, 1) := dk_100 (dk_at dksX2_all_0 7 rfl rfl)
theorem dX2_all_8 : decode cX2_all 8 = .ok (.ireturn, 1) := dk_172 (dk_at dksX2_all_0 8 rfl rfl)
abbrev cX2_isLine : ByteArray := prog_4_method_3_code
def yX2_isLine : MethodName := ⟨RX2, "isLine", "(II)Z"⟩
def dkwX2_isLine_0 : List UInt8 := [42, 180, 0, 17, 27, 50, 28, 46, 2, 159, 0, 7, 4, 167, 0, 4, 3, 172]
abbrev dktX2_isLine_0 : List UInt8 := dkwX2_isLine_0 ++ []
theorem dksX2_isLine_0 : cX2_isLine.data.toList.drop 0 = dktX2_isLine_0 := by decide +kernel
theorem dX2_isLine_0 : decode cX2_isLine 0 = .ok (.aload_n 0, 1) := dk_42 (dk_at dksX2_isLine_0 0 rfl rfl)
theorem dX2_isLine_1 : decode cX2_isLine 1 = .ok (.getfield 17, 3) := dk_180 0 17 (dk_at dksX2_isLine_0 1 rfl rfl)
theorem dX2_isLine_4 : decode cX2_isLine 4 = .ok (.iload_n 1, 1) := dk_27 (dk_at dksX2_isLine_0 4 rfl rfl)
theorem dX2_isLine_5 : decode cX2_isLine 5 = .ok (.aaload, 1) := dk_50 (dk_at dksX2_isLine_0 5 rfl rfl)
theorem dX2_isLine_6 : decode cX2_isLine 6 = .ok (.iload_n 2, 1) := dk_28 (dk_at dksX2_isLine_0 6 rfl rfl)
theorem dX2_isLine_7 : decode cX2_isLine 7 = .ok (.iaload, 1) := dk_46 (dk_at dksX2_isLine_0 7 rfl rfl)
theorem dX2_isLine_8 : decode cX2_isLine 8 = .ok (.iconst (-1), 1) := dk_2 (dk_at dksX2_isLine_0 8 rfl rfl)
theorem dX2_isLine_9 : decode cX2_isLine 9 = .ok (.if_icmp .eq 7, 3) := dk_159 0 7 (dk_at dksX2_isLine_0 9 rfl rfl)
theorem dX2_isLine_12 : decode cX2_isLine 12 = .ok (.iconst 1, 1) := dk_4 (dk_at dksX2_isLine_0 12 rfl rfl)
theorem dX2_isLine_13 : decode cX2_isLine 13 = .ok (.goto 4, 3) := dk_167 0 4 (dk_at dksX2_isLine_0 13 rfl rfl)
theorem dX2_isLine_16 : decode cX2_isLine 16 = .ok (.iconst 0, 1) := dk_3 (dk_at dksX2_isLine_0 16 rfl rfl)
theorem dX2_isLine_17 : decode cX2_isLine 17 = .ok (.ireturn, 1) := dk_172 (dk_at dksX2_isLine_0 17 rfl rfl)
abbrev cX2_like : ByteArray := prog_4_method_2_code
def yX2_like : MethodName := ⟨RX2, "like", "()LOddPairs$Net;"⟩
def dkwX2_like_2 : List UInt8 := [167, 255, 224, 42, 180, 0, 20, 3, 43, 180, 0, 20, 3, 42, 180, 0, 9, 184, 0, 33, 43, 176]
abbrev dktX2_like_2 : List UInt8 := dkwX2_like_2 ++ []
def dkwX2_like_1 : List UInt8 := [180, 0, 17, 28, 50, 3, 43, 180, 0, 17, 28, 50, 3, 42, 180, 0, 9, 184, 0, 33, 132, 2, 1]
abbrev dktX2_like_1 : List UInt8 := dkwX2_like_1 ++ dktX2_like_2
def dkwX2_like_0 : List UInt8 := [187, 0, 10, 89, 42, 180, 0, 9, 183, 0, 30, 76, 3, 61, 28, 42, 180, 0, 9, 162, 0, 30, 42]
abbrev dktX2_like_0 : List UInt8 := dkwX2_like_0 ++ dktX2_like_1
theorem dksX2_like_0 : cX2_like.data.toList.drop 0 = dktX2_like_0 := by decide +kernel
theorem dksX2_like_1 : cX2_like.data.toList.drop 23 = dktX2_like_1 := dk_seg dksX2_like_0 23 rfl rfl
theorem dksX2_like_2 : cX2_like.data.toList.drop 46 = dktX2_like_2 := dk_seg dksX2_like_1 23 rfl rfl
theorem dX2_like_0 : decode cX2_like 0 = .ok (.new 10, 3) := dk_187 0 10 (dk_at dksX2_like_0 0 rfl rfl)
theorem dX2_like_3 : decode cX2_like 3 = .ok (.dup, 1) := dk_89 (dk_at dksX2_like_0 3 rfl rfl)
theorem dX2_like_4 : decode cX2_like 4 = .ok (.aload_n 0, 1) := dk_42 (dk_at dksX2_like_0 4 rfl rfl)
theorem dX2_like_5 : decode cX2_like 5 = .ok (.getfield 9, 3) := dk_180 0 9 (dk_at dksX2_like_0 5 rfl rfl)
theorem dX2_like_8 : decode cX2_like 8 = .ok (.invokespecial 30, 3) := dk_183 0 30 (dk_at dksX2_like_0 8 rfl rfl)
theorem dX2_like_11 : decode cX2_like 11 = .ok (.astore_n 1, 1) := dk_76 (dk_at dksX2_like_0 11 rfl rfl)
theorem dX2_like_12 : decode cX2_like 12 = .ok (.iconst 0, 1) := dk_3 (dk_at dksX2_like_0 12 rfl rfl)
theorem dX2_like_13 : decode cX2_like 13 = .ok (.istore_n 2, 1) := dk_61 (dk_at dksX2_like_0 13 rfl rfl)
theorem dX2_like_14 : decode cX2_like 14 = .ok (.iload_n 2, 1) := dk_28 (dk_at dksX2_like_0 14 rfl rfl)
theorem dX2_like_15 : decode cX2_like 15 = .ok (.aload_n 0, 1) := dk_42 (dk_at dksX2_like_0 15 rfl rfl)
theorem dX2_like_16 : decode cX2_like 16 = .ok (.getfield 9, 3) := dk_180 0 9 (dk_at dksX2_like_0 16 rfl rfl)
theorem dX2_like_19 : decode cX2_like 19 = .ok (.if_icmp .ge 30, 3) := dk_162 0 30 (dk_at dksX2_like_0 19 rfl rfl)
theorem dX2_like_22 : decode cX2_like 22 = .ok (.aload_n 0, 1) := dk_42 (dk_at dksX2_like_0 22 rfl rfl)
theorem dX2_like_23 : decode cX2_like 23 = .ok (.getfield 17, 3) := dk_180 0 17 (dk_at dksX2_like_1 0 rfl rfl)
theorem dX2_like_26 : decode cX2_like 26 = .ok (.iload_n 2, 1) := dk_28 (dk_at dksX2_like_1 3 rfl rfl)
theorem dX2_like_27 : decode cX2_like 27 = .ok (.aaload, 1) := dk_50 (dk_at dksX2_like_1 4 rfl rfl)
theorem dX2_like_28 : decode cX2_like 28 = .ok (.iconst 0, 1) := dk_3 (dk_at dksX2_like_1 5 rfl rfl)
theorem dX2_like_29 : decode cX2_like 29 = .ok (.aload_n 1, 1) := dk_43 (dk_at dksX2_like_1 6 rfl rfl)
theorem dX2_like_30 : decode cX2_like 30 = .ok (.getfield 17, 3) := dk_180 0 17 (dk_at dksX2_like_1 7 rfl rfl)
theorem dX2_like_33 : decode cX2_like 33 = .ok (.iload_n 2, 1) := dk_28 (dk_at dksX2_like_1 10 rfl rfl)
theorem dX2_like_34 : decode cX2_like 34 = .ok (.aaload, 1) := dk_50 (dk_at dksX2_like_1 11 rfl rfl)
theorem dX2_like_35 : decode cX2_like 35 = .ok (.iconst 0, 1) := dk_3 (dk_at dksX2_like_1 12 rfl rfl)
theorem dX2_like_36 : decode cX2_like 36 = .ok (.aload_n 0, 1) := dk_42 (dk_at dksX2_like_1 13 rfl rfl)
theorem dX2_like_37 : decode cX2_like 37 = .ok (.getfield 9, 3) := dk_180 0 9 (dk_at dksX2_like_1 14 rfl rfl)
theorem dX2_like_40 : decode cX2_like 40 = .ok (.invokestatic 33, 3) := dk_184 0 33 (dk_at dksX2_like_1 17 rfl rfl)
theorem dX2_like_43 : decode cX2_like 43 = .ok (.iinc 2 1, 3) := dk_132 2 1 (dk_at dksX2_like_1 20 rfl rfl)
theorem dX2_like_46 : decode cX2_like 46 = .ok (.goto (-32), 3) := dk_167 255 224 (dk_at dksX2_like_2 0 rfl rfl)
theorem dX2_like_49 : decode cX2_like 49 = .ok (.aload_n 0, 1) := dk_42 (dk_at dksX2_like_2 3 rfl rfl)
theorem dX2_like_50 : decode cX2_like 50 = .ok (.getfield 20, 3) := dk_180 0 20 (dk_at dksX2_like_2 4 rfl rfl)
theorem dX2_like_53 : decode cX2_like 53 = .ok (.iconst 0, 1) := dk_3 (dk_at dksX2_like_2 7 rfl rfl)
theorem dX2_like_54 : decode cX2_like 54 = .ok (.aload_n 1, 1) := dk_43 (dk_at dksX2_like_2 8 rfl rfl)
theorem dX2_like_55 : decode cX2_like 55 = .ok (.getfield 20, 3) := dk_180 0 20 (dk_at dksX2_like_2 9 rfl rfl)
theorem dX2_like_58 : decode cX2_like 58 = .ok (.iconst 0, 1) := dk_3 (dk_at dksX2_like_2 12 rfl rfl)
theorem dX2_like_59 : decode cX2_like 59 = .ok (.aload_n 0, 1) := dk_42 (dk_at dksX2_like_2 13 rfl rfl)
theorem dX2_like_60 : decode cX2_like 60 = .ok (.getfield 9, 3) := dk_180 0 9 (dk_at dksX2_like_2 14 rfl rfl)
theorem dX2_like_63 : decode cX2_like 63 = .ok (.invokestatic 33, 3) := dk_184 0 33 (dk_at dksX2_like_2 17 rfl rfl)
theorem dX2_like_66 : decode cX2_like 66 = .ok (.aload_n 1, 1) := dk_43 (dk_at dksX2_like_2 20 rfl rfl)
theorem dX2_like_67 : decode cX2_like 67 = .ok (.areturn, 1) := dk_176 (dk_at dksX2_like_2 21 rfl rfl)
abbrev cX2_joinsNew : ByteArray := prog_4_method_5_code
def yX2_joinsNew : MethodName := ⟨RX2, "joinsNew", "(II)V"⟩
def dkwX2_joinsNew_0 : List UInt8 := [42, 27, 28, 182, 0, 39, 154, 0, 10, 42, 27, 28, 4, 182, 0, 43, 177]
abbrev dktX2_joinsNew_0 : List UInt8 := dkwX2_joinsNew_0 ++ []
theorem dksX2_joinsNew_0 : cX2_joinsNew.data.toList.drop 0 = dktX2_joinsNew_0 := by decide +kernel
theorem dX2_joinsNew_0 : decode cX2_joinsNew 0 = .ok (.aload_n 0, 1) := dk_42 (dk_at dksX2_joinsNew_0 0 rfl rfl)
theorem dX2_joinsNew_1 : decode cX2_joinsNew 1 = .ok (.iload_n 1, 1) := dk_27 (dk_at dksX2_joinsNew_0 1 rfl rfl)
theorem dX2_joinsNew_2 : decode cX2_joinsNew 2 = .ok (.iload_n 2, 1) := dk_28 (dk_at dksX2_joinsNew_0 2 rfl rfl)
theorem dX2_joinsNew_3 : decode cX2_joinsNew 3 = .ok (.invokevirtual 39, 3) := dk_182 0 39 (dk_at dksX2_joinsNew_0 3 rfl rfl)
theorem dX2_joinsNew_6 : decode cX2_joinsNew 6 = .ok (.ifCond .ne 10, 3) := dk_154 0 10 (dk_at dksX2_joinsNew_0 6 rfl rfl)
theorem dX2_joinsNew_9 : decode cX2_joinsNew 9 = .ok (.aload_n 0, 1) := dk_42 (dk_at dksX2_joinsNew_0 9 rfl rfl)
theorem dX2_joinsNew_10 : decode cX2_joinsNew 10 = .ok (.iload_n 1, 1) := dk_27 (dk_at dksX2_joinsNew_0 10 rfl rfl)
theorem dX2_joinsNew_11 : decode cX2_joinsNew 11 = .ok (.iload_n 2, 1) := dk_28 (dk_at dksX2_joinsNew_0 11 rfl rfl)
theorem dX2_joinsNew_12 : decode cX2_joinsNew 12 = .ok (.iconst 1, 1) := dk_4 (dk_at dksX2_joinsNew_0 12 rfl rfl)
theorem dX2_joinsNew_13 : decode cX2_joinsNew 13 = .ok (.invokevirtual 43, 3) := dk_182 0 43 (dk_at dksX2_joinsNew_0 13 rfl rfl)
theorem dX2_joinsNew_16 : decode cX2_joinsNew 16 = .ok (.return_, 1) := dk_177 (dk_at dksX2_joinsNew_0 16 rfl rfl)
abbrev cX2_pairs : ByteArray := prog_4_method_6_code
def yX2_pairs : MethodName := ⟨RX2, "pairs", "(II)V"⟩
def dkwX2_pairs_0 : List UInt8 := [42, 180, 0, 20, 27, 28, 79, 42, 180, 0, 20, 28, 27, 79, 177]
abbrev dktX2_pairs_0 : List UInt8 := dkwX2_pairs_0 ++ []
theorem dksX2_pairs_0 : cX2_pairs.data.toList.drop 0 = dktX2_pairs_0 := by decide +kernel
theorem dX2_pairs_0 : decode cX2_pairs 0 = .ok (.aload_n 0, 1) := dk_42 (dk_at dksX2_pairs_0 0 rfl rfl)
theorem dX2_pairs_1 : decode cX2_pairs 1 = .ok (.getfield 20, 3) := dk_180 0 20 (dk_at dksX2_pairs_0 1 rfl rfl)
theorem dX2_pairs_4 : decode cX2_pairs 4 = .ok (.iload_n 1, 1) := dk_27 (dk_at dksX2_pairs_0 4 rfl rfl)
theorem dX2_pairs_5 : decode cX2_pairs 5 = .ok (.iload_n 2, 1) := dk_28 (dk_at dksX2_pairs_0 5 rfl rfl)
theorem dX2_pairs_6 : decode cX2_pairs 6 = .ok (.iastore, 1) := dk_79 (dk_at dksX2_pairs_0 6 rfl rfl)
theorem dX2_pairs_7 : decode cX2_pairs 7 = .ok (.aload_n 0, 1) := dk_42 (dk_at dksX2_pairs_0 7 rfl rfl)
theorem dX2_pairs_8 : decode cX2_pairs 8 = .ok (.getfield 20, 3) := dk_180 0 20 (dk_at dksX2_pairs_0 8 rfl rfl)
theorem dX2_pairs_11 : decode cX2_pairs 11 = .ok (.iload_n 2, 1) := dk_28 (dk_at dksX2_pairs_0 11 rfl rfl)
theorem dX2_pairs_12 : decode cX2_pairs 12 = .ok (.iload_n 1, 1) := dk_27 (dk_at dksX2_pairs_0 12 rfl rfl)
theorem dX2_pairs_13 : decode cX2_pairs 13 = .ok (.iastore, 1) := dk_79 (dk_at dksX2_pairs_0 13 rfl rfl)
theorem dX2_pairs_14 : decode cX2_pairs 14 = .ok (.return_, 1) := dk_177 (dk_at dksX2_pairs_0 14 rfl rfl)
abbrev cX2_lines : ByteArray := prog_4_method_10_code
def yX2_lines : MethodName := ⟨RX2, "lines", "()I"⟩
def dkwX2_lines_1 : List UInt8 := [132, 2, 1, 167, 255, 234, 27, 5, 108, 172]
abbrev dktX2_lines_1 : List UInt8 := dkwX2_lines_1 ++ []
def dkwX2_lines_0 : List UInt8 := [3, 60, 3, 61, 28, 42, 180, 0, 9, 162, 0, 20, 27, 42, 28, 182, 0, 47, 184, 0, 51, 96, 60]
abbrev dktX2_lines_0 : List UInt8 := dkwX2_lines_0 ++ dktX2_lines_1
theorem dksX2_lines_0 : cX2_lines.data.toList.drop 0 = dktX2_lines_0 := by decide +kernel
theorem dksX2_lines_1 : cX2_lines.data.toList.drop 23 = dktX2_lines_1 := dk_seg dksX2_lines_0 23 rfl rfl
theorem dX2_lines_0 : decode cX2_lines 0 = .ok (.iconst 0, 1) := dk_3 (dk_at dksX2_lines_0 0 rfl rfl)
theorem dX2_lines_1 : decode cX2_lines 1 = .ok (.istore_n 1, 1) := dk_60 (dk_at dksX2_lines_0 1 rfl rfl)
theorem dX2_lines_2 : decode cX2_lines 2 = .ok (.iconst 0, 1) := dk_3 (dk_at dksX2_lines_0 2 rfl rfl)
theorem dX2_lines_3 : decode cX2_lines 3 = .ok (.istore_n 2, 1) := dk_61 (dk_at dksX2_lines_0 3 rfl rfl)
theorem dX2_lines_4 : decode cX2_lines 4 = .ok (.iload_n 2, 1) := dk_28 (dk_at dksX2_lines_0 4 rfl rfl)
theorem dX2_lines_5 : decode cX2_lines 5 = .ok (.aload_n 0, 1) := dk_42 (dk_at dksX2_lines_0 5 rfl rfl)
theorem dX2_lines_6 : decode cX2_lines 6 = .ok (.getfield 9, 3) := dk_180 0 9 (dk_at dksX2_lines_0 6 rfl rfl)
theorem dX2_lines_9 : decode cX2_lines 9 = .ok (.if_icmp .ge 20, 3) := dk_162 0 20 (dk_at dksX2_lines_0 9 rfl rfl)
theorem dX2_lines_12 : decode cX2_lines 12 = .ok (.iload_n 1, 1) := dk_27 (dk_at dksX2_lines_0 12 rfl rfl)
theorem dX2_lines_13 : decode cX2_lines 13 = .ok (.aload_n 0, 1) := dk_42 (dk_at dksX2_lines_0 13 rfl rfl)
theorem dX2_lines_14 : decode cX2_lines 14 = .ok (.iload_n 2, 1) := dk_28 (dk_at dksX2_lines_0 14 rfl rfl)
theorem dX2_lines_15 : decode cX2_lines 15 = .ok (.invokevirtual 47, 3) := dk_182 0 47 (dk_at dksX2_lines_0 15 rfl rfl)
theorem dX2_lines_18 : decode cX2_lines 18 = .ok (.invokestatic 51, 3) := dk_184 0 51 (dk_at dksX2_lines_0 18 rfl rfl)
theorem dX2_lines_21 : decode cX2_lines 21 = .ok (.iadd, 1) := dk_96 (dk_at dksX2_lines_0 21 rfl rfl)
theorem dX2_lines_22 : decode cX2_lines 22 = .ok (.istore_n 1, 1) := dk_60 (dk_at dksX2_lines_0 22 rfl rfl)
theorem dX2_lines_23 : decode cX2_lines 23 = .ok (.iinc 2 1, 3) := dk_132 2 1 (dk_at dksX2_lines_1 0 rfl rfl)
theorem dX2_lines_26 : decode cX2_lines 26 = .ok (.goto (-22), 3) := dk_167 255 234 (dk_at dksX2_lines_1 3 rfl rfl)
theorem dX2_lines_29 : decode cX2_lines 29 = .ok (.iload_n 1, 1) := dk_27 (dk_at dksX2_lines_1 6 rfl rfl)
theorem dX2_lines_30 : decode cX2_lines 30 = .ok (.iconst 2, 1) := dk_5 (dk_at dksX2_lines_1 7 rfl rfl)
theorem dX2_lines_31 : decode cX2_lines 31 = .ok (.idiv, 1) := dk_108 (dk_at dksX2_lines_1 8 rfl rfl)
theorem dX2_lines_32 : decode cX2_lines 32 = .ok (.ireturn, 1) := dk_172 (dk_at dksX2_lines_1 9 rfl rfl)
abbrev cX2_beside : ByteArray := prog_4_method_9_code
def yX2_beside : MethodName := ⟨RX2, "beside", "(I)I"⟩
def dkwX2_beside_1 : List UInt8 := [120, 167, 0, 4, 3, 128, 61, 132, 3, 1, 167, 255, 226, 28, 172]
abbrev dktX2_beside_1 : List UInt8 := dkwX2_beside_1 ++ []
def dkwX2_beside_0 : List UInt8 := [3, 61, 3, 62, 29, 42, 180, 0, 9, 162, 0, 28, 28, 42, 27, 29, 182, 0, 39, 153, 0, 9, 4, 29]
abbrev dktX2_beside_0 : List UInt8 := dkwX2_beside_0 ++ dktX2_beside_1
theorem dksX2_beside_0 : cX2_beside.data.toList.drop 0 = dktX2_beside_0 := by decide +kernel
theorem dksX2_beside_1 : cX2_beside.data.toList.drop 24 = dktX2_beside_1 := dk_seg dksX2_beside_0 24 rfl rfl
theorem dX2_beside_0 : decode cX2_beside 0 = .ok (.iconst 0, 1) := dk_3 (dk_at dksX2_beside_0 0 rfl rfl)
theorem dX2_beside_1 : decode cX2_beside 1 = .ok (.istore_n 2, 1) := dk_61 (dk_at dksX2_beside_0 1 rfl rfl)
theorem dX2_beside_2 : decode cX2_beside 2 = .ok (.iconst 0, 1) := dk_3 (dk_at dksX2_beside_0 2 rfl rfl)
theorem dX2_beside_3 : decode cX2_beside 3 = .ok (.istore_n 3, 1) := dk_62 (dk_at dksX2_beside_0 3 rfl rfl)
theorem dX2_beside_4 : decode cX2_beside 4 = .ok (.iload_n 3, 1) := dk_29 (dk_at dksX2_beside_0 4 rfl rfl)
theorem dX2_beside_5 : decode cX2_beside 5 = .ok (.aload_n 0, 1) := dk_42 (dk_at dksX2_beside_0 5 rfl rfl)
theorem dX2_beside_6 : decode cX2_beside 6 = .ok (.getfield 9, 3) := dk_180 0 9 (dk_at dksX2_beside_0 6 rfl rfl)
theorem dX2_beside_9 : decode cX2_beside 9 = .ok (.if_icmp .ge 28, 3) := dk_162 0 28 (dk_at dksX2_beside_0 9 rfl rfl)
theorem dX2_beside_12 : decode cX2_beside 12 = .ok (.iload_n 2, 1) := dk_28 (dk_at dksX2_beside_0 12 rfl rfl)
theorem dX2_beside_13 : decode cX2_beside 13 = .ok (.aload_n 0, 1) := dk_42 (dk_at dksX2_beside_0 13 rfl rfl)
theorem dX2_beside_14 : decode cX2_beside 14 = .ok (.iload_n 1, 1) := dk_27 (dk_at dksX2_beside_0 14 rfl rfl)
theorem dX2_beside_15 : decode cX2_beside 15 = .ok (.iload_n 3, 1) := dk_29 (dk_at dksX2_beside_0 15 rfl rfl)
theorem dX2_beside_16 : decode cX2_beside 16 = .ok (.invokevirtual 39, 3) := dk_182 0 39 (dk_at dksX2_beside_0 16 rfl rfl)
theorem dX2_beside_19 : decode cX2_beside 19 = .ok (.ifCond .eq 9, 3) := dk_153 0 9 (dk_at dksX2_beside_0 19 rfl rfl)
theorem dX2_beside_22 : decode cX2_beside 22 = .ok (.iconst 1, 1) := dk_4 (dk_at dksX2_beside_0 22 rfl rfl)
theorem dX2_beside_23 : decode cX2_beside 23 = .ok (.iload_n 3, 1) := dk_29 (dk_at dksX2_beside_0 23 rfl rfl)
theorem dX2_beside_24 : decode cX2_beside 24 = .ok (.ishl, 1) := dk_120 (dk_at dksX2_beside_1 0 rfl rfl)
theorem dX2_beside_25 : decode cX2_beside 25 = .ok (.goto 4, 3) := dk_167 0 4 (dk_at dksX2_beside_1 1 rfl rfl)
theorem dX2_beside_28 : decode cX2_beside 28 = .ok (.iconst 0, 1) := dk_3 (dk_at dksX2_beside_1 4 rfl rfl)
theorem dX2_beside_29 : decode cX2_beside 29 = .ok (.ior, 1) := dk_128 (dk_at dksX2_beside_1 5 rfl rfl)
theorem dX2_beside_30 : decode cX2_beside 30 = .ok (.istore_n 2, 1) := dk_61 (dk_at dksX2_beside_1 6 rfl rfl)
theorem dX2_beside_31 : decode cX2_beside 31 = .ok (.iinc 3 1, 3) := dk_132 3 1 (dk_at dksX2_beside_1 7 rfl rfl)
theorem dX2_beside_34 : decode cX2_beside 34 = .ok (.goto (-30), 3) := dk_167 255 226 (dk_at dksX2_beside_1 10 rfl rfl)
theorem dX2_beside_37 : decode cX2_beside 37 = .ok (.iload_n 2, 1) := dk_28 (dk_at dksX2_beside_1 13 rfl rfl)
theorem dX2_beside_38 : decode cX2_beside 38 = .ok (.ireturn, 1) := dk_172 (dk_at dksX2_beside_1 14 rfl rfl)
abbrev cX2_parts : ByteArray := prog_4_method_7_code
def yX2_parts : MethodName := ⟨RX2, "parts", "(I)I"⟩
def dkwX2_parts_0 : List UInt8 := [42, 180, 0, 20, 27, 46, 61, 42, 180, 0, 20, 27, 2, 79, 42, 180, 0, 20, 28, 2, 79, 28, 172]
abbrev dktX2_parts_0 : List UInt8 := dkwX2_parts_0 ++ []
theorem dksX2_parts_0 : cX2_parts.data.toList.drop 0 = dktX2_parts_0 := by decide +kernel
theorem dX2_parts_0 : decode cX2_parts 0 = .ok (.aload_n 0, 1) := dk_42 (dk_at dksX2_parts_0 0 rfl rfl)
theorem dX2_parts_1 : decode cX2_parts 1 = .ok (.getfield 20, 3) := dk_180 0 20 (dk_at dksX2_parts_0 1 rfl rfl)
theorem dX2_parts_4 : decode cX2_parts 4 = .ok (.iload_n 1, 1) := dk_27 (dk_at dksX2_parts_0 4 rfl rfl)
theorem dX2_parts_5 : decode cX2_parts 5 = .ok (.iaload, 1) := dk_46 (dk_at dksX2_parts_0 5 rfl rfl)
theorem dX2_parts_6 : decode cX2_parts 6 = .ok (.istore_n 2, 1) := dk_61 (dk_at dksX2_parts_0 6 rfl rfl)
theorem dX2_parts_7 : decode cX2_parts 7 = .ok (.aload_n 0, 1) := dk_42 (dk_at dksX2_parts_0 7 rfl rfl)
theorem dX2_parts_8 : decode cX2_parts 8 = .ok (.getfield 20, 3) := dk_180 0 20 (dk_at dksX2_parts_0 8 rfl rfl)
theorem dX2_parts_11 : decode cX2_parts 11 = .ok (.iload_n 1, 1) := dk_27 (dk_at dksX2_parts_0 11 rfl rfl)
theorem dX2_parts_12 : decode cX2_parts 12 = .ok (.iconst (-1), 1) := dk_2 (dk_at dksX2_parts_0 12 rfl rfl)
theorem dX2_parts_13 : decode cX2_parts 13 = .ok (.iastore, 1) := dk_79 (dk_at dksX2_parts_0 13 rfl rfl)
theorem dX2_parts_14 : decode cX2_parts 14 = .ok (.aload_n 0, 1) := dk_42 (dk_at dksX2_parts_0 14 rfl rfl)
theorem dX2_parts_15 : decode cX2_parts 15 = .ok (.getfield 20, 3) := dk_180 0 20 (dk_at dksX2_parts_0 15 rfl rfl)
theorem dX2_parts_18 : decode cX2_parts 18 = .ok (.iload_n 2, 1) := dk_28 (dk_at dksX2_parts_0 18 rfl rfl)
theorem dX2_parts_19 : decode cX2_parts 19 = .ok (.iconst (-1), 1) := dk_2 (dk_at dksX2_parts_0 19 rfl rfl)
theorem dX2_parts_20 : decode cX2_parts 20 = .ok (.iastore, 1) := dk_79 (dk_at dksX2_parts_0 20 rfl rfl)
theorem dX2_parts_21 : decode cX2_parts 21 = .ok (.iload_n 2, 1) := dk_28 (dk_at dksX2_parts_0 21 rfl rfl)
theorem dX2_parts_22 : decode cX2_parts 22 = .ok (.ireturn, 1) := dk_172 (dk_at dksX2_parts_0 22 rfl rfl)
abbrev cX2_odd : ByteArray := prog_4_method_12_code
def yX2_odd : MethodName := ⟨RX2, "odd", "(I)I"⟩
def dkwX2_odd_4 : List UInt8 := [184, 0, 51, 5, 112, 96, 62, 167, 255, 167, 29, 172]
abbrev dktX2_odd_4 : List UInt8 := dkwX2_odd_4 ++ []
def dkwX2_odd_3 : List UInt8 := [128, 54, 4, 132, 6, 1, 167, 255, 217, 167, 255, 200, 28, 21, 4, 2, 130, 126, 61, 29, 21, 4]
abbrev dktX2_odd_3 : List UInt8 := dkwX2_odd_3 ++ dktX2_odd_4
def dkwX2_odd_2 : List UInt8 := [21, 4, 21, 5, 21, 6, 184, 0, 60, 153, 0, 14, 42, 21, 6, 182, 0, 47, 28, 126, 167, 0, 4, 3]
abbrev dktX2_odd_2 : List UInt8 := dkwX2_odd_2 ++ dktX2_odd_3
def dkwX2_odd_1 : List UInt8 := [21, 4, 21, 5, 159, 0, 55, 21, 4, 54, 5, 3, 54, 6, 21, 6, 42, 180, 0, 9, 162, 0, 36]
abbrev dktX2_odd_1 : List UInt8 := dkwX2_odd_1 ++ dktX2_odd_2
def dkwX2_odd_0 : List UInt8 := [42, 182, 0, 56, 27, 2, 130, 126, 61, 3, 62, 28, 153, 0, 91, 28, 28, 116, 126, 54, 4, 3, 54, 5]
abbrev dktX2_odd_0 : List UInt8 := dkwX2_odd_0 ++ dktX2_odd_1
theorem dksX2_odd_0 : cX2_odd.data.toList.drop 0 = dktX2_odd_0 := by decide +kernel
theorem dksX2_odd_1 : cX2_odd.data.toList.drop 24 = dktX2_odd_1 := dk_seg dksX2_odd_0 24 rfl rfl
theorem dksX2_odd_2 : cX2_odd.data.toList.drop 47 = dktX2_odd_2 := dk_seg dksX2_odd_1 23 rfl rfl
theorem dksX2_odd_3 : cX2_odd.data.toList.drop 71 = dktX2_odd_3 := dk_seg dksX2_odd_2 24 rfl rfl
theorem dksX2_odd_4 : cX2_odd.data.toList.drop 93 = dktX2_odd_4 := dk_seg dksX2_odd_3 22 rfl rfl
theorem dX2_odd_0 : decode cX2_odd 0 = .ok (.aload_n 0, 1) := dk_42 (dk_at dksX2_odd_0 0 rfl rfl)
theorem dX2_odd_1 : decode cX2_odd 1 = .ok (.invokevirtual 56, 3) := dk_182 0 56 (dk_at dksX2_odd_0 1 rfl rfl)
theorem dX2_odd_4 : decode cX2_odd 4 = .ok (.iload_n 1, 1) := dk_27 (dk_at dksX2_odd_0 4 rfl rfl)
theorem dX2_odd_5 : decode cX2_odd 5 = .ok (.iconst (-1), 1) := dk_2 (dk_at dksX2_odd_0 5 rfl rfl)
theorem dX2_odd_6 : decode cX2_odd 6 = .ok (.ixor, 1) := dk_130 (dk_at dksX2_odd_0 6 rfl rfl)
theorem dX2_odd_7 : decode cX2_odd 7 = .ok (.iand, 1) := dk_126 (dk_at dksX2_odd_0 7 rfl rfl)
theorem dX2_odd_8 : decode cX2_odd 8 = .ok (.istore_n 2, 1) := dk_61 (dk_at dksX2_odd_0 8 rfl rfl)
theorem dX2_odd_9 : decode cX2_odd 9 = .ok (.iconst 0, 1) := dk_3 (dk_at dksX2_odd_0 9 rfl rfl)
theorem dX2_odd_10 : decode cX2_odd 10 = .ok (.istore_n 3, 1) := dk_62 (dk_at dksX2_odd_0 10 rfl rfl)
theorem dX2_odd_11 : decode cX2_odd 11 = .ok (.iload_n 2, 1) := dk_28 (dk_at dksX2_odd_0 11 rfl rfl)
theorem dX2_odd_12 : decode cX2_odd 12 = .ok (.ifCond .eq 91, 3) := dk_153 0 91 (dk_at dksX2_odd_0 12 rfl rfl)
theorem dX2_odd_15 : decode cX2_odd 15 = .ok (.iload_n 2, 1) := dk_28 (dk_at dksX2_odd_0 15 rfl rfl)
theorem dX2_odd_16 : decode cX2_odd 16 = .ok (.iload_n 2, 1) := dk_28 (dk_at dksX2_odd_0 16 rfl rfl)
theorem dX2_odd_17 : decode cX2_odd 17 = .ok (.ineg, 1) := dk_116 (dk_at dksX2_odd_0 17 rfl rfl)
theorem dX2_odd_18 : decode cX2_odd 18 = .ok (.iand, 1) := dk_126 (dk_at dksX2_odd_0 18 rfl rfl)
theorem dX2_odd_19 : decode cX2_odd 19 = .ok (.istore 4, 2) := dk_54 4 (dk_at dksX2_odd_0 19 rfl rfl)
theorem dX2_odd_21 : decode cX2_odd 21 = .ok (.iconst 0, 1) := dk_3 (dk_at dksX2_odd_0 21 rfl rfl)
theorem dX2_odd_22 : decode cX2_odd 22 = .ok (.istore 5, 2) := dk_54 5 (dk_at dksX2_odd_0 22 rfl rfl)
theorem dX2_odd_24 : decode cX2_odd 24 = .ok (.iload 4, 2) := dk_21 4 (dk_at dksX2_odd_1 0 rfl rfl)
theorem dX2_odd_26 : decode cX2_odd 26 = .ok (.iload 5, 2) := dk_21 5 (dk_at dksX2_odd_1 2 rfl rfl)
theorem dX2_odd_28 : decode cX2_odd 28 = .ok (.if_icmp .eq 55, 3) := dk_159 0 55 (dk_at dksX2_odd_1 4 rfl rfl)
theorem dX2_odd_31 : decode cX2_odd 31 = .ok (.iload 4, 2) := dk_21 4 (dk_at dksX2_odd_1 7 rfl rfl)
theorem dX2_odd_33 : decode cX2_odd 33 = .ok (.istore 5, 2) := dk_54 5 (dk_at dksX2_odd_1 9 rfl rfl)
theorem dX2_odd_35 : decode cX2_odd 35 = .ok (.iconst 0, 1) := dk_3 (dk_at dksX2_odd_1 11 rfl rfl)
theorem dX2_odd_36 : decode cX2_odd 36 = .ok (.istore 6, 2) := dk_54 6 (dk_at dksX2_odd_1 12 rfl rfl)
theorem dX2_odd_38 : decode cX2_odd 38 = .ok (.iload 6, 2) := dk_21 6 (dk_at dksX2_odd_1 14 rfl rfl)
theorem dX2_odd_40 : decode cX2_odd 40 = .ok (.aload_n 0, 1) := dk_42 (dk_at dksX2_odd_1 16 rfl rfl)
theorem dX2_odd_41 : decode cX2_odd 41 = .ok (.getfield 9, 3) := dk_180 0 9 (dk_at dksX2_odd_1 17 rfl rfl)
theorem dX2_odd_44 : decode cX2_odd 44 = .ok (.if_icmp .ge 36, 3) := dk_162 0 36 (dk_at dksX2_odd_1 20 rfl rfl)
theorem dX2_odd_47 : decode cX2_odd 47 = .ok (.iload 4, 2) := dk_21 4 (dk_at dksX2_odd_2 0 rfl rfl)
theorem dX2_odd_49 : decode cX2_odd 49 = .ok (.iload 5, 2) := dk_21 5 (dk_at dksX2_odd_2 2 rfl rfl)
theorem dX2_odd_51 : decode cX2_odd 51 = .ok (.iload 6, 2) := dk_21 6 (dk_at dksX2_odd_2 4 rfl rfl)
theorem dX2_odd_53 : decode cX2_odd 53 = .ok (.invokestatic 60, 3) := dk_184 0 60 (dk_at dksX2_odd_2 6 rfl rfl)
theorem dX2_odd_56 : decode cX2_odd 56 = .ok (.ifCond .eq 14, 3) := dk_153 0 14 (dk_at dksX2_odd_2 9 rfl rfl)
theorem dX2_odd_59 : decode cX2_odd 59 = .ok (.aload_n 0, 1) := dk_42 (dk_at dksX2_odd_2 12 rfl rfl)
theorem dX2_odd_60 : decode cX2_odd 60 = .ok (.iload 6, 2) := dk_21 6 (dk_at dksX2_odd_2 13 rfl rfl)
theorem dX2_odd_62 : decode cX2_odd 62 = .ok (.invokevirtual 47, 3) := dk_182 0 47 (dk_at dksX2_odd_2 15 rfl rfl)
theorem dX2_odd_65 : decode cX2_odd 65 = .ok (.iload_n 2, 1) := dk_28 (dk_at dksX2_odd_2 18 rfl rfl)
theorem dX2_odd_66 : decode cX2_odd 66 = .ok (.iand, 1) := dk_126 (dk_at dksX2_odd_2 19 rfl rfl)
theorem dX2_odd_67 : decode cX2_odd 67 = .ok (.goto 4, 3) := dk_167 0 4 (dk_at dksX2_odd_2 20 rfl rfl)
theorem dX2_odd_70 : decode cX2_odd 70 = .ok (.iconst 0, 1) := dk_3 (dk_at dksX2_odd_2 23 rfl rfl)
theorem dX2_odd_71 : decode cX2_odd 71 = .ok (.ior, 1) := dk_128 (dk_at dksX2_odd_3 0 rfl rfl)
theorem dX2_odd_72 : decode cX2_odd 72 = .ok (.istore 4, 2) := dk_54 4 (dk_at dksX2_odd_3 1 rfl rfl)
theorem dX2_odd_74 : decode cX2_odd 74 = .ok (.iinc 6 1, 3) := dk_132 6 1 (dk_at dksX2_odd_3 3 rfl rfl)
theorem dX2_odd_77 : decode cX2_odd 77 = .ok (.goto (-39), 3) := dk_167 255 217 (dk_at dksX2_odd_3 6 rfl rfl)
theorem dX2_odd_80 : decode cX2_odd 80 = .ok (.goto (-56), 3) := dk_167 255 200 (dk_at dksX2_odd_3 9 rfl rfl)
theorem dX2_odd_83 : decode cX2_odd 83 = .ok (.iload_n 2, 1) := dk_28 (dk_at dksX2_odd_3 12 rfl rfl)
theorem dX2_odd_84 : decode cX2_odd 84 = .ok (.iload 4, 2) := dk_21 4 (dk_at dksX2_odd_3 13 rfl rfl)
theorem dX2_odd_86 : decode cX2_odd 86 = .ok (.iconst (-1), 1) := dk_2 (dk_at dksX2_odd_3 15 rfl rfl)
theorem dX2_odd_87 : decode cX2_odd 87 = .ok (.ixor, 1) := dk_130 (dk_at dksX2_odd_3 16 rfl rfl)
theorem dX2_odd_88 : decode cX2_odd 88 = .ok (.iand, 1) := dk_126 (dk_at dksX2_odd_3 17 rfl rfl)
theorem dX2_odd_89 : decode cX2_odd 89 = .ok (.istore_n 2, 1) := dk_61 (dk_at dksX2_odd_3 18 rfl rfl)
theorem dX2_odd_90 : decode cX2_odd 90 = .ok (.iload_n 3, 1) := dk_29 (dk_at dksX2_odd_3 19 rfl rfl)
theorem dX2_odd_91 : decode cX2_odd 91 = .ok (.iload 4, 2) := dk_21 4 (dk_at dksX2_odd_3 20 rfl rfl)
theorem dX2_odd_93 : decode cX2_odd 93 = .ok (.invokestatic 51, 3) := dk_184 0 51 (dk_at dksX2_odd_4 0 rfl rfl)
theorem dX2_odd_96 : decode cX2_odd 96 = .ok (.iconst 2, 1) := dk_5 (dk_at dksX2_odd_4 3 rfl rfl)
theorem dX2_odd_97 : decode cX2_odd 97 = .ok (.irem, 1) := dk_112 (dk_at dksX2_odd_4 4 rfl rfl)
theorem dX2_odd_98 : decode cX2_odd 98 = .ok (.iadd, 1) := dk_96 (dk_at dksX2_odd_4 5 rfl rfl)
theorem dX2_odd_99 : decode cX2_odd 99 = .ok (.istore_n 3, 1) := dk_62 (dk_at dksX2_odd_4 6 rfl rfl)
theorem dX2_odd_100 : decode cX2_odd 100 = .ok (.goto (-89), 3) := dk_167 255 167 (dk_at dksX2_odd_4 7 rfl rfl)
theorem dX2_odd_103 : decode cX2_odd 103 = .ok (.iload_n 3, 1) := dk_29 (dk_at dksX2_odd_4 10 rfl rfl)
theorem dX2_odd_104 : decode cX2_odd 104 = .ok (.ireturn, 1) := dk_172 (dk_at dksX2_odd_4 11 rfl rfl)
theorem q75 : (Jvm.Cond.initialized "OddPairs$Net") ∈ lw_all := lw_g (lw_at lw_m1 4 rfl) rfl
theorem q139 : (Jvm.Cond.instantiable "OddPairs$Net" (3 : Nat)) ∈ lw_all := lw_g (lw_at lw_m1 68 rfl) rfl
theorem q141 : (Jvm.Cond.instanceMethod ({ cls := "OddPairs$Net", name := "<init>", desc := "(I)V" } : Jvm.MethodName)) ∈ lw_all := lw_g (lw_at lw_m1 70 rfl) rfl
theorem q142 : (Jvm.Cond.code ({ cls := "OddPairs$Net", name := "<init>", desc := "(I)V" } : Jvm.MethodName) prog_4_method_1_code (6 : Nat) (Option.none : Option Jvm.ClassFile.FieldType)) ∈ lw_all := lw_g (lw_at lw_m1 71 rfl) rfl
theorem q143 : (Jvm.Cond.methodLink "OddPairs$Net" (3 : Nat) ({ cls := "java/lang/Object", name := "<init>", desc := "()V" } : Jvm.MethodName)) ∈ lw_all := lw_g (lw_at lw_m1 72 rfl) rfl
theorem q144 : (Jvm.Cond.classLink "OddPairs$Net" (15 : Nat) "[[I") ∈ lw_all := lw_g (lw_at lw_m1 73 rfl) rfl
theorem q146 : (Jvm.Cond.methodLink "OddPairs$Net" (24 : Nat) ({ cls := "java/util/Arrays", name := "fill", desc := "([II)V" } : Jvm.MethodName)) ∈ lw_all := lw_g (lw_at lw_m1 75 rfl) rfl
theorem q149 : (Jvm.Cond.fieldLink "OddPairs$Net" (9 : Nat) "OddPairs$Net" "many" "I") ∈ lw_all := lw_g (lw_at lw_m1 78 rfl) rfl
theorem q155 : (Jvm.Cond.fieldLink "OddPairs$Net" (17 : Nat) "OddPairs$Net" "weight" "[[I") ∈ lw_all := lw_g (lw_at lw_m1 84 rfl) rfl
theorem q159 : (Jvm.Cond.fieldLink "OddPairs$Net" (20 : Nat) "OddPairs$Net" "mate" "[I") ∈ lw_all := lw_g (lw_at lw_m1 88 rfl) rfl
theorem q163 : (Jvm.Cond.laysFinal "OddPairs$Net" "OddPairs$Net" "many" "I") ∈ lw_all := lw_g (lw_at lw_m1 92 rfl) rfl
theorem q164 : (Jvm.Cond.soleField "OddPairs$Net" "many") ∈ lw_all := lw_g (lw_at lw_m1 93 rfl) rfl
theorem q165 : (Jvm.Cond.laysFinal "OddPairs$Net" "OddPairs$Net" "weight" "[[I") ∈ lw_all := lw_g (lw_at lw_m1 94 rfl) rfl
theorem q166 : (Jvm.Cond.soleField "OddPairs$Net" "weight") ∈ lw_all := lw_g (lw_at lw_m1 95 rfl) rfl
theorem q167 : (Jvm.Cond.laysFinal "OddPairs$Net" "OddPairs$Net" "mate" "[I") ∈ lw_all := lw_g (lw_at lw_m1 96 rfl) rfl
theorem q168 : (Jvm.Cond.soleField "OddPairs$Net" "mate") ∈ lw_all := lw_g (lw_at lw_m1 97 rfl) rfl
theorem q169 : (Jvm.Cond.superclass "OddPairs$Net" "java/lang/Object") ∈ lw_all := lw_g (lw_at lw_m1 98 rfl) rfl
theorem q171 : (Jvm.Cond.instanceMethod ({ cls := "OddPairs$Net", name := "joins", desc := "(III)V" } : Jvm.MethodName)) ∈ lw_all := lw_g (lw_at lw_m1 100 rfl) rfl
theorem q172 : (Jvm.Cond.selects "OddPairs$Net" ({ cls := "OddPairs$Net", name := "joins", desc := "(III)V" } : Jvm.MethodName) ({ cls := "OddPairs$Net", name := "joins", desc := "(III)V" } : Jvm.MethodName)) ∈ lw_all := lw_g (lw_at lw_m1 101 rfl) rfl
theorem q173 : (Jvm.Cond.code ({ cls := "OddPairs$Net", name := "joins", desc := "(III)V" } : Jvm.MethodName) prog_4_method_4_code (4 : Nat) (Option.none : Option Jvm.ClassFile.FieldType)) ∈ lw_all := lw_g (lw_at lw_m1 102 rfl) rfl
theorem q211 : (Jvm.Cond.instanceMethod ({ cls := "OddPairs$Net", name := "pairMany", desc := "()I" } : Jvm.MethodName)) ∈ lw_all := lw_g (lw_at lw_m1 140 rfl) rfl
theorem q212 : (Jvm.Cond.selects "OddPairs$Net" ({ cls := "OddPairs$Net", name := "pairMany", desc := "()I" } : Jvm.MethodName) ({ cls := "OddPairs$Net", name := "pairMany", desc := "()I" } : Jvm.MethodName)) ∈ lw_all := lw_g (lw_at lw_m1 141 rfl) rfl
theorem q213 : (Jvm.Cond.code ({ cls := "OddPairs$Net", name := "pairMany", desc := "()I" } : Jvm.MethodName) prog_4_method_11_code (6 : Nat) (Option.some Jvm.ClassFile.FieldType.int)) ∈ lw_all := lw_g (lw_at lw_m1 142 rfl) rfl
theorem q262 : (Jvm.Cond.instanceMethod ({ cls := "OddPairs$Net", name := "all", desc := "()I" } : Jvm.MethodName)) ∈ lw_all := lw_g (lw_at lw_m1 191 rfl) rfl
theorem q263 : (Jvm.Cond.selects "OddPairs$Net" ({ cls := "OddPairs$Net", name := "all", desc := "()I" } : Jvm.MethodName) ({ cls := "OddPairs$Net", name := "all", desc := "()I" } : Jvm.MethodName)) ∈ lw_all := lw_g (lw_at lw_m1 192 rfl) rfl
theorem q264 : (Jvm.Cond.code ({ cls := "OddPairs$Net", name := "all", desc := "()I" } : Jvm.MethodName) prog_4_method_8_code (1 : Nat) (Option.some Jvm.ClassFile.FieldType.int)) ∈ lw_all := lw_g (lw_at lw_m1 193 rfl) rfl
theorem q281 : (Jvm.Cond.instanceMethod ({ cls := "OddPairs$Net", name := "isLine", desc := "(II)Z" } : Jvm.MethodName)) ∈ lw_all := lw_g (lw_at lw_m1 210 rfl) rfl
theorem q282 : (Jvm.Cond.selects "OddPairs$Net" ({ cls := "OddPairs$Net", name := "isLine", desc := "(II)Z" } : Jvm.MethodName) ({ cls := "OddPairs$Net", name := "isLine", desc := "(II)Z" } : Jvm.MethodName)) ∈ lw_all := lw_g (lw_at lw_m1 211 rfl) rfl
theorem q283 : (Jvm.Cond.code ({ cls := "OddPairs$Net", name := "isLine", desc := "(II)Z" } : Jvm.MethodName) prog_4_method_3_code (3 : Nat) (Option.some Jvm.ClassFile.FieldType.boolean)) ∈ lw_all := lw_g (lw_at lw_m1 212 rfl) rfl
theorem q455 : (Jvm.Cond.selects "OddPairs$Net" ({ cls := "java/lang/Object", name := "getClass", desc := "()Ljava/lang/Class;" } : Jvm.MethodName) ({ cls := "java/lang/Object", name := "getClass", desc := "()Ljava/lang/Class;" } : Jvm.MethodName)) ∈ lw_all := lw_g (lw_at lw_m2 144 rfl) rfl
theorem q485 : (Jvm.Cond.instanceMethod ({ cls := "OddPairs$Net", name := "like", desc := "()LOddPairs$Net;" } : Jvm.MethodName)) ∈ lw_all := lw_g (lw_at lw_m2 174 rfl) rfl
theorem q486 : (Jvm.Cond.selects "OddPairs$Net" ({ cls := "OddPairs$Net", name := "like", desc := "()LOddPairs$Net;" } : Jvm.MethodName) ({ cls := "OddPairs$Net", name := "like", desc := "()LOddPairs$Net;" } : Jvm.MethodName)) ∈ lw_all := lw_g (lw_at lw_m2 175 rfl) rfl
theorem q487 : (Jvm.Cond.code ({ cls := "OddPairs$Net", name := "like", desc := "()LOddPairs$Net;" } : Jvm.MethodName) prog_4_method_2_code (3 : Nat) (Option.some (Jvm.ClassFile.FieldType.object "OddPairs$Net"))) ∈ lw_all := lw_g (lw_at lw_m2 176 rfl) rfl
theorem q488 : (Jvm.Cond.classLink "OddPairs$Net" (10 : Nat) "OddPairs$Net") ∈ lw_all := lw_g (lw_at lw_m2 177 rfl) rfl
theorem q489 : (Jvm.Cond.methodLink "OddPairs$Net" (30 : Nat) ({ cls := "OddPairs$Net", name := "<init>", desc := "(I)V" } : Jvm.MethodName)) ∈ lw_all := lw_g (lw_at lw_m2 178 rfl) rfl
theorem q490 : (Jvm.Cond.methodLink "OddPairs$Net" (33 : Nat) ({ cls := "java/lang/System", name := "arraycopy", desc := "(Ljava/lang/Object;ILjava/lang/Object;II)V" } : Jvm.MethodName)) ∈ lw_all := lw_g (lw_at lw_m2 179 rfl) rfl
theorem q1042 : (Jvm.Cond.instanceMethod ({ cls := "OddPairs$Net", name := "joinsNew", desc := "(II)V" } : Jvm.MethodName)) ∈ lw_all := lw_g (lw_at lw_m5 11 rfl) rfl
theorem q1043 : (Jvm.Cond.selects "OddPairs$Net" ({ cls := "OddPairs$Net", name := "joinsNew", desc := "(II)V" } : Jvm.MethodName) ({ cls := "OddPairs$Net", name := "joinsNew", desc := "(II)V" } : Jvm.MethodName)) ∈ lw_all := lw_g (lw_at lw_m5 12 rfl) rfl
theorem q1044 : (Jvm.Cond.code ({ cls := "OddPairs$Net", name := "joinsNew", desc := "(II)V" } : Jvm.MethodName) prog_4_method_5_code (3 : Nat) (Option.none : Option Jvm.ClassFile.FieldType)) ∈ lw_all := lw_g (lw_at lw_m5 13 rfl) rfl
theorem q1045 : (Jvm.Cond.methodLink "OddPairs$Net" (39 : Nat) ({ cls := "OddPairs$Net", name := "isLine", desc := "(II)Z" } : Jvm.MethodName)) ∈ lw_all := lw_g (lw_at lw_m5 14 rfl) rfl
theorem q1046 : (Jvm.Cond.methodLink "OddPairs$Net" (43 : Nat) ({ cls := "OddPairs$Net", name := "joins", desc := "(III)V" } : Jvm.MethodName)) ∈ lw_all := lw_g (lw_at lw_m5 15 rfl) rfl
theorem q1129 : (Jvm.Cond.instanceMethod ({ cls := "OddPairs$Net", name := "pairs", desc := "(II)V" } : Jvm.MethodName)) ∈ lw_all := lw_g (lw_at lw_m5 98 rfl) rfl
theorem q1130 : (Jvm.Cond.selects "OddPairs$Net" ({ cls := "OddPairs$Net", name := "pairs", desc := "(II)V" } : Jvm.MethodName) ({ cls := "OddPairs$Net", name := "pairs", desc := "(II)V" } : Jvm.MethodName)) ∈ lw_all := lw_g (lw_at lw_m5 99 rfl) rfl
theorem q1131 : (Jvm.Cond.code ({ cls := "OddPairs$Net", name := "pairs", desc := "(II)V" } : Jvm.MethodName) prog_4_method_6_code (3 : Nat) (Option.none : Option Jvm.ClassFile.FieldType)) ∈ lw_all := lw_g (lw_at lw_m5 100 rfl) rfl
theorem q1133 : (Jvm.Cond.instanceMethod ({ cls := "OddPairs$Net", name := "lines", desc := "()I" } : Jvm.MethodName)) ∈ lw_all := lw_g (lw_at lw_m5 102 rfl) rfl
theorem q1134 : (Jvm.Cond.selects "OddPairs$Net" ({ cls := "OddPairs$Net", name := "lines", desc := "()I" } : Jvm.MethodName) ({ cls := "OddPairs$Net", name := "lines", desc := "()I" } : Jvm.MethodName)) ∈ lw_all := lw_g (lw_at lw_m5 103 rfl) rfl
theorem q1135 : (Jvm.Cond.code ({ cls := "OddPairs$Net", name := "lines", desc := "()I" } : Jvm.MethodName) prog_4_method_10_code (3 : Nat) (Option.some Jvm.ClassFile.FieldType.int)) ∈ lw_all := lw_g (lw_at lw_m5 104 rfl) rfl
theorem q1136 : (Jvm.Cond.methodLink "OddPairs$Net" (47 : Nat) ({ cls := "OddPairs$Net", name := "beside", desc := "(I)I" } : Jvm.MethodName)) ∈ lw_all := lw_g (lw_at lw_m5 105 rfl) rfl
theorem q1137 : (Jvm.Cond.instanceMethod ({ cls := "OddPairs$Net", name := "beside", desc := "(I)I" } : Jvm.MethodName)) ∈ lw_all := lw_g (lw_at lw_m5 106 rfl) rfl
theorem q1138 : (Jvm.Cond.selects "OddPairs$Net" ({ cls := "OddPairs$Net", name := "beside", desc := "(I)I" } : Jvm.MethodName) ({ cls := "OddPairs$Net", name := "beside", desc := "(I)I" } : Jvm.MethodName)) ∈ lw_all := lw_g (lw_at lw_m5 107 rfl) rfl
theorem q1139 : (Jvm.Cond.code ({ cls := "OddPairs$Net", name := "beside", desc := "(I)I" } : Jvm.MethodName) prog_4_method_9_code (4 : Nat) (Option.some Jvm.ClassFile.FieldType.int)) ∈ lw_all := lw_g (lw_at lw_m5 108 rfl) rfl
theorem q1140 : (Jvm.Cond.methodLink "OddPairs$Net" (51 : Nat) ({ cls := "java/lang/Integer", name := "bitCount", desc := "(I)I" } : Jvm.MethodName)) ∈ lw_all := lw_g (lw_at lw_m5 109 rfl) rfl
theorem q1182 : (Jvm.Cond.instanceMethod ({ cls := "OddPairs$Net", name := "parts", desc := "(I)I" } : Jvm.MethodName)) ∈ lw_all := lw_g (lw_at lw_m5 151 rfl) rfl
theorem q1183 : (Jvm.Cond.selects "OddPairs$Net" ({ cls := "OddPairs$Net", name := "parts", desc := "(I)I" } : Jvm.MethodName) ({ cls := "OddPairs$Net", name := "parts", desc := "(I)I" } : Jvm.MethodName)) ∈ lw_all := lw_g (lw_at lw_m5 152 rfl) rfl
theorem q1184 : (Jvm.Cond.code ({ cls := "OddPairs$Net", name := "parts", desc := "(I)I" } : Jvm.MethodName) prog_4_method_7_code (3 : Nat) (Option.some Jvm.ClassFile.FieldType.int)) ∈ lw_all := lw_g (lw_at lw_m5 153 rfl) rfl
theorem q1416 : (Jvm.Cond.instanceMethod ({ cls := "OddPairs$Net", name := "odd", desc := "(I)I" } : Jvm.MethodName)) ∈ lw_all := lw_g (lw_at lw_m6 145 rfl) rfl
theorem q1417 : (Jvm.Cond.selects "OddPairs$Net" ({ cls := "OddPairs$Net", name := "odd", desc := "(I)I" } : Jvm.MethodName) ({ cls := "OddPairs$Net", name := "odd", desc := "(I)I" } : Jvm.MethodName)) ∈ lw_all := lw_g (lw_at lw_m6 146 rfl) rfl
theorem q1418 : (Jvm.Cond.code ({ cls := "OddPairs$Net", name := "odd", desc := "(I)I" } : Jvm.MethodName) prog_4_method_12_code (7 : Nat) (Option.some Jvm.ClassFile.FieldType.int)) ∈ lw_all := lw_g (lw_at lw_m6 147 rfl) rfl
theorem q1419 : (Jvm.Cond.methodLink "OddPairs$Net" (56 : Nat) ({ cls := "OddPairs$Net", name := "all", desc := "()I" } : Jvm.MethodName)) ∈ lw_all := lw_g (lw_at lw_m6 148 rfl) rfl
theorem q1420 : (Jvm.Cond.methodLinkNest "OddPairs$Net" (60 : Nat) ({ cls := "OddPairs", name := "has", desc := "(II)Z" } : Jvm.MethodName) "OddPairs") ∈ lw_tbl := lw_at lw_m6 149 rfl
theorem q1885 : (Jvm.Cond.castable "OddPairs$Net" "java/lang/Object") ∈ lw_tbl := lw_at lw_m8 134 rfl
theorem in_X2 : ∀ w ∈ wsX20, w ∈ lw_all := lw_in wsX20 [163, 165, 167] (by decide +kernel) (by decide +kernel)
/-! OddPairs$Reader -/
set_option maxRecDepth 100000
def RX4 : String := "OddPairs$Reader"
def TX4 : u_T := fun k => match k with
  | 0 => ("OddPairs$Reader", "size", "I", true)
  | 1 => ("OddPairs$Reader", "pairs", "Ljava/util/List;", true)
  | 2 => ("OddPairs$Reader", "to", "LOddPairs$Net;", false)
  | 3 => ("OddPairs$Reader", "next", "I", false)
  | 4 => ("OddPairs$Reader", "from", "I", false)
  | _ => ("OddPairs$Reader", "this$0", "LOddPairs;", true)
def tyX4 : Nat → FieldType := fun k => match k with
  | 0 => .int
  | 1 => .object "java/util/List"
  | 2 => .object "OddPairs$Net"
  | 3 => .int
  | 4 => .int
  | _ => .object "OddPairs"
abbrev wsX40 : List Cond := u_ws RX4 TX4 6
theorem nmX4 : ∀ a, a < 6 → ∀ b, b < 6 → a ≠ b → (TX4 a).2.1 ≠ (TX4 b).2.1 := by decide +kernel
theorem tyX4_ok : ∀ k, k < 6 → parseFieldDescriptor (TX4 k).2.2.1 = some (tyX4 k) := by decide +kernel
abbrev cX4_init : ByteArray := prog_6_method_1_code
def yX4_init : MethodName := ⟨RX4, "<init>", "(LOddPairs;I)V"⟩
def dkwX4_init_1 : List UInt8 := [181, 0, 22, 177]
abbrev dktX4_init_1 : List UInt8 := dkwX4_init_1 ++ []
def dkwX4_init_0 : List UInt8 := [42, 43, 181, 0, 3, 42, 183, 0, 9, 42, 187, 0, 15, 89, 183, 0, 17, 181, 0, 18, 42, 28]
abbrev dktX4_init_0 : List UInt8 := dkwX4_init_0 ++ dktX4_init_1
theorem dksX4_init_0 : cX4_init.data.toList.drop 0 = dktX4_init_0 := by decide +kernel
theorem dksX4_init_1 : cX4_init.data.toList.drop 22 = dktX4_init_1 := dk_seg dksX4_init_0 22 rfl rfl
theorem dX4_init_0 : decode cX4_init 0 = .ok (.aload_n 0, 1) := dk_42 (dk_at dksX4_init_0 0 rfl rfl)
theorem dX4_init_1 : decode cX4_init 1 = .ok (.aload_n 1, 1) := dk_43 (dk_at dksX4_init_0 1 rfl rfl)
theorem dX4_init_2 : decode cX4_init 2 = .ok (.putfield 3, 3) := dk_181 0 3 (dk_at dksX4_init_0 2 rfl rfl)
theorem dX4_init_5 : decode cX4_init 5 = .ok (.aload_n 0, 1) := dk_42 (dk_at dksX4_init_0 5 rfl rfl)
theorem dX4_init_6 : decode cX4_init 6 = .ok (.invokespecial 9, 3) := dk_183 0 9 (dk_at dksX4_init_0 6 rfl rfl)
theorem dX4_init_9 : decode cX4_init 9 = .ok (.aload_n 0, 1) := dk_42 (dk_at dksX4_init_0 9 rfl rfl)
theorem dX4_init_10 : decode cX4_init 10 = .ok (.new 15, 3) := dk_187 0 15 (dk_at dksX4_init_0 10 rfl rfl)
theorem dX4_init_13 : decode cX4_init 13 = .ok (.dup, 1) := dk_89 (dk_at dksX4_init_0 13 rfl rfl)
theorem dX4_init_14 : decode cX4_init 14 = .ok (.invokespecial 17, 3) := dk_183 0 17 (dk_at dksX4_init_0 14 rfl rfl)
theorem dX4_init_17 : decode cX4_init 17 = .ok (.putfield 18, 3) := dk_181 0 18 (dk_at dksX4_init_0 17 rfl rfl)
theorem dX4_init_20 : decode cX4_init 20 = .ok (.aload_n 0, 1) := dk_42 (dk_at dksX4_init_0 20 rfl rfl)
theorem dX4_init_21 : decode cX4_init 21 = .ok (.iload_n 2, 1) := dk_28 (dk_at dksX4_init_0 21 rfl rfl)
theorem dX4_init_22 : decode cX4_init 22 = .ok (.putfield 22, 3) := dk_181 0 22 (dk_at dksX4_init_1 0 rfl rfl)
theorem dX4_init_25 : decode cX4_init 25 = .ok (.return_, 1) := dk_177 (dk_at dksX4_init_1 3 rfl rfl)
abbrev cX4_all : ByteArray := prog_6_method_12_code
def yX4_all : MethodName := ⟨RX4, "all", "()LOddPairs$Net;"⟩
def dkwX4_all_8 : List UInt8 := [176]
abbrev dktX4_all_8 : List UInt8 := dkwX4_all_8 ++ []
def dkwX4_all_7 : List UInt8 := [183, 0, 54, 191, 42, 180, 0, 79, 44, 3, 46, 44, 4, 46, 182, 0, 166, 167, 255, 165, 42, 180, 0, 79]
abbrev dktX4_all_7 : List UInt8 := dkwX4_all_7 ++ dktX4_all_8
def dkwX4_all_6 : List UInt8 := [180, 0, 79, 180, 0, 163, 44, 4, 46, 46, 2, 159, 0, 16, 187, 0, 52, 89, 6, 42, 180, 0, 22]
abbrev dktX4_all_6 : List UInt8 := dkwX4_all_6 ++ dktX4_all_7
def dkwX4_all_5 : List UInt8 := [182, 0, 160, 153, 0, 33, 42, 180, 0, 79, 180, 0, 163, 44, 3, 46, 46, 2, 160, 0, 18, 42]
abbrev dktX4_all_5 : List UInt8 := dkwX4_all_5 ++ dktX4_all_6
def dkwX4_all_4 : List UInt8 := [153, 0, 88, 43, 185, 0, 155, 1, 0, 192, 0, 158, 77, 42, 180, 0, 79, 44, 3, 46, 44, 4, 46]
abbrev dktX4_all_4 : List UInt8 := dkwX4_all_4 ++ dktX4_all_5
def dkwX4_all_3 : List UInt8 := [182, 0, 144, 167, 255, 234, 42, 180, 0, 18, 185, 0, 146, 1, 0, 76, 43, 185, 0, 150, 1, 0]
abbrev dktX4_all_3 : List UInt8 := dkwX4_all_3 ++ dktX4_all_4
def dkwX4_all_2 : List UInt8 := [182, 0, 136, 42, 182, 0, 33, 154, 0, 14, 42, 180, 0, 26, 42, 180, 0, 22, 162, 0, 10, 42]
abbrev dktX4_all_2 : List UInt8 := dkwX4_all_2 ++ dktX4_all_3
def dkwX4_all_1 : List UInt8 := [181, 0, 26, 42, 187, 0, 84, 89, 42, 4, 16, 12, 182, 0, 88, 183, 0, 141, 181, 0, 79, 42]
abbrev dktX4_all_1 : List UInt8 := dkwX4_all_1 ++ dktX4_all_2
def dkwX4_all_0 : List UInt8 := [42, 42, 182, 0, 102, 18, 139, 182, 0, 115, 42, 180, 0, 26, 182, 0, 61, 42, 89, 180, 0, 26, 8, 96]
abbrev dktX4_all_0 : List UInt8 := dkwX4_all_0 ++ dktX4_all_1
theorem dksX4_all_0 : cX4_all.data.toList.drop 0 = dktX4_all_0 := by decide +kernel
theorem dksX4_all_1 : cX4_all.data.toList.drop 24 = dktX4_all_1 := dk_seg dksX4_all_0 24 rfl rfl
theorem dksX4_all_2 : cX4_all.data.toList.drop 46 = dktX4_all_2 := dk_seg dksX4_all_1 22 rfl rfl
theorem dksX4_all_3 : cX4_all.data.toList.drop 68 = dktX4_all_3 := dk_seg dksX4_all_2 22 rfl rfl
theorem dksX4_all_4 : cX4_all.data.toList.drop 90 = dktX4_all_4 := dk_seg dksX4_all_3 22 rfl rfl
theorem dksX4_all_5 : cX4_all.data.toList.drop 113 = dktX4_all_5 := dk_seg dksX4_all_4 23 rfl rfl
theorem dksX4_all_6 : cX4_all.data.toList.drop 135 = dktX4_all_6 := dk_seg dksX4_all_5 22 rfl rfl
theorem dksX4_all_7 : cX4_all.data.toList.drop 158 = dktX4_all_7 := dk_seg dksX4_all_6 23 rfl rfl
theorem dksX4_all_8 : cX4_all.data.toList.drop 182 = dktX4_all_8 := dk_seg dksX4_all_7 24 rfl rfl
theorem dX4_all_0 : decode cX4_all 0 = .ok (.aload_n 0, 1) := dk_42 (dk_at dksX4_all_0 0 rfl rfl)
theorem dX4_all_1 : decode cX4_all 1 = .ok (.aload_n 0, 1) := dk_42 (dk_at dksX4_all_0 1 rfl rfl)
theorem dX4_all_2 : decode cX4_all 2 = .ok (.invokevirtual 102, 3) := dk_182 0 102 (dk_at dksX4_all_0 2 rfl rfl)
theorem dX4_all_5 : decode cX4_all 5 = .ok (.ldc 139, 2) := dk_18 139 (dk_at dksX4_all_0 5 rfl rfl)
theorem dX4_all_7 : decode cX4_all 7 = .ok (.invokevirtual 115, 3) := dk_182 0 115 (dk_at dksX4_all_0 7 rfl rfl)
theorem dX4_all_10 : decode cX4_all 10 = .ok (.aload_n 0, 1) := dk_42 (dk_at dksX4_all_0 10 rfl rfl)
theorem dX4_all_11 : decode cX4_all 11 = .ok (.getfield 26, 3) := dk_180 0 26 (dk_at dksX4_all_0 11 rfl rfl)
theorem dX4_all_14 : decode cX4_all 14 = .ok (.invokevirtual 61, 3) := dk_182 0 61 (dk_at dksX4_all_0 14 rfl rfl)
theorem dX4_all_17 : decode cX4_all 17 = .ok (.aload_n 0, 1) := dk_42 (dk_at dksX4_all_0 17 rfl rfl)
theorem dX4_all_18 : decode cX4_all 18 = .ok (.dup, 1) := dk_89 (dk_at dksX4_all_0 18 rfl rfl)
theorem dX4_all_19 : decode cX4_all 19 = .ok (.getfield 26, 3) := dk_180 0 26 (dk_at dksX4_all_0 19 rfl rfl)
theorem dX4_all_22 : decode cX4_all 22 = .ok (.iconst 5, 1) := dk_8 (dk_at dksX4_all_0 22 rfl rfl)
theorem dX4_all_23 : decode cX4_all 23 = .ok (.iadd, 1) := dk_96 (dk_at dksX4_all_0 23 rfl rfl)
theorem dX4_all_24 : decode cX4_all 24 = .ok (.putfield 26, 3) := dk_181 0 26 (dk_at dksX4_all_1 0 rfl rfl)
theorem dX4_all_27 : decode cX4_all 27 = .ok (.aload_n 0, 1) := dk_42 (dk_at dksX4_all_1 3 rfl rfl)
theorem dX4_all_28 : decode cX4_all 28 = .ok (.new 84, 3) := dk_187 0 84 (dk_at dksX4_all_1 4 rfl rfl)
theorem dX4_all_31 : decode cX4_all 31 = .ok (.dup, 1) := dk_89 (dk_at dksX4_all_1 7 rfl rfl)
theorem dX4_all_32 : decode cX4_all 32 = .ok (.aload_n 0, 1) := dk_42 (dk_at dksX4_all_1 8 rfl rfl)
theorem dX4_all_33 : decode cX4_all 33 = .ok (.iconst 1, 1) := dk_4 (dk_at dksX4_all_1 9 rfl rfl)
theorem dX4_all_34 : decode cX4_all 34 = .ok (.bipush 12, 2) := dk_16 12 (dk_at dksX4_all_1 10 rfl rfl)
theorem dX4_all_36 : decode cX4_all 36 = .ok (.invokevirtual 88, 3) := dk_182 0 88 (dk_at dksX4_all_1 12 rfl rfl)
theorem dX4_all_39 : decode cX4_all 39 = .ok (.invokespecial 141, 3) := dk_183 0 141 (dk_at dksX4_all_1 15 rfl rfl)
theorem dX4_all_42 : decode cX4_all 42 = .ok (.putfield 79, 3) := dk_181 0 79 (dk_at dksX4_all_1 18 rfl rfl)
theorem dX4_all_45 : decode cX4_all 45 = .ok (.aload_n 0, 1) := dk_42 (dk_at dksX4_all_1 21 rfl rfl)
theorem dX4_all_46 : decode cX4_all 46 = .ok (.invokevirtual 136, 3) := dk_182 0 136 (dk_at dksX4_all_2 0 rfl rfl)
theorem dX4_all_49 : decode cX4_all 49 = .ok (.aload_n 0, 1) := dk_42 (dk_at dksX4_all_2 3 rfl rfl)
theorem dX4_all_50 : decode cX4_all 50 = .ok (.invokevirtual 33, 3) := dk_182 0 33 (dk_at dksX4_all_2 4 rfl rfl)
theorem dX4_all_53 : decode cX4_all 53 = .ok (.ifCond .ne 14, 3) := dk_154 0 14 (dk_at dksX4_all_2 7 rfl rfl)
theorem dX4_all_56 : decode cX4_all 56 = .ok (.aload_n 0, 1) := dk_42 (dk_at dksX4_all_2 10 rfl rfl)
theorem dX4_all_57 : decode cX4_all 57 = .ok (.getfield 26, 3) := dk_180 0 26 (dk_at dksX4_all_2 11 rfl rfl)
theorem dX4_all_60 : decode cX4_all 60 = .ok (.aload_n 0, 1) := dk_42 (dk_at dksX4_all_2 14 rfl rfl)
theorem dX4_all_61 : decode cX4_all 61 = .ok (.getfield 22, 3) := dk_180 0 22 (dk_at dksX4_all_2 15 rfl rfl)
theorem dX4_all_64 : decode cX4_all 64 = .ok (.if_icmp .ge 10, 3) := dk_162 0 10 (dk_at dksX4_all_2 18 rfl rfl)
theorem dX4_all_67 : decode cX4_all 67 = .ok (.aload_n 0, 1) := dk_42 (dk_at dksX4_all_2 21 rfl rfl)
theorem dX4_all_68 : decode cX4_all 68 = .ok (.invokevirtual 144, 3) := dk_182 0 144 (dk_at dksX4_all_3 0 rfl rfl)
theorem dX4_all_71 : decode cX4_all 71 = .ok (.goto (-22), 3) := dk_167 255 234 (dk_at dksX4_all_3 3 rfl rfl)
theorem dX4_all_74 : decode cX4_all 74 = .ok (.aload_n 0, 1) := dk_42 (dk_at dksX4_all_3 6 rfl rfl)
theorem dX4_all_75 : decode cX4_all 75 = .ok (.getfield 18, 3) := dk_180 0 18 (dk_at dksX4_all_3 7 rfl rfl)
theorem dX4_all_78 : decode cX4_all 78 = .ok (.invokeinterface 146 1, 5) := by decide +kernel
theorem dX4_all_83 : decode cX4_all 83 = .ok (.astore_n 1, 1) := dk_76 (dk_at dksX4_all_3 15 rfl rfl)
theorem dX4_all_84 : decode cX4_all 84 = .ok (.aload_n 1, 1) := dk_43 (dk_at dksX4_all_3 16 rfl rfl)
theorem dX4_all_85 : decode cX4_all 85 = .ok (.invokeinterface 150 1, 5) := by decide +kernel
theorem dX4_all_90 : decode cX4_all 90 = .ok (.ifCond .eq 88, 3) := dk_153 0 88 (dk_at dksX4_all_4 0 rfl rfl)
theorem dX4_all_93 : decode cX4_all 93 = .ok (.aload_n 1, 1) := dk_43 (dk_at dksX4_all_4 3 rfl rfl)
theorem dX4_all_94 : decode cX4_all 94 = .ok (.invokeinterface 155 1, 5) := by decide +kernel
theorem dX4_all_99 : decode cX4_all 99 = .ok (.checkcast 158, 3) := dk_192 0 158 (dk_at dksX4_all_4 9 rfl rfl)
theorem dX4_all_102 : decode cX4_all 102 = .ok (.astore_n 2, 1) := dk_77 (dk_at dksX4_all_4 12 rfl rfl)
theorem dX4_all_103 : decode cX4_all 103 = .ok (.aload_n 0, 1) := dk_42 (dk_at dksX4_all_4 13 rfl rfl)
theorem dX4_all_104 : decode cX4_all 104 = .ok (.getfield 79, 3) := dk_180 0 79 (dk_at dksX4_all_4 14 rfl rfl)
theorem dX4_all_107 : decode cX4_all 107 = .ok (.aload_n 2, 1) := dk_44 (dk_at dksX4_all_4 17 rfl rfl)
theorem dX4_all_108 : decode cX4_all 108 = .ok (.iconst 0, 1) := dk_3 (dk_at dksX4_all_4 18 rfl rfl)
theorem dX4_all_109 : decode cX4_all 109 = .ok (.iaload, 1) := dk_46 (dk_at dksX4_all_4 19 rfl rfl)
theorem dX4_all_110 : decode cX4_all 110 = .ok (.aload_n 2, 1) := dk_44 (dk_at dksX4_all_4 20 rfl rfl)
theorem dX4_all_111 : decode cX4_all 111 = .ok (.iconst 1, 1) := dk_4 (dk_at dksX4_all_4 21 rfl rfl)
theorem dX4_all_112 : decode cX4_all 112 = .ok (.iaload, 1) := dk_46 (dk_at dksX4_all_4 22 rfl rfl)
theorem dX4_all_113 : decode cX4_all 113 = .ok (.invokevirtual 160, 3) := dk_182 0 160 (dk_at dksX4_all_5 0 rfl rfl)
theorem dX4_all_116 : decode cX4_all 116 = .ok (.ifCond .eq 33, 3) := dk_153 0 33 (dk_at dksX4_all_5 3 rfl rfl)
theorem dX4_all_119 : decode cX4_all 119 = .ok (.aload_n 0, 1) := dk_42 (dk_at dksX4_all_5 6 rfl rfl)
theorem dX4_all_120 : decode cX4_all 120 = .ok (.getfield 79, 3) := dk_180 0 79 (dk_at dksX4_all_5 7 rfl rfl)
theorem dX4_all_123 : decode cX4_all 123 = .ok (.getfield 163, 3) := dk_180 0 163 (dk_at dksX4_all_5 10 rfl rfl)
theorem dX4_all_126 : decode cX4_all 126 = .ok (.aload_n 2, 1) := dk_44 (dk_at dksX4_all_5 13 rfl rfl)
theorem dX4_all_127 : decode cX4_all 127 = .ok (.iconst 0, 1) := dk_3 (dk_at dksX4_all_5 14 rfl rfl)
theorem dX4_all_128 : decode cX4_all 128 = .ok (.iaload, 1) := dk_46 (dk_at dksX4_all_5 15 rfl rfl)
theorem dX4_all_129 : decode cX4_all 129 = .ok (.iaload, 1) := dk_46 (dk_at dksX4_all_5 16 rfl rfl)
theorem dX4_all_130 : decode cX4_all 130 = .ok (.iconst (-1), 1) := dk_2 (dk_at dksX4_all_5 17 rfl rfl)
theorem dX4_all_131 : decode cX4_all 131 = .ok (.if_icmp .ne 18, 3) := dk_160 0 18 (dk_at dksX4_all_5 18 rfl rfl)
theorem dX4_all_134 : decode cX4_all 134 = .ok (.aload_n 0, 1) := dk_42 (dk_at dksX4_all_5 21 rfl rfl)
theorem dX4_all_135 : decode cX4_all 135 = .ok (.getfield 79, 3) := dk_180 0 79 (dk_at dksX4_all_6 0 rfl rfl)
theorem dX4_all_138 : decode cX4_all 138 = .ok (.getfield 163, 3) := dk_180 0 163 (dk_at dksX4_all_6 3 rfl rfl)
theorem dX4_all_141 : decode cX4_all 141 = .ok (.aload_n 2, 1) := dk_44 (dk_at dksX4_all_6 6 rfl rfl)
theorem dX4_all_142 : decode cX4_all 142 = .ok (.iconst 1, 1) := dk_4 (dk_at dksX4_all_6 7 rfl rfl)
theorem dX4_all_143 : decode cX4_all 143 = .ok (.iaload, 1) := dk_46 (dk_at dksX4_all_6 8 rfl rfl)
theorem dX4_all_144 : decode cX4_all 144 = .ok (.iaload, 1) := dk_46 (dk_at dksX4_all_6 9 rfl rfl)
theorem dX4_all_145 : decode cX4_all 145 = .ok (.iconst (-1), 1) := dk_2 (dk_at dksX4_all_6 10 rfl rfl)
theorem dX4_all_146 : decode cX4_all 146 = .ok (.if_icmp .eq 16, 3) := dk_159 0 16 (dk_at dksX4_all_6 11 rfl rfl)
theorem dX4_all_149 : decode cX4_all 149 = .ok (.new 52, 3) := dk_187 0 52 (dk_at dksX4_all_6 14 rfl rfl)
theorem dX4_all_152 : decode cX4_all 152 = .ok (.dup, 1) := dk_89 (dk_at dksX4_all_6 17 rfl rfl)
theorem dX4_all_153 : decode cX4_all 153 = .ok (.iconst 3, 1) := dk_6 (dk_at dksX4_all_6 18 rfl rfl)
theorem dX4_all_154 : decode cX4_all 154 = .ok (.aload_n 0, 1) := dk_42 (dk_at dksX4_all_6 19 rfl rfl)
theorem dX4_all_155 : decode cX4_all 155 = .ok (.getfield 22, 3) := dk_180 0 22 (dk_at dksX4_all_6 20 rfl rfl)
theorem dX4_all_158 : decode cX4_all 158 = .ok (.invokespecial 54, 3) := dk_183 0 54 (dk_at dksX4_all_7 0 rfl rfl)
theorem dX4_all_161 : decode cX4_all 161 = .ok (.athrow, 1) := dk_191 (dk_at dksX4_all_7 3 rfl rfl)
theorem dX4_all_162 : decode cX4_all 162 = .ok (.aload_n 0, 1) := dk_42 (dk_at dksX4_all_7 4 rfl rfl)
theorem dX4_all_163 : decode cX4_all 163 = .ok (.getfield 79, 3) := dk_180 0 79 (dk_at dksX4_all_7 5 rfl rfl)
theorem dX4_all_166 : decode cX4_all 166 = .ok (.aload_n 2, 1) := dk_44 (dk_at dksX4_all_7 8 rfl rfl)
theorem dX4_all_167 : decode cX4_all 167 = .ok (.iconst 0, 1) := dk_3 (dk_at dksX4_all_7 9 rfl rfl)
theorem dX4_all_168 : decode cX4_all 168 = .ok (.iaload, 1) := dk_46 (dk_at dksX4_all_7 10 rfl rfl)
theorem dX4_all_169 : decode cX4_all 169 = .ok (.aload_n 2, 1) := dk_44 (dk_at dksX4_all_7 11 rfl rfl)
theorem dX4_all_170 : decode cX4_all 170 = .ok (.iconst 1, 1) := dk_4 (dk_at dksX4_all_7 12 rfl rfl)
theorem dX4_all_171 : decode cX4_all 171 = .ok (.iaload, 1) := dk_46 (dk_at dksX4_all_7 13 rfl rfl)
theorem dX4_all_172 : decode cX4_all 172 = .ok (.invokevirtual 166, 3) := dk_182 0 166 (dk_at dksX4_all_7 14 rfl rfl)
theorem dX4_all_175 : decode cX4_all 175 = .ok (.goto (-91), 3) := dk_167 255 165 (dk_at dksX4_all_7 17 rfl rfl)
theorem dX4_all_178 : decode cX4_all 178 = .ok (.aload_n 0, 1) := dk_42 (dk_at dksX4_all_7 20 rfl rfl)
theorem dX4_all_179 : decode cX4_all 179 = .ok (.getfield 79, 3) := dk_180 0 79 (dk_at dksX4_all_7 21 rfl rfl)
theorem dX4_all_182 : decode cX4_all 182 = .ok (.areturn, 1) := dk_176 (dk_at dksX4_all_8 0 rfl rfl)
abbrev cX4_word : ByteArray := prog_6_method_5_code
def yX4_word : MethodName := ⟨RX4, "word", "()Ljava/lang/String;"⟩
def dkwX4_word_2 : List UInt8 := [43, 182, 0, 48, 176]
abbrev dktX4_word_2 : List UInt8 := dkwX4_word_2 ++ []
def dkwX4_word_1 : List UInt8 := [153, 0, 24, 43, 42, 180, 0, 3, 180, 0, 29, 28, 51, 146, 182, 0, 44, 87, 132, 2, 1, 167, 255, 230]
abbrev dktX4_word_1 : List UInt8 := dkwX4_word_1 ++ dktX4_word_2
def dkwX4_word_0 : List UInt8 := [42, 182, 0, 33, 87, 187, 0, 37, 89, 183, 0, 39, 76, 42, 180, 0, 26, 61, 42, 28, 182, 0, 40]
abbrev dktX4_word_0 : List UInt8 := dkwX4_word_0 ++ dktX4_word_1
theorem dksX4_word_0 : cX4_word.data.toList.drop 0 = dktX4_word_0 := by decide +kernel
theorem dksX4_word_1 : cX4_word.data.toList.drop 23 = dktX4_word_1 := dk_seg dksX4_word_0 23 rfl rfl
theorem dksX4_word_2 : cX4_word.data.toList.drop 47 = dktX4_word_2 := dk_seg dksX4_word_1 24 rfl rfl
theorem dX4_word_0 : decode cX4_word 0 = .ok (.aload_n 0, 1) := dk_42 (dk_at dksX4_word_0 0 rfl rfl)
theorem dX4_word_1 : decode cX4_word 1 = .ok (.invokevirtual 33, 3) := dk_182 0 33 (dk_at dksX4_word_0 1 rfl rfl)
theorem dX4_word_4 : decode cX4_word 4 = .ok (.pop, 1) := dk_87 (dk_at dksX4_word_0 4 rfl rfl)
theorem dX4_word_5 : decode cX4_word 5 = .ok (.new 37, 3) := dk_187 0 37 (dk_at dksX4_word_0 5 rfl rfl)
theorem dX4_word_8 : decode cX4_word 8 = .ok (.dup, 1) := dk_89 (dk_at dksX4_word_0 8 rfl rfl)
theorem dX4_word_9 : decode cX4_word 9 = .ok (.invokespecial 39, 3) := dk_183 0 39 (dk_at dksX4_word_0 9 rfl rfl)
theorem dX4_word_12 : decode cX4_word 12 = .ok (.astore_n 1, 1) := dk_76 (dk_at dksX4_word_0 12 rfl rfl)
theorem dX4_word_13 : decode cX4_word 13 = .ok (.aload_n 0, 1) := dk_42 (dk_at dksX4_word_0 13 rfl rfl)
theorem dX4_word_14 : decode cX4_word 14 = .ok (.getfield 26, 3) := dk_180 0 26 (dk_at dksX4_word_0 14 rfl rfl)
theorem dX4_word_17 : decode cX4_word 17 = .ok (.istore_n 2, 1) := dk_61 (dk_at dksX4_word_0 17 rfl rfl)
theorem dX4_word_18 : decode cX4_word 18 = .ok (.aload_n 0, 1) := dk_42 (dk_at dksX4_word_0 18 rfl rfl)
theorem dX4_word_19 : decode cX4_word 19 = .ok (.iload_n 2, 1) := dk_28 (dk_at dksX4_word_0 19 rfl rfl)
theorem dX4_word_20 : decode cX4_word 20 = .ok (.invokevirtual 40, 3) := dk_182 0 40 (dk_at dksX4_word_0 20 rfl rfl)
theorem dX4_word_23 : decode cX4_word 23 = .ok (.ifCond .eq 24, 3) := dk_153 0 24 (dk_at dksX4_word_1 0 rfl rfl)
theorem dX4_word_26 : decode cX4_word 26 = .ok (.aload_n 1, 1) := dk_43 (dk_at dksX4_word_1 3 rfl rfl)
theorem dX4_word_27 : decode cX4_word 27 = .ok (.aload_n 0, 1) := dk_42 (dk_at dksX4_word_1 4 rfl rfl)
theorem dX4_word_28 : decode cX4_word 28 = .ok (.getfield 3, 3) := dk_180 0 3 (dk_at dksX4_word_1 5 rfl rfl)
theorem dX4_word_31 : decode cX4_word 31 = .ok (.getfield 29, 3) := dk_180 0 29 (dk_at dksX4_word_1 8 rfl rfl)
theorem dX4_word_34 : decode cX4_word 34 = .ok (.iload_n 2, 1) := dk_28 (dk_at dksX4_word_1 11 rfl rfl)
theorem dX4_word_35 : decode cX4_word 35 = .ok (.baload, 1) := dk_51 (dk_at dksX4_word_1 12 rfl rfl)
theorem dX4_word_36 : decode cX4_word 36 = .ok (.i2c, 1) := dk_146 (dk_at dksX4_word_1 13 rfl rfl)
theorem dX4_word_37 : decode cX4_word 37 = .ok (.invokevirtual 44, 3) := dk_182 0 44 (dk_at dksX4_word_1 14 rfl rfl)
theorem dX4_word_40 : decode cX4_word 40 = .ok (.pop, 1) := dk_87 (dk_at dksX4_word_1 17 rfl rfl)
theorem dX4_word_41 : decode cX4_word 41 = .ok (.iinc 2 1, 3) := dk_132 2 1 (dk_at dksX4_word_1 18 rfl rfl)
theorem dX4_word_44 : decode cX4_word 44 = .ok (.goto (-26), 3) := dk_167 255 230 (dk_at dksX4_word_1 21 rfl rfl)
theorem dX4_word_47 : decode cX4_word 47 = .ok (.aload_n 1, 1) := dk_43 (dk_at dksX4_word_2 0 rfl rfl)
theorem dX4_word_48 : decode cX4_word 48 = .ok (.invokevirtual 48, 3) := dk_182 0 48 (dk_at dksX4_word_2 1 rfl rfl)
theorem dX4_word_51 : decode cX4_word 51 = .ok (.areturn, 1) := dk_176 (dk_at dksX4_word_2 4 rfl rfl)
abbrev cX4_sign : ByteArray := prog_6_method_2_code
def yX4_sign : MethodName := ⟨RX4, "sign", "()I"⟩
def dkwX4_sign_2 : List UInt8 := [180, 0, 22, 162, 0, 18, 42, 180, 0, 3, 180, 0, 29, 42, 180, 0, 26, 51, 167, 0, 4, 3, 172]
abbrev dktX4_sign_2 : List UInt8 := dkwX4_sign_2 ++ []
def dkwX4_sign_1 : List UInt8 := [16, 32, 160, 0, 16, 42, 89, 180, 0, 26, 4, 96, 181, 0, 26, 167, 255, 218, 42, 180, 0, 26, 42]
abbrev dktX4_sign_1 : List UInt8 := dkwX4_sign_1 ++ dktX4_sign_2
def dkwX4_sign_0 : List UInt8 := [42, 180, 0, 26, 42, 180, 0, 22, 162, 0, 33, 42, 180, 0, 3, 180, 0, 29, 42, 180, 0, 26, 51]
abbrev dktX4_sign_0 : List UInt8 := dkwX4_sign_0 ++ dktX4_sign_1
theorem dksX4_sign_0 : cX4_sign.data.toList.drop 0 = dktX4_sign_0 := by decide +kernel
theorem dksX4_sign_1 : cX4_sign.data.toList.drop 23 = dktX4_sign_1 := dk_seg dksX4_sign_0 23 rfl rfl
theorem dksX4_sign_2 : cX4_sign.data.toList.drop 46 = dktX4_sign_2 := dk_seg dksX4_sign_1 23 rfl rfl
theorem dX4_sign_0 : decode cX4_sign 0 = .ok (.aload_n 0, 1) := dk_42 (dk_at dksX4_sign_0 0 rfl rfl)
theorem dX4_sign_1 : decode cX4_sign 1 = .ok (.getfield 26, 3) := dk_180 0 26 (dk_at dksX4_sign_0 1 rfl rfl)
theorem dX4_sign_4 : decode cX4_sign 4 = .ok (.aload_n 0, 1) := dk_42 (dk_at dksX4_sign_0 4 rfl rfl)
theorem dX4_sign_5 : decode cX4_sign 5 = .ok (.getfield 22, 3) := dk_180 0 22 (dk_at dksX4_sign_0 5 rfl rfl)
theorem dX4_sign_8 : decode cX4_sign 8 = .ok (.if_icmp .ge 33, 3) := dk_162 0 33 (dk_at dksX4_sign_0 8 rfl rfl)
theorem dX4_sign_11 : decode cX4_sign 11 = .ok (.aload_n 0, 1) := dk_42 (dk_at dksX4_sign_0 11 rfl rfl)
theorem dX4_sign_12 : decode cX4_sign 12 = .ok (.getfield 3, 3) := dk_180 0 3 (dk_at dksX4_sign_0 12 rfl rfl)
theorem dX4_sign_15 : decode cX4_sign 15 = .ok (.getfield 29, 3) := dk_180 0 29 (dk_at dksX4_sign_0 15 rfl rfl)
theorem dX4_sign_18 : decode cX4_sign 18 = .ok (.aload_n 0, 1) := dk_42 (dk_at dksX4_sign_0 18 rfl rfl)
theorem dX4_sign_19 : decode cX4_sign 19 = .ok (.getfield 26, 3) := dk_180 0 26 (dk_at dksX4_sign_0 19 rfl rfl)
theorem dX4_sign_22 : decode cX4_sign 22 = .ok (.baload, 1) := dk_51 (dk_at dksX4_sign_0 22 rfl rfl)
theorem dX4_sign_23 : decode cX4_sign 23 = .ok (.bipush 32, 2) := dk_16 32 (dk_at dksX4_sign_1 0 rfl rfl)
theorem dX4_sign_25 : decode cX4_sign 25 = .ok (.if_icmp .ne 16, 3) := dk_160 0 16 (dk_at dksX4_sign_1 2 rfl rfl)
theorem dX4_sign_28 : decode cX4_sign 28 = .ok (.aload_n 0, 1) := dk_42 (dk_at dksX4_sign_1 5 rfl rfl)
theorem dX4_sign_29 : decode cX4_sign 29 = .ok (.dup, 1) := dk_89 (dk_at dksX4_sign_1 6 rfl rfl)
theorem dX4_sign_30 : decode cX4_sign 30 = .ok (.getfield 26, 3) := dk_180 0 26 (dk_at dksX4_sign_1 7 rfl rfl)
theorem dX4_sign_33 : decode cX4_sign 33 = .ok (.iconst 1, 1) := dk_4 (dk_at dksX4_sign_1 10 rfl rfl)
theorem dX4_sign_34 : decode cX4_sign 34 = .ok (.iadd, 1) := dk_96 (dk_at dksX4_sign_1 11 rfl rfl)
theorem dX4_sign_35 : decode cX4_sign 35 = .ok (.putfield 26, 3) := dk_181 0 26 (dk_at dksX4_sign_1 12 rfl rfl)
theorem dX4_sign_38 : decode cX4_sign 38 = .ok (.goto (-38), 3) := dk_167 255 218 (dk_at dksX4_sign_1 15 rfl rfl)
theorem dX4_sign_41 : decode cX4_sign 41 = .ok (.aload_n 0, 1) := dk_42 (dk_at dksX4_sign_1 18 rfl rfl)
theorem dX4_sign_42 : decode cX4_sign 42 = .ok (.getfield 26, 3) := dk_180 0 26 (dk_at dksX4_sign_1 19 rfl rfl)
theorem dX4_sign_45 : decode cX4_sign 45 = .ok (.aload_n 0, 1) := dk_42 (dk_at dksX4_sign_1 22 rfl rfl)
theorem dX4_sign_46 : decode cX4_sign 46 = .ok (.getfield 22, 3) := dk_180 0 22 (dk_at dksX4_sign_2 0 rfl rfl)
theorem dX4_sign_49 : decode cX4_sign 49 = .ok (.if_icmp .ge 18, 3) := dk_162 0 18 (dk_at dksX4_sign_2 3 rfl rfl)
theorem dX4_sign_52 : decode cX4_sign 52 = .ok (.aload_n 0, 1) := dk_42 (dk_at dksX4_sign_2 6 rfl rfl)
theorem dX4_sign_53 : decode cX4_sign 53 = .ok (.getfield 3, 3) := dk_180 0 3 (dk_at dksX4_sign_2 7 rfl rfl)
theorem dX4_sign_56 : decode cX4_sign 56 = .ok (.getfield 29, 3) := dk_180 0 29 (dk_at dksX4_sign_2 10 rfl rfl)
theorem dX4_sign_59 : decode cX4_sign 59 = .ok (.aload_n 0, 1) := dk_42 (dk_at dksX4_sign_2 13 rfl rfl)
theorem dX4_sign_60 : decode cX4_sign 60 = .ok (.getfield 26, 3) := dk_180 0 26 (dk_at dksX4_sign_2 14 rfl rfl)
theorem dX4_sign_63 : decode cX4_sign 63 = .ok (.baload, 1) := dk_51 (dk_at dksX4_sign_2 17 rfl rfl)
theorem dX4_sign_64 : decode cX4_sign 64 = .ok (.goto 4, 3) := dk_167 0 4 (dk_at dksX4_sign_2 18 rfl rfl)
theorem dX4_sign_67 : decode cX4_sign 67 = .ok (.iconst 0, 1) := dk_3 (dk_at dksX4_sign_2 21 rfl rfl)
theorem dX4_sign_68 : decode cX4_sign 68 = .ok (.ireturn, 1) := dk_172 (dk_at dksX4_sign_2 22 rfl rfl)
abbrev cX4_isSmall : ByteArray := prog_6_method_3_code
def yX4_isSmall : MethodName := ⟨RX4, "isSmall", "(I)Z"⟩
def dkwX4_isSmall_1 : List UInt8 := [180, 0, 3, 180, 0, 29, 27, 51, 16, 122, 163, 0, 7, 4, 167, 0, 4, 3, 172]
abbrev dktX4_isSmall_1 : List UInt8 := dkwX4_isSmall_1 ++ []
def dkwX4_isSmall_0 : List UInt8 := [27, 42, 180, 0, 22, 162, 0, 35, 42, 180, 0, 3, 180, 0, 29, 27, 51, 16, 97, 161, 0, 21, 42]
abbrev dktX4_isSmall_0 : List UInt8 := dkwX4_isSmall_0 ++ dktX4_isSmall_1
theorem dksX4_isSmall_0 : cX4_isSmall.data.toList.drop 0 = dktX4_isSmall_0 := by decide +kernel
theorem dksX4_isSmall_1 : cX4_isSmall.data.toList.drop 23 = dktX4_isSmall_1 := dk_seg dksX4_isSmall_0 23 rfl rfl
theorem dX4_isSmall_0 : decode cX4_isSmall 0 = .ok (.iload_n 1, 1) := dk_27 (dk_at dksX4_isSmall_0 0 rfl rfl)
theorem dX4_isSmall_1 : decode cX4_isSmall 1 = .ok (.aload_n 0, 1) := dk_42 (dk_at dksX4_isSmall_0 1 rfl rfl)
theorem dX4_isSmall_2 : decode cX4_isSmall 2 = .ok (.getfield 22, 3) := dk_180 0 22 (dk_at dksX4_isSmall_0 2 rfl rfl)
theorem dX4_isSmall_5 : decode cX4_isSmall 5 = .ok (.if_icmp .ge 35, 3) := dk_162 0 35 (dk_at dksX4_isSmall_0 5 rfl rfl)
theorem dX4_isSmall_8 : decode cX4_isSmall 8 = .ok (.aload_n 0, 1) := dk_42 (dk_at dksX4_isSmall_0 8 rfl rfl)
theorem dX4_isSmall_9 : decode cX4_isSmall 9 = .ok (.getfield 3, 3) := dk_180 0 3 (dk_at dksX4_isSmall_0 9 rfl rfl)
theorem dX4_isSmall_12 : decode cX4_isSmall 12 = .ok (.getfield 29, 3) := dk_180 0 29 (dk_at dksX4_isSmall_0 12 rfl rfl)
theorem dX4_isSmall_15 : decode cX4_isSmall 15 = .ok (.iload_n 1, 1) := dk_27 (dk_at dksX4_isSmall_0 15 rfl rfl)
theorem dX4_isSmall_16 : decode cX4_isSmall 16 = .ok (.baload, 1) := dk_51 (dk_at dksX4_isSmall_0 16 rfl rfl)
theorem dX4_isSmall_17 : decode cX4_isSmall 17 = .ok (.bipush 97, 2) := dk_16 97 (dk_at dksX4_isSmall_0 17 rfl rfl)
theorem dX4_isSmall_19 : decode cX4_isSmall 19 = .ok (.if_icmp .lt 21, 3) := dk_161 0 21 (dk_at dksX4_isSmall_0 19 rfl rfl)
theorem dX4_isSmall_22 : decode cX4_isSmall 22 = .ok (.aload_n 0, 1) := dk_42 (dk_at dksX4_isSmall_0 22 rfl rfl)
theorem dX4_isSmall_23 : decode cX4_isSmall 23 = .ok (.getfield 3, 3) := dk_180 0 3 (dk_at dksX4_isSmall_1 0 rfl rfl)
theorem dX4_isSmall_26 : decode cX4_isSmall 26 = .ok (.getfield 29, 3) := dk_180 0 29 (dk_at dksX4_isSmall_1 3 rfl rfl)
theorem dX4_isSmall_29 : decode cX4_isSmall 29 = .ok (.iload_n 1, 1) := dk_27 (dk_at dksX4_isSmall_1 6 rfl rfl)
theorem dX4_isSmall_30 : decode cX4_isSmall 30 = .ok (.baload, 1) := dk_51 (dk_at dksX4_isSmall_1 7 rfl rfl)
theorem dX4_isSmall_31 : decode cX4_isSmall 31 = .ok (.bipush 122, 2) := dk_16 122 (dk_at dksX4_isSmall_1 8 rfl rfl)
theorem dX4_isSmall_33 : decode cX4_isSmall 33 = .ok (.if_icmp .gt 7, 3) := dk_163 0 7 (dk_at dksX4_isSmall_1 10 rfl rfl)
theorem dX4_isSmall_36 : decode cX4_isSmall 36 = .ok (.iconst 1, 1) := dk_4 (dk_at dksX4_isSmall_1 13 rfl rfl)
theorem dX4_isSmall_37 : decode cX4_isSmall 37 = .ok (.goto 4, 3) := dk_167 0 4 (dk_at dksX4_isSmall_1 14 rfl rfl)
theorem dX4_isSmall_40 : decode cX4_isSmall 40 = .ok (.iconst 0, 1) := dk_3 (dk_at dksX4_isSmall_1 17 rfl rfl)
theorem dX4_isSmall_41 : decode cX4_isSmall 41 = .ok (.ireturn, 1) := dk_172 (dk_at dksX4_isSmall_1 18 rfl rfl)
abbrev cX4_needs : ByteArray := prog_6_method_6_code
def yX4_needs : MethodName := ⟨RX4, "needs", "(ZI)V"⟩
def dkwX4_needs_0 : List UInt8 := [27, 154, 0, 13, 187, 0, 52, 89, 4, 28, 183, 0, 54, 191, 177]
abbrev dktX4_needs_0 : List UInt8 := dkwX4_needs_0 ++ []
theorem dksX4_needs_0 : cX4_needs.data.toList.drop 0 = dktX4_needs_0 := by decide +kernel
theorem dX4_needs_0 : decode cX4_needs 0 = .ok (.iload_n 1, 1) := dk_27 (dk_at dksX4_needs_0 0 rfl rfl)
theorem dX4_needs_1 : decode cX4_needs 1 = .ok (.ifCond .ne 13, 3) := dk_154 0 13 (dk_at dksX4_needs_0 1 rfl rfl)
theorem dX4_needs_4 : decode cX4_needs 4 = .ok (.new 52, 3) := dk_187 0 52 (dk_at dksX4_needs_0 4 rfl rfl)
theorem dX4_needs_7 : decode cX4_needs 7 = .ok (.dup, 1) := dk_89 (dk_at dksX4_needs_0 7 rfl rfl)
theorem dX4_needs_8 : decode cX4_needs 8 = .ok (.iconst 1, 1) := dk_4 (dk_at dksX4_needs_0 8 rfl rfl)
theorem dX4_needs_9 : decode cX4_needs 9 = .ok (.iload_n 2, 1) := dk_28 (dk_at dksX4_needs_0 9 rfl rfl)
theorem dX4_needs_10 : decode cX4_needs 10 = .ok (.invokespecial 54, 3) := dk_183 0 54 (dk_at dksX4_needs_0 10 rfl rfl)
theorem dX4_needs_13 : decode cX4_needs 13 = .ok (.athrow, 1) := dk_191 (dk_at dksX4_needs_0 13 rfl rfl)
theorem dX4_needs_14 : decode cX4_needs 14 = .ok (.return_, 1) := dk_177 (dk_at dksX4_needs_0 14 rfl rfl)
abbrev cX4_number : ByteArray := prog_6_method_7_code
def yX4_number : MethodName := ⟨RX4, "number", "(II)I"⟩
def dkwX4_number_5 : List UInt8 := [133, 184, 0, 75, 154, 0, 16, 187, 0, 52, 89, 5, 42, 180, 0, 65, 183, 0, 54, 191, 21, 4, 172]
abbrev dktX4_number_5 : List UInt8 := dkwX4_number_5 ++ []
def dkwX4_number_4 : List UInt8 := [184, 0, 69, 54, 4, 42, 89, 180, 0, 26, 4, 96, 181, 0, 26, 167, 255, 173, 21, 4, 133, 27, 133, 28]
abbrev dktX4_number_4 : List UInt8 := dkwX4_number_4 ++ dktX4_number_5
def dkwX4_number_3 : List UInt8 := [16, 10, 21, 4, 104, 42, 180, 0, 3, 180, 0, 29, 42, 180, 0, 26, 51, 96, 16, 48, 100, 18, 68]
abbrev dktX4_number_3 : List UInt8 := dkwX4_number_3 ++ dktX4_number_4
def dkwX4_number_2 : List UInt8 := [51, 16, 48, 161, 0, 61, 42, 180, 0, 3, 180, 0, 29, 42, 180, 0, 26, 51, 16, 57, 163, 0, 44]
abbrev dktX4_number_2 : List UInt8 := dkwX4_number_2 ++ dktX4_number_3
def dkwX4_number_1 : List UInt8 := [54, 4, 42, 180, 0, 26, 42, 180, 0, 22, 162, 0, 78, 42, 180, 0, 3, 180, 0, 29, 42, 180, 0, 26]
abbrev dktX4_number_1 : List UInt8 := dkwX4_number_1 ++ dktX4_number_2
def dkwX4_number_0 : List UInt8 := [42, 182, 0, 57, 62, 42, 29, 42, 180, 0, 26, 182, 0, 61, 42, 42, 180, 0, 26, 181, 0, 65, 3]
abbrev dktX4_number_0 : List UInt8 := dkwX4_number_0 ++ dktX4_number_1
theorem dksX4_number_0 : cX4_number.data.toList.drop 0 = dktX4_number_0 := by decide +kernel
theorem dksX4_number_1 : cX4_number.data.toList.drop 23 = dktX4_number_1 := dk_seg dksX4_number_0 23 rfl rfl
theorem dksX4_number_2 : cX4_number.data.toList.drop 47 = dktX4_number_2 := dk_seg dksX4_number_1 24 rfl rfl
theorem dksX4_number_3 : cX4_number.data.toList.drop 70 = dktX4_number_3 := dk_seg dksX4_number_2 23 rfl rfl
theorem dksX4_number_4 : cX4_number.data.toList.drop 93 = dktX4_number_4 := dk_seg dksX4_number_3 23 rfl rfl
theorem dksX4_number_5 : cX4_number.data.toList.drop 117 = dktX4_number_5 := dk_seg dksX4_number_4 24 rfl rfl
theorem dX4_number_0 : decode cX4_number 0 = .ok (.aload_n 0, 1) := dk_42 (dk_at dksX4_number_0 0 rfl rfl)
theorem dX4_number_1 : decode cX4_number 1 = .ok (.invokevirtual 57, 3) := dk_182 0 57 (dk_at dksX4_number_0 1 rfl rfl)
theorem dX4_number_4 : decode cX4_number 4 = .ok (.istore_n 3, 1) := dk_62 (dk_at dksX4_number_0 4 rfl rfl)
theorem dX4_number_5 : decode cX4_number 5 = .ok (.aload_n 0, 1) := dk_42 (dk_at dksX4_number_0 5 rfl rfl)
theorem dX4_number_6 : decode cX4_number 6 = .ok (.iload_n 3, 1) := dk_29 (dk_at dksX4_number_0 6 rfl rfl)
theorem dX4_number_7 : decode cX4_number 7 = .ok (.aload_n 0, 1) := dk_42 (dk_at dksX4_number_0 7 rfl rfl)
theorem dX4_number_8 : decode cX4_number 8 = .ok (.getfield 26, 3) := dk_180 0 26 (dk_at dksX4_number_0 8 rfl rfl)
theorem dX4_number_11 : decode cX4_number 11 = .ok (.invokevirtual 61, 3) := dk_182 0 61 (dk_at dksX4_number_0 11 rfl rfl)
theorem dX4_number_14 : decode cX4_number 14 = .ok (.aload_n 0, 1) := dk_42 (dk_at dksX4_number_0 14 rfl rfl)
theorem dX4_number_15 : decode cX4_number 15 = .ok (.aload_n 0, 1) := dk_42 (dk_at dksX4_number_0 15 rfl rfl)
theorem dX4_number_16 : decode cX4_number 16 = .ok (.getfield 26, 3) := dk_180 0 26 (dk_at dksX4_number_0 16 rfl rfl)
theorem dX4_number_19 : decode cX4_number 19 = .ok (.putfield 65, 3) := dk_181 0 65 (dk_at dksX4_number_0 19 rfl rfl)
theorem dX4_number_22 : decode cX4_number 22 = .ok (.iconst 0, 1) := dk_3 (dk_at dksX4_number_0 22 rfl rfl)
theorem dX4_number_23 : decode cX4_number 23 = .ok (.istore 4, 2) := dk_54 4 (dk_at dksX4_number_1 0 rfl rfl)
theorem dX4_number_25 : decode cX4_number 25 = .ok (.aload_n 0, 1) := dk_42 (dk_at dksX4_number_1 2 rfl rfl)
theorem dX4_number_26 : decode cX4_number 26 = .ok (.getfield 26, 3) := dk_180 0 26 (dk_at dksX4_number_1 3 rfl rfl)
theorem dX4_number_29 : decode cX4_number 29 = .ok (.aload_n 0, 1) := dk_42 (dk_at dksX4_number_1 6 rfl rfl)
theorem dX4_number_30 : decode cX4_number 30 = .ok (.getfield 22, 3) := dk_180 0 22 (dk_at dksX4_number_1 7 rfl rfl)
theorem dX4_number_33 : decode cX4_number 33 = .ok (.if_icmp .ge 78, 3) := dk_162 0 78 (dk_at dksX4_number_1 10 rfl rfl)
theorem dX4_number_36 : decode cX4_number 36 = .ok (.aload_n 0, 1) := dk_42 (dk_at dksX4_number_1 13 rfl rfl)
theorem dX4_number_37 : decode cX4_number 37 = .ok (.getfield 3, 3) := dk_180 0 3 (dk_at dksX4_number_1 14 rfl rfl)
theorem dX4_number_40 : decode cX4_number 40 = .ok (.getfield 29, 3) := dk_180 0 29 (dk_at dksX4_number_1 17 rfl rfl)
theorem dX4_number_43 : decode cX4_number 43 = .ok (.aload_n 0, 1) := dk_42 (dk_at dksX4_number_1 20 rfl rfl)
theorem dX4_number_44 : decode cX4_number 44 = .ok (.getfield 26, 3) := dk_180 0 26 (dk_at dksX4_number_1 21 rfl rfl)
theorem dX4_number_47 : decode cX4_number 47 = .ok (.baload, 1) := dk_51 (dk_at dksX4_number_2 0 rfl rfl)
theorem dX4_number_48 : decode cX4_number 48 = .ok (.bipush 48, 2) := dk_16 48 (dk_at dksX4_number_2 1 rfl rfl)
theorem dX4_number_50 : decode cX4_number 50 = .ok (.if_icmp .lt 61, 3) := dk_161 0 61 (dk_at dksX4_number_2 3 rfl rfl)
theorem dX4_number_53 : decode cX4_number 53 = .ok (.aload_n 0, 1) := dk_42 (dk_at dksX4_number_2 6 rfl rfl)
theorem dX4_number_54 : decode cX4_number 54 = .ok (.getfield 3, 3) := dk_180 0 3 (dk_at dksX4_number_2 7 rfl rfl)
theorem dX4_number_57 : decode cX4_number 57 = .ok (.getfield 29, 3) := dk_180 0 29 (dk_at dksX4_number_2 10 rfl rfl)
theorem dX4_number_60 : decode cX4_number 60 = .ok (.aload_n 0, 1) := dk_42 (dk_at dksX4_number_2 13 rfl rfl)
theorem dX4_number_61 : decode cX4_number 61 = .ok (.getfield 26, 3) := dk_180 0 26 (dk_at dksX4_number_2 14 rfl rfl)
theorem dX4_number_64 : decode cX4_number 64 = .ok (.baload, 1) := dk_51 (dk_at dksX4_number_2 17 rfl rfl)
theorem dX4_number_65 : decode cX4_number 65 = .ok (.bipush 57, 2) := dk_16 57 (dk_at dksX4_number_2 18 rfl rfl)
theorem dX4_number_67 : decode cX4_number 67 = .ok (.if_icmp .gt 44, 3) := dk_163 0 44 (dk_at dksX4_number_2 20 rfl rfl)
theorem dX4_number_70 : decode cX4_number 70 = .ok (.bipush 10, 2) := dk_16 10 (dk_at dksX4_number_3 0 rfl rfl)
theorem dX4_number_72 : decode cX4_number 72 = .ok (.iload 4, 2) := dk_21 4 (dk_at dksX4_number_3 2 rfl rfl)
theorem dX4_number_74 : decode cX4_number 74 = .ok (.imul, 1) := dk_104 (dk_at dksX4_number_3 4 rfl rfl)
theorem dX4_number_75 : decode cX4_number 75 = .ok (.aload_n 0, 1) := dk_42 (dk_at dksX4_number_3 5 rfl rfl)
theorem dX4_number_76 : decode cX4_number 76 = .ok (.getfield 3, 3) := dk_180 0 3 (dk_at dksX4_number_3 6 rfl rfl)
theorem dX4_number_79 : decode cX4_number 79 = .ok (.getfield 29, 3) := dk_180 0 29 (dk_at dksX4_number_3 9 rfl rfl)
theorem dX4_number_82 : decode cX4_number 82 = .ok (.aload_n 0, 1) := dk_42 (dk_at dksX4_number_3 12 rfl rfl)
theorem dX4_number_83 : decode cX4_number 83 = .ok (.getfield 26, 3) := dk_180 0 26 (dk_at dksX4_number_3 13 rfl rfl)
theorem dX4_number_86 : decode cX4_number 86 = .ok (.baload, 1) := dk_51 (dk_at dksX4_number_3 16 rfl rfl)
theorem dX4_number_87 : decode cX4_number 87 = .ok (.iadd, 1) := dk_96 (dk_at dksX4_number_3 17 rfl rfl)
theorem dX4_number_88 : decode cX4_number 88 = .ok (.bipush 48, 2) := dk_16 48 (dk_at dksX4_number_3 18 rfl rfl)
theorem dX4_number_90 : decode cX4_number 90 = .ok (.isub, 1) := dk_100 (dk_at dksX4_number_3 20 rfl rfl)
theorem dX4_number_91 : decode cX4_number 91 = .ok (.ldc 68, 2) := dk_18 68 (dk_at dksX4_number_3 21 rfl rfl)
theorem dX4_number_93 : decode cX4_number 93 = .ok (.invokestatic 69, 3) := dk_184 0 69 (dk_at dksX4_number_4 0 rfl rfl)
theorem dX4_number_96 : decode cX4_number 96 = .ok (.istore 4, 2) := dk_54 4 (dk_at dksX4_number_4 3 rfl rfl)
theorem dX4_number_98 : decode cX4_number 98 = .ok (.aload_n 0, 1) := dk_42 (dk_at dksX4_number_4 5 rfl rfl)
theorem dX4_number_99 : decode cX4_number 99 = .ok (.dup, 1) := dk_89 (dk_at dksX4_number_4 6 rfl rfl)
theorem dX4_number_100 : decode cX4_number 100 = .ok (.getfield 26, 3) := dk_180 0 26 (dk_at dksX4_number_4 7 rfl rfl)
theorem dX4_number_103 : decode cX4_number 103 = .ok (.iconst 1, 1) := dk_4 (dk_at dksX4_number_4 10 rfl rfl)
theorem dX4_number_104 : decode cX4_number 104 = .ok (.iadd, 1) := dk_96 (dk_at dksX4_number_4 11 rfl rfl)
theorem dX4_number_105 : decode cX4_number 105 = .ok (.putfield 26, 3) := dk_181 0 26 (dk_at dksX4_number_4 12 rfl rfl)
theorem dX4_number_108 : decode cX4_number 108 = .ok (.goto (-83), 3) := dk_167 255 173 (dk_at dksX4_number_4 15 rfl rfl)
theorem dX4_number_111 : decode cX4_number 111 = .ok (.iload 4, 2) := dk_21 4 (dk_at dksX4_number_4 18 rfl rfl)
theorem dX4_number_113 : decode cX4_number 113 = .ok (.i2l, 1) := dk_133 (dk_at dksX4_number_4 20 rfl rfl)
theorem dX4_number_114 : decode cX4_number 114 = .ok (.iload_n 1, 1) := dk_27 (dk_at dksX4_number_4 21 rfl rfl)
theorem dX4_number_115 : decode cX4_number 115 = .ok (.i2l, 1) := dk_133 (dk_at dksX4_number_4 22 rfl rfl)
theorem dX4_number_116 : decode cX4_number 116 = .ok (.iload_n 2, 1) := dk_28 (dk_at dksX4_number_4 23 rfl rfl)
theorem dX4_number_117 : decode cX4_number 117 = .ok (.i2l, 1) := dk_133 (dk_at dksX4_number_5 0 rfl rfl)
theorem dX4_number_118 : decode cX4_number 118 = .ok (.invokestatic 75, 3) := dk_184 0 75 (dk_at dksX4_number_5 1 rfl rfl)
theorem dX4_number_121 : decode cX4_number 121 = .ok (.ifCond .ne 16, 3) := dk_154 0 16 (dk_at dksX4_number_5 4 rfl rfl)
theorem dX4_number_124 : decode cX4_number 124 = .ok (.new 52, 3) := dk_187 0 52 (dk_at dksX4_number_5 7 rfl rfl)
theorem dX4_number_127 : decode cX4_number 127 = .ok (.dup, 1) := dk_89 (dk_at dksX4_number_5 10 rfl rfl)
theorem dX4_number_128 : decode cX4_number 128 = .ok (.iconst 2, 1) := dk_5 (dk_at dksX4_number_5 11 rfl rfl)
theorem dX4_number_129 : decode cX4_number 129 = .ok (.aload_n 0, 1) := dk_42 (dk_at dksX4_number_5 12 rfl rfl)
theorem dX4_number_130 : decode cX4_number 130 = .ok (.getfield 65, 3) := dk_180 0 65 (dk_at dksX4_number_5 13 rfl rfl)
theorem dX4_number_133 : decode cX4_number 133 = .ok (.invokespecial 54, 3) := dk_183 0 54 (dk_at dksX4_number_5 16 rfl rfl)
theorem dX4_number_136 : decode cX4_number 136 = .ok (.athrow, 1) := dk_191 (dk_at dksX4_number_5 19 rfl rfl)
theorem dX4_number_137 : decode cX4_number 137 = .ok (.iload 4, 2) := dk_21 4 (dk_at dksX4_number_5 20 rfl rfl)
theorem dX4_number_139 : decode cX4_number 139 = .ok (.ireturn, 1) := dk_172 (dk_at dksX4_number_5 22 rfl rfl)
abbrev cX4_isDigit : ByteArray := prog_6_method_4_code
def yX4_isDigit : MethodName := ⟨RX4, "isDigit", "()Z"⟩
def dkwX4_isDigit_1 : List UInt8 := [16, 57, 163, 0, 7, 4, 167, 0, 4, 3, 172]
abbrev dktX4_isDigit_1 : List UInt8 := dkwX4_isDigit_1 ++ []
def dkwX4_isDigit_0 : List UInt8 := [42, 182, 0, 33, 60, 42, 180, 0, 26, 42, 180, 0, 22, 162, 0, 19, 27, 16, 48, 161, 0, 13, 27]
abbrev dktX4_isDigit_0 : List UInt8 := dkwX4_isDigit_0 ++ dktX4_isDigit_1
theorem dksX4_isDigit_0 : cX4_isDigit.data.toList.drop 0 = dktX4_isDigit_0 := by decide +kernel
theorem dksX4_isDigit_1 : cX4_isDigit.data.toList.drop 23 = dktX4_isDigit_1 := dk_seg dksX4_isDigit_0 23 rfl rfl
theorem dX4_isDigit_0 : decode cX4_isDigit 0 = .ok (.aload_n 0, 1) := dk_42 (dk_at dksX4_isDigit_0 0 rfl rfl)
theorem dX4_isDigit_1 : decode cX4_isDigit 1 = .ok (.invokevirtual 33, 3) := dk_182 0 33 (dk_at dksX4_isDigit_0 1 rfl rfl)
theorem dX4_isDigit_4 : decode cX4_isDigit 4 = .ok (.istore_n 1, 1) := dk_60 (dk_at dksX4_isDigit_0 4 rfl rfl)
theorem dX4_isDigit_5 : decode cX4_isDigit 5 = .ok (.aload_n 0, 1) := dk_42 (dk_at dksX4_isDigit_0 5 rfl rfl)
theorem dX4_isDigit_6 : decode cX4_isDigit 6 = .ok (.getfield 26, 3) := dk_180 0 26 (dk_at dksX4_isDigit_0 6 rfl rfl)
theorem dX4_isDigit_9 : decode cX4_isDigit 9 = .ok (.aload_n 0, 1) := dk_42 (dk_at dksX4_isDigit_0 9 rfl rfl)
theorem dX4_isDigit_10 : decode cX4_isDigit 10 = .ok (.getfield 22, 3) := dk_180 0 22 (dk_at dksX4_isDigit_0 10 rfl rfl)
theorem dX4_isDigit_13 : decode cX4_isDigit 13 = .ok (.if_icmp .ge 19, 3) := dk_162 0 19 (dk_at dksX4_isDigit_0 13 rfl rfl)
theorem dX4_isDigit_16 : decode cX4_isDigit 16 = .ok (.iload_n 1, 1) := dk_27 (dk_at dksX4_isDigit_0 16 rfl rfl)
theorem dX4_isDigit_17 : decode cX4_isDigit 17 = .ok (.bipush 48, 2) := dk_16 48 (dk_at dksX4_isDigit_0 17 rfl rfl)
theorem dX4_isDigit_19 : decode cX4_isDigit 19 = .ok (.if_icmp .lt 13, 3) := dk_161 0 13 (dk_at dksX4_isDigit_0 19 rfl rfl)
theorem dX4_isDigit_22 : decode cX4_isDigit 22 = .ok (.iload_n 1, 1) := dk_27 (dk_at dksX4_isDigit_0 22 rfl rfl)
theorem dX4_isDigit_23 : decode cX4_isDigit 23 = .ok (.bipush 57, 2) := dk_16 57 (dk_at dksX4_isDigit_1 0 rfl rfl)
theorem dX4_isDigit_25 : decode cX4_isDigit 25 = .ok (.if_icmp .gt 7, 3) := dk_163 0 7 (dk_at dksX4_isDigit_1 2 rfl rfl)
theorem dX4_isDigit_28 : decode cX4_isDigit 28 = .ok (.iconst 1, 1) := dk_4 (dk_at dksX4_isDigit_1 5 rfl rfl)
theorem dX4_isDigit_29 : decode cX4_isDigit 29 = .ok (.goto 4, 3) := dk_167 0 4 (dk_at dksX4_isDigit_1 6 rfl rfl)
theorem dX4_isDigit_32 : decode cX4_isDigit 32 = .ok (.iconst 0, 1) := dk_3 (dk_at dksX4_isDigit_1 9 rfl rfl)
theorem dX4_isDigit_33 : decode cX4_isDigit 33 = .ok (.ireturn, 1) := dk_172 (dk_at dksX4_isDigit_1 10 rfl rfl)
abbrev cX4_ends : ByteArray := prog_6_method_9_code
def yX4_ends : MethodName := ⟨RX4, "ends", "()V"⟩
def dkwX4_ends_1 : List UInt8 := [167, 0, 4, 3, 42, 180, 0, 26, 182, 0, 61, 42, 89, 180, 0, 26, 4, 96, 181, 0, 26, 177]
abbrev dktX4_ends_1 : List UInt8 := dkwX4_ends_1 ++ []
def dkwX4_ends_0 : List UInt8 := [42, 42, 182, 0, 33, 16, 59, 160, 0, 18, 42, 180, 0, 26, 42, 180, 0, 22, 162, 0, 7, 4]
abbrev dktX4_ends_0 : List UInt8 := dkwX4_ends_0 ++ dktX4_ends_1
theorem dksX4_ends_0 : cX4_ends.data.toList.drop 0 = dktX4_ends_0 := by decide +kernel
theorem dksX4_ends_1 : cX4_ends.data.toList.drop 22 = dktX4_ends_1 := dk_seg dksX4_ends_0 22 rfl rfl
theorem dX4_ends_0 : decode cX4_ends 0 = .ok (.aload_n 0, 1) := dk_42 (dk_at dksX4_ends_0 0 rfl rfl)
theorem dX4_ends_1 : decode cX4_ends 1 = .ok (.aload_n 0, 1) := dk_42 (dk_at dksX4_ends_0 1 rfl rfl)
theorem dX4_ends_2 : decode cX4_ends 2 = .ok (.invokevirtual 33, 3) := dk_182 0 33 (dk_at dksX4_ends_0 2 rfl rfl)
theorem dX4_ends_5 : decode cX4_ends 5 = .ok (.bipush 59, 2) := dk_16 59 (dk_at dksX4_ends_0 5 rfl rfl)
theorem dX4_ends_7 : decode cX4_ends 7 = .ok (.if_icmp .ne 18, 3) := dk_160 0 18 (dk_at dksX4_ends_0 7 rfl rfl)
theorem dX4_ends_10 : decode cX4_ends 10 = .ok (.aload_n 0, 1) := dk_42 (dk_at dksX4_ends_0 10 rfl rfl)
theorem dX4_ends_11 : decode cX4_ends 11 = .ok (.getfield 26, 3) := dk_180 0 26 (dk_at dksX4_ends_0 11 rfl rfl)
theorem dX4_ends_14 : decode cX4_ends 14 = .ok (.aload_n 0, 1) := dk_42 (dk_at dksX4_ends_0 14 rfl rfl)
theorem dX4_ends_15 : decode cX4_ends 15 = .ok (.getfield 22, 3) := dk_180 0 22 (dk_at dksX4_ends_0 15 rfl rfl)
theorem dX4_ends_18 : decode cX4_ends 18 = .ok (.if_icmp .ge 7, 3) := dk_162 0 7 (dk_at dksX4_ends_0 18 rfl rfl)
theorem dX4_ends_21 : decode cX4_ends 21 = .ok (.iconst 1, 1) := dk_4 (dk_at dksX4_ends_0 21 rfl rfl)
theorem dX4_ends_22 : decode cX4_ends 22 = .ok (.goto 4, 3) := dk_167 0 4 (dk_at dksX4_ends_1 0 rfl rfl)
theorem dX4_ends_25 : decode cX4_ends 25 = .ok (.iconst 0, 1) := dk_3 (dk_at dksX4_ends_1 3 rfl rfl)
theorem dX4_ends_26 : decode cX4_ends 26 = .ok (.aload_n 0, 1) := dk_42 (dk_at dksX4_ends_1 4 rfl rfl)
theorem dX4_ends_27 : decode cX4_ends 27 = .ok (.getfield 26, 3) := dk_180 0 26 (dk_at dksX4_ends_1 5 rfl rfl)
theorem dX4_ends_30 : decode cX4_ends 30 = .ok (.invokevirtual 61, 3) := dk_182 0 61 (dk_at dksX4_ends_1 8 rfl rfl)
theorem dX4_ends_33 : decode cX4_ends 33 = .ok (.aload_n 0, 1) := dk_42 (dk_at dksX4_ends_1 11 rfl rfl)
theorem dX4_ends_34 : decode cX4_ends 34 = .ok (.dup, 1) := dk_89 (dk_at dksX4_ends_1 12 rfl rfl)
theorem dX4_ends_35 : decode cX4_ends 35 = .ok (.getfield 26, 3) := dk_180 0 26 (dk_at dksX4_ends_1 13 rfl rfl)
theorem dX4_ends_38 : decode cX4_ends 38 = .ok (.iconst 1, 1) := dk_4 (dk_at dksX4_ends_1 16 rfl rfl)
theorem dX4_ends_39 : decode cX4_ends 39 = .ok (.iadd, 1) := dk_96 (dk_at dksX4_ends_1 17 rfl rfl)
theorem dX4_ends_40 : decode cX4_ends 40 = .ok (.putfield 26, 3) := dk_181 0 26 (dk_at dksX4_ends_1 18 rfl rfl)
theorem dX4_ends_43 : decode cX4_ends 43 = .ok (.return_, 1) := dk_177 (dk_at dksX4_ends_1 21 rfl rfl)
abbrev cX4_line : ByteArray := prog_6_method_11_code
def yX4_line : MethodName := ⟨RX4, "line", "()V"⟩
def dkwX4_line_14 : List UInt8 := [183, 0, 54, 191, 42, 182, 0, 136, 177]
abbrev dktX4_line_14 : List UInt8 := dkwX4_line_14 ++ []
def dkwX4_line_13 : List UInt8 := [42, 4, 21, 5, 120, 182, 0, 95, 79, 185, 0, 131, 2, 0, 87, 167, 0, 13, 187, 0, 52, 89, 4, 28]
abbrev dktX4_line_13 : List UInt8 := dkwX4_line_13 ++ dktX4_line_14
def dkwX4_line_12 : List UInt8 := [167, 0, 52, 42, 3, 182, 0, 95, 54, 5, 42, 180, 0, 18, 5, 188, 10, 89, 3, 21, 5, 79, 89, 4]
abbrev dktX4_line_12 : List UInt8 := dkwX4_line_12 ++ dktX4_line_13
def dkwX4_line_11 : List UInt8 := [180, 0, 79, 21, 5, 21, 6, 182, 0, 99, 132, 6, 1, 167, 255, 230, 132, 5, 1, 167, 255, 206]
abbrev dktX4_line_11 : List UInt8 := dkwX4_line_11 ++ dktX4_line_12
def dkwX4_line_10 : List UInt8 := [162, 0, 44, 21, 5, 4, 96, 54, 6, 21, 6, 42, 180, 0, 79, 180, 0, 83, 162, 0, 20, 42]
abbrev dktX4_line_10 : List UInt8 := dkwX4_line_10 ++ dktX4_line_11
def dkwX4_line_9 : List UInt8 := [167, 0, 118, 42, 182, 0, 129, 167, 0, 111, 3, 54, 5, 21, 5, 42, 180, 0, 79, 180, 0, 83]
abbrev dktX4_line_9 : List UInt8 := dkwX4_line_9 ++ dktX4_line_10
def dkwX4_line_8 : List UInt8 := [21, 6, 42, 182, 0, 57, 153, 0, 14, 42, 3, 17, 3, 231, 182, 0, 88, 167, 0, 4, 4, 182, 0, 125]
abbrev dktX4_line_8 : List UInt8 := dkwX4_line_8 ++ dktX4_line_9
def dkwX4_line_7 : List UInt8 := [42, 3, 182, 0, 95, 54, 5, 42, 4, 21, 5, 120, 182, 0, 95, 54, 6, 42, 180, 0, 79, 21, 5]
abbrev dktX4_line_7 : List UInt8 := dkwX4_line_7 ++ dktX4_line_8
def dkwX4_line_6 : List UInt8 := [170, 0, 0, 0, 184, 0, 0, 0, 0, 0, 0, 0, 3, 0, 0, 0, 29, 0, 0, 0, 79, 0, 0, 0, 86, 0, 0, 0, 145]
abbrev dktX4_line_6 : List UInt8 := dkwX4_line_6 ++ dktX4_line_7
def dkwX4_line_5 : List UInt8 := [182, 0, 115, 153, 0, 6, 6, 54, 4, 21, 4]
abbrev dktX4_line_5 : List UInt8 := dkwX4_line_5 ++ dktX4_line_6
def dkwX4_line_4 : List UInt8 := [4, 54, 4, 167, 0, 30, 45, 18, 121, 182, 0, 115, 153, 0, 21, 5, 54, 4, 167, 0, 15, 45, 18, 123]
abbrev dktX4_line_4 : List UInt8 := dkwX4_line_4 ++ dktX4_line_5
def dkwX4_line_3 : List UInt8 := [45, 18, 113, 182, 0, 115, 153, 0, 51, 3, 54, 4, 167, 0, 45, 45, 18, 119, 182, 0, 115, 153, 0, 36]
abbrev dktX4_line_3 : List UInt8 := dkwX4_line_3 ++ dktX4_line_4
def dkwX4_line_2 : List UInt8 := [171, 0, 0, 0, 0, 0, 0, 101, 0, 0, 0, 4, 0, 1, 121, 161, 0, 0, 0, 74, 0, 50, 175, 244, 0, 0, 0, 44, 0, 52, 98, 218, 0, 0, 0, 89, 0, 53, 106, 48, 0, 0, 0, 59]
abbrev dktX4_line_2 : List UInt8 := dkwX4_line_2 ++ dktX4_line_3
def dkwX4_line_1 : List UInt8 := [78, 2, 54, 4, 45, 182, 0, 110]
abbrev dktX4_line_1 : List UInt8 := dkwX4_line_1 ++ dktX4_line_2
def dkwX4_line_0 : List UInt8 := [42, 182, 0, 102, 76, 42, 180, 0, 26, 61, 42, 89, 180, 0, 26, 43, 182, 0, 105, 96, 181, 0, 26, 43]
abbrev dktX4_line_0 : List UInt8 := dkwX4_line_0 ++ dktX4_line_1
theorem dksX4_line_0 : cX4_line.data.toList.drop 0 = dktX4_line_0 := by decide +kernel
theorem dksX4_line_1 : cX4_line.data.toList.drop 24 = dktX4_line_1 := dk_seg dksX4_line_0 24 rfl rfl
theorem dksX4_line_2 : cX4_line.data.toList.drop 32 = dktX4_line_2 := dk_seg dksX4_line_1 8 rfl rfl
theorem dksX4_line_3 : cX4_line.data.toList.drop 76 = dktX4_line_3 := dk_seg dksX4_line_2 44 rfl rfl
theorem dksX4_line_4 : cX4_line.data.toList.drop 100 = dktX4_line_4 := dk_seg dksX4_line_3 24 rfl rfl
theorem dksX4_line_5 : cX4_line.data.toList.drop 124 = dktX4_line_5 := dk_seg dksX4_line_4 24 rfl rfl
theorem dksX4_line_6 : cX4_line.data.toList.drop 135 = dktX4_line_6 := dk_seg dksX4_line_5 11 rfl rfl
theorem dksX4_line_7 : cX4_line.data.toList.drop 164 = dktX4_line_7 := dk_seg dksX4_line_6 29 rfl rfl
theorem dksX4_line_8 : cX4_line.data.toList.drop 187 = dktX4_line_8 := dk_seg dksX4_line_7 23 rfl rfl
theorem dksX4_line_9 : cX4_line.data.toList.drop 211 = dktX4_line_9 := dk_seg dksX4_line_8 24 rfl rfl
theorem dksX4_line_10 : cX4_line.data.toList.drop 233 = dktX4_line_10 := dk_seg dksX4_line_9 22 rfl rfl
theorem dksX4_line_11 : cX4_line.data.toList.drop 255 = dktX4_line_11 := dk_seg dksX4_line_10 22 rfl rfl
theorem dksX4_line_12 : cX4_line.data.toList.drop 277 = dktX4_line_12 := dk_seg dksX4_line_11 22 rfl rfl
theorem dksX4_line_13 : cX4_line.data.toList.drop 301 = dktX4_line_13 := dk_seg dksX4_line_12 24 rfl rfl
theorem dksX4_line_14 : cX4_line.data.toList.drop 325 = dktX4_line_14 := dk_seg dksX4_line_13 24 rfl rfl
theorem dX4_line_0 : decode cX4_line 0 = .ok (.aload_n 0, 1) := dk_42 (dk_at dksX4_line_0 0 rfl rfl)
theorem dX4_line_1 : decode cX4_line 1 = .ok (.invokevirtual 102, 3) := dk_182 0 102 (dk_at dksX4_line_0 1 rfl rfl)
theorem dX4_line_4 : decode cX4_line 4 = .ok (.astore_n 1, 1) := dk_76 (dk_at dksX4_line_0 4 rfl rfl)
theorem dX4_line_5 : decode cX4_line 5 = .ok (.aload_n 0, 1) := dk_42 (dk_at dksX4_line_0 5 rfl rfl)
theorem dX4_line_6 : decode cX4_line 6 = .ok (.getfield 26, 3) := dk_180 0 26 (dk_at dksX4_line_0 6 rfl rfl)
theorem dX4_line_9 : decode cX4_line 9 = .ok (.istore_n 2, 1) := dk_61 (dk_at dksX4_line_0 9 rfl rfl)
theorem dX4_line_10 : decode cX4_line 10 = .ok (.aload_n 0, 1) := dk_42 (dk_at dksX4_line_0 10 rfl rfl)
theorem dX4_line_11 : decode cX4_line 11 = .ok (.dup, 1) := dk_89 (dk_at dksX4_line_0 11 rfl rfl)
theorem dX4_line_12 : decode cX4_line 12 = .ok (.getfield 26, 3) := dk_180 0 26 (dk_at dksX4_line_0 12 rfl rfl)
theorem dX4_line_15 : decode cX4_line 15 = .ok (.aload_n 1, 1) := dk_43 (dk_at dksX4_line_0 15 rfl rfl)
theorem dX4_line_16 : decode cX4_line 16 = .ok (.invokevirtual 105, 3) := dk_182 0 105 (dk_at dksX4_line_0 16 rfl rfl)
theorem dX4_line_19 : decode cX4_line 19 = .ok (.iadd, 1) := dk_96 (dk_at dksX4_line_0 19 rfl rfl)
theorem dX4_line_20 : decode cX4_line 20 = .ok (.putfield 26, 3) := dk_181 0 26 (dk_at dksX4_line_0 20 rfl rfl)
theorem dX4_line_23 : decode cX4_line 23 = .ok (.aload_n 1, 1) := dk_43 (dk_at dksX4_line_0 23 rfl rfl)
theorem dX4_line_24 : decode cX4_line 24 = .ok (.astore_n 3, 1) := dk_78 (dk_at dksX4_line_1 0 rfl rfl)
theorem dX4_line_25 : decode cX4_line 25 = .ok (.iconst (-1), 1) := dk_2 (dk_at dksX4_line_1 1 rfl rfl)
theorem dX4_line_26 : decode cX4_line 26 = .ok (.istore 4, 2) := dk_54 4 (dk_at dksX4_line_1 2 rfl rfl)
theorem dX4_line_28 : decode cX4_line 28 = .ok (.aload_n 3, 1) := dk_45 (dk_at dksX4_line_1 4 rfl rfl)
theorem dX4_line_29 : decode cX4_line 29 = .ok (.invokevirtual 110, 3) := dk_182 0 110 (dk_at dksX4_line_1 5 rfl rfl)
theorem dX4_line_32 : decode cX4_line 32 = .ok (.lookupswitch 101 #[(96673, 74), (3321844, 44), (3433178, 89), (3500592, 59)], 44) := by decide +kernel
theorem dX4_line_76 : decode cX4_line 76 = .ok (.aload_n 3, 1) := dk_45 (dk_at dksX4_line_3 0 rfl rfl)
theorem dX4_line_77 : decode cX4_line 77 = .ok (.ldc 113, 2) := dk_18 113 (dk_at dksX4_line_3 1 rfl rfl)
theorem dX4_line_79 : decode cX4_line 79 = .ok (.invokevirtual 115, 3) := dk_182 0 115 (dk_at dksX4_line_3 3 rfl rfl)
theorem dX4_line_82 : decode cX4_line 82 = .ok (.ifCond .eq 51, 3) := dk_153 0 51 (dk_at dksX4_line_3 6 rfl rfl)
theorem dX4_line_85 : decode cX4_line 85 = .ok (.iconst 0, 1) := dk_3 (dk_at dksX4_line_3 9 rfl rfl)
theorem dX4_line_86 : decode cX4_line 86 = .ok (.istore 4, 2) := dk_54 4 (dk_at dksX4_line_3 10 rfl rfl)
theorem dX4_line_88 : decode cX4_line 88 = .ok (.goto 45, 3) := dk_167 0 45 (dk_at dksX4_line_3 12 rfl rfl)
theorem dX4_line_91 : decode cX4_line 91 = .ok (.aload_n 3, 1) := dk_45 (dk_at dksX4_line_3 15 rfl rfl)
theorem dX4_line_92 : decode cX4_line 92 = .ok (.ldc 119, 2) := dk_18 119 (dk_at dksX4_line_3 16 rfl rfl)
theorem dX4_line_94 : decode cX4_line 94 = .ok (.invokevirtual 115, 3) := dk_182 0 115 (dk_at dksX4_line_3 18 rfl rfl)
theorem dX4_line_97 : decode cX4_line 97 = .ok (.ifCond .eq 36, 3) := dk_153 0 36 (dk_at dksX4_line_3 21 rfl rfl)
theorem dX4_line_100 : decode cX4_line 100 = .ok (.iconst 1, 1) := dk_4 (dk_at dksX4_line_4 0 rfl rfl)
theorem dX4_line_101 : decode cX4_line 101 = .ok (.istore 4, 2) := dk_54 4 (dk_at dksX4_line_4 1 rfl rfl)
theorem dX4_line_103 : decode cX4_line 103 = .ok (.goto 30, 3) := dk_167 0 30 (dk_at dksX4_line_4 3 rfl rfl)
theorem dX4_line_106 : decode cX4_line 106 = .ok (.aload_n 3, 1) := dk_45 (dk_at dksX4_line_4 6 rfl rfl)
theorem dX4_line_107 : decode cX4_line 107 = .ok (.ldc 121, 2) := dk_18 121 (dk_at dksX4_line_4 7 rfl rfl)
theorem dX4_line_109 : decode cX4_line 109 = .ok (.invokevirtual 115, 3) := dk_182 0 115 (dk_at dksX4_line_4 9 rfl rfl)
theorem dX4_line_112 : decode cX4_line 112 = .ok (.ifCond .eq 21, 3) := dk_153 0 21 (dk_at dksX4_line_4 12 rfl rfl)
theorem dX4_line_115 : decode cX4_line 115 = .ok (.iconst 2, 1) := dk_5 (dk_at dksX4_line_4 15 rfl rfl)
theorem dX4_line_116 : decode cX4_line 116 = .ok (.istore 4, 2) := dk_54 4 (dk_at dksX4_line_4 16 rfl rfl)
theorem dX4_line_118 : decode cX4_line 118 = .ok (.goto 15, 3) := dk_167 0 15 (dk_at dksX4_line_4 18 rfl rfl)
theorem dX4_line_121 : decode cX4_line 121 = .ok (.aload_n 3, 1) := dk_45 (dk_at dksX4_line_4 21 rfl rfl)
theorem dX4_line_122 : decode cX4_line 122 = .ok (.ldc 123, 2) := dk_18 123 (dk_at dksX4_line_4 22 rfl rfl)
theorem dX4_line_124 : decode cX4_line 124 = .ok (.invokevirtual 115, 3) := dk_182 0 115 (dk_at dksX4_line_5 0 rfl rfl)
theorem dX4_line_127 : decode cX4_line 127 = .ok (.ifCond .eq 6, 3) := dk_153 0 6 (dk_at dksX4_line_5 3 rfl rfl)
theorem dX4_line_130 : decode cX4_line 130 = .ok (.iconst 3, 1) := dk_6 (dk_at dksX4_line_5 6 rfl rfl)
theorem dX4_line_131 : decode cX4_line 131 = .ok (.istore 4, 2) := dk_54 4 (dk_at dksX4_line_5 7 rfl rfl)
theorem dX4_line_133 : decode cX4_line 133 = .ok (.iload 4, 2) := dk_21 4 (dk_at dksX4_line_5 9 rfl rfl)
theorem dX4_line_135 : decode cX4_line 135 = .ok (.tableswitch 184 0 3 #[29, 79, 86, 145], 29) := by decide +kernel
theorem dX4_line_164 : decode cX4_line 164 = .ok (.aload_n 0, 1) := dk_42 (dk_at dksX4_line_7 0 rfl rfl)
theorem dX4_line_165 : decode cX4_line 165 = .ok (.iconst 0, 1) := dk_3 (dk_at dksX4_line_7 1 rfl rfl)
theorem dX4_line_166 : decode cX4_line 166 = .ok (.invokevirtual 95, 3) := dk_182 0 95 (dk_at dksX4_line_7 2 rfl rfl)
theorem dX4_line_169 : decode cX4_line 169 = .ok (.istore 5, 2) := dk_54 5 (dk_at dksX4_line_7 5 rfl rfl)
theorem dX4_line_171 : decode cX4_line 171 = .ok (.aload_n 0, 1) := dk_42 (dk_at dksX4_line_7 7 rfl rfl)
theorem dX4_line_172 : decode cX4_line 172 = .ok (.iconst 1, 1) := dk_4 (dk_at dksX4_line_7 8 rfl rfl)
theorem dX4_line_173 : decode cX4_line 173 = .ok (.iload 5, 2) := dk_21 5 (dk_at dksX4_line_7 9 rfl rfl)
theorem dX4_line_175 : decode cX4_line 175 = .ok (.ishl, 1) := dk_120 (dk_at dksX4_line_7 11 rfl rfl)
theorem dX4_line_176 : decode cX4_line 176 = .ok (.invokevirtual 95, 3) := dk_182 0 95 (dk_at dksX4_line_7 12 rfl rfl)
theorem dX4_line_179 : decode cX4_line 179 = .ok (.istore 6, 2) := dk_54 6 (dk_at dksX4_line_7 15 rfl rfl)
theorem dX4_line_181 : decode cX4_line 181 = .ok (.aload_n 0, 1) := dk_42 (dk_at dksX4_line_7 17 rfl rfl)
theorem dX4_line_182 : decode cX4_line 182 = .ok (.getfield 79, 3) := dk_180 0 79 (dk_at dksX4_line_7 18 rfl rfl)
theorem dX4_line_185 : decode cX4_line 185 = .ok (.iload 5, 2) := dk_21 5 (dk_at dksX4_line_7 21 rfl rfl)
theorem dX4_line_187 : decode cX4_line 187 = .ok (.iload 6, 2) := dk_21 6 (dk_at dksX4_line_8 0 rfl rfl)
theorem dX4_line_189 : decode cX4_line 189 = .ok (.aload_n 0, 1) := dk_42 (dk_at dksX4_line_8 2 rfl rfl)
theorem dX4_line_190 : decode cX4_line 190 = .ok (.invokevirtual 57, 3) := dk_182 0 57 (dk_at dksX4_line_8 3 rfl rfl)
theorem dX4_line_193 : decode cX4_line 193 = .ok (.ifCond .eq 14, 3) := dk_153 0 14 (dk_at dksX4_line_8 6 rfl rfl)
theorem dX4_line_196 : decode cX4_line 196 = .ok (.aload_n 0, 1) := dk_42 (dk_at dksX4_line_8 9 rfl rfl)
theorem dX4_line_197 : decode cX4_line 197 = .ok (.iconst 0, 1) := dk_3 (dk_at dksX4_line_8 10 rfl rfl)
theorem dX4_line_198 : decode cX4_line 198 = .ok (.sipush 999, 3) := dk_17 3 231 (dk_at dksX4_line_8 11 rfl rfl)
theorem dX4_line_201 : decode cX4_line 201 = .ok (.invokevirtual 88, 3) := dk_182 0 88 (dk_at dksX4_line_8 14 rfl rfl)
theorem dX4_line_204 : decode cX4_line 204 = .ok (.goto 4, 3) := dk_167 0 4 (dk_at dksX4_line_8 17 rfl rfl)
theorem dX4_line_207 : decode cX4_line 207 = .ok (.iconst 1, 1) := dk_4 (dk_at dksX4_line_8 20 rfl rfl)
theorem dX4_line_208 : decode cX4_line 208 = .ok (.invokevirtual 125, 3) := dk_182 0 125 (dk_at dksX4_line_8 21 rfl rfl)
theorem dX4_line_211 : decode cX4_line 211 = .ok (.goto 118, 3) := dk_167 0 118 (dk_at dksX4_line_9 0 rfl rfl)
theorem dX4_line_214 : decode cX4_line 214 = .ok (.aload_n 0, 1) := dk_42 (dk_at dksX4_line_9 3 rfl rfl)
theorem dX4_line_215 : decode cX4_line 215 = .ok (.invokevirtual 129, 3) := dk_182 0 129 (dk_at dksX4_line_9 4 rfl rfl)
theorem dX4_line_218 : decode cX4_line 218 = .ok (.goto 111, 3) := dk_167 0 111 (dk_at dksX4_line_9 7 rfl rfl)
theorem dX4_line_221 : decode cX4_line 221 = .ok (.iconst 0, 1) := dk_3 (dk_at dksX4_line_9 10 rfl rfl)
theorem dX4_line_222 : decode cX4_line 222 = .ok (.istore 5, 2) := dk_54 5 (dk_at dksX4_line_9 11 rfl rfl)
theorem dX4_line_224 : decode cX4_line 224 = .ok (.iload 5, 2) := dk_21 5 (dk_at dksX4_line_9 13 rfl rfl)
theorem dX4_line_226 : decode cX4_line 226 = .ok (.aload_n 0, 1) := dk_42 (dk_at dksX4_line_9 15 rfl rfl)
theorem dX4_line_227 : decode cX4_line 227 = .ok (.getfield 79, 3) := dk_180 0 79 (dk_at dksX4_line_9 16 rfl rfl)
theorem dX4_line_230 : decode cX4_line 230 = .ok (.getfield 83, 3) := dk_180 0 83 (dk_at dksX4_line_9 19 rfl rfl)
theorem dX4_line_233 : decode cX4_line 233 = .ok (.if_icmp .ge 44, 3) := dk_162 0 44 (dk_at dksX4_line_10 0 rfl rfl)
theorem dX4_line_236 : decode cX4_line 236 = .ok (.iload 5, 2) := dk_21 5 (dk_at dksX4_line_10 3 rfl rfl)
theorem dX4_line_238 : decode cX4_line 238 = .ok (.iconst 1, 1) := dk_4 (dk_at dksX4_line_10 5 rfl rfl)
theorem dX4_line_239 : decode cX4_line 239 = .ok (.iadd, 1) := dk_96 (dk_at dksX4_line_10 6 rfl rfl)
theorem dX4_line_240 : decode cX4_line 240 = .ok (.istore 6, 2) := dk_54 6 (dk_at dksX4_line_10 7 rfl rfl)
theorem dX4_line_242 : decode cX4_line 242 = .ok (.iload 6, 2) := dk_21 6 (dk_at dksX4_line_10 9 rfl rfl)
theorem dX4_line_244 : decode cX4_line 244 = .ok (.aload_n 0, 1) := dk_42 (dk_at dksX4_line_10 11 rfl rfl)
theorem dX4_line_245 : decode cX4_line 245 = .ok (.getfield 79, 3) := dk_180 0 79 (dk_at dksX4_line_10 12 rfl rfl)
theorem dX4_line_248 : decode cX4_line 248 = .ok (.getfield 83, 3) := dk_180 0 83 (dk_at dksX4_line_10 15 rfl rfl)
theorem dX4_line_251 : decode cX4_line 251 = .ok (.if_icmp .ge 20, 3) := dk_162 0 20 (dk_at dksX4_line_10 18 rfl rfl)
theorem dX4_line_254 : decode cX4_line 254 = .ok (.aload_n 0, 1) := dk_42 (dk_at dksX4_line_10 21 rfl rfl)
theorem dX4_line_255 : decode cX4_line 255 = .ok (.getfield 79, 3) := dk_180 0 79 (dk_at dksX4_line_11 0 rfl rfl)
theorem dX4_line_258 : decode cX4_line 258 = .ok (.iload 5, 2) := dk_21 5 (dk_at dksX4_line_11 3 rfl rfl)
theorem dX4_line_260 : decode cX4_line 260 = .ok (.iload 6, 2) := dk_21 6 (dk_at dksX4_line_11 5 rfl rfl)
theorem dX4_line_262 : decode cX4_line 262 = .ok (.invokevirtual 99, 3) := dk_182 0 99 (dk_at dksX4_line_11 7 rfl rfl)
theorem dX4_line_265 : decode cX4_line 265 = .ok (.iinc 6 1, 3) := dk_132 6 1 (dk_at dksX4_line_11 10 rfl rfl)
theorem dX4_line_268 : decode cX4_line 268 = .ok (.goto (-26), 3) := dk_167 255 230 (dk_at dksX4_line_11 13 rfl rfl)
theorem dX4_line_271 : decode cX4_line 271 = .ok (.iinc 5 1, 3) := dk_132 5 1 (dk_at dksX4_line_11 16 rfl rfl)
theorem dX4_line_274 : decode cX4_line 274 = .ok (.goto (-50), 3) := dk_167 255 206 (dk_at dksX4_line_11 19 rfl rfl)
theorem dX4_line_277 : decode cX4_line 277 = .ok (.goto 52, 3) := dk_167 0 52 (dk_at dksX4_line_12 0 rfl rfl)
theorem dX4_line_280 : decode cX4_line 280 = .ok (.aload_n 0, 1) := dk_42 (dk_at dksX4_line_12 3 rfl rfl)
theorem dX4_line_281 : decode cX4_line 281 = .ok (.iconst 0, 1) := dk_3 (dk_at dksX4_line_12 4 rfl rfl)
theorem dX4_line_282 : decode cX4_line 282 = .ok (.invokevirtual 95, 3) := dk_182 0 95 (dk_at dksX4_line_12 5 rfl rfl)
theorem dX4_line_285 : decode cX4_line 285 = .ok (.istore 5, 2) := dk_54 5 (dk_at dksX4_line_12 8 rfl rfl)
theorem dX4_line_287 : decode cX4_line 287 = .ok (.aload_n 0, 1) := dk_42 (dk_at dksX4_line_12 10 rfl rfl)
theorem dX4_line_288 : decode cX4_line 288 = .ok (.getfield 18, 3) := dk_180 0 18 (dk_at dksX4_line_12 11 rfl rfl)
theorem dX4_line_291 : decode cX4_line 291 = .ok (.iconst 2, 1) := dk_5 (dk_at dksX4_line_12 14 rfl rfl)
theorem dX4_line_292 : decode cX4_line 292 = .ok (.newarray .int, 2) := dk_188_10 (dk_at dksX4_line_12 15 rfl rfl)
theorem dX4_line_294 : decode cX4_line 294 = .ok (.dup, 1) := dk_89 (dk_at dksX4_line_12 17 rfl rfl)
theorem dX4_line_295 : decode cX4_line 295 = .ok (.iconst 0, 1) := dk_3 (dk_at dksX4_line_12 18 rfl rfl)
theorem dX4_line_296 : decode cX4_line 296 = .ok (.iload 5, 2) := dk_21 5 (dk_at dksX4_line_12 19 rfl rfl)
theorem dX4_line_298 : decode cX4_line 298 = .ok (.iastore, 1) := dk_79 (dk_at dksX4_line_12 21 rfl rfl)
theorem dX4_line_299 : decode cX4_line 299 = .ok (.dup, 1) := dk_89 (dk_at dksX4_line_12 22 rfl rfl)
theorem dX4_line_300 : decode cX4_line 300 = .ok (.iconst 1, 1) := dk_4 (dk_at dksX4_line_12 23 rfl rfl)
theorem dX4_line_301 : decode cX4_line 301 = .ok (.aload_n 0, 1) := dk_42 (dk_at dksX4_line_13 0 rfl rfl)
theorem dX4_line_302 : decode cX4_line 302 = .ok (.iconst 1, 1) := dk_4 (dk_at dksX4_line_13 1 rfl rfl)
theorem dX4_line_303 : decode cX4_line 303 = .ok (.iload 5, 2) := dk_21 5 (dk_at dksX4_line_13 2 rfl rfl)
theorem dX4_line_305 : decode cX4_line 305 = .ok (.ishl, 1) := dk_120 (dk_at dksX4_line_13 4 rfl rfl)
theorem dX4_line_306 : decode cX4_line 306 = .ok (.invokevirtual 95, 3) := dk_182 0 95 (dk_at dksX4_line_13 5 rfl rfl)
theorem dX4_line_309 : decode cX4_line 309 = .ok (.iastore, 1) := dk_79 (dk_at dksX4_line_13 8 rfl rfl)
theorem dX4_line_310 : decode cX4_line 310 = .ok (.invokeinterface 131 2, 5) := by decide +kernel
theorem dX4_line_315 : decode cX4_line 315 = .ok (.pop, 1) := dk_87 (dk_at dksX4_line_13 14 rfl rfl)
theorem dX4_line_316 : decode cX4_line 316 = .ok (.goto 13, 3) := dk_167 0 13 (dk_at dksX4_line_13 15 rfl rfl)
theorem dX4_line_319 : decode cX4_line 319 = .ok (.new 52, 3) := dk_187 0 52 (dk_at dksX4_line_13 18 rfl rfl)
theorem dX4_line_322 : decode cX4_line 322 = .ok (.dup, 1) := dk_89 (dk_at dksX4_line_13 21 rfl rfl)
theorem dX4_line_323 : decode cX4_line 323 = .ok (.iconst 1, 1) := dk_4 (dk_at dksX4_line_13 22 rfl rfl)
theorem dX4_line_324 : decode cX4_line 324 = .ok (.iload_n 2, 1) := dk_28 (dk_at dksX4_line_13 23 rfl rfl)
theorem dX4_line_325 : decode cX4_line 325 = .ok (.invokespecial 54, 3) := dk_183 0 54 (dk_at dksX4_line_14 0 rfl rfl)
theorem dX4_line_328 : decode cX4_line 328 = .ok (.athrow, 1) := dk_191 (dk_at dksX4_line_14 3 rfl rfl)
theorem dX4_line_329 : decode cX4_line 329 = .ok (.aload_n 0, 1) := dk_42 (dk_at dksX4_line_14 4 rfl rfl)
theorem dX4_line_330 : decode cX4_line 330 = .ok (.invokevirtual 136, 3) := dk_182 0 136 (dk_at dksX4_line_14 5 rfl rfl)
theorem dX4_line_333 : decode cX4_line 333 = .ok (.return_, 1) := dk_177 (dk_at dksX4_line_14 8 rfl rfl)
abbrev cX4_node : ByteArray := prog_6_method_8_code
def yX4_node : MethodName := ⟨RX4, "node", "(I)I"⟩
def dkwX4_node_1 : List UInt8 := [187, 0, 52, 89, 5, 42, 180, 0, 65, 183, 0, 54, 191, 28, 172]
abbrev dktX4_node_1 : List UInt8 := dkwX4_node_1 ++ []
def dkwX4_node_0 : List UInt8 := [42, 3, 42, 180, 0, 79, 180, 0, 83, 4, 100, 182, 0, 88, 61, 27, 28, 184, 0, 91, 153, 0, 16]
abbrev dktX4_node_0 : List UInt8 := dkwX4_node_0 ++ dktX4_node_1
theorem dksX4_node_0 : cX4_node.data.toList.drop 0 = dktX4_node_0 := by decide +kernel
theorem dksX4_node_1 : cX4_node.data.toList.drop 23 = dktX4_node_1 := dk_seg dksX4_node_0 23 rfl rfl
theorem dX4_node_0 : decode cX4_node 0 = .ok (.aload_n 0, 1) := dk_42 (dk_at dksX4_node_0 0 rfl rfl)
theorem dX4_node_1 : decode cX4_node 1 = .ok (.iconst 0, 1) := dk_3 (dk_at dksX4_node_0 1 rfl rfl)
theorem dX4_node_2 : decode cX4_node 2 = .ok (.aload_n 0, 1) := dk_42 (dk_at dksX4_node_0 2 rfl rfl)
theorem dX4_node_3 : decode cX4_node 3 = .ok (.getfield 79, 3) := dk_180 0 79 (dk_at dksX4_node_0 3 rfl rfl)
theorem dX4_node_6 : decode cX4_node 6 = .ok (.getfield 83, 3) := dk_180 0 83 (dk_at dksX4_node_0 6 rfl rfl)
theorem dX4_node_9 : decode cX4_node 9 = .ok (.iconst 1, 1) := dk_4 (dk_at dksX4_node_0 9 rfl rfl)
theorem dX4_node_10 : decode cX4_node 10 = .ok (.isub, 1) := dk_100 (dk_at dksX4_node_0 10 rfl rfl)
theorem dX4_node_11 : decode cX4_node 11 = .ok (.invokevirtual 88, 3) := dk_182 0 88 (dk_at dksX4_node_0 11 rfl rfl)
theorem dX4_node_14 : decode cX4_node 14 = .ok (.istore_n 2, 1) := dk_61 (dk_at dksX4_node_0 14 rfl rfl)
theorem dX4_node_15 : decode cX4_node 15 = .ok (.iload_n 1, 1) := dk_27 (dk_at dksX4_node_0 15 rfl rfl)
theorem dX4_node_16 : decode cX4_node 16 = .ok (.iload_n 2, 1) := dk_28 (dk_at dksX4_node_0 16 rfl rfl)
theorem dX4_node_17 : decode cX4_node 17 = .ok (.invokestatic 91, 3) := dk_184 0 91 (dk_at dksX4_node_0 17 rfl rfl)
theorem dX4_node_20 : decode cX4_node 20 = .ok (.ifCond .eq 16, 3) := dk_153 0 16 (dk_at dksX4_node_0 20 rfl rfl)
theorem dX4_node_23 : decode cX4_node 23 = .ok (.new 52, 3) := dk_187 0 52 (dk_at dksX4_node_1 0 rfl rfl)
theorem dX4_node_26 : decode cX4_node 26 = .ok (.dup, 1) := dk_89 (dk_at dksX4_node_1 3 rfl rfl)
theorem dX4_node_27 : decode cX4_node 27 = .ok (.iconst 2, 1) := dk_5 (dk_at dksX4_node_1 4 rfl rfl)
theorem dX4_node_28 : decode cX4_node 28 = .ok (.aload_n 0, 1) := dk_42 (dk_at dksX4_node_1 5 rfl rfl)
theorem dX4_node_29 : decode cX4_node 29 = .ok (.getfield 65, 3) := dk_180 0 65 (dk_at dksX4_node_1 6 rfl rfl)
theorem dX4_node_32 : decode cX4_node 32 = .ok (.invokespecial 54, 3) := dk_183 0 54 (dk_at dksX4_node_1 9 rfl rfl)
theorem dX4_node_35 : decode cX4_node 35 = .ok (.athrow, 1) := dk_191 (dk_at dksX4_node_1 12 rfl rfl)
theorem dX4_node_36 : decode cX4_node 36 = .ok (.iload_n 2, 1) := dk_28 (dk_at dksX4_node_1 13 rfl rfl)
theorem dX4_node_37 : decode cX4_node 37 = .ok (.ireturn, 1) := dk_172 (dk_at dksX4_node_1 14 rfl rfl)
abbrev cX4_ring : ByteArray := prog_6_method_10_code
def yX4_ring : MethodName := ⟨RX4, "ring", "()V"⟩
def dkwX4_ring_3 : List UInt8 := [42, 180, 0, 79, 29, 27, 182, 0, 99, 177]
abbrev dktX4_ring_3 : List UInt8 := dkwX4_ring_3 ++ []
def dkwX4_ring_2 : List UInt8 := [61, 42, 180, 0, 79, 29, 21, 5, 182, 0, 99, 21, 5, 62, 132, 4, 1, 42, 182, 0, 57, 154, 255, 202]
abbrev dktX4_ring_2 : List UInt8 := dkwX4_ring_2 ++ dktX4_ring_3
def dkwX4_ring_1 : List UInt8 := [167, 0, 4, 3, 42, 180, 0, 26, 182, 0, 61, 42, 28, 182, 0, 95, 54, 5, 28, 4, 21, 5, 120, 128]
abbrev dktX4_ring_1 : List UInt8 := dkwX4_ring_1 ++ dktX4_ring_2
def dkwX4_ring_0 : List UInt8 := [42, 3, 182, 0, 95, 60, 4, 27, 120, 61, 27, 62, 4, 54, 4, 42, 21, 4, 16, 12, 162, 0, 7, 4]
abbrev dktX4_ring_0 : List UInt8 := dkwX4_ring_0 ++ dktX4_ring_1
theorem dksX4_ring_0 : cX4_ring.data.toList.drop 0 = dktX4_ring_0 := by decide +kernel
theorem dksX4_ring_1 : cX4_ring.data.toList.drop 24 = dktX4_ring_1 := dk_seg dksX4_ring_0 24 rfl rfl
theorem dksX4_ring_2 : cX4_ring.data.toList.drop 48 = dktX4_ring_2 := dk_seg dksX4_ring_1 24 rfl rfl
theorem dksX4_ring_3 : cX4_ring.data.toList.drop 72 = dktX4_ring_3 := dk_seg dksX4_ring_2 24 rfl rfl
theorem dX4_ring_0 : decode cX4_ring 0 = .ok (.aload_n 0, 1) := dk_42 (dk_at dksX4_ring_0 0 rfl rfl)
theorem dX4_ring_1 : decode cX4_ring 1 = .ok (.iconst 0, 1) := dk_3 (dk_at dksX4_ring_0 1 rfl rfl)
theorem dX4_ring_2 : decode cX4_ring 2 = .ok (.invokevirtual 95, 3) := dk_182 0 95 (dk_at dksX4_ring_0 2 rfl rfl)
theorem dX4_ring_5 : decode cX4_ring 5 = .ok (.istore_n 1, 1) := dk_60 (dk_at dksX4_ring_0 5 rfl rfl)
theorem dX4_ring_6 : decode cX4_ring 6 = .ok (.iconst 1, 1) := dk_4 (dk_at dksX4_ring_0 6 rfl rfl)
theorem dX4_ring_7 : decode cX4_ring 7 = .ok (.iload_n 1, 1) := dk_27 (dk_at dksX4_ring_0 7 rfl rfl)
theorem dX4_ring_8 : decode cX4_ring 8 = .ok (.ishl, 1) := dk_120 (dk_at dksX4_ring_0 8 rfl rfl)
theorem dX4_ring_9 : decode cX4_ring 9 = .ok (.istore_n 2, 1) := dk_61 (dk_at dksX4_ring_0 9 rfl rfl)
theorem dX4_ring_10 : decode cX4_ring 10 = .ok (.iload_n 1, 1) := dk_27 (dk_at dksX4_ring_0 10 rfl rfl)
theorem dX4_ring_11 : decode cX4_ring 11 = .ok (.istore_n 3, 1) := dk_62 (dk_at dksX4_ring_0 11 rfl rfl)
theorem dX4_ring_12 : decode cX4_ring 12 = .ok (.iconst 1, 1) := dk_4 (dk_at dksX4_ring_0 12 rfl rfl)
theorem dX4_ring_13 : decode cX4_ring 13 = .ok (.istore 4, 2) := dk_54 4 (dk_at dksX4_ring_0 13 rfl rfl)
theorem dX4_ring_15 : decode cX4_ring 15 = .ok (.aload_n 0, 1) := dk_42 (dk_at dksX4_ring_0 15 rfl rfl)
theorem dX4_ring_16 : decode cX4_ring 16 = .ok (.iload 4, 2) := dk_21 4 (dk_at dksX4_ring_0 16 rfl rfl)
theorem dX4_ring_18 : decode cX4_ring 18 = .ok (.bipush 12, 2) := dk_16 12 (dk_at dksX4_ring_0 18 rfl rfl)
theorem dX4_ring_20 : decode cX4_ring 20 = .ok (.if_icmp .ge 7, 3) := dk_162 0 7 (dk_at dksX4_ring_0 20 rfl rfl)
theorem dX4_ring_23 : decode cX4_ring 23 = .ok (.iconst 1, 1) := dk_4 (dk_at dksX4_ring_0 23 rfl rfl)
theorem dX4_ring_24 : decode cX4_ring 24 = .ok (.goto 4, 3) := dk_167 0 4 (dk_at dksX4_ring_1 0 rfl rfl)
theorem dX4_ring_27 : decode cX4_ring 27 = .ok (.iconst 0, 1) := dk_3 (dk_at dksX4_ring_1 3 rfl rfl)
theorem dX4_ring_28 : decode cX4_ring 28 = .ok (.aload_n 0, 1) := dk_42 (dk_at dksX4_ring_1 4 rfl rfl)
theorem dX4_ring_29 : decode cX4_ring 29 = .ok (.getfield 26, 3) := dk_180 0 26 (dk_at dksX4_ring_1 5 rfl rfl)
theorem dX4_ring_32 : decode cX4_ring 32 = .ok (.invokevirtual 61, 3) := dk_182 0 61 (dk_at dksX4_ring_1 8 rfl rfl)
theorem dX4_ring_35 : decode cX4_ring 35 = .ok (.aload_n 0, 1) := dk_42 (dk_at dksX4_ring_1 11 rfl rfl)
theorem dX4_ring_36 : decode cX4_ring 36 = .ok (.iload_n 2, 1) := dk_28 (dk_at dksX4_ring_1 12 rfl rfl)
theorem dX4_ring_37 : decode cX4_ring 37 = .ok (.invokevirtual 95, 3) := dk_182 0 95 (dk_at dksX4_ring_1 13 rfl rfl)
theorem dX4_ring_40 : decode cX4_ring 40 = .ok (.istore 5, 2) := dk_54 5 (dk_at dksX4_ring_1 16 rfl rfl)
theorem dX4_ring_42 : decode cX4_ring 42 = .ok (.iload_n 2, 1) := dk_28 (dk_at dksX4_ring_1 18 rfl rfl)
theorem dX4_ring_43 : decode cX4_ring 43 = .ok (.iconst 1, 1) := dk_4 (dk_at dksX4_ring_1 19 rfl rfl)
theorem dX4_ring_44 : decode cX4_ring 44 = .ok (.iload 5, 2) := dk_21 5 (dk_at dksX4_ring_1 20 rfl rfl)
theorem dX4_ring_46 : decode cX4_ring 46 = .ok (.ishl, 1) := dk_120 (dk_at dksX4_ring_1 22 rfl rfl)
theorem dX4_ring_47 : decode cX4_ring 47 = .ok (.ior, 1) := dk_128 (dk_at dksX4_ring_1 23 rfl rfl)
theorem dX4_ring_48 : decode cX4_ring 48 = .ok (.istore_n 2, 1) := dk_61 (dk_at dksX4_ring_2 0 rfl rfl)
theorem dX4_ring_49 : decode cX4_ring 49 = .ok (.aload_n 0, 1) := dk_42 (dk_at dksX4_ring_2 1 rfl rfl)
theorem dX4_ring_50 : decode cX4_ring 50 = .ok (.getfield 79, 3) := dk_180 0 79 (dk_at dksX4_ring_2 2 rfl rfl)
theorem dX4_ring_53 : decode cX4_ring 53 = .ok (.iload_n 3, 1) := dk_29 (dk_at dksX4_ring_2 5 rfl rfl)
theorem dX4_ring_54 : decode cX4_ring 54 = .ok (.iload 5, 2) := dk_21 5 (dk_at dksX4_ring_2 6 rfl rfl)
theorem dX4_ring_56 : decode cX4_ring 56 = .ok (.invokevirtual 99, 3) := dk_182 0 99 (dk_at dksX4_ring_2 8 rfl rfl)
theorem dX4_ring_59 : decode cX4_ring 59 = .ok (.iload 5, 2) := dk_21 5 (dk_at dksX4_ring_2 11 rfl rfl)
theorem dX4_ring_61 : decode cX4_ring 61 = .ok (.istore_n 3, 1) := dk_62 (dk_at dksX4_ring_2 13 rfl rfl)
theorem dX4_ring_62 : decode cX4_ring 62 = .ok (.iinc 4 1, 3) := dk_132 4 1 (dk_at dksX4_ring_2 14 rfl rfl)
theorem dX4_ring_65 : decode cX4_ring 65 = .ok (.aload_n 0, 1) := dk_42 (dk_at dksX4_ring_2 17 rfl rfl)
theorem dX4_ring_66 : decode cX4_ring 66 = .ok (.invokevirtual 57, 3) := dk_182 0 57 (dk_at dksX4_ring_2 18 rfl rfl)
theorem dX4_ring_69 : decode cX4_ring 69 = .ok (.ifCond .ne (-54), 3) := dk_154 255 202 (dk_at dksX4_ring_2 21 rfl rfl)
theorem dX4_ring_72 : decode cX4_ring 72 = .ok (.aload_n 0, 1) := dk_42 (dk_at dksX4_ring_3 0 rfl rfl)
theorem dX4_ring_73 : decode cX4_ring 73 = .ok (.getfield 79, 3) := dk_180 0 79 (dk_at dksX4_ring_3 1 rfl rfl)
theorem dX4_ring_76 : decode cX4_ring 76 = .ok (.iload_n 3, 1) := dk_29 (dk_at dksX4_ring_3 4 rfl rfl)
theorem dX4_ring_77 : decode cX4_ring 77 = .ok (.iload_n 1, 1) := dk_27 (dk_at dksX4_ring_3 5 rfl rfl)
theorem dX4_ring_78 : decode cX4_ring 78 = .ok (.invokevirtual 99, 3) := dk_182 0 99 (dk_at dksX4_ring_3 6 rfl rfl)
theorem dX4_ring_81 : decode cX4_ring 81 = .ok (.return_, 1) := dk_177 (dk_at dksX4_ring_3 9 rfl rfl)
theorem q82 : (Jvm.Cond.initialized "OddPairs$Reader") ∈ lw_all := lw_g (lw_at lw_m1 11 rfl) rfl
theorem q153 : (Jvm.Cond.fieldLinkNest "OddPairs$Reader" (83 : Nat) "OddPairs$Net" "many" "I" "OddPairs") ∈ lw_tbl := lw_at lw_m1 82 rfl
theorem q161 : (Jvm.Cond.fieldLinkNest "OddPairs$Reader" (163 : Nat) "OddPairs$Net" "mate" "[I" "OddPairs") ∈ lw_tbl := lw_at lw_m1 90 rfl
theorem q174 : (Jvm.Cond.fieldLinkNest "OddPairs$Reader" (29 : Nat) "OddPairs" "tape" "[B" "OddPairs") ∈ lw_tbl := lw_at lw_m1 103 rfl
theorem q456 : (Jvm.Cond.selects "OddPairs$Reader" ({ cls := "java/lang/Object", name := "getClass", desc := "()Ljava/lang/Class;" } : Jvm.MethodName) ({ cls := "java/lang/Object", name := "getClass", desc := "()Ljava/lang/Class;" } : Jvm.MethodName)) ∈ lw_all := lw_g (lw_at lw_m2 145 rfl) rfl
theorem q574 : (Jvm.Cond.instantiable "OddPairs$Reader" (6 : Nat)) ∈ lw_all := lw_g (lw_at lw_m3 23 rfl) rfl
theorem q576 : (Jvm.Cond.instanceMethod ({ cls := "OddPairs$Reader", name := "<init>", desc := "(LOddPairs;I)V" } : Jvm.MethodName)) ∈ lw_all := lw_g (lw_at lw_m3 25 rfl) rfl
theorem q577 : (Jvm.Cond.code ({ cls := "OddPairs$Reader", name := "<init>", desc := "(LOddPairs;I)V" } : Jvm.MethodName) prog_6_method_1_code (3 : Nat) (Option.none : Option Jvm.ClassFile.FieldType)) ∈ lw_all := lw_g (lw_at lw_m3 26 rfl) rfl
theorem q578 : (Jvm.Cond.methodLink "OddPairs$Reader" (9 : Nat) ({ cls := "java/lang/Object", name := "<init>", desc := "()V" } : Jvm.MethodName)) ∈ lw_all := lw_g (lw_at lw_m3 27 rfl) rfl
theorem q579 : (Jvm.Cond.classLink "OddPairs$Reader" (15 : Nat) "java/util/ArrayList") ∈ lw_all := lw_g (lw_at lw_m3 28 rfl) rfl
theorem q581 : (Jvm.Cond.methodLink "OddPairs$Reader" (17 : Nat) ({ cls := "java/util/ArrayList", name := "<init>", desc := "()V" } : Jvm.MethodName)) ∈ lw_all := lw_g (lw_at lw_m3 30 rfl) rfl
theorem q605 : (Jvm.Cond.fieldLink "OddPairs$Reader" (22 : Nat) "OddPairs$Reader" "size" "I") ∈ lw_all := lw_g (lw_at lw_m3 54 rfl) rfl
theorem q606 : (Jvm.Cond.fieldLink "OddPairs$Reader" (18 : Nat) "OddPairs$Reader" "pairs" "Ljava/util/List;") ∈ lw_all := lw_g (lw_at lw_m3 55 rfl) rfl
theorem q607 : (Jvm.Cond.fieldLink "OddPairs$Reader" (79 : Nat) "OddPairs$Reader" "to" "LOddPairs$Net;") ∈ lw_all := lw_g (lw_at lw_m3 56 rfl) rfl
theorem q608 : (Jvm.Cond.fieldLink "OddPairs$Reader" (26 : Nat) "OddPairs$Reader" "next" "I") ∈ lw_all := lw_g (lw_at lw_m3 57 rfl) rfl
theorem q609 : (Jvm.Cond.fieldLink "OddPairs$Reader" (65 : Nat) "OddPairs$Reader" "from" "I") ∈ lw_all := lw_g (lw_at lw_m3 58 rfl) rfl
theorem q610 : (Jvm.Cond.fieldLink "OddPairs$Reader" (3 : Nat) "OddPairs$Reader" "this$0" "LOddPairs;") ∈ lw_all := lw_g (lw_at lw_m3 59 rfl) rfl
theorem q611 : (Jvm.Cond.laysFinal "OddPairs$Reader" "OddPairs$Reader" "size" "I") ∈ lw_all := lw_g (lw_at lw_m3 60 rfl) rfl
theorem q612 : (Jvm.Cond.soleField "OddPairs$Reader" "size") ∈ lw_all := lw_g (lw_at lw_m3 61 rfl) rfl
theorem q613 : (Jvm.Cond.laysFinal "OddPairs$Reader" "OddPairs$Reader" "pairs" "Ljava/util/List;") ∈ lw_all := lw_g (lw_at lw_m3 62 rfl) rfl
theorem q614 : (Jvm.Cond.soleField "OddPairs$Reader" "pairs") ∈ lw_all := lw_g (lw_at lw_m3 63 rfl) rfl
theorem q615 : (Jvm.Cond.lays "OddPairs$Reader" "OddPairs$Reader" "to" "LOddPairs$Net;") ∈ lw_all := lw_g (lw_at lw_m3 64 rfl) rfl
theorem q616 : (Jvm.Cond.soleField "OddPairs$Reader" "to") ∈ lw_all := lw_g (lw_at lw_m3 65 rfl) rfl
theorem q617 : (Jvm.Cond.lays "OddPairs$Reader" "OddPairs$Reader" "next" "I") ∈ lw_all := lw_g (lw_at lw_m3 66 rfl) rfl
theorem q618 : (Jvm.Cond.soleField "OddPairs$Reader" "next") ∈ lw_all := lw_g (lw_at lw_m3 67 rfl) rfl
theorem q619 : (Jvm.Cond.lays "OddPairs$Reader" "OddPairs$Reader" "from" "I") ∈ lw_all := lw_g (lw_at lw_m3 68 rfl) rfl
theorem q620 : (Jvm.Cond.soleField "OddPairs$Reader" "from") ∈ lw_all := lw_g (lw_at lw_m3 69 rfl) rfl
theorem q621 : (Jvm.Cond.laysFinal "OddPairs$Reader" "OddPairs$Reader" "this$0" "LOddPairs;") ∈ lw_all := lw_g (lw_at lw_m3 70 rfl) rfl
theorem q622 : (Jvm.Cond.soleField "OddPairs$Reader" "this$0") ∈ lw_all := lw_g (lw_at lw_m3 71 rfl) rfl
theorem q623 : (Jvm.Cond.superclass "OddPairs$Reader" "java/lang/Object") ∈ lw_all := lw_g (lw_at lw_m3 72 rfl) rfl
theorem q625 : (Jvm.Cond.instanceMethod ({ cls := "OddPairs$Reader", name := "all", desc := "()LOddPairs$Net;" } : Jvm.MethodName)) ∈ lw_all := lw_g (lw_at lw_m3 74 rfl) rfl
theorem q626 : (Jvm.Cond.selects "OddPairs$Reader" ({ cls := "OddPairs$Reader", name := "all", desc := "()LOddPairs$Net;" } : Jvm.MethodName) ({ cls := "OddPairs$Reader", name := "all", desc := "()LOddPairs$Net;" } : Jvm.MethodName)) ∈ lw_all := lw_g (lw_at lw_m3 75 rfl) rfl
theorem q627 : (Jvm.Cond.code ({ cls := "OddPairs$Reader", name := "all", desc := "()LOddPairs$Net;" } : Jvm.MethodName) prog_6_method_12_code (3 : Nat) (Option.some (Jvm.ClassFile.FieldType.object "OddPairs$Net"))) ∈ lw_all := lw_g (lw_at lw_m3 76 rfl) rfl
theorem q628 : (Jvm.Cond.methodLink "OddPairs$Reader" (102 : Nat) ({ cls := "OddPairs$Reader", name := "word", desc := "()Ljava/lang/String;" } : Jvm.MethodName)) ∈ lw_all := lw_g (lw_at lw_m3 77 rfl) rfl
theorem q629 : (Jvm.Cond.privateMethod ({ cls := "OddPairs$Reader", name := "word", desc := "()Ljava/lang/String;" } : Jvm.MethodName)) ∈ lw_tbl := lw_at lw_m3 78 rfl
theorem q630 : (Jvm.Cond.instanceMethod ({ cls := "OddPairs$Reader", name := "word", desc := "()Ljava/lang/String;" } : Jvm.MethodName)) ∈ lw_all := lw_g (lw_at lw_m3 79 rfl) rfl
theorem q631 : (Jvm.Cond.code ({ cls := "OddPairs$Reader", name := "word", desc := "()Ljava/lang/String;" } : Jvm.MethodName) prog_6_method_5_code (3 : Nat) (Option.some (Jvm.ClassFile.FieldType.object "java/lang/String"))) ∈ lw_all := lw_g (lw_at lw_m3 80 rfl) rfl
theorem q632 : (Jvm.Cond.methodLink "OddPairs$Reader" (33 : Nat) ({ cls := "OddPairs$Reader", name := "sign", desc := "()I" } : Jvm.MethodName)) ∈ lw_all := lw_g (lw_at lw_m3 81 rfl) rfl
theorem q633 : (Jvm.Cond.privateMethod ({ cls := "OddPairs$Reader", name := "sign", desc := "()I" } : Jvm.MethodName)) ∈ lw_tbl := lw_at lw_m3 82 rfl
theorem q634 : (Jvm.Cond.instanceMethod ({ cls := "OddPairs$Reader", name := "sign", desc := "()I" } : Jvm.MethodName)) ∈ lw_all := lw_g (lw_at lw_m3 83 rfl) rfl
theorem q635 : (Jvm.Cond.code ({ cls := "OddPairs$Reader", name := "sign", desc := "()I" } : Jvm.MethodName) prog_6_method_2_code (1 : Nat) (Option.some Jvm.ClassFile.FieldType.int)) ∈ lw_all := lw_g (lw_at lw_m3 84 rfl) rfl
theorem q636 : (Jvm.Cond.classLink "OddPairs$Reader" (37 : Nat) "java/lang/StringBuilder") ∈ lw_all := lw_g (lw_at lw_m3 85 rfl) rfl
theorem q638 : (Jvm.Cond.methodLink "OddPairs$Reader" (39 : Nat) ({ cls := "java/lang/StringBuilder", name := "<init>", desc := "()V" } : Jvm.MethodName)) ∈ lw_all := lw_g (lw_at lw_m3 87 rfl) rfl
theorem q667 : (Jvm.Cond.methodLink "OddPairs$Reader" (40 : Nat) ({ cls := "OddPairs$Reader", name := "isSmall", desc := "(I)Z" } : Jvm.MethodName)) ∈ lw_all := lw_g (lw_at lw_m3 116 rfl) rfl
theorem q668 : (Jvm.Cond.privateMethod ({ cls := "OddPairs$Reader", name := "isSmall", desc := "(I)Z" } : Jvm.MethodName)) ∈ lw_tbl := lw_at lw_m3 117 rfl
theorem q669 : (Jvm.Cond.instanceMethod ({ cls := "OddPairs$Reader", name := "isSmall", desc := "(I)Z" } : Jvm.MethodName)) ∈ lw_all := lw_g (lw_at lw_m3 118 rfl) rfl
theorem q670 : (Jvm.Cond.code ({ cls := "OddPairs$Reader", name := "isSmall", desc := "(I)Z" } : Jvm.MethodName) prog_6_method_3_code (2 : Nat) (Option.some Jvm.ClassFile.FieldType.boolean)) ∈ lw_all := lw_g (lw_at lw_m3 119 rfl) rfl
theorem q671 : (Jvm.Cond.methodLink "OddPairs$Reader" (44 : Nat) ({ cls := "java/lang/StringBuilder", name := "append", desc := "(C)Ljava/lang/StringBuilder;" } : Jvm.MethodName)) ∈ lw_all := lw_g (lw_at lw_m3 120 rfl) rfl
theorem q760 : (Jvm.Cond.methodLink "OddPairs$Reader" (48 : Nat) ({ cls := "java/lang/StringBuilder", name := "toString", desc := "()Ljava/lang/String;" } : Jvm.MethodName)) ∈ lw_all := lw_g (lw_at lw_m3 209 rfl) rfl
theorem q903 : (Jvm.Cond.stringRef "OddPairs$Reader" (139 : Nat) "nodes") ∈ lw_tbl := lw_at lw_m4 112 rfl
theorem q904 : (Jvm.Cond.methodLink "OddPairs$Reader" (115 : Nat) ({ cls := "java/lang/String", name := "equals", desc := "(Ljava/lang/Object;)Z" } : Jvm.MethodName)) ∈ lw_all := lw_g (lw_at lw_m4 113 rfl) rfl
theorem q912 : (Jvm.Cond.methodLink "OddPairs$Reader" (61 : Nat) ({ cls := "OddPairs$Reader", name := "needs", desc := "(ZI)V" } : Jvm.MethodName)) ∈ lw_all := lw_g (lw_at lw_m4 121 rfl) rfl
theorem q913 : (Jvm.Cond.privateMethod ({ cls := "OddPairs$Reader", name := "needs", desc := "(ZI)V" } : Jvm.MethodName)) ∈ lw_tbl := lw_at lw_m4 122 rfl
theorem q914 : (Jvm.Cond.instanceMethod ({ cls := "OddPairs$Reader", name := "needs", desc := "(ZI)V" } : Jvm.MethodName)) ∈ lw_all := lw_g (lw_at lw_m4 123 rfl) rfl
theorem q915 : (Jvm.Cond.code ({ cls := "OddPairs$Reader", name := "needs", desc := "(ZI)V" } : Jvm.MethodName) prog_6_method_6_code (3 : Nat) (Option.none : Option Jvm.ClassFile.FieldType)) ∈ lw_all := lw_g (lw_at lw_m4 124 rfl) rfl
theorem q916 : (Jvm.Cond.classLink "OddPairs$Reader" (52 : Nat) "OddPairs$Wrong") ∈ lw_all := lw_g (lw_at lw_m4 125 rfl) rfl
theorem q925 : (Jvm.Cond.methodLink "OddPairs$Reader" (54 : Nat) ({ cls := "OddPairs$Wrong", name := "<init>", desc := "(II)V" } : Jvm.MethodName)) ∈ lw_all := lw_g (lw_at lw_m4 134 rfl) rfl
theorem q944 : (Jvm.Cond.classLink "OddPairs$Reader" (84 : Nat) "OddPairs$Net") ∈ lw_all := lw_g (lw_at lw_m4 153 rfl) rfl
theorem q945 : (Jvm.Cond.methodLink "OddPairs$Reader" (88 : Nat) ({ cls := "OddPairs$Reader", name := "number", desc := "(II)I" } : Jvm.MethodName)) ∈ lw_all := lw_g (lw_at lw_m4 154 rfl) rfl
theorem q946 : (Jvm.Cond.privateMethod ({ cls := "OddPairs$Reader", name := "number", desc := "(II)I" } : Jvm.MethodName)) ∈ lw_tbl := lw_at lw_m4 155 rfl
theorem q947 : (Jvm.Cond.instanceMethod ({ cls := "OddPairs$Reader", name := "number", desc := "(II)I" } : Jvm.MethodName)) ∈ lw_all := lw_g (lw_at lw_m4 156 rfl) rfl
theorem q948 : (Jvm.Cond.code ({ cls := "OddPairs$Reader", name := "number", desc := "(II)I" } : Jvm.MethodName) prog_6_method_7_code (5 : Nat) (Option.some Jvm.ClassFile.FieldType.int)) ∈ lw_all := lw_g (lw_at lw_m4 157 rfl) rfl
theorem q949 : (Jvm.Cond.methodLink "OddPairs$Reader" (57 : Nat) ({ cls := "OddPairs$Reader", name := "isDigit", desc := "()Z" } : Jvm.MethodName)) ∈ lw_all := lw_g (lw_at lw_m4 158 rfl) rfl
theorem q950 : (Jvm.Cond.privateMethod ({ cls := "OddPairs$Reader", name := "isDigit", desc := "()Z" } : Jvm.MethodName)) ∈ lw_tbl := lw_at lw_m4 159 rfl
theorem q951 : (Jvm.Cond.instanceMethod ({ cls := "OddPairs$Reader", name := "isDigit", desc := "()Z" } : Jvm.MethodName)) ∈ lw_all := lw_g (lw_at lw_m4 160 rfl) rfl
theorem q952 : (Jvm.Cond.code ({ cls := "OddPairs$Reader", name := "isDigit", desc := "()Z" } : Jvm.MethodName) prog_6_method_4_code (2 : Nat) (Option.some Jvm.ClassFile.FieldType.boolean)) ∈ lw_all := lw_g (lw_at lw_m4 161 rfl) rfl
theorem q953 : (Jvm.Cond.constant "OddPairs$Reader" (68 : Nat) (100000 : Int32)) ∈ lw_all := lw_g (lw_at lw_m4 162 rfl) rfl
theorem q954 : (Jvm.Cond.methodLink "OddPairs$Reader" (69 : Nat) ({ cls := "java/lang/Math", name := "min", desc := "(II)I" } : Jvm.MethodName)) ∈ lw_all := lw_g (lw_at lw_m4 163 rfl) rfl
theorem q955 : (Jvm.Cond.methodLinkNest "OddPairs$Reader" (75 : Nat) ({ cls := "OddPairs", name := "isIn", desc := "(JJJ)Z" } : Jvm.MethodName) "OddPairs") ∈ lw_tbl := lw_at lw_m4 164 rfl
theorem q956 : (Jvm.Cond.methodLink "OddPairs$Reader" (141 : Nat) ({ cls := "OddPairs$Net", name := "<init>", desc := "(I)V" } : Jvm.MethodName)) ∈ lw_all := lw_g (lw_at lw_m4 165 rfl) rfl
theorem q957 : (Jvm.Cond.methodLink "OddPairs$Reader" (136 : Nat) ({ cls := "OddPairs$Reader", name := "ends", desc := "()V" } : Jvm.MethodName)) ∈ lw_all := lw_g (lw_at lw_m4 166 rfl) rfl
theorem q958 : (Jvm.Cond.privateMethod ({ cls := "OddPairs$Reader", name := "ends", desc := "()V" } : Jvm.MethodName)) ∈ lw_tbl := lw_at lw_m4 167 rfl
theorem q959 : (Jvm.Cond.instanceMethod ({ cls := "OddPairs$Reader", name := "ends", desc := "()V" } : Jvm.MethodName)) ∈ lw_all := lw_g (lw_at lw_m4 168 rfl) rfl
theorem q960 : (Jvm.Cond.code ({ cls := "OddPairs$Reader", name := "ends", desc := "()V" } : Jvm.MethodName) prog_6_method_9_code (1 : Nat) (Option.none : Option Jvm.ClassFile.FieldType)) ∈ lw_all := lw_g (lw_at lw_m4 169 rfl) rfl
theorem q961 : (Jvm.Cond.methodLink "OddPairs$Reader" (144 : Nat) ({ cls := "OddPairs$Reader", name := "line", desc := "()V" } : Jvm.MethodName)) ∈ lw_all := lw_g (lw_at lw_m4 170 rfl) rfl
theorem q962 : (Jvm.Cond.privateMethod ({ cls := "OddPairs$Reader", name := "line", desc := "()V" } : Jvm.MethodName)) ∈ lw_tbl := lw_at lw_m4 171 rfl
theorem q963 : (Jvm.Cond.instanceMethod ({ cls := "OddPairs$Reader", name := "line", desc := "()V" } : Jvm.MethodName)) ∈ lw_all := lw_g (lw_at lw_m4 172 rfl) rfl
theorem q964 : (Jvm.Cond.code ({ cls := "OddPairs$Reader", name := "line", desc := "()V" } : Jvm.MethodName) prog_6_method_11_code (7 : Nat) (Option.none : Option Jvm.ClassFile.FieldType)) ∈ lw_all := lw_g (lw_at lw_m4 173 rfl) rfl
theorem q965 : (Jvm.Cond.methodLink "OddPairs$Reader" (105 : Nat) ({ cls := "java/lang/String", name := "length", desc := "()I" } : Jvm.MethodName)) ∈ lw_all := lw_g (lw_at lw_m4 174 rfl) rfl
theorem q966 : (Jvm.Cond.methodLink "OddPairs$Reader" (110 : Nat) ({ cls := "java/lang/String", name := "hashCode", desc := "()I" } : Jvm.MethodName)) ∈ lw_all := lw_g (lw_at lw_m4 175 rfl) rfl
theorem q1027 : (Jvm.Cond.stringRef "OddPairs$Reader" (113 : Nat) "line") ∈ lw_tbl := lw_at lw_m4 236 rfl
theorem q1028 : (Jvm.Cond.stringRef "OddPairs$Reader" (119 : Nat) "ring") ∈ lw_tbl := lw_at lw_m4 237 rfl
theorem q1029 : (Jvm.Cond.stringRef "OddPairs$Reader" (121 : Nat) "all") ∈ lw_tbl := lw_at lw_m4 238 rfl
theorem q1030 : (Jvm.Cond.stringRef "OddPairs$Reader" (123 : Nat) "pair") ∈ lw_tbl := lw_at lw_m4 239 rfl
theorem q1031 : (Jvm.Cond.methodLink "OddPairs$Reader" (95 : Nat) ({ cls := "OddPairs$Reader", name := "node", desc := "(I)I" } : Jvm.MethodName)) ∈ lw_all := lw_g (lw_at lw_m5 0 rfl) rfl
theorem q1032 : (Jvm.Cond.privateMethod ({ cls := "OddPairs$Reader", name := "node", desc := "(I)I" } : Jvm.MethodName)) ∈ lw_tbl := lw_at lw_m5 1 rfl
theorem q1033 : (Jvm.Cond.instanceMethod ({ cls := "OddPairs$Reader", name := "node", desc := "(I)I" } : Jvm.MethodName)) ∈ lw_all := lw_g (lw_at lw_m5 2 rfl) rfl
theorem q1034 : (Jvm.Cond.code ({ cls := "OddPairs$Reader", name := "node", desc := "(I)I" } : Jvm.MethodName) prog_6_method_8_code (3 : Nat) (Option.some Jvm.ClassFile.FieldType.int)) ∈ lw_all := lw_g (lw_at lw_m5 3 rfl) rfl
theorem q1035 : (Jvm.Cond.methodLinkNest "OddPairs$Reader" (91 : Nat) ({ cls := "OddPairs", name := "has", desc := "(II)Z" } : Jvm.MethodName) "OddPairs") ∈ lw_tbl := lw_at lw_m5 4 rfl
theorem q1036 : (Jvm.Cond.methodLink "OddPairs$Reader" (125 : Nat) ({ cls := "OddPairs$Net", name := "joins", desc := "(III)V" } : Jvm.MethodName)) ∈ lw_all := lw_g (lw_at lw_m5 5 rfl) rfl
theorem q1037 : (Jvm.Cond.methodLink "OddPairs$Reader" (129 : Nat) ({ cls := "OddPairs$Reader", name := "ring", desc := "()V" } : Jvm.MethodName)) ∈ lw_all := lw_g (lw_at lw_m5 6 rfl) rfl
theorem q1038 : (Jvm.Cond.privateMethod ({ cls := "OddPairs$Reader", name := "ring", desc := "()V" } : Jvm.MethodName)) ∈ lw_tbl := lw_at lw_m5 7 rfl
theorem q1039 : (Jvm.Cond.instanceMethod ({ cls := "OddPairs$Reader", name := "ring", desc := "()V" } : Jvm.MethodName)) ∈ lw_all := lw_g (lw_at lw_m5 8 rfl) rfl
theorem q1040 : (Jvm.Cond.code ({ cls := "OddPairs$Reader", name := "ring", desc := "()V" } : Jvm.MethodName) prog_6_method_10_code (6 : Nat) (Option.none : Option Jvm.ClassFile.FieldType)) ∈ lw_all := lw_g (lw_at lw_m5 9 rfl) rfl
theorem q1041 : (Jvm.Cond.methodLink "OddPairs$Reader" (99 : Nat) ({ cls := "OddPairs$Net", name := "joinsNew", desc := "(II)V" } : Jvm.MethodName)) ∈ lw_all := lw_g (lw_at lw_m5 10 rfl) rfl
theorem q1047 : (Jvm.Cond.interfaceEntry "OddPairs$Reader" (131 : Nat)) ∈ lw_tbl := lw_at lw_m5 16 rfl
theorem q1048 : (Jvm.Cond.methodLink "OddPairs$Reader" (131 : Nat) ({ cls := "java/util/List", name := "add", desc := "(Ljava/lang/Object;)Z" } : Jvm.MethodName)) ∈ lw_all := lw_g (lw_at lw_m5 17 rfl) rfl
theorem q1073 : (Jvm.Cond.interfaceEntry "OddPairs$Reader" (146 : Nat)) ∈ lw_tbl := lw_at lw_m5 42 rfl
theorem q1074 : (Jvm.Cond.methodLink "OddPairs$Reader" (146 : Nat) ({ cls := "java/util/List", name := "iterator", desc := "()Ljava/util/Iterator;" } : Jvm.MethodName)) ∈ lw_all := lw_g (lw_at lw_m5 43 rfl) rfl
theorem q1101 : (Jvm.Cond.interfaceEntry "OddPairs$Reader" (150 : Nat)) ∈ lw_tbl := lw_at lw_m5 70 rfl
theorem q1102 : (Jvm.Cond.methodLink "OddPairs$Reader" (150 : Nat) ({ cls := "java/util/Iterator", name := "hasNext", desc := "()Z" } : Jvm.MethodName)) ∈ lw_all := lw_g (lw_at lw_m5 71 rfl) rfl
theorem q1111 : (Jvm.Cond.interfaceEntry "OddPairs$Reader" (155 : Nat)) ∈ lw_tbl := lw_at lw_m5 80 rfl
theorem q1112 : (Jvm.Cond.methodLink "OddPairs$Reader" (155 : Nat) ({ cls := "java/util/Iterator", name := "next", desc := "()Ljava/lang/Object;" } : Jvm.MethodName)) ∈ lw_all := lw_g (lw_at lw_m5 81 rfl) rfl
theorem q1126 : (Jvm.Cond.classLink "OddPairs$Reader" (158 : Nat) "[I") ∈ lw_all := lw_g (lw_at lw_m5 95 rfl) rfl
theorem q1127 : (Jvm.Cond.methodLink "OddPairs$Reader" (160 : Nat) ({ cls := "OddPairs$Net", name := "isLine", desc := "(II)Z" } : Jvm.MethodName)) ∈ lw_all := lw_g (lw_at lw_m5 96 rfl) rfl
theorem q1128 : (Jvm.Cond.methodLink "OddPairs$Reader" (166 : Nat) ({ cls := "OddPairs$Net", name := "pairs", desc := "(II)V" } : Jvm.MethodName)) ∈ lw_all := lw_g (lw_at lw_m5 97 rfl) rfl
theorem q1888 : (Jvm.Cond.castable "OddPairs$Reader" "java/lang/Object") ∈ lw_tbl := lw_at lw_m8 137 rfl
theorem in_X4 : ∀ w ∈ wsX40, w ∈ lw_all := lw_in wsX40 [611, 613, 615, 617, 619, 621] (by decide +kernel) (by decide +kernel)
/-! OddPairs$Wrong -/
set_option maxRecDepth 100000
def RX5 : String := "OddPairs$Wrong"
def TX5 : u_T := fun k => match k with
  | 0 => ("java/lang/Throwable", "cause", "Ljava/lang/Throwable;", false)
  | 1 => ("java/lang/Throwable", "stackTrace", "[Ljava/lang/StackTraceElement;", false)
  | 2 => ("java/lang/Throwable", "suppressedExceptions", "Ljava/util/List;", false)
  | 3 => ("java/lang/Throwable", "detailMessage", "Ljava/lang/String;", false)
  | 4 => ("java/lang/Throwable", "backtrace", "Ljava/lang/Object;", false)
  | 5 => ("java/lang/Throwable", "depth", "I", false)
  | 6 => ("OddPairs$Wrong", "kind", "I", true)
  | _ => ("OddPairs$Wrong", "place", "I", true)
def tyX5 : Nat → FieldType := fun k => match k with
  | 0 => .object "java/lang/Throwable"
  | 1 => .array (.object "java/lang/StackTraceElement")
  | 2 => .object "java/util/List"
  | 3 => .object "java/lang/String"
  | 4 => .object "java/lang/Object"
  | 5 => .int
  | 6 => .int
  | _ => .int
abbrev wsX50 : List Cond := u_ws RX5 TX5 8
theorem nmX5 : ∀ a, a < 8 → ∀ b, b < 8 → a ≠ b → (TX5 a).2.1 ≠ (TX5 b).2.1 := by decide +kernel
theorem tyX5_ok : ∀ k, k < 8 → parseFieldDescriptor (TX5 k).2.2.1 = some (tyX5 k) := by decide +kernel
abbrev cX5_init : ByteArray := prog_10_method_1_code
def yX5_init : MethodName := ⟨RX5, "<init>", "(II)V"⟩
def dkwX5_init_0 : List UInt8 := [42, 1, 1, 3, 3, 183, 0, 1, 42, 27, 181, 0, 7, 42, 28, 181, 0, 13, 177]
abbrev dktX5_init_0 : List UInt8 := dkwX5_init_0 ++ []
theorem dksX5_init_0 : cX5_init.data.toList.drop 0 = dktX5_init_0 := by decide +kernel
theorem dX5_init_0 : decode cX5_init 0 = .ok (.aload_n 0, 1) := dk_42 (dk_at dksX5_init_0 0 rfl rfl)
theorem dX5_init_1 : decode cX5_init 1 = .ok (.aconst_null, 1) := dk_1 (dk_at dksX5_init_0 1 rfl rfl)
theorem dX5_init_2 : decode cX5_init 2 = .ok (.aconst_null, 1) := dk_1 (dk_at dksX5_init_0 2 rfl rfl)
theorem dX5_init_3 : decode cX5_init 3 = .ok (.iconst 0, 1) := dk_3 (dk_at dksX5_init_0 3 rfl rfl)
theorem dX5_init_4 : decode cX5_init 4 = .ok (.iconst 0, 1) := dk_3 (dk_at dksX5_init_0 4 rfl rfl)
theorem dX5_init_5 : decode cX5_init 5 = .ok (.invokespecial 1, 3) := dk_183 0 1 (dk_at dksX5_init_0 5 rfl rfl)
theorem dX5_init_8 : decode cX5_init 8 = .ok (.aload_n 0, 1) := dk_42 (dk_at dksX5_init_0 8 rfl rfl)
theorem dX5_init_9 : decode cX5_init 9 = .ok (.iload_n 1, 1) := dk_27 (dk_at dksX5_init_0 9 rfl rfl)
theorem dX5_init_10 : decode cX5_init 10 = .ok (.putfield 7, 3) := dk_181 0 7 (dk_at dksX5_init_0 10 rfl rfl)
theorem dX5_init_13 : decode cX5_init 13 = .ok (.aload_n 0, 1) := dk_42 (dk_at dksX5_init_0 13 rfl rfl)
theorem dX5_init_14 : decode cX5_init 14 = .ok (.iload_n 2, 1) := dk_28 (dk_at dksX5_init_0 14 rfl rfl)
theorem dX5_init_15 : decode cX5_init 15 = .ok (.putfield 13, 3) := dk_181 0 13 (dk_at dksX5_init_0 15 rfl rfl)
theorem dX5_init_18 : decode cX5_init 18 = .ok (.return_, 1) := dk_177 (dk_at dksX5_init_0 18 rfl rfl)
theorem q96 : (Jvm.Cond.initialized "OddPairs$Wrong") ∈ lw_all := lw_g (lw_at lw_m1 25 rfl) rfl
theorem q376 : (Jvm.Cond.selects "OddPairs$Wrong" ({ cls := "java/lang/Throwable", name := "fillInStackTrace", desc := "()Ljava/lang/Throwable;" } : Jvm.MethodName) ({ cls := "java/lang/Throwable", name := "fillInStackTrace", desc := "()Ljava/lang/Throwable;" } : Jvm.MethodName)) ∈ lw_all := lw_g (lw_at lw_m2 65 rfl) rfl
theorem q460 : (Jvm.Cond.selects "OddPairs$Wrong" ({ cls := "java/lang/Object", name := "getClass", desc := "()Ljava/lang/Class;" } : Jvm.MethodName) ({ cls := "java/lang/Object", name := "getClass", desc := "()Ljava/lang/Class;" } : Jvm.MethodName)) ∈ lw_all := lw_g (lw_at lw_m2 149 rfl) rfl
theorem q917 : (Jvm.Cond.instantiable "OddPairs$Wrong" (8 : Nat)) ∈ lw_all := lw_g (lw_at lw_m4 126 rfl) rfl
theorem q918 : (Jvm.Cond.castable "OddPairs$Wrong" "OddPairs$Wrong") ∈ lw_tbl := lw_at lw_m4 127 rfl
theorem q919 : (Jvm.Cond.selects "OddPairs$Wrong" ({ cls := "java/lang/Throwable", name := "fillInStackTrace", desc := "(I)Ljava/lang/Throwable;" } : Jvm.MethodName) ({ cls := "java/lang/Throwable", name := "fillInStackTrace", desc := "(I)Ljava/lang/Throwable;" } : Jvm.MethodName)) ∈ lw_all := lw_g (lw_at lw_m4 128 rfl) rfl
theorem q920 : (Jvm.Cond.lays "OddPairs$Wrong" "java/lang/Throwable" "cause" "Ljava/lang/Throwable;") ∈ lw_all := lw_g (lw_at lw_m4 129 rfl) rfl
theorem q921 : (Jvm.Cond.lays "OddPairs$Wrong" "java/lang/Throwable" "stackTrace" "[Ljava/lang/StackTraceElement;") ∈ lw_all := lw_g (lw_at lw_m4 130 rfl) rfl
theorem q922 : (Jvm.Cond.lays "OddPairs$Wrong" "java/lang/Throwable" "suppressedExceptions" "Ljava/util/List;") ∈ lw_all := lw_g (lw_at lw_m4 131 rfl) rfl
theorem q923 : (Jvm.Cond.lays "OddPairs$Wrong" "java/lang/Throwable" "detailMessage" "Ljava/lang/String;") ∈ lw_all := lw_g (lw_at lw_m4 132 rfl) rfl
theorem q924 : (Jvm.Cond.lays "OddPairs$Wrong" "java/lang/Throwable" "backtrace" "Ljava/lang/Object;") ∈ lw_all := lw_g (lw_at lw_m4 133 rfl) rfl
theorem q926 : (Jvm.Cond.instanceMethod ({ cls := "OddPairs$Wrong", name := "<init>", desc := "(II)V" } : Jvm.MethodName)) ∈ lw_all := lw_g (lw_at lw_m4 135 rfl) rfl
theorem q927 : (Jvm.Cond.code ({ cls := "OddPairs$Wrong", name := "<init>", desc := "(II)V" } : Jvm.MethodName) prog_10_method_1_code (3 : Nat) (Option.none : Option Jvm.ClassFile.FieldType)) ∈ lw_all := lw_g (lw_at lw_m4 136 rfl) rfl
theorem q928 : (Jvm.Cond.methodLink "OddPairs$Wrong" (1 : Nat) ({ cls := "java/lang/Exception", name := "<init>", desc := "(Ljava/lang/String;Ljava/lang/Throwable;ZZ)V" } : Jvm.MethodName)) ∈ lw_all := lw_g (lw_at lw_m4 137 rfl) rfl
theorem q934 : (Jvm.Cond.fieldLink "OddPairs$Wrong" (7 : Nat) "OddPairs$Wrong" "kind" "I") ∈ lw_all := lw_g (lw_at lw_m4 143 rfl) rfl
theorem q936 : (Jvm.Cond.fieldLink "OddPairs$Wrong" (13 : Nat) "OddPairs$Wrong" "place" "I") ∈ lw_all := lw_g (lw_at lw_m4 145 rfl) rfl
theorem q938 : (Jvm.Cond.laysFinal "OddPairs$Wrong" "OddPairs$Wrong" "kind" "I") ∈ lw_all := lw_g (lw_at lw_m4 147 rfl) rfl
theorem q939 : (Jvm.Cond.soleField "OddPairs$Wrong" "kind") ∈ lw_all := lw_g (lw_at lw_m4 148 rfl) rfl
theorem q940 : (Jvm.Cond.laysFinal "OddPairs$Wrong" "OddPairs$Wrong" "place" "I") ∈ lw_all := lw_g (lw_at lw_m4 149 rfl) rfl
theorem q941 : (Jvm.Cond.soleField "OddPairs$Wrong" "place") ∈ lw_all := lw_g (lw_at lw_m4 150 rfl) rfl
theorem q942 : (Jvm.Cond.lays "OddPairs$Wrong" "java/lang/Throwable" "depth" "I") ∈ lw_all := lw_g (lw_at lw_m4 151 rfl) rfl
theorem q943 : (Jvm.Cond.superclass "OddPairs$Wrong" "java/lang/Exception") ∈ lw_all := lw_g (lw_at lw_m4 152 rfl) rfl
theorem q1318 : (Jvm.Cond.selects "OddPairs$Wrong" ({ cls := "java/lang/Throwable", name := "addSuppressed", desc := "(Ljava/lang/Throwable;)V" } : Jvm.MethodName) ({ cls := "java/lang/Throwable", name := "addSuppressed", desc := "(Ljava/lang/Throwable;)V" } : Jvm.MethodName)) ∈ lw_all := lw_g (lw_at lw_m6 47 rfl) rfl
theorem q1879 : (Jvm.Cond.castable "OddPairs$Wrong" "java/lang/Throwable") ∈ lw_tbl := lw_at lw_m8 128 rfl
theorem q1892 : (Jvm.Cond.castable "OddPairs$Wrong" "java/lang/Object") ∈ lw_tbl := lw_at lw_m8 141 rfl
theorem in_X5 : ∀ w ∈ wsX50, w ∈ lw_all := lw_in wsX50 [920, 921, 922, 923, 924, 942, 938, 940] (by decide +kernel) (by decide +kernel)
/-! OddPairs$Walk -/
set_option maxRecDepth 100000
def RX6 : String := "OddPairs$Walk"
def TX6 : u_T := fun k => match k with
  | 0 => ("OddPairs$Walk", "net", "LOddPairs$Net;", true)
  | 1 => ("OddPairs$Walk", "row", "[I", true)
  | 2 => ("OddPairs$Walk", "many", "I", false)
  | 3 => ("OddPairs$Walk", "even", "I", false)
  | _ => ("OddPairs$Walk", "odd", "I", false)
def tyX6 : Nat → FieldType := fun k => match k with
  | 0 => .object "OddPairs$Net"
  | 1 => .array .int
  | 2 => .int
  | 3 => .int
  | _ => .int
abbrev wsX60 : List Cond := u_ws RX6 TX6 5
theorem nmX6 : ∀ a, a < 5 → ∀ b, b < 5 → a ≠ b → (TX6 a).2.1 ≠ (TX6 b).2.1 := by decide +kernel
theorem tyX6_ok : ∀ k, k < 5 → parseFieldDescriptor (TX6 k).2.2.1 = some (tyX6 k) := by decide +kernel
abbrev cX6_init : ByteArray := prog_8_method_1_code
def yX6_init : MethodName := ⟨RX6, "<init>", "(LOddPairs$Net;)V"⟩
def dkwX6_init_0 : List UInt8 := [42, 183, 0, 3, 42, 16, 13, 188, 10, 181, 0, 9, 42, 43, 181, 0, 15, 177]
abbrev dktX6_init_0 : List UInt8 := dkwX6_init_0 ++ []
theorem dksX6_init_0 : cX6_init.data.toList.drop 0 = dktX6_init_0 := by decide +kernel
theorem dX6_init_0 : decode cX6_init 0 = .ok (.aload_n 0, 1) := dk_42 (dk_at dksX6_init_0 0 rfl rfl)
theorem dX6_init_1 : decode cX6_init 1 = .ok (.invokespecial 3, 3) := dk_183 0 3 (dk_at dksX6_init_0 1 rfl rfl)
theorem dX6_init_4 : decode cX6_init 4 = .ok (.aload_n 0, 1) := dk_42 (dk_at dksX6_init_0 4 rfl rfl)
theorem dX6_init_5 : decode cX6_init 5 = .ok (.bipush 13, 2) := dk_16 13 (dk_at dksX6_init_0 5 rfl rfl)
theorem dX6_init_7 : decode cX6_init 7 = .ok (.newarray .int, 2) := dk_188_10 (dk_at dksX6_init_0 7 rfl rfl)
theorem dX6_init_9 : decode cX6_init 9 = .ok (.putfield 9, 3) := dk_181 0 9 (dk_at dksX6_init_0 9 rfl rfl)
theorem dX6_init_12 : decode cX6_init 12 = .ok (.aload_n 0, 1) := dk_42 (dk_at dksX6_init_0 12 rfl rfl)
theorem dX6_init_13 : decode cX6_init 13 = .ok (.aload_n 1, 1) := dk_43 (dk_at dksX6_init_0 13 rfl rfl)
theorem dX6_init_14 : decode cX6_init 14 = .ok (.putfield 15, 3) := dk_181 0 15 (dk_at dksX6_init_0 14 rfl rfl)
theorem dX6_init_17 : decode cX6_init 17 = .ok (.return_, 1) := dk_177 (dk_at dksX6_init_0 17 rfl rfl)
abbrev cX6_path : ByteArray := prog_8_method_5_code
def yX6_path : MethodName := ⟨RX6, "path", "(I)LOddPairs$Walk;"⟩
def dkwX6_path_2 : List UInt8 := [182, 0, 45, 153, 0, 8, 42, 28, 181, 0, 49, 132, 2, 2, 167, 255, 203, 42, 176]
abbrev dktX6_path_2 : List UInt8 := dkwX6_path_2 ++ []
def dkwX6_path_1 : List UInt8 := [154, 0, 41, 42, 180, 0, 15, 180, 0, 25, 27, 46, 2, 160, 0, 28, 42, 27, 4, 27, 120, 4, 28, 3]
abbrev dktX6_path_1 : List UInt8 := dkwX6_path_1 ++ dktX6_path_2
def dkwX6_path_0 : List UInt8 := [42, 180, 0, 9, 3, 27, 79, 5, 61, 28, 42, 180, 0, 15, 180, 0, 19, 163, 0, 48, 42, 180, 0, 49]
abbrev dktX6_path_0 : List UInt8 := dkwX6_path_0 ++ dktX6_path_1
theorem dksX6_path_0 : cX6_path.data.toList.drop 0 = dktX6_path_0 := by decide +kernel
theorem dksX6_path_1 : cX6_path.data.toList.drop 24 = dktX6_path_1 := dk_seg dksX6_path_0 24 rfl rfl
theorem dksX6_path_2 : cX6_path.data.toList.drop 48 = dktX6_path_2 := dk_seg dksX6_path_1 24 rfl rfl
theorem dX6_path_0 : decode cX6_path 0 = .ok (.aload_n 0, 1) := dk_42 (dk_at dksX6_path_0 0 rfl rfl)
theorem dX6_path_1 : decode cX6_path 1 = .ok (.getfield 9, 3) := dk_180 0 9 (dk_at dksX6_path_0 1 rfl rfl)
theorem dX6_path_4 : decode cX6_path 4 = .ok (.iconst 0, 1) := dk_3 (dk_at dksX6_path_0 4 rfl rfl)
theorem dX6_path_5 : decode cX6_path 5 = .ok (.iload_n 1, 1) := dk_27 (dk_at dksX6_path_0 5 rfl rfl)
theorem dX6_path_6 : decode cX6_path 6 = .ok (.iastore, 1) := dk_79 (dk_at dksX6_path_0 6 rfl rfl)
theorem dX6_path_7 : decode cX6_path 7 = .ok (.iconst 2, 1) := dk_5 (dk_at dksX6_path_0 7 rfl rfl)
theorem dX6_path_8 : decode cX6_path 8 = .ok (.istore_n 2, 1) := dk_61 (dk_at dksX6_path_0 8 rfl rfl)
theorem dX6_path_9 : decode cX6_path 9 = .ok (.iload_n 2, 1) := dk_28 (dk_at dksX6_path_0 9 rfl rfl)
theorem dX6_path_10 : decode cX6_path 10 = .ok (.aload_n 0, 1) := dk_42 (dk_at dksX6_path_0 10 rfl rfl)
theorem dX6_path_11 : decode cX6_path 11 = .ok (.getfield 15, 3) := dk_180 0 15 (dk_at dksX6_path_0 11 rfl rfl)
theorem dX6_path_14 : decode cX6_path 14 = .ok (.getfield 19, 3) := dk_180 0 19 (dk_at dksX6_path_0 14 rfl rfl)
theorem dX6_path_17 : decode cX6_path 17 = .ok (.if_icmp .gt 48, 3) := dk_163 0 48 (dk_at dksX6_path_0 17 rfl rfl)
theorem dX6_path_20 : decode cX6_path 20 = .ok (.aload_n 0, 1) := dk_42 (dk_at dksX6_path_0 20 rfl rfl)
theorem dX6_path_21 : decode cX6_path 21 = .ok (.getfield 49, 3) := dk_180 0 49 (dk_at dksX6_path_0 21 rfl rfl)
theorem dX6_path_24 : decode cX6_path 24 = .ok (.ifCond .ne 41, 3) := dk_154 0 41 (dk_at dksX6_path_1 0 rfl rfl)
theorem dX6_path_27 : decode cX6_path 27 = .ok (.aload_n 0, 1) := dk_42 (dk_at dksX6_path_1 3 rfl rfl)
theorem dX6_path_28 : decode cX6_path 28 = .ok (.getfield 15, 3) := dk_180 0 15 (dk_at dksX6_path_1 4 rfl rfl)
theorem dX6_path_31 : decode cX6_path 31 = .ok (.getfield 25, 3) := dk_180 0 25 (dk_at dksX6_path_1 7 rfl rfl)
theorem dX6_path_34 : decode cX6_path 34 = .ok (.iload_n 1, 1) := dk_27 (dk_at dksX6_path_1 10 rfl rfl)
theorem dX6_path_35 : decode cX6_path 35 = .ok (.iaload, 1) := dk_46 (dk_at dksX6_path_1 11 rfl rfl)
theorem dX6_path_36 : decode cX6_path 36 = .ok (.iconst (-1), 1) := dk_2 (dk_at dksX6_path_1 12 rfl rfl)
theorem dX6_path_37 : decode cX6_path 37 = .ok (.if_icmp .ne 28, 3) := dk_160 0 28 (dk_at dksX6_path_1 13 rfl rfl)
theorem dX6_path_40 : decode cX6_path 40 = .ok (.aload_n 0, 1) := dk_42 (dk_at dksX6_path_1 16 rfl rfl)
theorem dX6_path_41 : decode cX6_path 41 = .ok (.iload_n 1, 1) := dk_27 (dk_at dksX6_path_1 17 rfl rfl)
theorem dX6_path_42 : decode cX6_path 42 = .ok (.iconst 1, 1) := dk_4 (dk_at dksX6_path_1 18 rfl rfl)
theorem dX6_path_43 : decode cX6_path 43 = .ok (.iload_n 1, 1) := dk_27 (dk_at dksX6_path_1 19 rfl rfl)
theorem dX6_path_44 : decode cX6_path 44 = .ok (.ishl, 1) := dk_120 (dk_at dksX6_path_1 20 rfl rfl)
theorem dX6_path_45 : decode cX6_path 45 = .ok (.iconst 1, 1) := dk_4 (dk_at dksX6_path_1 21 rfl rfl)
theorem dX6_path_46 : decode cX6_path 46 = .ok (.iload_n 2, 1) := dk_28 (dk_at dksX6_path_1 22 rfl rfl)
theorem dX6_path_47 : decode cX6_path 47 = .ok (.iconst 0, 1) := dk_3 (dk_at dksX6_path_1 23 rfl rfl)
theorem dX6_path_48 : decode cX6_path 48 = .ok (.invokevirtual 45, 3) := dk_182 0 45 (dk_at dksX6_path_2 0 rfl rfl)
theorem dX6_path_51 : decode cX6_path 51 = .ok (.ifCond .eq 8, 3) := dk_153 0 8 (dk_at dksX6_path_2 3 rfl rfl)
theorem dX6_path_54 : decode cX6_path 54 = .ok (.aload_n 0, 1) := dk_42 (dk_at dksX6_path_2 6 rfl rfl)
theorem dX6_path_55 : decode cX6_path 55 = .ok (.iload_n 2, 1) := dk_28 (dk_at dksX6_path_2 7 rfl rfl)
theorem dX6_path_56 : decode cX6_path 56 = .ok (.putfield 49, 3) := dk_181 0 49 (dk_at dksX6_path_2 8 rfl rfl)
theorem dX6_path_59 : decode cX6_path 59 = .ok (.iinc 2 2, 3) := dk_132 2 2 (dk_at dksX6_path_2 11 rfl rfl)
theorem dX6_path_62 : decode cX6_path 62 = .ok (.goto (-53), 3) := dk_167 255 203 (dk_at dksX6_path_2 14 rfl rfl)
theorem dX6_path_65 : decode cX6_path 65 = .ok (.aload_n 0, 1) := dk_42 (dk_at dksX6_path_2 17 rfl rfl)
theorem dX6_path_66 : decode cX6_path 66 = .ok (.areturn, 1) := dk_176 (dk_at dksX6_path_2 18 rfl rfl)
abbrev cX6_goes : ByteArray := prog_8_method_4_code
def yX6_goes : MethodName := ⟨RX6, "goes", "(IIIIZ)Z"⟩
def dkwX6_goes_8 : List UInt8 := [167, 255, 71, 3, 172]
abbrev dktX6_goes_8 : List UInt8 := dkwX6_goes_8 ++ []
def dkwX6_goes_7 : List UInt8 := [21, 7, 120, 128, 29, 5, 96, 21, 4, 21, 5, 182, 0, 45, 153, 0, 5, 4, 172, 132, 6, 1]
abbrev dktX6_goes_7 : List UInt8 := dkwX6_goes_7 ++ dktX6_goes_8
def dkwX6_goes_6 : List UInt8 := [180, 0, 9, 3, 46, 182, 0, 42, 153, 0, 34, 4, 172, 42, 21, 7, 28, 4, 21, 6, 120, 128, 4]
abbrev dktX6_goes_6 : List UInt8 := dkwX6_goes_6 ++ dktX6_goes_7
def dkwX6_goes_5 : List UInt8 := [96, 21, 7, 79, 21, 5, 153, 0, 31, 29, 5, 96, 21, 4, 160, 0, 23, 42, 180, 0, 15, 21, 7, 42]
abbrev dktX6_goes_5 : List UInt8 := dkwX6_goes_5 ++ dktX6_goes_6
def dkwX6_goes_4 : List UInt8 := [21, 7, 2, 159, 0, 87, 28, 21, 7, 184, 0, 38, 153, 0, 6, 167, 0, 75, 42, 180, 0, 9, 29, 4]
abbrev dktX6_goes_4 : List UInt8 := dkwX6_goes_4 ++ dktX6_goes_5
def dkwX6_goes_3 : List UInt8 := [54, 7, 21, 5, 154, 0, 19, 29, 4, 96, 21, 4, 160, 0, 11, 21, 7, 2, 160, 0, 95, 4, 172]
abbrev dktX6_goes_3 : List UInt8 := dkwX6_goes_3 ++ dktX6_goes_4
def dkwX6_goes_2 : List UInt8 := [160, 0, 6, 167, 0, 134, 42, 180, 0, 9, 29, 21, 6, 79, 42, 180, 0, 15, 180, 0, 25, 21, 6, 46]
abbrev dktX6_goes_2 : List UInt8 := dkwX6_goes_2 ++ dktX6_goes_3
def dkwX6_goes_1 : List UInt8 := [42, 180, 0, 15, 27, 21, 6, 182, 0, 42, 153, 0, 151, 42, 180, 0, 15, 180, 0, 25, 27, 46, 21, 6]
abbrev dktX6_goes_1 : List UInt8 := dkwX6_goes_1 ++ dktX6_goes_2
def dkwX6_goes_0 : List UInt8 := [3, 54, 6, 21, 6, 42, 180, 0, 15, 180, 0, 19, 162, 0, 179, 28, 21, 6, 184, 0, 38, 154, 0, 164]
abbrev dktX6_goes_0 : List UInt8 := dkwX6_goes_0 ++ dktX6_goes_1
theorem dksX6_goes_0 : cX6_goes.data.toList.drop 0 = dktX6_goes_0 := by decide +kernel
theorem dksX6_goes_1 : cX6_goes.data.toList.drop 24 = dktX6_goes_1 := dk_seg dksX6_goes_0 24 rfl rfl
theorem dksX6_goes_2 : cX6_goes.data.toList.drop 48 = dktX6_goes_2 := dk_seg dksX6_goes_1 24 rfl rfl
theorem dksX6_goes_3 : cX6_goes.data.toList.drop 72 = dktX6_goes_3 := dk_seg dksX6_goes_2 24 rfl rfl
theorem dksX6_goes_4 : cX6_goes.data.toList.drop 95 = dktX6_goes_4 := dk_seg dksX6_goes_3 23 rfl rfl
theorem dksX6_goes_5 : cX6_goes.data.toList.drop 119 = dktX6_goes_5 := dk_seg dksX6_goes_4 24 rfl rfl
theorem dksX6_goes_6 : cX6_goes.data.toList.drop 143 = dktX6_goes_6 := dk_seg dksX6_goes_5 24 rfl rfl
theorem dksX6_goes_7 : cX6_goes.data.toList.drop 166 = dktX6_goes_7 := dk_seg dksX6_goes_6 23 rfl rfl
theorem dksX6_goes_8 : cX6_goes.data.toList.drop 188 = dktX6_goes_8 := dk_seg dksX6_goes_7 22 rfl rfl
theorem dX6_goes_0 : decode cX6_goes 0 = .ok (.iconst 0, 1) := dk_3 (dk_at dksX6_goes_0 0 rfl rfl)
theorem dX6_goes_1 : decode cX6_goes 1 = .ok (.istore 6, 2) := dk_54 6 (dk_at dksX6_goes_0 1 rfl rfl)
theorem dX6_goes_3 : decode cX6_goes 3 = .ok (.iload 6, 2) := dk_21 6 (dk_at dksX6_goes_0 3 rfl rfl)
theorem dX6_goes_5 : decode cX6_goes 5 = .ok (.aload_n 0, 1) := dk_42 (dk_at dksX6_goes_0 5 rfl rfl)
theorem dX6_goes_6 : decode cX6_goes 6 = .ok (.getfield 15, 3) := dk_180 0 15 (dk_at dksX6_goes_0 6 rfl rfl)
theorem dX6_goes_9 : decode cX6_goes 9 = .ok (.getfield 19, 3) := dk_180 0 19 (dk_at dksX6_goes_0 9 rfl rfl)
theorem dX6_goes_12 : decode cX6_goes 12 = .ok (.if_icmp .ge 179, 3) := dk_162 0 179 (dk_at dksX6_goes_0 12 rfl rfl)
theorem dX6_goes_15 : decode cX6_goes 15 = .ok (.iload_n 2, 1) := dk_28 (dk_at dksX6_goes_0 15 rfl rfl)
theorem dX6_goes_16 : decode cX6_goes 16 = .ok (.iload 6, 2) := dk_21 6 (dk_at dksX6_goes_0 16 rfl rfl)
theorem dX6_goes_18 : decode cX6_goes 18 = .ok (.invokestatic 38, 3) := dk_184 0 38 (dk_at dksX6_goes_0 18 rfl rfl)
theorem dX6_goes_21 : decode cX6_goes 21 = .ok (.ifCond .ne 164, 3) := dk_154 0 164 (dk_at dksX6_goes_0 21 rfl rfl)
theorem dX6_goes_24 : decode cX6_goes 24 = .ok (.aload_n 0, 1) := dk_42 (dk_at dksX6_goes_1 0 rfl rfl)
theorem dX6_goes_25 : decode cX6_goes 25 = .ok (.getfield 15, 3) := dk_180 0 15 (dk_at dksX6_goes_1 1 rfl rfl)
theorem dX6_goes_28 : decode cX6_goes 28 = .ok (.iload_n 1, 1) := dk_27 (dk_at dksX6_goes_1 4 rfl rfl)
theorem dX6_goes_29 : decode cX6_goes 29 = .ok (.iload 6, 2) := dk_21 6 (dk_at dksX6_goes_1 5 rfl rfl)
theorem dX6_goes_31 : decode cX6_goes 31 = .ok (.invokevirtual 42, 3) := dk_182 0 42 (dk_at dksX6_goes_1 7 rfl rfl)
theorem dX6_goes_34 : decode cX6_goes 34 = .ok (.ifCond .eq 151, 3) := dk_153 0 151 (dk_at dksX6_goes_1 10 rfl rfl)
theorem dX6_goes_37 : decode cX6_goes 37 = .ok (.aload_n 0, 1) := dk_42 (dk_at dksX6_goes_1 13 rfl rfl)
theorem dX6_goes_38 : decode cX6_goes 38 = .ok (.getfield 15, 3) := dk_180 0 15 (dk_at dksX6_goes_1 14 rfl rfl)
theorem dX6_goes_41 : decode cX6_goes 41 = .ok (.getfield 25, 3) := dk_180 0 25 (dk_at dksX6_goes_1 17 rfl rfl)
theorem dX6_goes_44 : decode cX6_goes 44 = .ok (.iload_n 1, 1) := dk_27 (dk_at dksX6_goes_1 20 rfl rfl)
theorem dX6_goes_45 : decode cX6_goes 45 = .ok (.iaload, 1) := dk_46 (dk_at dksX6_goes_1 21 rfl rfl)
theorem dX6_goes_46 : decode cX6_goes 46 = .ok (.iload 6, 2) := dk_21 6 (dk_at dksX6_goes_1 22 rfl rfl)
theorem dX6_goes_48 : decode cX6_goes 48 = .ok (.if_icmp .ne 6, 3) := dk_160 0 6 (dk_at dksX6_goes_2 0 rfl rfl)
theorem dX6_goes_51 : decode cX6_goes 51 = .ok (.goto 134, 3) := dk_167 0 134 (dk_at dksX6_goes_2 3 rfl rfl)
theorem dX6_goes_54 : decode cX6_goes 54 = .ok (.aload_n 0, 1) := dk_42 (dk_at dksX6_goes_2 6 rfl rfl)
theorem dX6_goes_55 : decode cX6_goes 55 = .ok (.getfield 9, 3) := dk_180 0 9 (dk_at dksX6_goes_2 7 rfl rfl)
theorem dX6_goes_58 : decode cX6_goes 58 = .ok (.iload_n 3, 1) := dk_29 (dk_at dksX6_goes_2 10 rfl rfl)
theorem dX6_goes_59 : decode cX6_goes 59 = .ok (.iload 6, 2) := dk_21 6 (dk_at dksX6_goes_2 11 rfl rfl)
theorem dX6_goes_61 : decode cX6_goes 61 = .ok (.iastore, 1) := dk_79 (dk_at dksX6_goes_2 13 rfl rfl)
theorem dX6_goes_62 : decode cX6_goes 62 = .ok (.aload_n 0, 1) := dk_42 (dk_at dksX6_goes_2 14 rfl rfl)
theorem dX6_goes_63 : decode cX6_goes 63 = .ok (.getfield 15, 3) := dk_180 0 15 (dk_at dksX6_goes_2 15 rfl rfl)
theorem dX6_goes_66 : decode cX6_goes 66 = .ok (.getfield 25, 3) := dk_180 0 25 (dk_at dksX6_goes_2 18 rfl rfl)
theorem dX6_goes_69 : decode cX6_goes 69 = .ok (.iload 6, 2) := dk_21 6 (dk_at dksX6_goes_2 21 rfl rfl)
theorem dX6_goes_71 : decode cX6_goes 71 = .ok (.iaload, 1) := dk_46 (dk_at dksX6_goes_2 23 rfl rfl)
theorem dX6_goes_72 : decode cX6_goes 72 = .ok (.istore 7, 2) := dk_54 7 (dk_at dksX6_goes_3 0 rfl rfl)
theorem dX6_goes_74 : decode cX6_goes 74 = .ok (.iload 5, 2) := dk_21 5 (dk_at dksX6_goes_3 2 rfl rfl)
theorem dX6_goes_76 : decode cX6_goes 76 = .ok (.ifCond .ne 19, 3) := dk_154 0 19 (dk_at dksX6_goes_3 4 rfl rfl)
theorem dX6_goes_79 : decode cX6_goes 79 = .ok (.iload_n 3, 1) := dk_29 (dk_at dksX6_goes_3 7 rfl rfl)
theorem dX6_goes_80 : decode cX6_goes 80 = .ok (.iconst 1, 1) := dk_4 (dk_at dksX6_goes_3 8 rfl rfl)
theorem dX6_goes_81 : decode cX6_goes 81 = .ok (.iadd, 1) := dk_96 (dk_at dksX6_goes_3 9 rfl rfl)
theorem dX6_goes_82 : decode cX6_goes 82 = .ok (.iload 4, 2) := dk_21 4 (dk_at dksX6_goes_3 10 rfl rfl)
theorem dX6_goes_84 : decode cX6_goes 84 = .ok (.if_icmp .ne 11, 3) := dk_160 0 11 (dk_at dksX6_goes_3 12 rfl rfl)
theorem dX6_goes_87 : decode cX6_goes 87 = .ok (.iload 7, 2) := dk_21 7 (dk_at dksX6_goes_3 15 rfl rfl)
theorem dX6_goes_89 : decode cX6_goes 89 = .ok (.iconst (-1), 1) := dk_2 (dk_at dksX6_goes_3 17 rfl rfl)
theorem dX6_goes_90 : decode cX6_goes 90 = .ok (.if_icmp .ne 95, 3) := dk_160 0 95 (dk_at dksX6_goes_3 18 rfl rfl)
theorem dX6_goes_93 : decode cX6_goes 93 = .ok (.iconst 1, 1) := dk_4 (dk_at dksX6_goes_3 21 rfl rfl)
theorem dX6_goes_94 : decode cX6_goes 94 = .ok (.ireturn, 1) := dk_172 (dk_at dksX6_goes_3 22 rfl rfl)
theorem dX6_goes_95 : decode cX6_goes 95 = .ok (.iload 7, 2) := dk_21 7 (dk_at dksX6_goes_4 0 rfl rfl)
theorem dX6_goes_97 : decode cX6_goes 97 = .ok (.iconst (-1), 1) := dk_2 (dk_at dksX6_goes_4 2 rfl rfl)
theorem dX6_goes_98 : decode cX6_goes 98 = .ok (.if_icmp .eq 87, 3) := dk_159 0 87 (dk_at dksX6_goes_4 3 rfl rfl)
theorem dX6_goes_101 : decode cX6_goes 101 = .ok (.iload_n 2, 1) := dk_28 (dk_at dksX6_goes_4 6 rfl rfl)
theorem dX6_goes_102 : decode cX6_goes 102 = .ok (.iload 7, 2) := dk_21 7 (dk_at dksX6_goes_4 7 rfl rfl)
theorem dX6_goes_104 : decode cX6_goes 104 = .ok (.invokestatic 38, 3) := dk_184 0 38 (dk_at dksX6_goes_4 9 rfl rfl)
theorem dX6_goes_107 : decode cX6_goes 107 = .ok (.ifCond .eq 6, 3) := dk_153 0 6 (dk_at dksX6_goes_4 12 rfl rfl)
theorem dX6_goes_110 : decode cX6_goes 110 = .ok (.goto 75, 3) := dk_167 0 75 (dk_at dksX6_goes_4 15 rfl rfl)
theorem dX6_goes_113 : decode cX6_goes 113 = .ok (.aload_n 0, 1) := dk_42 (dk_at dksX6_goes_4 18 rfl rfl)
theorem dX6_goes_114 : decode cX6_goes 114 = .ok (.getfield 9, 3) := dk_180 0 9 (dk_at dksX6_goes_4 19 rfl rfl)
theorem dX6_goes_117 : decode cX6_goes 117 = .ok (.iload_n 3, 1) := dk_29 (dk_at dksX6_goes_4 22 rfl rfl)
theorem dX6_goes_118 : decode cX6_goes 118 = .ok (.iconst 1, 1) := dk_4 (dk_at dksX6_goes_4 23 rfl rfl)
theorem dX6_goes_119 : decode cX6_goes 119 = .ok (.iadd, 1) := dk_96 (dk_at dksX6_goes_5 0 rfl rfl)
theorem dX6_goes_120 : decode cX6_goes 120 = .ok (.iload 7, 2) := dk_21 7 (dk_at dksX6_goes_5 1 rfl rfl)
theorem dX6_goes_122 : decode cX6_goes 122 = .ok (.iastore, 1) := dk_79 (dk_at dksX6_goes_5 3 rfl rfl)
theorem dX6_goes_123 : decode cX6_goes 123 = .ok (.iload 5, 2) := dk_21 5 (dk_at dksX6_goes_5 4 rfl rfl)
theorem dX6_goes_125 : decode cX6_goes 125 = .ok (.ifCond .eq 31, 3) := dk_153 0 31 (dk_at dksX6_goes_5 6 rfl rfl)
theorem dX6_goes_128 : decode cX6_goes 128 = .ok (.iload_n 3, 1) := dk_29 (dk_at dksX6_goes_5 9 rfl rfl)
theorem dX6_goes_129 : decode cX6_goes 129 = .ok (.iconst 2, 1) := dk_5 (dk_at dksX6_goes_5 10 rfl rfl)
theorem dX6_goes_130 : decode cX6_goes 130 = .ok (.iadd, 1) := dk_96 (dk_at dksX6_goes_5 11 rfl rfl)
theorem dX6_goes_131 : decode cX6_goes 131 = .ok (.iload 4, 2) := dk_21 4 (dk_at dksX6_goes_5 12 rfl rfl)
theorem dX6_goes_133 : decode cX6_goes 133 = .ok (.if_icmp .ne 23, 3) := dk_160 0 23 (dk_at dksX6_goes_5 14 rfl rfl)
theorem dX6_goes_136 : decode cX6_goes 136 = .ok (.aload_n 0, 1) := dk_42 (dk_at dksX6_goes_5 17 rfl rfl)
theorem dX6_goes_137 : decode cX6_goes 137 = .ok (.getfield 15, 3) := dk_180 0 15 (dk_at dksX6_goes_5 18 rfl rfl)
theorem dX6_goes_140 : decode cX6_goes 140 = .ok (.iload 7, 2) := dk_21 7 (dk_at dksX6_goes_5 21 rfl rfl)
theorem dX6_goes_142 : decode cX6_goes 142 = .ok (.aload_n 0, 1) := dk_42 (dk_at dksX6_goes_5 23 rfl rfl)
theorem dX6_goes_143 : decode cX6_goes 143 = .ok (.getfield 9, 3) := dk_180 0 9 (dk_at dksX6_goes_6 0 rfl rfl)
theorem dX6_goes_146 : decode cX6_goes 146 = .ok (.iconst 0, 1) := dk_3 (dk_at dksX6_goes_6 3 rfl rfl)
theorem dX6_goes_147 : decode cX6_goes 147 = .ok (.iaload, 1) := dk_46 (dk_at dksX6_goes_6 4 rfl rfl)
theorem dX6_goes_148 : decode cX6_goes 148 = .ok (.invokevirtual 42, 3) := dk_182 0 42 (dk_at dksX6_goes_6 5 rfl rfl)
theorem dX6_goes_151 : decode cX6_goes 151 = .ok (.ifCond .eq 34, 3) := dk_153 0 34 (dk_at dksX6_goes_6 8 rfl rfl)
theorem dX6_goes_154 : decode cX6_goes 154 = .ok (.iconst 1, 1) := dk_4 (dk_at dksX6_goes_6 11 rfl rfl)
theorem dX6_goes_155 : decode cX6_goes 155 = .ok (.ireturn, 1) := dk_172 (dk_at dksX6_goes_6 12 rfl rfl)
theorem dX6_goes_156 : decode cX6_goes 156 = .ok (.aload_n 0, 1) := dk_42 (dk_at dksX6_goes_6 13 rfl rfl)
theorem dX6_goes_157 : decode cX6_goes 157 = .ok (.iload 7, 2) := dk_21 7 (dk_at dksX6_goes_6 14 rfl rfl)
theorem dX6_goes_159 : decode cX6_goes 159 = .ok (.iload_n 2, 1) := dk_28 (dk_at dksX6_goes_6 16 rfl rfl)
theorem dX6_goes_160 : decode cX6_goes 160 = .ok (.iconst 1, 1) := dk_4 (dk_at dksX6_goes_6 17 rfl rfl)
theorem dX6_goes_161 : decode cX6_goes 161 = .ok (.iload 6, 2) := dk_21 6 (dk_at dksX6_goes_6 18 rfl rfl)
theorem dX6_goes_163 : decode cX6_goes 163 = .ok (.ishl, 1) := dk_120 (dk_at dksX6_goes_6 20 rfl rfl)
theorem dX6_goes_164 : decode cX6_goes 164 = .ok (.ior, 1) := dk_128 (dk_at dksX6_goes_6 21 rfl rfl)
theorem dX6_goes_165 : decode cX6_goes 165 = .ok (.iconst 1, 1) := dk_4 (dk_at dksX6_goes_6 22 rfl rfl)
theorem dX6_goes_166 : decode cX6_goes 166 = .ok (.iload 7, 2) := dk_21 7 (dk_at dksX6_goes_7 0 rfl rfl)
theorem dX6_goes_168 : decode cX6_goes 168 = .ok (.ishl, 1) := dk_120 (dk_at dksX6_goes_7 2 rfl rfl)
theorem dX6_goes_169 : decode cX6_goes 169 = .ok (.ior, 1) := dk_128 (dk_at dksX6_goes_7 3 rfl rfl)
theorem dX6_goes_170 : decode cX6_goes 170 = .ok (.iload_n 3, 1) := dk_29 (dk_at dksX6_goes_7 4 rfl rfl)
theorem dX6_goes_171 : decode cX6_goes 171 = .ok (.iconst 2, 1) := dk_5 (dk_at dksX6_goes_7 5 rfl rfl)
theorem dX6_goes_172 : decode cX6_goes 172 = .ok (.iadd, 1) := dk_96 (dk_at dksX6_goes_7 6 rfl rfl)
theorem dX6_goes_173 : decode cX6_goes 173 = .ok (.iload 4, 2) := dk_21 4 (dk_at dksX6_goes_7 7 rfl rfl)
theorem dX6_goes_175 : decode cX6_goes 175 = .ok (.iload 5, 2) := dk_21 5 (dk_at dksX6_goes_7 9 rfl rfl)
theorem dX6_goes_177 : decode cX6_goes 177 = .ok (.invokevirtual 45, 3) := dk_182 0 45 (dk_at dksX6_goes_7 11 rfl rfl)
theorem dX6_goes_180 : decode cX6_goes 180 = .ok (.ifCond .eq 5, 3) := dk_153 0 5 (dk_at dksX6_goes_7 14 rfl rfl)
theorem dX6_goes_183 : decode cX6_goes 183 = .ok (.iconst 1, 1) := dk_4 (dk_at dksX6_goes_7 17 rfl rfl)
theorem dX6_goes_184 : decode cX6_goes 184 = .ok (.ireturn, 1) := dk_172 (dk_at dksX6_goes_7 18 rfl rfl)
theorem dX6_goes_185 : decode cX6_goes 185 = .ok (.iinc 6 1, 3) := dk_132 6 1 (dk_at dksX6_goes_7 19 rfl rfl)
theorem dX6_goes_188 : decode cX6_goes 188 = .ok (.goto (-185), 3) := dk_167 255 71 (dk_at dksX6_goes_8 0 rfl rfl)
theorem dX6_goes_191 : decode cX6_goes 191 = .ok (.iconst 0, 1) := dk_3 (dk_at dksX6_goes_8 3 rfl rfl)
theorem dX6_goes_192 : decode cX6_goes 192 = .ok (.ireturn, 1) := dk_172 (dk_at dksX6_goes_8 4 rfl rfl)
abbrev cX6_flower : ByteArray := prog_8_method_6_code
def yX6_flower : MethodName := ⟨RX6, "flower", "(I)LOddPairs$Walk;"⟩
def dkwX6_flower_3 : List UInt8 := [153, 0, 8, 42, 29, 181, 0, 49, 132, 3, 2, 167, 255, 214, 42, 176]
abbrev dktX6_flower_3 : List UInt8 := dkwX6_flower_3 ++ []
def dkwX6_flower_2 : List UInt8 := [163, 0, 37, 42, 180, 0, 49, 154, 0, 30, 42, 27, 4, 27, 120, 28, 128, 4, 29, 4, 182, 0, 45]
abbrev dktX6_flower_2 : List UInt8 := dkwX6_flower_2 ++ dktX6_flower_3
def dkwX6_flower_1 : List UInt8 := [4, 42, 180, 0, 15, 180, 0, 25, 27, 46, 120, 61, 6, 62, 29, 42, 180, 0, 15, 180, 0, 19]
abbrev dktX6_flower_1 : List UInt8 := dkwX6_flower_1 ++ dktX6_flower_2
def dkwX6_flower_0 : List UInt8 := [42, 180, 0, 9, 3, 27, 79, 42, 180, 0, 15, 180, 0, 25, 27, 46, 2, 160, 0, 7, 3, 167, 0, 14]
abbrev dktX6_flower_0 : List UInt8 := dkwX6_flower_0 ++ dktX6_flower_1
theorem dksX6_flower_0 : cX6_flower.data.toList.drop 0 = dktX6_flower_0 := by decide +kernel
theorem dksX6_flower_1 : cX6_flower.data.toList.drop 24 = dktX6_flower_1 := dk_seg dksX6_flower_0 24 rfl rfl
theorem dksX6_flower_2 : cX6_flower.data.toList.drop 46 = dktX6_flower_2 := dk_seg dksX6_flower_1 22 rfl rfl
theorem dksX6_flower_3 : cX6_flower.data.toList.drop 69 = dktX6_flower_3 := dk_seg dksX6_flower_2 23 rfl rfl
theorem dX6_flower_0 : decode cX6_flower 0 = .ok (.aload_n 0, 1) := dk_42 (dk_at dksX6_flower_0 0 rfl rfl)
theorem dX6_flower_1 : decode cX6_flower 1 = .ok (.getfield 9, 3) := dk_180 0 9 (dk_at dksX6_flower_0 1 rfl rfl)
theorem dX6_flower_4 : decode cX6_flower 4 = .ok (.iconst 0, 1) := dk_3 (dk_at dksX6_flower_0 4 rfl rfl)
theorem dX6_flower_5 : decode cX6_flower 5 = .ok (.iload_n 1, 1) := dk_27 (dk_at dksX6_flower_0 5 rfl rfl)
theorem dX6_flower_6 : decode cX6_flower 6 = .ok (.iastore, 1) := dk_79 (dk_at dksX6_flower_0 6 rfl rfl)
theorem dX6_flower_7 : decode cX6_flower 7 = .ok (.aload_n 0, 1) := dk_42 (dk_at dksX6_flower_0 7 rfl rfl)
theorem dX6_flower_8 : decode cX6_flower 8 = .ok (.getfield 15, 3) := dk_180 0 15 (dk_at dksX6_flower_0 8 rfl rfl)
theorem dX6_flower_11 : decode cX6_flower 11 = .ok (.getfield 25, 3) := dk_180 0 25 (dk_at dksX6_flower_0 11 rfl rfl)
theorem dX6_flower_14 : decode cX6_flower 14 = .ok (.iload_n 1, 1) := dk_27 (dk_at dksX6_flower_0 14 rfl rfl)
theorem dX6_flower_15 : decode cX6_flower 15 = .ok (.iaload, 1) := dk_46 (dk_at dksX6_flower_0 15 rfl rfl)
theorem dX6_flower_16 : decode cX6_flower 16 = .ok (.iconst (-1), 1) := dk_2 (dk_at dksX6_flower_0 16 rfl rfl)
theorem dX6_flower_17 : decode cX6_flower 17 = .ok (.if_icmp .ne 7, 3) := dk_160 0 7 (dk_at dksX6_flower_0 17 rfl rfl)
theorem dX6_flower_20 : decode cX6_flower 20 = .ok (.iconst 0, 1) := dk_3 (dk_at dksX6_flower_0 20 rfl rfl)
theorem dX6_flower_21 : decode cX6_flower 21 = .ok (.goto 14, 3) := dk_167 0 14 (dk_at dksX6_flower_0 21 rfl rfl)
theorem dX6_flower_24 : decode cX6_flower 24 = .ok (.iconst 1, 1) := dk_4 (dk_at dksX6_flower_1 0 rfl rfl)
theorem dX6_flower_25 : decode cX6_flower 25 = .ok (.aload_n 0, 1) := dk_42 (dk_at dksX6_flower_1 1 rfl rfl)
theorem dX6_flower_26 : decode cX6_flower 26 = .ok (.getfield 15, 3) := dk_180 0 15 (dk_at dksX6_flower_1 2 rfl rfl)
theorem dX6_flower_29 : decode cX6_flower 29 = .ok (.getfield 25, 3) := dk_180 0 25 (dk_at dksX6_flower_1 5 rfl rfl)
theorem dX6_flower_32 : decode cX6_flower 32 = .ok (.iload_n 1, 1) := dk_27 (dk_at dksX6_flower_1 8 rfl rfl)
theorem dX6_flower_33 : decode cX6_flower 33 = .ok (.iaload, 1) := dk_46 (dk_at dksX6_flower_1 9 rfl rfl)
theorem dX6_flower_34 : decode cX6_flower 34 = .ok (.ishl, 1) := dk_120 (dk_at dksX6_flower_1 10 rfl rfl)
theorem dX6_flower_35 : decode cX6_flower 35 = .ok (.istore_n 2, 1) := dk_61 (dk_at dksX6_flower_1 11 rfl rfl)
theorem dX6_flower_36 : decode cX6_flower 36 = .ok (.iconst 3, 1) := dk_6 (dk_at dksX6_flower_1 12 rfl rfl)
theorem dX6_flower_37 : decode cX6_flower 37 = .ok (.istore_n 3, 1) := dk_62 (dk_at dksX6_flower_1 13 rfl rfl)
theorem dX6_flower_38 : decode cX6_flower 38 = .ok (.iload_n 3, 1) := dk_29 (dk_at dksX6_flower_1 14 rfl rfl)
theorem dX6_flower_39 : decode cX6_flower 39 = .ok (.aload_n 0, 1) := dk_42 (dk_at dksX6_flower_1 15 rfl rfl)
theorem dX6_flower_40 : decode cX6_flower 40 = .ok (.getfield 15, 3) := dk_180 0 15 (dk_at dksX6_flower_1 16 rfl rfl)
theorem dX6_flower_43 : decode cX6_flower 43 = .ok (.getfield 19, 3) := dk_180 0 19 (dk_at dksX6_flower_1 19 rfl rfl)
theorem dX6_flower_46 : decode cX6_flower 46 = .ok (.if_icmp .gt 37, 3) := dk_163 0 37 (dk_at dksX6_flower_2 0 rfl rfl)
theorem dX6_flower_49 : decode cX6_flower 49 = .ok (.aload_n 0, 1) := dk_42 (dk_at dksX6_flower_2 3 rfl rfl)
theorem dX6_flower_50 : decode cX6_flower 50 = .ok (.getfield 49, 3) := dk_180 0 49 (dk_at dksX6_flower_2 4 rfl rfl)
theorem dX6_flower_53 : decode cX6_flower 53 = .ok (.ifCond .ne 30, 3) := dk_154 0 30 (dk_at dksX6_flower_2 7 rfl rfl)
theorem dX6_flower_56 : decode cX6_flower 56 = .ok (.aload_n 0, 1) := dk_42 (dk_at dksX6_flower_2 10 rfl rfl)
theorem dX6_flower_57 : decode cX6_flower 57 = .ok (.iload_n 1, 1) := dk_27 (dk_at dksX6_flower_2 11 rfl rfl)
theorem dX6_flower_58 : decode cX6_flower 58 = .ok (.iconst 1, 1) := dk_4 (dk_at dksX6_flower_2 12 rfl rfl)
theorem dX6_flower_59 : decode cX6_flower 59 = .ok (.iload_n 1, 1) := dk_27 (dk_at dksX6_flower_2 13 rfl rfl)
theorem dX6_flower_60 : decode cX6_flower 60 = .ok (.ishl, 1) := dk_120 (dk_at dksX6_flower_2 14 rfl rfl)
theorem dX6_flower_61 : decode cX6_flower 61 = .ok (.iload_n 2, 1) := dk_28 (dk_at dksX6_flower_2 15 rfl rfl)
theorem dX6_flower_62 : decode cX6_flower 62 = .ok (.ior, 1) := dk_128 (dk_at dksX6_flower_2 16 rfl rfl)
theorem dX6_flower_63 : decode cX6_flower 63 = .ok (.iconst 1, 1) := dk_4 (dk_at dksX6_flower_2 17 rfl rfl)
theorem dX6_flower_64 : decode cX6_flower 64 = .ok (.iload_n 3, 1) := dk_29 (dk_at dksX6_flower_2 18 rfl rfl)
theorem dX6_flower_65 : decode cX6_flower 65 = .ok (.iconst 1, 1) := dk_4 (dk_at dksX6_flower_2 19 rfl rfl)
theorem dX6_flower_66 : decode cX6_flower 66 = .ok (.invokevirtual 45, 3) := dk_182 0 45 (dk_at dksX6_flower_2 20 rfl rfl)
theorem dX6_flower_69 : decode cX6_flower 69 = .ok (.ifCond .eq 8, 3) := dk_153 0 8 (dk_at dksX6_flower_3 0 rfl rfl)
theorem dX6_flower_72 : decode cX6_flower 72 = .ok (.aload_n 0, 1) := dk_42 (dk_at dksX6_flower_3 3 rfl rfl)
theorem dX6_flower_73 : decode cX6_flower 73 = .ok (.iload_n 3, 1) := dk_29 (dk_at dksX6_flower_3 4 rfl rfl)
theorem dX6_flower_74 : decode cX6_flower 74 = .ok (.putfield 49, 3) := dk_181 0 49 (dk_at dksX6_flower_3 5 rfl rfl)
theorem dX6_flower_77 : decode cX6_flower 77 = .ok (.iinc 3 2, 3) := dk_132 3 2 (dk_at dksX6_flower_3 8 rfl rfl)
theorem dX6_flower_80 : decode cX6_flower 80 = .ok (.goto (-42), 3) := dk_167 255 214 (dk_at dksX6_flower_3 11 rfl rfl)
theorem dX6_flower_83 : decode cX6_flower 83 = .ok (.aload_n 0, 1) := dk_42 (dk_at dksX6_flower_3 14 rfl rfl)
theorem dX6_flower_84 : decode cX6_flower 84 = .ok (.areturn, 1) := dk_176 (dk_at dksX6_flower_3 15 rfl rfl)
abbrev cX6_labels : ByteArray := prog_8_method_2_code
def yX6_labels : MethodName := ⟨RX6, "labels", "()LOddPairs$Walk;"⟩
def dkwX6_labels_2 : List UInt8 := [180, 0, 35, 2, 130, 126, 181, 0, 32, 42, 176]
abbrev dktX6_labels_2 : List UInt8 := dkwX6_labels_2 ++ []
def dkwX6_labels_1 : List UInt8 := [160, 0, 11, 42, 27, 4, 27, 120, 182, 0, 28, 132, 1, 1, 167, 255, 221, 42, 89, 180, 0, 32, 42]
abbrev dktX6_labels_1 : List UInt8 := dkwX6_labels_1 ++ dktX6_labels_2
def dkwX6_labels_0 : List UInt8 := [3, 60, 27, 42, 180, 0, 15, 180, 0, 19, 162, 0, 30, 42, 180, 0, 15, 180, 0, 25, 27, 46, 2]
abbrev dktX6_labels_0 : List UInt8 := dkwX6_labels_0 ++ dktX6_labels_1
theorem dksX6_labels_0 : cX6_labels.data.toList.drop 0 = dktX6_labels_0 := by decide +kernel
theorem dksX6_labels_1 : cX6_labels.data.toList.drop 23 = dktX6_labels_1 := dk_seg dksX6_labels_0 23 rfl rfl
theorem dksX6_labels_2 : cX6_labels.data.toList.drop 46 = dktX6_labels_2 := dk_seg dksX6_labels_1 23 rfl rfl
theorem dX6_labels_0 : decode cX6_labels 0 = .ok (.iconst 0, 1) := dk_3 (dk_at dksX6_labels_0 0 rfl rfl)
theorem dX6_labels_1 : decode cX6_labels 1 = .ok (.istore_n 1, 1) := dk_60 (dk_at dksX6_labels_0 1 rfl rfl)
theorem dX6_labels_2 : decode cX6_labels 2 = .ok (.iload_n 1, 1) := dk_27 (dk_at dksX6_labels_0 2 rfl rfl)
theorem dX6_labels_3 : decode cX6_labels 3 = .ok (.aload_n 0, 1) := dk_42 (dk_at dksX6_labels_0 3 rfl rfl)
theorem dX6_labels_4 : decode cX6_labels 4 = .ok (.getfield 15, 3) := dk_180 0 15 (dk_at dksX6_labels_0 4 rfl rfl)
theorem dX6_labels_7 : decode cX6_labels 7 = .ok (.getfield 19, 3) := dk_180 0 19 (dk_at dksX6_labels_0 7 rfl rfl)
theorem dX6_labels_10 : decode cX6_labels 10 = .ok (.if_icmp .ge 30, 3) := dk_162 0 30 (dk_at dksX6_labels_0 10 rfl rfl)
theorem dX6_labels_13 : decode cX6_labels 13 = .ok (.aload_n 0, 1) := dk_42 (dk_at dksX6_labels_0 13 rfl rfl)
theorem dX6_labels_14 : decode cX6_labels 14 = .ok (.getfield 15, 3) := dk_180 0 15 (dk_at dksX6_labels_0 14 rfl rfl)
theorem dX6_labels_17 : decode cX6_labels 17 = .ok (.getfield 25, 3) := dk_180 0 25 (dk_at dksX6_labels_0 17 rfl rfl)
theorem dX6_labels_20 : decode cX6_labels 20 = .ok (.iload_n 1, 1) := dk_27 (dk_at dksX6_labels_0 20 rfl rfl)
theorem dX6_labels_21 : decode cX6_labels 21 = .ok (.iaload, 1) := dk_46 (dk_at dksX6_labels_0 21 rfl rfl)
theorem dX6_labels_22 : decode cX6_labels 22 = .ok (.iconst (-1), 1) := dk_2 (dk_at dksX6_labels_0 22 rfl rfl)
theorem dX6_labels_23 : decode cX6_labels 23 = .ok (.if_icmp .ne 11, 3) := dk_160 0 11 (dk_at dksX6_labels_1 0 rfl rfl)
theorem dX6_labels_26 : decode cX6_labels 26 = .ok (.aload_n 0, 1) := dk_42 (dk_at dksX6_labels_1 3 rfl rfl)
theorem dX6_labels_27 : decode cX6_labels 27 = .ok (.iload_n 1, 1) := dk_27 (dk_at dksX6_labels_1 4 rfl rfl)
theorem dX6_labels_28 : decode cX6_labels 28 = .ok (.iconst 1, 1) := dk_4 (dk_at dksX6_labels_1 5 rfl rfl)
theorem dX6_labels_29 : decode cX6_labels 29 = .ok (.iload_n 1, 1) := dk_27 (dk_at dksX6_labels_1 6 rfl rfl)
theorem dX6_labels_30 : decode cX6_labels 30 = .ok (.ishl, 1) := dk_120 (dk_at dksX6_labels_1 7 rfl rfl)
theorem dX6_labels_31 : decode cX6_labels 31 = .ok (.invokevirtual 28, 3) := dk_182 0 28 (dk_at dksX6_labels_1 8 rfl rfl)
theorem dX6_labels_34 : decode cX6_labels 34 = .ok (.iinc 1 1, 3) := dk_132 1 1 (dk_at dksX6_labels_1 11 rfl rfl)
theorem dX6_labels_37 : decode cX6_labels 37 = .ok (.goto (-35), 3) := dk_167 255 221 (dk_at dksX6_labels_1 14 rfl rfl)
theorem dX6_labels_40 : decode cX6_labels 40 = .ok (.aload_n 0, 1) := dk_42 (dk_at dksX6_labels_1 17 rfl rfl)
theorem dX6_labels_41 : decode cX6_labels 41 = .ok (.dup, 1) := dk_89 (dk_at dksX6_labels_1 18 rfl rfl)
theorem dX6_labels_42 : decode cX6_labels 42 = .ok (.getfield 32, 3) := dk_180 0 32 (dk_at dksX6_labels_1 19 rfl rfl)
theorem dX6_labels_45 : decode cX6_labels 45 = .ok (.aload_n 0, 1) := dk_42 (dk_at dksX6_labels_1 22 rfl rfl)
theorem dX6_labels_46 : decode cX6_labels 46 = .ok (.getfield 35, 3) := dk_180 0 35 (dk_at dksX6_labels_2 0 rfl rfl)
theorem dX6_labels_49 : decode cX6_labels 49 = .ok (.iconst (-1), 1) := dk_2 (dk_at dksX6_labels_2 3 rfl rfl)
theorem dX6_labels_50 : decode cX6_labels 50 = .ok (.ixor, 1) := dk_130 (dk_at dksX6_labels_2 4 rfl rfl)
theorem dX6_labels_51 : decode cX6_labels 51 = .ok (.iand, 1) := dk_126 (dk_at dksX6_labels_2 5 rfl rfl)
theorem dX6_labels_52 : decode cX6_labels 52 = .ok (.putfield 32, 3) := dk_181 0 32 (dk_at dksX6_labels_2 6 rfl rfl)
theorem dX6_labels_55 : decode cX6_labels 55 = .ok (.aload_n 0, 1) := dk_42 (dk_at dksX6_labels_2 9 rfl rfl)
theorem dX6_labels_56 : decode cX6_labels 56 = .ok (.areturn, 1) := dk_176 (dk_at dksX6_labels_2 10 rfl rfl)
abbrev cX6_labelsFrom : ByteArray := prog_8_method_3_code
def yX6_labelsFrom : MethodName := ⟨RX6, "labelsFrom", "(II)V"⟩
def dkwX6_labelsFrom_5 : List UInt8 := [132, 3, 1, 167, 255, 152, 177]
abbrev dktX6_labelsFrom_5 : List UInt8 := dkwX6_labelsFrom_5 ++ []
def dkwX6_labelsFrom_4 : List UInt8 := [184, 0, 38, 154, 0, 19, 42, 21, 4, 28, 4, 29, 120, 128, 4, 21, 4, 120, 128, 182, 0, 28]
abbrev dktX6_labelsFrom_4 : List UInt8 := dkwX6_labelsFrom_4 ++ dktX6_labelsFrom_5
def dkwX6_labelsFrom_3 : List UInt8 := [181, 0, 32, 42, 180, 0, 15, 180, 0, 25, 29, 46, 54, 4, 21, 4, 2, 159, 0, 28, 28, 21, 4]
abbrev dktX6_labelsFrom_3 : List UInt8 := dkwX6_labelsFrom_3 ++ dktX6_labelsFrom_4
def dkwX6_labelsFrom_2 : List UInt8 := [180, 0, 15, 180, 0, 25, 27, 46, 29, 160, 0, 6, 167, 0, 57, 42, 89, 180, 0, 32, 4, 29, 120, 128]
abbrev dktX6_labelsFrom_2 : List UInt8 := dkwX6_labelsFrom_2 ++ dktX6_labelsFrom_3
def dkwX6_labelsFrom_1 : List UInt8 := [162, 0, 99, 28, 29, 184, 0, 38, 154, 0, 85, 42, 180, 0, 15, 27, 29, 182, 0, 42, 153, 0, 73, 42]
abbrev dktX6_labelsFrom_1 : List UInt8 := dkwX6_labelsFrom_1 ++ dktX6_labelsFrom_2
def dkwX6_labelsFrom_0 : List UInt8 := [42, 89, 180, 0, 35, 4, 27, 120, 128, 181, 0, 35, 3, 62, 29, 42, 180, 0, 15, 180, 0, 19]
abbrev dktX6_labelsFrom_0 : List UInt8 := dkwX6_labelsFrom_0 ++ dktX6_labelsFrom_1
theorem dksX6_labelsFrom_0 : cX6_labelsFrom.data.toList.drop 0 = dktX6_labelsFrom_0 := by decide +kernel
theorem dksX6_labelsFrom_1 : cX6_labelsFrom.data.toList.drop 22 = dktX6_labelsFrom_1 := dk_seg dksX6_labelsFrom_0 22 rfl rfl
theorem dksX6_labelsFrom_2 : cX6_labelsFrom.data.toList.drop 46 = dktX6_labelsFrom_2 := dk_seg dksX6_labelsFrom_1 24 rfl rfl
theorem dksX6_labelsFrom_3 : cX6_labelsFrom.data.toList.drop 70 = dktX6_labelsFrom_3 := dk_seg dksX6_labelsFrom_2 24 rfl rfl
theorem dksX6_labelsFrom_4 : cX6_labelsFrom.data.toList.drop 93 = dktX6_labelsFrom_4 := dk_seg dksX6_labelsFrom_3 23 rfl rfl
theorem dksX6_labelsFrom_5 : cX6_labelsFrom.data.toList.drop 115 = dktX6_labelsFrom_5 := dk_seg dksX6_labelsFrom_4 22 rfl rfl
theorem dX6_labelsFrom_0 : decode cX6_labelsFrom 0 = .ok (.aload_n 0, 1) := dk_42 (dk_at dksX6_labelsFrom_0 0 rfl rfl)
theorem dX6_labelsFrom_1 : decode cX6_labelsFrom 1 = .ok (.dup, 1) := dk_89 (dk_at dksX6_labelsFrom_0 1 rfl rfl)
theorem dX6_labelsFrom_2 : decode cX6_labelsFrom 2 = .ok (.getfield 35, 3) := dk_180 0 35 (dk_at dksX6_labelsFrom_0 2 rfl rfl)
theorem dX6_labelsFrom_5 : decode cX6_labelsFrom 5 = .ok (.iconst 1, 1) := dk_4 (dk_at dksX6_labelsFrom_0 5 rfl rfl)
theorem dX6_labelsFrom_6 : decode cX6_labelsFrom 6 = .ok (.iload_n 1, 1) := dk_27 (dk_at dksX6_labelsFrom_0 6 rfl rfl)
theorem dX6_labelsFrom_7 : decode cX6_labelsFrom 7 = .ok (.ishl, 1) := dk_120 (dk_at dksX6_labelsFrom_0 7 rfl rfl)
theorem dX6_labelsFrom_8 : decode cX6_labelsFrom 8 = .ok (.ior, 1) := dk_128 (dk_at dksX6_labelsFrom_0 8 rfl rfl)
theorem dX6_labelsFrom_9 : decode cX6_labelsFrom 9 = .ok (.putfield 35, 3) := dk_181 0 35 (dk_at dksX6_labelsFrom_0 9 rfl rfl)
theorem dX6_labelsFrom_12 : decode cX6_labelsFrom 12 = .ok (.iconst 0, 1) := dk_3 (dk_at dksX6_labelsFrom_0 12 rfl rfl)
theorem dX6_labelsFrom_13 : decode cX6_labelsFrom 13 = .ok (.istore_n 3, 1) := dk_62 (dk_at dksX6_labelsFrom_0 13 rfl rfl)
theorem dX6_labelsFrom_14 : decode cX6_labelsFrom 14 = .ok (.iload_n 3, 1) := dk_29 (dk_at dksX6_labelsFrom_0 14 rfl rfl)
theorem dX6_labelsFrom_15 : decode cX6_labelsFrom 15 = .ok (.aload_n 0, 1) := dk_42 (dk_at dksX6_labelsFrom_0 15 rfl rfl)
theorem dX6_labelsFrom_16 : decode cX6_labelsFrom 16 = .ok (.getfield 15, 3) := dk_180 0 15 (dk_at dksX6_labelsFrom_0 16 rfl rfl)
theorem dX6_labelsFrom_19 : decode cX6_labelsFrom 19 = .ok (.getfield 19, 3) := dk_180 0 19 (dk_at dksX6_labelsFrom_0 19 rfl rfl)
theorem dX6_labelsFrom_22 : decode cX6_labelsFrom 22 = .ok (.if_icmp .ge 99, 3) := dk_162 0 99 (dk_at dksX6_labelsFrom_1 0 rfl rfl)
theorem dX6_labelsFrom_25 : decode cX6_labelsFrom 25 = .ok (.iload_n 2, 1) := dk_28 (dk_at dksX6_labelsFrom_1 3 rfl rfl)
theorem dX6_labelsFrom_26 : decode cX6_labelsFrom 26 = .ok (.iload_n 3, 1) := dk_29 (dk_at dksX6_labelsFrom_1 4 rfl rfl)
theorem dX6_labelsFrom_27 : decode cX6_labelsFrom 27 = .ok (.invokestatic 38, 3) := dk_184 0 38 (dk_at dksX6_labelsFrom_1 5 rfl rfl)
theorem dX6_labelsFrom_30 : decode cX6_labelsFrom 30 = .ok (.ifCond .ne 85, 3) := dk_154 0 85 (dk_at dksX6_labelsFrom_1 8 rfl rfl)
theorem dX6_labelsFrom_33 : decode cX6_labelsFrom 33 = .ok (.aload_n 0, 1) := dk_42 (dk_at dksX6_labelsFrom_1 11 rfl rfl)
theorem dX6_labelsFrom_34 : decode cX6_labelsFrom 34 = .ok (.getfield 15, 3) := dk_180 0 15 (dk_at dksX6_labelsFrom_1 12 rfl rfl)
theorem dX6_labelsFrom_37 : decode cX6_labelsFrom 37 = .ok (.iload_n 1, 1) := dk_27 (dk_at dksX6_labelsFrom_1 15 rfl rfl)
theorem dX6_labelsFrom_38 : decode cX6_labelsFrom 38 = .ok (.iload_n 3, 1) := dk_29 (dk_at dksX6_labelsFrom_1 16 rfl rfl)
theorem dX6_labelsFrom_39 : decode cX6_labelsFrom 39 = .ok (.invokevirtual 42, 3) := dk_182 0 42 (dk_at dksX6_labelsFrom_1 17 rfl rfl)
theorem dX6_labelsFrom_42 : decode cX6_labelsFrom 42 = .ok (.ifCond .eq 73, 3) := dk_153 0 73 (dk_at dksX6_labelsFrom_1 20 rfl rfl)
theorem dX6_labelsFrom_45 : decode cX6_labelsFrom 45 = .ok (.aload_n 0, 1) := dk_42 (dk_at dksX6_labelsFrom_1 23 rfl rfl)
theorem dX6_labelsFrom_46 : decode cX6_labelsFrom 46 = .ok (.getfield 15, 3) := dk_180 0 15 (dk_at dksX6_labelsFrom_2 0 rfl rfl)
theorem dX6_labelsFrom_49 : decode cX6_labelsFrom 49 = .ok (.getfield 25, 3) := dk_180 0 25 (dk_at dksX6_labelsFrom_2 3 rfl rfl)
theorem dX6_labelsFrom_52 : decode cX6_labelsFrom 52 = .ok (.iload_n 1, 1) := dk_27 (dk_at dksX6_labelsFrom_2 6 rfl rfl)
theorem dX6_labelsFrom_53 : decode cX6_labelsFrom 53 = .ok (.iaload, 1) := dk_46 (dk_at dksX6_labelsFrom_2 7 rfl rfl)
theorem dX6_labelsFrom_54 : decode cX6_labelsFrom 54 = .ok (.iload_n 3, 1) := dk_29 (dk_at dksX6_labelsFrom_2 8 rfl rfl)
theorem dX6_labelsFrom_55 : decode cX6_labelsFrom 55 = .ok (.if_icmp .ne 6, 3) := dk_160 0 6 (dk_at dksX6_labelsFrom_2 9 rfl rfl)
theorem dX6_labelsFrom_58 : decode cX6_labelsFrom 58 = .ok (.goto 57, 3) := dk_167 0 57 (dk_at dksX6_labelsFrom_2 12 rfl rfl)
theorem dX6_labelsFrom_61 : decode cX6_labelsFrom 61 = .ok (.aload_n 0, 1) := dk_42 (dk_at dksX6_labelsFrom_2 15 rfl rfl)
theorem dX6_labelsFrom_62 : decode cX6_labelsFrom 62 = .ok (.dup, 1) := dk_89 (dk_at dksX6_labelsFrom_2 16 rfl rfl)
theorem dX6_labelsFrom_63 : decode cX6_labelsFrom 63 = .ok (.getfield 32, 3) := dk_180 0 32 (dk_at dksX6_labelsFrom_2 17 rfl rfl)
theorem dX6_labelsFrom_66 : decode cX6_labelsFrom 66 = .ok (.iconst 1, 1) := dk_4 (dk_at dksX6_labelsFrom_2 20 rfl rfl)
theorem dX6_labelsFrom_67 : decode cX6_labelsFrom 67 = .ok (.iload_n 3, 1) := dk_29 (dk_at dksX6_labelsFrom_2 21 rfl rfl)
theorem dX6_labelsFrom_68 : decode cX6_labelsFrom 68 = .ok (.ishl, 1) := dk_120 (dk_at dksX6_labelsFrom_2 22 rfl rfl)
theorem dX6_labelsFrom_69 : decode cX6_labelsFrom 69 = .ok (.ior, 1) := dk_128 (dk_at dksX6_labelsFrom_2 23 rfl rfl)
theorem dX6_labelsFrom_70 : decode cX6_labelsFrom 70 = .ok (.putfield 32, 3) := dk_181 0 32 (dk_at dksX6_labelsFrom_3 0 rfl rfl)
theorem dX6_labelsFrom_73 : decode cX6_labelsFrom 73 = .ok (.aload_n 0, 1) := dk_42 (dk_at dksX6_labelsFrom_3 3 rfl rfl)
theorem dX6_labelsFrom_74 : decode cX6_labelsFrom 74 = .ok (.getfield 15, 3) := dk_180 0 15 (dk_at dksX6_labelsFrom_3 4 rfl rfl)
theorem dX6_labelsFrom_77 : decode cX6_labelsFrom 77 = .ok (.getfield 25, 3) := dk_180 0 25 (dk_at dksX6_labelsFrom_3 7 rfl rfl)
theorem dX6_labelsFrom_80 : decode cX6_labelsFrom 80 = .ok (.iload_n 3, 1) := dk_29 (dk_at dksX6_labelsFrom_3 10 rfl rfl)
theorem dX6_labelsFrom_81 : decode cX6_labelsFrom 81 = .ok (.iaload, 1) := dk_46 (dk_at dksX6_labelsFrom_3 11 rfl rfl)
theorem dX6_labelsFrom_82 : decode cX6_labelsFrom 82 = .ok (.istore 4, 2) := dk_54 4 (dk_at dksX6_labelsFrom_3 12 rfl rfl)
theorem dX6_labelsFrom_84 : decode cX6_labelsFrom 84 = .ok (.iload 4, 2) := dk_21 4 (dk_at dksX6_labelsFrom_3 14 rfl rfl)
theorem dX6_labelsFrom_86 : decode cX6_labelsFrom 86 = .ok (.iconst (-1), 1) := dk_2 (dk_at dksX6_labelsFrom_3 16 rfl rfl)
theorem dX6_labelsFrom_87 : decode cX6_labelsFrom 87 = .ok (.if_icmp .eq 28, 3) := dk_159 0 28 (dk_at dksX6_labelsFrom_3 17 rfl rfl)
theorem dX6_labelsFrom_90 : decode cX6_labelsFrom 90 = .ok (.iload_n 2, 1) := dk_28 (dk_at dksX6_labelsFrom_3 20 rfl rfl)
theorem dX6_labelsFrom_91 : decode cX6_labelsFrom 91 = .ok (.iload 4, 2) := dk_21 4 (dk_at dksX6_labelsFrom_3 21 rfl rfl)
theorem dX6_labelsFrom_93 : decode cX6_labelsFrom 93 = .ok (.invokestatic 38, 3) := dk_184 0 38 (dk_at dksX6_labelsFrom_4 0 rfl rfl)
theorem dX6_labelsFrom_96 : decode cX6_labelsFrom 96 = .ok (.ifCond .ne 19, 3) := dk_154 0 19 (dk_at dksX6_labelsFrom_4 3 rfl rfl)
theorem dX6_labelsFrom_99 : decode cX6_labelsFrom 99 = .ok (.aload_n 0, 1) := dk_42 (dk_at dksX6_labelsFrom_4 6 rfl rfl)
theorem dX6_labelsFrom_100 : decode cX6_labelsFrom 100 = .ok (.iload 4, 2) := dk_21 4 (dk_at dksX6_labelsFrom_4 7 rfl rfl)
theorem dX6_labelsFrom_102 : decode cX6_labelsFrom 102 = .ok (.iload_n 2, 1) := dk_28 (dk_at dksX6_labelsFrom_4 9 rfl rfl)
theorem dX6_labelsFrom_103 : decode cX6_labelsFrom 103 = .ok (.iconst 1, 1) := dk_4 (dk_at dksX6_labelsFrom_4 10 rfl rfl)
theorem dX6_labelsFrom_104 : decode cX6_labelsFrom 104 = .ok (.iload_n 3, 1) := dk_29 (dk_at dksX6_labelsFrom_4 11 rfl rfl)
theorem dX6_labelsFrom_105 : decode cX6_labelsFrom 105 = .ok (.ishl, 1) := dk_120 (dk_at dksX6_labelsFrom_4 12 rfl rfl)
theorem dX6_labelsFrom_106 : decode cX6_labelsFrom 106 = .ok (.ior, 1) := dk_128 (dk_at dksX6_labelsFrom_4 13 rfl rfl)
theorem dX6_labelsFrom_107 : decode cX6_labelsFrom 107 = .ok (.iconst 1, 1) := dk_4 (dk_at dksX6_labelsFrom_4 14 rfl rfl)
theorem dX6_labelsFrom_108 : decode cX6_labelsFrom 108 = .ok (.iload 4, 2) := dk_21 4 (dk_at dksX6_labelsFrom_4 15 rfl rfl)
theorem dX6_labelsFrom_110 : decode cX6_labelsFrom 110 = .ok (.ishl, 1) := dk_120 (dk_at dksX6_labelsFrom_4 17 rfl rfl)
theorem dX6_labelsFrom_111 : decode cX6_labelsFrom 111 = .ok (.ior, 1) := dk_128 (dk_at dksX6_labelsFrom_4 18 rfl rfl)
theorem dX6_labelsFrom_112 : decode cX6_labelsFrom 112 = .ok (.invokevirtual 28, 3) := dk_182 0 28 (dk_at dksX6_labelsFrom_4 19 rfl rfl)
theorem dX6_labelsFrom_115 : decode cX6_labelsFrom 115 = .ok (.iinc 3 1, 3) := dk_132 3 1 (dk_at dksX6_labelsFrom_5 0 rfl rfl)
theorem dX6_labelsFrom_118 : decode cX6_labelsFrom 118 = .ok (.goto (-104), 3) := dk_167 255 152 (dk_at dksX6_labelsFrom_5 3 rfl rfl)
theorem dX6_labelsFrom_121 : decode cX6_labelsFrom 121 = .ok (.return_, 1) := dk_177 (dk_at dksX6_labelsFrom_5 6 rfl rfl)
theorem q100 : (Jvm.Cond.initialized "OddPairs$Walk") ∈ lw_all := lw_g (lw_at lw_m1 29 rfl) rfl
theorem q151 : (Jvm.Cond.fieldLinkNest "OddPairs$Walk" (19 : Nat) "OddPairs$Net" "many" "I" "OddPairs") ∈ lw_tbl := lw_at lw_m1 80 rfl
theorem q160 : (Jvm.Cond.fieldLinkNest "OddPairs$Walk" (25 : Nat) "OddPairs$Net" "mate" "[I" "OddPairs") ∈ lw_tbl := lw_at lw_m1 89 rfl
theorem q458 : (Jvm.Cond.selects "OddPairs$Walk" ({ cls := "java/lang/Object", name := "getClass", desc := "()Ljava/lang/Class;" } : Jvm.MethodName) ({ cls := "java/lang/Object", name := "getClass", desc := "()Ljava/lang/Class;" } : Jvm.MethodName)) ∈ lw_all := lw_g (lw_at lw_m2 147 rfl) rfl
theorem q1208 : (Jvm.Cond.instantiable "OddPairs$Walk" (5 : Nat)) ∈ lw_all := lw_g (lw_at lw_m5 177 rfl) rfl
theorem q1210 : (Jvm.Cond.instanceMethod ({ cls := "OddPairs$Walk", name := "<init>", desc := "(LOddPairs$Net;)V" } : Jvm.MethodName)) ∈ lw_all := lw_g (lw_at lw_m5 179 rfl) rfl
theorem q1211 : (Jvm.Cond.code ({ cls := "OddPairs$Walk", name := "<init>", desc := "(LOddPairs$Net;)V" } : Jvm.MethodName) prog_8_method_1_code (2 : Nat) (Option.none : Option Jvm.ClassFile.FieldType)) ∈ lw_all := lw_g (lw_at lw_m5 180 rfl) rfl
theorem q1212 : (Jvm.Cond.methodLink "OddPairs$Walk" (3 : Nat) ({ cls := "java/lang/Object", name := "<init>", desc := "()V" } : Jvm.MethodName)) ∈ lw_all := lw_g (lw_at lw_m5 181 rfl) rfl
theorem q1213 : (Jvm.Cond.fieldLink "OddPairs$Walk" (15 : Nat) "OddPairs$Walk" "net" "LOddPairs$Net;") ∈ lw_all := lw_g (lw_at lw_m5 182 rfl) rfl
theorem q1214 : (Jvm.Cond.fieldLink "OddPairs$Walk" (9 : Nat) "OddPairs$Walk" "row" "[I") ∈ lw_all := lw_g (lw_at lw_m5 183 rfl) rfl
theorem q1216 : (Jvm.Cond.fieldLink "OddPairs$Walk" (49 : Nat) "OddPairs$Walk" "many" "I") ∈ lw_all := lw_g (lw_at lw_m5 185 rfl) rfl
theorem q1218 : (Jvm.Cond.fieldLink "OddPairs$Walk" (35 : Nat) "OddPairs$Walk" "even" "I") ∈ lw_all := lw_g (lw_at lw_m5 187 rfl) rfl
theorem q1220 : (Jvm.Cond.fieldLink "OddPairs$Walk" (32 : Nat) "OddPairs$Walk" "odd" "I") ∈ lw_all := lw_g (lw_at lw_m5 189 rfl) rfl
theorem q1222 : (Jvm.Cond.laysFinal "OddPairs$Walk" "OddPairs$Walk" "net" "LOddPairs$Net;") ∈ lw_all := lw_g (lw_at lw_m5 191 rfl) rfl
theorem q1223 : (Jvm.Cond.soleField "OddPairs$Walk" "net") ∈ lw_all := lw_g (lw_at lw_m5 192 rfl) rfl
theorem q1224 : (Jvm.Cond.laysFinal "OddPairs$Walk" "OddPairs$Walk" "row" "[I") ∈ lw_all := lw_g (lw_at lw_m5 193 rfl) rfl
theorem q1225 : (Jvm.Cond.soleField "OddPairs$Walk" "row") ∈ lw_all := lw_g (lw_at lw_m5 194 rfl) rfl
theorem q1226 : (Jvm.Cond.lays "OddPairs$Walk" "OddPairs$Walk" "many" "I") ∈ lw_all := lw_g (lw_at lw_m5 195 rfl) rfl
theorem q1227 : (Jvm.Cond.soleField "OddPairs$Walk" "many") ∈ lw_all := lw_g (lw_at lw_m5 196 rfl) rfl
theorem q1228 : (Jvm.Cond.lays "OddPairs$Walk" "OddPairs$Walk" "even" "I") ∈ lw_all := lw_g (lw_at lw_m5 197 rfl) rfl
theorem q1229 : (Jvm.Cond.soleField "OddPairs$Walk" "even") ∈ lw_all := lw_g (lw_at lw_m5 198 rfl) rfl
theorem q1230 : (Jvm.Cond.lays "OddPairs$Walk" "OddPairs$Walk" "odd" "I") ∈ lw_all := lw_g (lw_at lw_m5 199 rfl) rfl
theorem q1231 : (Jvm.Cond.soleField "OddPairs$Walk" "odd") ∈ lw_all := lw_g (lw_at lw_m5 200 rfl) rfl
theorem q1232 : (Jvm.Cond.superclass "OddPairs$Walk" "java/lang/Object") ∈ lw_all := lw_g (lw_at lw_m5 201 rfl) rfl
theorem q1234 : (Jvm.Cond.instanceMethod ({ cls := "OddPairs$Walk", name := "path", desc := "(I)LOddPairs$Walk;" } : Jvm.MethodName)) ∈ lw_all := lw_g (lw_at lw_m5 203 rfl) rfl
theorem q1235 : (Jvm.Cond.selects "OddPairs$Walk" ({ cls := "OddPairs$Walk", name := "path", desc := "(I)LOddPairs$Walk;" } : Jvm.MethodName) ({ cls := "OddPairs$Walk", name := "path", desc := "(I)LOddPairs$Walk;" } : Jvm.MethodName)) ∈ lw_all := lw_g (lw_at lw_m5 204 rfl) rfl
theorem q1236 : (Jvm.Cond.code ({ cls := "OddPairs$Walk", name := "path", desc := "(I)LOddPairs$Walk;" } : Jvm.MethodName) prog_8_method_5_code (3 : Nat) (Option.some (Jvm.ClassFile.FieldType.object "OddPairs$Walk"))) ∈ lw_all := lw_g (lw_at lw_m5 205 rfl) rfl
theorem q1237 : (Jvm.Cond.methodLink "OddPairs$Walk" (45 : Nat) ({ cls := "OddPairs$Walk", name := "goes", desc := "(IIIIZ)Z" } : Jvm.MethodName)) ∈ lw_all := lw_g (lw_at lw_m5 206 rfl) rfl
theorem q1238 : (Jvm.Cond.privateMethod ({ cls := "OddPairs$Walk", name := "goes", desc := "(IIIIZ)Z" } : Jvm.MethodName)) ∈ lw_tbl := lw_at lw_m5 207 rfl
theorem q1239 : (Jvm.Cond.instanceMethod ({ cls := "OddPairs$Walk", name := "goes", desc := "(IIIIZ)Z" } : Jvm.MethodName)) ∈ lw_all := lw_g (lw_at lw_m5 208 rfl) rfl
theorem q1240 : (Jvm.Cond.code ({ cls := "OddPairs$Walk", name := "goes", desc := "(IIIIZ)Z" } : Jvm.MethodName) prog_8_method_4_code (8 : Nat) (Option.some Jvm.ClassFile.FieldType.boolean)) ∈ lw_all := lw_g (lw_at lw_m5 209 rfl) rfl
theorem q1241 : (Jvm.Cond.methodLinkNest "OddPairs$Walk" (38 : Nat) ({ cls := "OddPairs", name := "has", desc := "(II)Z" } : Jvm.MethodName) "OddPairs") ∈ lw_tbl := lw_at lw_m5 210 rfl
theorem q1242 : (Jvm.Cond.methodLink "OddPairs$Walk" (42 : Nat) ({ cls := "OddPairs$Net", name := "isLine", desc := "(II)Z" } : Jvm.MethodName)) ∈ lw_all := lw_g (lw_at lw_m5 211 rfl) rfl
theorem q1251 : (Jvm.Cond.instanceMethod ({ cls := "OddPairs$Walk", name := "flower", desc := "(I)LOddPairs$Walk;" } : Jvm.MethodName)) ∈ lw_all := lw_g (lw_at lw_m5 220 rfl) rfl
theorem q1252 : (Jvm.Cond.selects "OddPairs$Walk" ({ cls := "OddPairs$Walk", name := "flower", desc := "(I)LOddPairs$Walk;" } : Jvm.MethodName) ({ cls := "OddPairs$Walk", name := "flower", desc := "(I)LOddPairs$Walk;" } : Jvm.MethodName)) ∈ lw_all := lw_g (lw_at lw_m5 221 rfl) rfl
theorem q1253 : (Jvm.Cond.code ({ cls := "OddPairs$Walk", name := "flower", desc := "(I)LOddPairs$Walk;" } : Jvm.MethodName) prog_8_method_6_code (4 : Nat) (Option.some (Jvm.ClassFile.FieldType.object "OddPairs$Walk"))) ∈ lw_all := lw_g (lw_at lw_m5 222 rfl) rfl
theorem q1367 : (Jvm.Cond.instanceMethod ({ cls := "OddPairs$Walk", name := "labels", desc := "()LOddPairs$Walk;" } : Jvm.MethodName)) ∈ lw_all := lw_g (lw_at lw_m6 96 rfl) rfl
theorem q1368 : (Jvm.Cond.selects "OddPairs$Walk" ({ cls := "OddPairs$Walk", name := "labels", desc := "()LOddPairs$Walk;" } : Jvm.MethodName) ({ cls := "OddPairs$Walk", name := "labels", desc := "()LOddPairs$Walk;" } : Jvm.MethodName)) ∈ lw_all := lw_g (lw_at lw_m6 97 rfl) rfl
theorem q1369 : (Jvm.Cond.code ({ cls := "OddPairs$Walk", name := "labels", desc := "()LOddPairs$Walk;" } : Jvm.MethodName) prog_8_method_2_code (2 : Nat) (Option.some (Jvm.ClassFile.FieldType.object "OddPairs$Walk"))) ∈ lw_all := lw_g (lw_at lw_m6 98 rfl) rfl
theorem q1370 : (Jvm.Cond.methodLink "OddPairs$Walk" (28 : Nat) ({ cls := "OddPairs$Walk", name := "labelsFrom", desc := "(II)V" } : Jvm.MethodName)) ∈ lw_all := lw_g (lw_at lw_m6 99 rfl) rfl
theorem q1371 : (Jvm.Cond.privateMethod ({ cls := "OddPairs$Walk", name := "labelsFrom", desc := "(II)V" } : Jvm.MethodName)) ∈ lw_tbl := lw_at lw_m6 100 rfl
theorem q1372 : (Jvm.Cond.instanceMethod ({ cls := "OddPairs$Walk", name := "labelsFrom", desc := "(II)V" } : Jvm.MethodName)) ∈ lw_all := lw_g (lw_at lw_m6 101 rfl) rfl
theorem q1373 : (Jvm.Cond.code ({ cls := "OddPairs$Walk", name := "labelsFrom", desc := "(II)V" } : Jvm.MethodName) prog_8_method_3_code (5 : Nat) (Option.none : Option Jvm.ClassFile.FieldType)) ∈ lw_all := lw_g (lw_at lw_m6 102 rfl) rfl
theorem q1897 : (Jvm.Cond.castable "OddPairs$Walk" "java/lang/Object") ∈ lw_tbl := lw_at lw_m8 146 rfl
theorem in_X6 : ∀ w ∈ wsX60, w ∈ lw_all := lw_in wsX60 [1222, 1224, 1226, 1228, 1230] (by decide +kernel) (by decide +kernel)
/-! OddPairs$Greatest -/
set_option maxRecDepth 100000
def RX7 : String := "OddPairs$Greatest"
def TX7 : u_T := fun k => match k with
  | 0 => ("OddPairs$Greatest", "net", "LOddPairs$Net;", true)
  | 1 => ("OddPairs$Greatest", "trees", "LOddPairs$Trees;", true)
  | _ => ("OddPairs$Greatest", "most", "I", true)
def tyX7 : Nat → FieldType := fun k => match k with
  | 0 => .object "OddPairs$Net"
  | 1 => .object "OddPairs$Trees"
  | _ => .int
abbrev wsX70 : List Cond := u_ws RX7 TX7 3
theorem nmX7 : ∀ a, a < 3 → ∀ b, b < 3 → a ≠ b → (TX7 a).2.1 ≠ (TX7 b).2.1 := by decide +kernel
theorem tyX7_ok : ∀ k, k < 3 → parseFieldDescriptor (TX7 k).2.2.1 = some (tyX7 k) := by decide +kernel
abbrev cX7_init : ByteArray := prog_2_method_1_code
def yX7_init : MethodName := ⟨RX7, "<init>", "(LOddPairs$Net;)V"⟩
def dkwX7_init_1 : List UInt8 := [180, 0, 20, 43, 182, 0, 24, 182, 0, 30, 181, 0, 34, 177]
abbrev dktX7_init_1 : List UInt8 := dkwX7_init_1 ++ []
def dkwX7_init_0 : List UInt8 := [42, 183, 0, 3, 42, 43, 181, 0, 9, 42, 187, 0, 15, 89, 43, 183, 0, 17, 181, 0, 20, 42, 42]
abbrev dktX7_init_0 : List UInt8 := dkwX7_init_0 ++ dktX7_init_1
theorem dksX7_init_0 : cX7_init.data.toList.drop 0 = dktX7_init_0 := by decide +kernel
theorem dksX7_init_1 : cX7_init.data.toList.drop 23 = dktX7_init_1 := dk_seg dksX7_init_0 23 rfl rfl
theorem dX7_init_0 : decode cX7_init 0 = .ok (.aload_n 0, 1) := dk_42 (dk_at dksX7_init_0 0 rfl rfl)
theorem dX7_init_1 : decode cX7_init 1 = .ok (.invokespecial 3, 3) := dk_183 0 3 (dk_at dksX7_init_0 1 rfl rfl)
theorem dX7_init_4 : decode cX7_init 4 = .ok (.aload_n 0, 1) := dk_42 (dk_at dksX7_init_0 4 rfl rfl)
theorem dX7_init_5 : decode cX7_init 5 = .ok (.aload_n 1, 1) := dk_43 (dk_at dksX7_init_0 5 rfl rfl)
theorem dX7_init_6 : decode cX7_init 6 = .ok (.putfield 9, 3) := dk_181 0 9 (dk_at dksX7_init_0 6 rfl rfl)
theorem dX7_init_9 : decode cX7_init 9 = .ok (.aload_n 0, 1) := dk_42 (dk_at dksX7_init_0 9 rfl rfl)
theorem dX7_init_10 : decode cX7_init 10 = .ok (.new 15, 3) := dk_187 0 15 (dk_at dksX7_init_0 10 rfl rfl)
theorem dX7_init_13 : decode cX7_init 13 = .ok (.dup, 1) := dk_89 (dk_at dksX7_init_0 13 rfl rfl)
theorem dX7_init_14 : decode cX7_init 14 = .ok (.aload_n 1, 1) := dk_43 (dk_at dksX7_init_0 14 rfl rfl)
theorem dX7_init_15 : decode cX7_init 15 = .ok (.invokespecial 17, 3) := dk_183 0 17 (dk_at dksX7_init_0 15 rfl rfl)
theorem dX7_init_18 : decode cX7_init 18 = .ok (.putfield 20, 3) := dk_181 0 20 (dk_at dksX7_init_0 18 rfl rfl)
theorem dX7_init_21 : decode cX7_init 21 = .ok (.aload_n 0, 1) := dk_42 (dk_at dksX7_init_0 21 rfl rfl)
theorem dX7_init_22 : decode cX7_init 22 = .ok (.aload_n 0, 1) := dk_42 (dk_at dksX7_init_0 22 rfl rfl)
theorem dX7_init_23 : decode cX7_init 23 = .ok (.getfield 20, 3) := dk_180 0 20 (dk_at dksX7_init_1 0 rfl rfl)
theorem dX7_init_26 : decode cX7_init 26 = .ok (.aload_n 1, 1) := dk_43 (dk_at dksX7_init_1 3 rfl rfl)
theorem dX7_init_27 : decode cX7_init 27 = .ok (.invokevirtual 24, 3) := dk_182 0 24 (dk_at dksX7_init_1 4 rfl rfl)
theorem dX7_init_30 : decode cX7_init 30 = .ok (.invokevirtual 30, 3) := dk_182 0 30 (dk_at dksX7_init_1 7 rfl rfl)
theorem dX7_init_33 : decode cX7_init 33 = .ok (.putfield 34, 3) := dk_181 0 34 (dk_at dksX7_init_1 10 rfl rfl)
theorem dX7_init_36 : decode cX7_init 36 = .ok (.return_, 1) := dk_177 (dk_at dksX7_init_1 13 rfl rfl)
abbrev cX7_first : ByteArray := prog_2_method_2_code
def yX7_first : MethodName := ⟨RX7, "first", "()[I"⟩
def dkwX7_first_7 : List UInt8 := [28, 4, 21, 5, 120, 2, 130, 126, 61, 132, 3, 255, 132, 4, 1, 167, 255, 108, 43, 176]
abbrev dktX7_first_7 : List UInt8 := dkwX7_first_7 ++ []
def dkwX7_first_6 : List UInt8 := [180, 0, 9, 180, 0, 37, 160, 0, 6, 167, 0, 27, 43, 21, 4, 21, 5, 79, 43, 21, 5, 21, 4, 79]
abbrev dktX7_first_6 : List UInt8 := dkwX7_first_6 ++ dktX7_first_7
def dkwX7_first_5 : List UInt8 := [4, 100, 159, 0, 9, 132, 5, 1, 167, 255, 192, 28, 4, 21, 4, 120, 2, 130, 126, 61, 21, 5, 42]
abbrev dktX7_first_5 : List UInt8 := dkwX7_first_5 ++ dktX7_first_6
def dkwX7_first_4 : List UInt8 := [153, 0, 29, 42, 180, 0, 20, 28, 4, 21, 4, 120, 4, 21, 5, 120, 128, 2, 130, 126, 182, 0, 30, 29]
abbrev dktX7_first_4 : List UInt8 := dkwX7_first_4 ++ dktX7_first_5
def dkwX7_first_3 : List UInt8 := [162, 0, 58, 28, 21, 5, 184, 0, 46, 153, 0, 43, 42, 180, 0, 9, 21, 4, 21, 5, 182, 0, 50]
abbrev dktX7_first_3 : List UInt8 := dkwX7_first_3 ++ dktX7_first_4
def dkwX7_first_2 : List UInt8 := [184, 0, 46, 154, 0, 6, 167, 0, 124, 21, 4, 4, 96, 54, 5, 21, 5, 42, 180, 0, 9, 180, 0, 37]
abbrev dktX7_first_2 : List UInt8 := dkwX7_first_2 ++ dktX7_first_3
def dkwX7_first_1 : List UInt8 := [180, 0, 34, 62, 3, 54, 4, 21, 4, 42, 180, 0, 9, 180, 0, 37, 162, 0, 142, 28, 21, 4]
abbrev dktX7_first_1 : List UInt8 := dkwX7_first_1 ++ dktX7_first_2
def dkwX7_first_0 : List UInt8 := [42, 180, 0, 9, 180, 0, 37, 188, 10, 76, 43, 2, 184, 0, 40, 42, 180, 0, 9, 182, 0, 24, 61, 42]
abbrev dktX7_first_0 : List UInt8 := dkwX7_first_0 ++ dktX7_first_1
theorem dksX7_first_0 : cX7_first.data.toList.drop 0 = dktX7_first_0 := by decide +kernel
theorem dksX7_first_1 : cX7_first.data.toList.drop 24 = dktX7_first_1 := dk_seg dksX7_first_0 24 rfl rfl
theorem dksX7_first_2 : cX7_first.data.toList.drop 46 = dktX7_first_2 := dk_seg dksX7_first_1 22 rfl rfl
theorem dksX7_first_3 : cX7_first.data.toList.drop 70 = dktX7_first_3 := dk_seg dksX7_first_2 24 rfl rfl
theorem dksX7_first_4 : cX7_first.data.toList.drop 93 = dktX7_first_4 := dk_seg dksX7_first_3 23 rfl rfl
theorem dksX7_first_5 : cX7_first.data.toList.drop 117 = dktX7_first_5 := dk_seg dksX7_first_4 24 rfl rfl
theorem dksX7_first_6 : cX7_first.data.toList.drop 140 = dktX7_first_6 := dk_seg dksX7_first_5 23 rfl rfl
theorem dksX7_first_7 : cX7_first.data.toList.drop 164 = dktX7_first_7 := dk_seg dksX7_first_6 24 rfl rfl
theorem dX7_first_0 : decode cX7_first 0 = .ok (.aload_n 0, 1) := dk_42 (dk_at dksX7_first_0 0 rfl rfl)
theorem dX7_first_1 : decode cX7_first 1 = .ok (.getfield 9, 3) := dk_180 0 9 (dk_at dksX7_first_0 1 rfl rfl)
theorem dX7_first_4 : decode cX7_first 4 = .ok (.getfield 37, 3) := dk_180 0 37 (dk_at dksX7_first_0 4 rfl rfl)
theorem dX7_first_7 : decode cX7_first 7 = .ok (.newarray .int, 2) := dk_188_10 (dk_at dksX7_first_0 7 rfl rfl)
theorem dX7_first_9 : decode cX7_first 9 = .ok (.astore_n 1, 1) := dk_76 (dk_at dksX7_first_0 9 rfl rfl)
theorem dX7_first_10 : decode cX7_first 10 = .ok (.aload_n 1, 1) := dk_43 (dk_at dksX7_first_0 10 rfl rfl)
theorem dX7_first_11 : decode cX7_first 11 = .ok (.iconst (-1), 1) := dk_2 (dk_at dksX7_first_0 11 rfl rfl)
theorem dX7_first_12 : decode cX7_first 12 = .ok (.invokestatic 40, 3) := dk_184 0 40 (dk_at dksX7_first_0 12 rfl rfl)
theorem dX7_first_15 : decode cX7_first 15 = .ok (.aload_n 0, 1) := dk_42 (dk_at dksX7_first_0 15 rfl rfl)
theorem dX7_first_16 : decode cX7_first 16 = .ok (.getfield 9, 3) := dk_180 0 9 (dk_at dksX7_first_0 16 rfl rfl)
theorem dX7_first_19 : decode cX7_first 19 = .ok (.invokevirtual 24, 3) := dk_182 0 24 (dk_at dksX7_first_0 19 rfl rfl)
theorem dX7_first_22 : decode cX7_first 22 = .ok (.istore_n 2, 1) := dk_61 (dk_at dksX7_first_0 22 rfl rfl)
theorem dX7_first_23 : decode cX7_first 23 = .ok (.aload_n 0, 1) := dk_42 (dk_at dksX7_first_0 23 rfl rfl)
theorem dX7_first_24 : decode cX7_first 24 = .ok (.getfield 34, 3) := dk_180 0 34 (dk_at dksX7_first_1 0 rfl rfl)
theorem dX7_first_27 : decode cX7_first 27 = .ok (.istore_n 3, 1) := dk_62 (dk_at dksX7_first_1 3 rfl rfl)
theorem dX7_first_28 : decode cX7_first 28 = .ok (.iconst 0, 1) := dk_3 (dk_at dksX7_first_1 4 rfl rfl)
theorem dX7_first_29 : decode cX7_first 29 = .ok (.istore 4, 2) := dk_54 4 (dk_at dksX7_first_1 5 rfl rfl)
theorem dX7_first_31 : decode cX7_first 31 = .ok (.iload 4, 2) := dk_21 4 (dk_at dksX7_first_1 7 rfl rfl)
theorem dX7_first_33 : decode cX7_first 33 = .ok (.aload_n 0, 1) := dk_42 (dk_at dksX7_first_1 9 rfl rfl)
theorem dX7_first_34 : decode cX7_first 34 = .ok (.getfield 9, 3) := dk_180 0 9 (dk_at dksX7_first_1 10 rfl rfl)
theorem dX7_first_37 : decode cX7_first 37 = .ok (.getfield 37, 3) := dk_180 0 37 (dk_at dksX7_first_1 13 rfl rfl)
theorem dX7_first_40 : decode cX7_first 40 = .ok (.if_icmp .ge 142, 3) := dk_162 0 142 (dk_at dksX7_first_1 16 rfl rfl)
theorem dX7_first_43 : decode cX7_first 43 = .ok (.iload_n 2, 1) := dk_28 (dk_at dksX7_first_1 19 rfl rfl)
theorem dX7_first_44 : decode cX7_first 44 = .ok (.iload 4, 2) := dk_21 4 (dk_at dksX7_first_1 20 rfl rfl)
theorem dX7_first_46 : decode cX7_first 46 = .ok (.invokestatic 46, 3) := dk_184 0 46 (dk_at dksX7_first_2 0 rfl rfl)
theorem dX7_first_49 : decode cX7_first 49 = .ok (.ifCond .ne 6, 3) := dk_154 0 6 (dk_at dksX7_first_2 3 rfl rfl)
theorem dX7_first_52 : decode cX7_first 52 = .ok (.goto 124, 3) := dk_167 0 124 (dk_at dksX7_first_2 6 rfl rfl)
theorem dX7_first_55 : decode cX7_first 55 = .ok (.iload 4, 2) := dk_21 4 (dk_at dksX7_first_2 9 rfl rfl)
theorem dX7_first_57 : decode cX7_first 57 = .ok (.iconst 1, 1) := dk_4 (dk_at dksX7_first_2 11 rfl rfl)
theorem dX7_first_58 : decode cX7_first 58 = .ok (.iadd, 1) := dk_96 (dk_at dksX7_first_2 12 rfl rfl)
theorem dX7_first_59 : decode cX7_first 59 = .ok (.istore 5, 2) := dk_54 5 (dk_at dksX7_first_2 13 rfl rfl)
theorem dX7_first_61 : decode cX7_first 61 = .ok (.iload 5, 2) := dk_21 5 (dk_at dksX7_first_2 15 rfl rfl)
theorem dX7_first_63 : decode cX7_first 63 = .ok (.aload_n 0, 1) := dk_42 (dk_at dksX7_first_2 17 rfl rfl)
theorem dX7_first_64 : decode cX7_first 64 = .ok (.getfield 9, 3) := dk_180 0 9 (dk_at dksX7_first_2 18 rfl rfl)
theorem dX7_first_67 : decode cX7_first 67 = .ok (.getfield 37, 3) := dk_180 0 37 (dk_at dksX7_first_2 21 rfl rfl)
theorem dX7_first_70 : decode cX7_first 70 = .ok (.if_icmp .ge 58, 3) := dk_162 0 58 (dk_at dksX7_first_3 0 rfl rfl)
theorem dX7_first_73 : decode cX7_first 73 = .ok (.iload_n 2, 1) := dk_28 (dk_at dksX7_first_3 3 rfl rfl)
theorem dX7_first_74 : decode cX7_first 74 = .ok (.iload 5, 2) := dk_21 5 (dk_at dksX7_first_3 4 rfl rfl)
theorem dX7_first_76 : decode cX7_first 76 = .ok (.invokestatic 46, 3) := dk_184 0 46 (dk_at dksX7_first_3 6 rfl rfl)
theorem dX7_first_79 : decode cX7_first 79 = .ok (.ifCond .eq 43, 3) := dk_153 0 43 (dk_at dksX7_first_3 9 rfl rfl)
theorem dX7_first_82 : decode cX7_first 82 = .ok (.aload_n 0, 1) := dk_42 (dk_at dksX7_first_3 12 rfl rfl)
theorem dX7_first_83 : decode cX7_first 83 = .ok (.getfield 9, 3) := dk_180 0 9 (dk_at dksX7_first_3 13 rfl rfl)
theorem dX7_first_86 : decode cX7_first 86 = .ok (.iload 4, 2) := dk_21 4 (dk_at dksX7_first_3 16 rfl rfl)
theorem dX7_first_88 : decode cX7_first 88 = .ok (.iload 5, 2) := dk_21 5 (dk_at dksX7_first_3 18 rfl rfl)
theorem dX7_first_90 : decode cX7_first 90 = .ok (.invokevirtual 50, 3) := dk_182 0 50 (dk_at dksX7_first_3 20 rfl rfl)
theorem dX7_first_93 : decode cX7_first 93 = .ok (.ifCond .eq 29, 3) := dk_153 0 29 (dk_at dksX7_first_4 0 rfl rfl)
theorem dX7_first_96 : decode cX7_first 96 = .ok (.aload_n 0, 1) := dk_42 (dk_at dksX7_first_4 3 rfl rfl)
theorem dX7_first_97 : decode cX7_first 97 = .ok (.getfield 20, 3) := dk_180 0 20 (dk_at dksX7_first_4 4 rfl rfl)
theorem dX7_first_100 : decode cX7_first 100 = .ok (.iload_n 2, 1) := dk_28 (dk_at dksX7_first_4 7 rfl rfl)
theorem dX7_first_101 : decode cX7_first 101 = .ok (.iconst 1, 1) := dk_4 (dk_at dksX7_first_4 8 rfl rfl)
theorem dX7_first_102 : decode cX7_first 102 = .ok (.iload 4, 2) := dk_21 4 (dk_at dksX7_first_4 9 rfl rfl)
theorem dX7_first_104 : decode cX7_first 104 = .ok (.ishl, 1) := dk_120 (dk_at dksX7_first_4 11 rfl rfl)
theorem dX7_first_105 : decode cX7_first 105 = .ok (.iconst 1, 1) := dk_4 (dk_at dksX7_first_4 12 rfl rfl)
theorem dX7_first_106 : decode cX7_first 106 = .ok (.iload 5, 2) := dk_21 5 (dk_at dksX7_first_4 13 rfl rfl)
theorem dX7_first_108 : decode cX7_first 108 = .ok (.ishl, 1) := dk_120 (dk_at dksX7_first_4 15 rfl rfl)
theorem dX7_first_109 : decode cX7_first 109 = .ok (.ior, 1) := dk_128 (dk_at dksX7_first_4 16 rfl rfl)
theorem dX7_first_110 : decode cX7_first 110 = .ok (.iconst (-1), 1) := dk_2 (dk_at dksX7_first_4 17 rfl rfl)
theorem dX7_first_111 : decode cX7_first 111 = .ok (.ixor, 1) := dk_130 (dk_at dksX7_first_4 18 rfl rfl)
theorem dX7_first_112 : decode cX7_first 112 = .ok (.iand, 1) := dk_126 (dk_at dksX7_first_4 19 rfl rfl)
theorem dX7_first_113 : decode cX7_first 113 = .ok (.invokevirtual 30, 3) := dk_182 0 30 (dk_at dksX7_first_4 20 rfl rfl)
theorem dX7_first_116 : decode cX7_first 116 = .ok (.iload_n 3, 1) := dk_29 (dk_at dksX7_first_4 23 rfl rfl)
theorem dX7_first_117 : decode cX7_first 117 = .ok (.iconst 1, 1) := dk_4 (dk_at dksX7_first_5 0 rfl rfl)
theorem dX7_first_118 : decode cX7_first 118 = .ok (.isub, 1) := dk_100 (dk_at dksX7_first_5 1 rfl rfl)
theorem dX7_first_119 : decode cX7_first 119 = .ok (.if_icmp .eq 9, 3) := dk_159 0 9 (dk_at dksX7_first_5 2 rfl rfl)
theorem dX7_first_122 : decode cX7_first 122 = .ok (.iinc 5 1, 3) := dk_132 5 1 (dk_at dksX7_first_5 5 rfl rfl)
theorem dX7_first_125 : decode cX7_first 125 = .ok (.goto (-64), 3) := dk_167 255 192 (dk_at dksX7_first_5 8 rfl rfl)
theorem dX7_first_128 : decode cX7_first 128 = .ok (.iload_n 2, 1) := dk_28 (dk_at dksX7_first_5 11 rfl rfl)
theorem dX7_first_129 : decode cX7_first 129 = .ok (.iconst 1, 1) := dk_4 (dk_at dksX7_first_5 12 rfl rfl)
theorem dX7_first_130 : decode cX7_first 130 = .ok (.iload 4, 2) := dk_21 4 (dk_at dksX7_first_5 13 rfl rfl)
theorem dX7_first_132 : decode cX7_first 132 = .ok (.ishl, 1) := dk_120 (dk_at dksX7_first_5 15 rfl rfl)
theorem dX7_first_133 : decode cX7_first 133 = .ok (.iconst (-1), 1) := dk_2 (dk_at dksX7_first_5 16 rfl rfl)
theorem dX7_first_134 : decode cX7_first 134 = .ok (.ixor, 1) := dk_130 (dk_at dksX7_first_5 17 rfl rfl)
theorem dX7_first_135 : decode cX7_first 135 = .ok (.iand, 1) := dk_126 (dk_at dksX7_first_5 18 rfl rfl)
theorem dX7_first_136 : decode cX7_first 136 = .ok (.istore_n 2, 1) := dk_61 (dk_at dksX7_first_5 19 rfl rfl)
theorem dX7_first_137 : decode cX7_first 137 = .ok (.iload 5, 2) := dk_21 5 (dk_at dksX7_first_5 20 rfl rfl)
theorem dX7_first_139 : decode cX7_first 139 = .ok (.aload_n 0, 1) := dk_42 (dk_at dksX7_first_5 22 rfl rfl)
theorem dX7_first_140 : decode cX7_first 140 = .ok (.getfield 9, 3) := dk_180 0 9 (dk_at dksX7_first_6 0 rfl rfl)
theorem dX7_first_143 : decode cX7_first 143 = .ok (.getfield 37, 3) := dk_180 0 37 (dk_at dksX7_first_6 3 rfl rfl)
theorem dX7_first_146 : decode cX7_first 146 = .ok (.if_icmp .ne 6, 3) := dk_160 0 6 (dk_at dksX7_first_6 6 rfl rfl)
theorem dX7_first_149 : decode cX7_first 149 = .ok (.goto 27, 3) := dk_167 0 27 (dk_at dksX7_first_6 9 rfl rfl)
theorem dX7_first_152 : decode cX7_first 152 = .ok (.aload_n 1, 1) := dk_43 (dk_at dksX7_first_6 12 rfl rfl)
theorem dX7_first_153 : decode cX7_first 153 = .ok (.iload 4, 2) := dk_21 4 (dk_at dksX7_first_6 13 rfl rfl)
theorem dX7_first_155 : decode cX7_first 155 = .ok (.iload 5, 2) := dk_21 5 (dk_at dksX7_first_6 15 rfl rfl)
theorem dX7_first_157 : decode cX7_first 157 = .ok (.iastore, 1) := dk_79 (dk_at dksX7_first_6 17 rfl rfl)
theorem dX7_first_158 : decode cX7_first 158 = .ok (.aload_n 1, 1) := dk_43 (dk_at dksX7_first_6 18 rfl rfl)
theorem dX7_first_159 : decode cX7_first 159 = .ok (.iload 5, 2) := dk_21 5 (dk_at dksX7_first_6 19 rfl rfl)
theorem dX7_first_161 : decode cX7_first 161 = .ok (.iload 4, 2) := dk_21 4 (dk_at dksX7_first_6 21 rfl rfl)
theorem dX7_first_163 : decode cX7_first 163 = .ok (.iastore, 1) := dk_79 (dk_at dksX7_first_6 23 rfl rfl)
theorem dX7_first_164 : decode cX7_first 164 = .ok (.iload_n 2, 1) := dk_28 (dk_at dksX7_first_7 0 rfl rfl)
theorem dX7_first_165 : decode cX7_first 165 = .ok (.iconst 1, 1) := dk_4 (dk_at dksX7_first_7 1 rfl rfl)
theorem dX7_first_166 : decode cX7_first 166 = .ok (.iload 5, 2) := dk_21 5 (dk_at dksX7_first_7 2 rfl rfl)
theorem dX7_first_168 : decode cX7_first 168 = .ok (.ishl, 1) := dk_120 (dk_at dksX7_first_7 4 rfl rfl)
theorem dX7_first_169 : decode cX7_first 169 = .ok (.iconst (-1), 1) := dk_2 (dk_at dksX7_first_7 5 rfl rfl)
theorem dX7_first_170 : decode cX7_first 170 = .ok (.ixor, 1) := dk_130 (dk_at dksX7_first_7 6 rfl rfl)
theorem dX7_first_171 : decode cX7_first 171 = .ok (.iand, 1) := dk_126 (dk_at dksX7_first_7 7 rfl rfl)
theorem dX7_first_172 : decode cX7_first 172 = .ok (.istore_n 2, 1) := dk_61 (dk_at dksX7_first_7 8 rfl rfl)
theorem dX7_first_173 : decode cX7_first 173 = .ok (.iinc 3 (-1), 3) := dk_132 3 255 (dk_at dksX7_first_7 9 rfl rfl)
theorem dX7_first_176 : decode cX7_first 176 = .ok (.iinc 4 1, 3) := dk_132 4 1 (dk_at dksX7_first_7 12 rfl rfl)
theorem dX7_first_179 : decode cX7_first 179 = .ok (.goto (-148), 3) := dk_167 255 108 (dk_at dksX7_first_7 15 rfl rfl)
theorem dX7_first_182 : decode cX7_first 182 = .ok (.aload_n 1, 1) := dk_43 (dk_at dksX7_first_7 18 rfl rfl)
theorem dX7_first_183 : decode cX7_first 183 = .ok (.areturn, 1) := dk_176 (dk_at dksX7_first_7 19 rfl rfl)
abbrev cX7_ways : ByteArray := prog_2_method_3_code
def yX7_ways : MethodName := ⟨RX7, "ways", "(II)I"⟩
def dkwX7_ways_5 : List UInt8 := [21, 5, 172]
abbrev dktX7_ways_5 : List UInt8 := dkwX7_ways_5 ++ []
def dkwX7_ways_4 : List UInt8 := [21, 4, 4, 21, 6, 120, 2, 130, 126, 28, 4, 100, 182, 0, 61, 96, 54, 5, 132, 6, 1, 167, 255, 197]
abbrev dktX7_ways_4 : List UInt8 := dkwX7_ways_4 ++ dktX7_ways_5
def dkwX7_ways_3 : List UInt8 := [21, 6, 184, 0, 46, 153, 0, 37, 42, 180, 0, 9, 29, 21, 6, 182, 0, 50, 153, 0, 24, 21, 5, 42]
abbrev dktX7_ways_3 : List UInt8 := dkwX7_ways_3 ++ dktX7_ways_4
def dkwX7_ways_2 : List UInt8 := [182, 0, 61, 54, 5, 29, 4, 96, 54, 6, 21, 6, 42, 180, 0, 9, 180, 0, 37, 162, 0, 53, 21, 4]
abbrev dktX7_ways_2 : List UInt8 := dkwX7_ways_2 ++ dktX7_ways_3
def dkwX7_ways_1 : List UInt8 := [28, 162, 0, 5, 3, 172, 27, 184, 0, 58, 62, 27, 4, 29, 120, 2, 130, 126, 54, 4, 42, 21, 4, 28]
abbrev dktX7_ways_1 : List UInt8 := dkwX7_ways_1 ++ dktX7_ways_2
def dkwX7_ways_0 : List UInt8 := [28, 154, 0, 5, 4, 172, 27, 184, 0, 53, 5, 28, 104, 161, 0, 15, 42, 180, 0, 20, 27, 182, 0, 30]
abbrev dktX7_ways_0 : List UInt8 := dkwX7_ways_0 ++ dktX7_ways_1
theorem dksX7_ways_0 : cX7_ways.data.toList.drop 0 = dktX7_ways_0 := by decide +kernel
theorem dksX7_ways_1 : cX7_ways.data.toList.drop 24 = dktX7_ways_1 := dk_seg dksX7_ways_0 24 rfl rfl
theorem dksX7_ways_2 : cX7_ways.data.toList.drop 48 = dktX7_ways_2 := dk_seg dksX7_ways_1 24 rfl rfl
theorem dksX7_ways_3 : cX7_ways.data.toList.drop 72 = dktX7_ways_3 := dk_seg dksX7_ways_2 24 rfl rfl
theorem dksX7_ways_4 : cX7_ways.data.toList.drop 96 = dktX7_ways_4 := dk_seg dksX7_ways_3 24 rfl rfl
theorem dksX7_ways_5 : cX7_ways.data.toList.drop 120 = dktX7_ways_5 := dk_seg dksX7_ways_4 24 rfl rfl
theorem dX7_ways_0 : decode cX7_ways 0 = .ok (.iload_n 2, 1) := dk_28 (dk_at dksX7_ways_0 0 rfl rfl)
theorem dX7_ways_1 : decode cX7_ways 1 = .ok (.ifCond .ne 5, 3) := dk_154 0 5 (dk_at dksX7_ways_0 1 rfl rfl)
theorem dX7_ways_4 : decode cX7_ways 4 = .ok (.iconst 1, 1) := dk_4 (dk_at dksX7_ways_0 4 rfl rfl)
theorem dX7_ways_5 : decode cX7_ways 5 = .ok (.ireturn, 1) := dk_172 (dk_at dksX7_ways_0 5 rfl rfl)
theorem dX7_ways_6 : decode cX7_ways 6 = .ok (.iload_n 1, 1) := dk_27 (dk_at dksX7_ways_0 6 rfl rfl)
theorem dX7_ways_7 : decode cX7_ways 7 = .ok (.invokestatic 53, 3) := dk_184 0 53 (dk_at dksX7_ways_0 7 rfl rfl)
theorem dX7_ways_10 : decode cX7_ways 10 = .ok (.iconst 2, 1) := dk_5 (dk_at dksX7_ways_0 10 rfl rfl)
theorem dX7_ways_11 : decode cX7_ways 11 = .ok (.iload_n 2, 1) := dk_28 (dk_at dksX7_ways_0 11 rfl rfl)
theorem dX7_ways_12 : decode cX7_ways 12 = .ok (.imul, 1) := dk_104 (dk_at dksX7_ways_0 12 rfl rfl)
theorem dX7_ways_13 : decode cX7_ways 13 = .ok (.if_icmp .lt 15, 3) := dk_161 0 15 (dk_at dksX7_ways_0 13 rfl rfl)
theorem dX7_ways_16 : decode cX7_ways 16 = .ok (.aload_n 0, 1) := dk_42 (dk_at dksX7_ways_0 16 rfl rfl)
theorem dX7_ways_17 : decode cX7_ways 17 = .ok (.getfield 20, 3) := dk_180 0 20 (dk_at dksX7_ways_0 17 rfl rfl)
theorem dX7_ways_20 : decode cX7_ways 20 = .ok (.iload_n 1, 1) := dk_27 (dk_at dksX7_ways_0 20 rfl rfl)
theorem dX7_ways_21 : decode cX7_ways 21 = .ok (.invokevirtual 30, 3) := dk_182 0 30 (dk_at dksX7_ways_0 21 rfl rfl)
theorem dX7_ways_24 : decode cX7_ways 24 = .ok (.iload_n 2, 1) := dk_28 (dk_at dksX7_ways_1 0 rfl rfl)
theorem dX7_ways_25 : decode cX7_ways 25 = .ok (.if_icmp .ge 5, 3) := dk_162 0 5 (dk_at dksX7_ways_1 1 rfl rfl)
theorem dX7_ways_28 : decode cX7_ways 28 = .ok (.iconst 0, 1) := dk_3 (dk_at dksX7_ways_1 4 rfl rfl)
theorem dX7_ways_29 : decode cX7_ways 29 = .ok (.ireturn, 1) := dk_172 (dk_at dksX7_ways_1 5 rfl rfl)
theorem dX7_ways_30 : decode cX7_ways 30 = .ok (.iload_n 1, 1) := dk_27 (dk_at dksX7_ways_1 6 rfl rfl)
theorem dX7_ways_31 : decode cX7_ways 31 = .ok (.invokestatic 58, 3) := dk_184 0 58 (dk_at dksX7_ways_1 7 rfl rfl)
theorem dX7_ways_34 : decode cX7_ways 34 = .ok (.istore_n 3, 1) := dk_62 (dk_at dksX7_ways_1 10 rfl rfl)
theorem dX7_ways_35 : decode cX7_ways 35 = .ok (.iload_n 1, 1) := dk_27 (dk_at dksX7_ways_1 11 rfl rfl)
theorem dX7_ways_36 : decode cX7_ways 36 = .ok (.iconst 1, 1) := dk_4 (dk_at dksX7_ways_1 12 rfl rfl)
theorem dX7_ways_37 : decode cX7_ways 37 = .ok (.iload_n 3, 1) := dk_29 (dk_at dksX7_ways_1 13 rfl rfl)
theorem dX7_ways_38 : decode cX7_ways 38 = .ok (.ishl, 1) := dk_120 (dk_at dksX7_ways_1 14 rfl rfl)
theorem dX7_ways_39 : decode cX7_ways 39 = .ok (.iconst (-1), 1) := dk_2 (dk_at dksX7_ways_1 15 rfl rfl)
theorem dX7_ways_40 : decode cX7_ways 40 = .ok (.ixor, 1) := dk_130 (dk_at dksX7_ways_1 16 rfl rfl)
theorem dX7_ways_41 : decode cX7_ways 41 = .ok (.iand, 1) := dk_126 (dk_at dksX7_ways_1 17 rfl rfl)
theorem dX7_ways_42 : decode cX7_ways 42 = .ok (.istore 4, 2) := dk_54 4 (dk_at dksX7_ways_1 18 rfl rfl)
theorem dX7_ways_44 : decode cX7_ways 44 = .ok (.aload_n 0, 1) := dk_42 (dk_at dksX7_ways_1 20 rfl rfl)
theorem dX7_ways_45 : decode cX7_ways 45 = .ok (.iload 4, 2) := dk_21 4 (dk_at dksX7_ways_1 21 rfl rfl)
theorem dX7_ways_47 : decode cX7_ways 47 = .ok (.iload_n 2, 1) := dk_28 (dk_at dksX7_ways_1 23 rfl rfl)
theorem dX7_ways_48 : decode cX7_ways 48 = .ok (.invokevirtual 61, 3) := dk_182 0 61 (dk_at dksX7_ways_2 0 rfl rfl)
theorem dX7_ways_51 : decode cX7_ways 51 = .ok (.istore 5, 2) := dk_54 5 (dk_at dksX7_ways_2 3 rfl rfl)
theorem dX7_ways_53 : decode cX7_ways 53 = .ok (.iload_n 3, 1) := dk_29 (dk_at dksX7_ways_2 5 rfl rfl)
theorem dX7_ways_54 : decode cX7_ways 54 = .ok (.iconst 1, 1) := dk_4 (dk_at dksX7_ways_2 6 rfl rfl)
theorem dX7_ways_55 : decode cX7_ways 55 = .ok (.iadd, 1) := dk_96 (dk_at dksX7_ways_2 7 rfl rfl)
theorem dX7_ways_56 : decode cX7_ways 56 = .ok (.istore 6, 2) := dk_54 6 (dk_at dksX7_ways_2 8 rfl rfl)
theorem dX7_ways_58 : decode cX7_ways 58 = .ok (.iload 6, 2) := dk_21 6 (dk_at dksX7_ways_2 10 rfl rfl)
theorem dX7_ways_60 : decode cX7_ways 60 = .ok (.aload_n 0, 1) := dk_42 (dk_at dksX7_ways_2 12 rfl rfl)
theorem dX7_ways_61 : decode cX7_ways 61 = .ok (.getfield 9, 3) := dk_180 0 9 (dk_at dksX7_ways_2 13 rfl rfl)
theorem dX7_ways_64 : decode cX7_ways 64 = .ok (.getfield 37, 3) := dk_180 0 37 (dk_at dksX7_ways_2 16 rfl rfl)
theorem dX7_ways_67 : decode cX7_ways 67 = .ok (.if_icmp .ge 53, 3) := dk_162 0 53 (dk_at dksX7_ways_2 19 rfl rfl)
theorem dX7_ways_70 : decode cX7_ways 70 = .ok (.iload 4, 2) := dk_21 4 (dk_at dksX7_ways_2 22 rfl rfl)
theorem dX7_ways_72 : decode cX7_ways 72 = .ok (.iload 6, 2) := dk_21 6 (dk_at dksX7_ways_3 0 rfl rfl)
theorem dX7_ways_74 : decode cX7_ways 74 = .ok (.invokestatic 46, 3) := dk_184 0 46 (dk_at dksX7_ways_3 2 rfl rfl)
theorem dX7_ways_77 : decode cX7_ways 77 = .ok (.ifCond .eq 37, 3) := dk_153 0 37 (dk_at dksX7_ways_3 5 rfl rfl)
theorem dX7_ways_80 : decode cX7_ways 80 = .ok (.aload_n 0, 1) := dk_42 (dk_at dksX7_ways_3 8 rfl rfl)
theorem dX7_ways_81 : decode cX7_ways 81 = .ok (.getfield 9, 3) := dk_180 0 9 (dk_at dksX7_ways_3 9 rfl rfl)
theorem dX7_ways_84 : decode cX7_ways 84 = .ok (.iload_n 3, 1) := dk_29 (dk_at dksX7_ways_3 12 rfl rfl)
theorem dX7_ways_85 : decode cX7_ways 85 = .ok (.iload 6, 2) := dk_21 6 (dk_at dksX7_ways_3 13 rfl rfl)
theorem dX7_ways_87 : decode cX7_ways 87 = .ok (.invokevirtual 50, 3) := dk_182 0 50 (dk_at dksX7_ways_3 15 rfl rfl)
theorem dX7_ways_90 : decode cX7_ways 90 = .ok (.ifCond .eq 24, 3) := dk_153 0 24 (dk_at dksX7_ways_3 18 rfl rfl)
theorem dX7_ways_93 : decode cX7_ways 93 = .ok (.iload 5, 2) := dk_21 5 (dk_at dksX7_ways_3 21 rfl rfl)
theorem dX7_ways_95 : decode cX7_ways 95 = .ok (.aload_n 0, 1) := dk_42 (dk_at dksX7_ways_3 23 rfl rfl)
theorem dX7_ways_96 : decode cX7_ways 96 = .ok (.iload 4, 2) := dk_21 4 (dk_at dksX7_ways_4 0 rfl rfl)
theorem dX7_ways_98 : decode cX7_ways 98 = .ok (.iconst 1, 1) := dk_4 (dk_at dksX7_ways_4 2 rfl rfl)
theorem dX7_ways_99 : decode cX7_ways 99 = .ok (.iload 6, 2) := dk_21 6 (dk_at dksX7_ways_4 3 rfl rfl)
theorem dX7_ways_101 : decode cX7_ways 101 = .ok (.ishl, 1) := dk_120 (dk_at dksX7_ways_4 5 rfl rfl)
theorem dX7_ways_102 : decode cX7_ways 102 = .ok (.iconst (-1), 1) := dk_2 (dk_at dksX7_ways_4 6 rfl rfl)
theorem dX7_ways_103 : decode cX7_ways 103 = .ok (.ixor, 1) := dk_130 (dk_at dksX7_ways_4 7 rfl rfl)
theorem dX7_ways_104 : decode cX7_ways 104 = .ok (.iand, 1) := dk_126 (dk_at dksX7_ways_4 8 rfl rfl)
theorem dX7_ways_105 : decode cX7_ways 105 = .ok (.iload_n 2, 1) := dk_28 (dk_at dksX7_ways_4 9 rfl rfl)
theorem dX7_ways_106 : decode cX7_ways 106 = .ok (.iconst 1, 1) := dk_4 (dk_at dksX7_ways_4 10 rfl rfl)
theorem dX7_ways_107 : decode cX7_ways 107 = .ok (.isub, 1) := dk_100 (dk_at dksX7_ways_4 11 rfl rfl)
theorem dX7_ways_108 : decode cX7_ways 108 = .ok (.invokevirtual 61, 3) := dk_182 0 61 (dk_at dksX7_ways_4 12 rfl rfl)
theorem dX7_ways_111 : decode cX7_ways 111 = .ok (.iadd, 1) := dk_96 (dk_at dksX7_ways_4 15 rfl rfl)
theorem dX7_ways_112 : decode cX7_ways 112 = .ok (.istore 5, 2) := dk_54 5 (dk_at dksX7_ways_4 16 rfl rfl)
theorem dX7_ways_114 : decode cX7_ways 114 = .ok (.iinc 6 1, 3) := dk_132 6 1 (dk_at dksX7_ways_4 18 rfl rfl)
theorem dX7_ways_117 : decode cX7_ways 117 = .ok (.goto (-59), 3) := dk_167 255 197 (dk_at dksX7_ways_4 21 rfl rfl)
theorem dX7_ways_120 : decode cX7_ways 120 = .ok (.iload 5, 2) := dk_21 5 (dk_at dksX7_ways_5 0 rfl rfl)
theorem dX7_ways_122 : decode cX7_ways 122 = .ok (.ireturn, 1) := dk_172 (dk_at dksX7_ways_5 2 rfl rfl)
abbrev cX7_missing : ByteArray := prog_2_method_7_code
def yX7_missing : MethodName := ⟨RX7, "missing", "()I"⟩
def dkwX7_missing_0 : List UInt8 := [42, 180, 0, 9, 180, 0, 37, 5, 42, 180, 0, 34, 104, 100, 172]
abbrev dktX7_missing_0 : List UInt8 := dkwX7_missing_0 ++ []
theorem dksX7_missing_0 : cX7_missing.data.toList.drop 0 = dktX7_missing_0 := by decide +kernel
theorem dX7_missing_0 : decode cX7_missing 0 = .ok (.aload_n 0, 1) := dk_42 (dk_at dksX7_missing_0 0 rfl rfl)
theorem dX7_missing_1 : decode cX7_missing 1 = .ok (.getfield 9, 3) := dk_180 0 9 (dk_at dksX7_missing_0 1 rfl rfl)
theorem dX7_missing_4 : decode cX7_missing 4 = .ok (.getfield 37, 3) := dk_180 0 37 (dk_at dksX7_missing_0 4 rfl rfl)
theorem dX7_missing_7 : decode cX7_missing 7 = .ok (.iconst 2, 1) := dk_5 (dk_at dksX7_missing_0 7 rfl rfl)
theorem dX7_missing_8 : decode cX7_missing 8 = .ok (.aload_n 0, 1) := dk_42 (dk_at dksX7_missing_0 8 rfl rfl)
theorem dX7_missing_9 : decode cX7_missing 9 = .ok (.getfield 34, 3) := dk_180 0 34 (dk_at dksX7_missing_0 9 rfl rfl)
theorem dX7_missing_12 : decode cX7_missing 12 = .ok (.imul, 1) := dk_104 (dk_at dksX7_missing_0 12 rfl rfl)
theorem dX7_missing_13 : decode cX7_missing 13 = .ok (.isub, 1) := dk_100 (dk_at dksX7_missing_0 13 rfl rfl)
theorem dX7_missing_14 : decode cX7_missing 14 = .ok (.ireturn, 1) := dk_172 (dk_at dksX7_missing_0 14 rfl rfl)
abbrev cX7_missed : ByteArray := prog_2_method_5_code
def yX7_missed : MethodName := ⟨RX7, "missed", "()I"⟩
def dkwX7_missed_2 : List UInt8 := [167, 0, 4, 3, 128, 60, 132, 2, 1, 167, 255, 205, 27, 172]
abbrev dktX7_missed_2 : List UInt8 := dkwX7_missed_2 ++ []
def dkwX7_missed_1 : List UInt8 := [182, 0, 24, 4, 28, 120, 2, 130, 126, 182, 0, 30, 42, 180, 0, 34, 160, 0, 9, 4, 28, 120]
abbrev dktX7_missed_1 : List UInt8 := dkwX7_missed_1 ++ dktX7_missed_2
def dkwX7_missed_0 : List UInt8 := [3, 60, 3, 61, 28, 42, 180, 0, 9, 180, 0, 37, 162, 0, 46, 27, 42, 180, 0, 20, 42, 180, 0, 9]
abbrev dktX7_missed_0 : List UInt8 := dkwX7_missed_0 ++ dktX7_missed_1
theorem dksX7_missed_0 : cX7_missed.data.toList.drop 0 = dktX7_missed_0 := by decide +kernel
theorem dksX7_missed_1 : cX7_missed.data.toList.drop 24 = dktX7_missed_1 := dk_seg dksX7_missed_0 24 rfl rfl
theorem dksX7_missed_2 : cX7_missed.data.toList.drop 46 = dktX7_missed_2 := dk_seg dksX7_missed_1 22 rfl rfl
theorem dX7_missed_0 : decode cX7_missed 0 = .ok (.iconst 0, 1) := dk_3 (dk_at dksX7_missed_0 0 rfl rfl)
theorem dX7_missed_1 : decode cX7_missed 1 = .ok (.istore_n 1, 1) := dk_60 (dk_at dksX7_missed_0 1 rfl rfl)
theorem dX7_missed_2 : decode cX7_missed 2 = .ok (.iconst 0, 1) := dk_3 (dk_at dksX7_missed_0 2 rfl rfl)
theorem dX7_missed_3 : decode cX7_missed 3 = .ok (.istore_n 2, 1) := dk_61 (dk_at dksX7_missed_0 3 rfl rfl)
theorem dX7_missed_4 : decode cX7_missed 4 = .ok (.iload_n 2, 1) := dk_28 (dk_at dksX7_missed_0 4 rfl rfl)
theorem dX7_missed_5 : decode cX7_missed 5 = .ok (.aload_n 0, 1) := dk_42 (dk_at dksX7_missed_0 5 rfl rfl)
theorem dX7_missed_6 : decode cX7_missed 6 = .ok (.getfield 9, 3) := dk_180 0 9 (dk_at dksX7_missed_0 6 rfl rfl)
theorem dX7_missed_9 : decode cX7_missed 9 = .ok (.getfield 37, 3) := dk_180 0 37 (dk_at dksX7_missed_0 9 rfl rfl)
theorem dX7_missed_12 : decode cX7_missed 12 = .ok (.if_icmp .ge 46, 3) := dk_162 0 46 (dk_at dksX7_missed_0 12 rfl rfl)
theorem dX7_missed_15 : decode cX7_missed 15 = .ok (.iload_n 1, 1) := dk_27 (dk_at dksX7_missed_0 15 rfl rfl)
theorem dX7_missed_16 : decode cX7_missed 16 = .ok (.aload_n 0, 1) := dk_42 (dk_at dksX7_missed_0 16 rfl rfl)
theorem dX7_missed_17 : decode cX7_missed 17 = .ok (.getfield 20, 3) := dk_180 0 20 (dk_at dksX7_missed_0 17 rfl rfl)
theorem dX7_missed_20 : decode cX7_missed 20 = .ok (.aload_n 0, 1) := dk_42 (dk_at dksX7_missed_0 20 rfl rfl)
theorem dX7_missed_21 : decode cX7_missed 21 = .ok (.getfield 9, 3) := dk_180 0 9 (dk_at dksX7_missed_0 21 rfl rfl)
theorem dX7_missed_24 : decode cX7_missed 24 = .ok (.invokevirtual 24, 3) := dk_182 0 24 (dk_at dksX7_missed_1 0 rfl rfl)
theorem dX7_missed_27 : decode cX7_missed 27 = .ok (.iconst 1, 1) := dk_4 (dk_at dksX7_missed_1 3 rfl rfl)
theorem dX7_missed_28 : decode cX7_missed 28 = .ok (.iload_n 2, 1) := dk_28 (dk_at dksX7_missed_1 4 rfl rfl)
theorem dX7_missed_29 : decode cX7_missed 29 = .ok (.ishl, 1) := dk_120 (dk_at dksX7_missed_1 5 rfl rfl)
theorem dX7_missed_30 : decode cX7_missed 30 = .ok (.iconst (-1), 1) := dk_2 (dk_at dksX7_missed_1 6 rfl rfl)
theorem dX7_missed_31 : decode cX7_missed 31 = .ok (.ixor, 1) := dk_130 (dk_at dksX7_missed_1 7 rfl rfl)
theorem dX7_missed_32 : decode cX7_missed 32 = .ok (.iand, 1) := dk_126 (dk_at dksX7_missed_1 8 rfl rfl)
theorem dX7_missed_33 : decode cX7_missed 33 = .ok (.invokevirtual 30, 3) := dk_182 0 30 (dk_at dksX7_missed_1 9 rfl rfl)
theorem dX7_missed_36 : decode cX7_missed 36 = .ok (.aload_n 0, 1) := dk_42 (dk_at dksX7_missed_1 12 rfl rfl)
theorem dX7_missed_37 : decode cX7_missed 37 = .ok (.getfield 34, 3) := dk_180 0 34 (dk_at dksX7_missed_1 13 rfl rfl)
theorem dX7_missed_40 : decode cX7_missed 40 = .ok (.if_icmp .ne 9, 3) := dk_160 0 9 (dk_at dksX7_missed_1 16 rfl rfl)
theorem dX7_missed_43 : decode cX7_missed 43 = .ok (.iconst 1, 1) := dk_4 (dk_at dksX7_missed_1 19 rfl rfl)
theorem dX7_missed_44 : decode cX7_missed 44 = .ok (.iload_n 2, 1) := dk_28 (dk_at dksX7_missed_1 20 rfl rfl)
theorem dX7_missed_45 : decode cX7_missed 45 = .ok (.ishl, 1) := dk_120 (dk_at dksX7_missed_1 21 rfl rfl)
theorem dX7_missed_46 : decode cX7_missed 46 = .ok (.goto 4, 3) := dk_167 0 4 (dk_at dksX7_missed_2 0 rfl rfl)
theorem dX7_missed_49 : decode cX7_missed 49 = .ok (.iconst 0, 1) := dk_3 (dk_at dksX7_missed_2 3 rfl rfl)
theorem dX7_missed_50 : decode cX7_missed 50 = .ok (.ior, 1) := dk_128 (dk_at dksX7_missed_2 4 rfl rfl)
theorem dX7_missed_51 : decode cX7_missed 51 = .ok (.istore_n 1, 1) := dk_60 (dk_at dksX7_missed_2 5 rfl rfl)
theorem dX7_missed_52 : decode cX7_missed 52 = .ok (.iinc 2 1, 3) := dk_132 2 1 (dk_at dksX7_missed_2 6 rfl rfl)
theorem dX7_missed_55 : decode cX7_missed 55 = .ok (.goto (-51), 3) := dk_167 255 205 (dk_at dksX7_missed_2 9 rfl rfl)
theorem dX7_missed_58 : decode cX7_missed 58 = .ok (.iload_n 1, 1) := dk_27 (dk_at dksX7_missed_2 12 rfl rfl)
theorem dX7_missed_59 : decode cX7_missed 59 = .ok (.ireturn, 1) := dk_172 (dk_at dksX7_missed_2 13 rfl rfl)
abbrev cX7_beside : ByteArray := prog_2_method_6_code
def yX7_beside : MethodName := ⟨RX7, "beside", "()I"⟩
def dkwX7_beside_2 : List UInt8 := [167, 0, 4, 3, 128, 61, 132, 3, 1, 167, 255, 211, 28, 172]
abbrev dktX7_beside_2 : List UInt8 := dkwX7_beside_2 ++ []
def dkwX7_beside_1 : List UInt8 := [184, 0, 46, 154, 0, 22, 42, 180, 0, 9, 29, 182, 0, 80, 27, 126, 153, 0, 9, 4, 29, 120]
abbrev dktX7_beside_1 : List UInt8 := dkwX7_beside_1 ++ dktX7_beside_2
def dkwX7_beside_0 : List UInt8 := [42, 182, 0, 77, 60, 3, 61, 3, 62, 29, 42, 180, 0, 9, 180, 0, 37, 162, 0, 40, 28, 27, 29]
abbrev dktX7_beside_0 : List UInt8 := dkwX7_beside_0 ++ dktX7_beside_1
theorem dksX7_beside_0 : cX7_beside.data.toList.drop 0 = dktX7_beside_0 := by decide +kernel
theorem dksX7_beside_1 : cX7_beside.data.toList.drop 23 = dktX7_beside_1 := dk_seg dksX7_beside_0 23 rfl rfl
theorem dksX7_beside_2 : cX7_beside.data.toList.drop 45 = dktX7_beside_2 := dk_seg dksX7_beside_1 22 rfl rfl
theorem dX7_beside_0 : decode cX7_beside 0 = .ok (.aload_n 0, 1) := dk_42 (dk_at dksX7_beside_0 0 rfl rfl)
theorem dX7_beside_1 : decode cX7_beside 1 = .ok (.invokevirtual 77, 3) := dk_182 0 77 (dk_at dksX7_beside_0 1 rfl rfl)
theorem dX7_beside_4 : decode cX7_beside 4 = .ok (.istore_n 1, 1) := dk_60 (dk_at dksX7_beside_0 4 rfl rfl)
theorem dX7_beside_5 : decode cX7_beside 5 = .ok (.iconst 0, 1) := dk_3 (dk_at dksX7_beside_0 5 rfl rfl)
theorem dX7_beside_6 : decode cX7_beside 6 = .ok (.istore_n 2, 1) := dk_61 (dk_at dksX7_beside_0 6 rfl rfl)
theorem dX7_beside_7 : decode cX7_beside 7 = .ok (.iconst 0, 1) := dk_3 (dk_at dksX7_beside_0 7 rfl rfl)
theorem dX7_beside_8 : decode cX7_beside 8 = .ok (.istore_n 3, 1) := dk_62 (dk_at dksX7_beside_0 8 rfl rfl)
theorem dX7_beside_9 : decode cX7_beside 9 = .ok (.iload_n 3, 1) := dk_29 (dk_at dksX7_beside_0 9 rfl rfl)
theorem dX7_beside_10 : decode cX7_beside 10 = .ok (.aload_n 0, 1) := dk_42 (dk_at dksX7_beside_0 10 rfl rfl)
theorem dX7_beside_11 : decode cX7_beside 11 = .ok (.getfield 9, 3) := dk_180 0 9 (dk_at dksX7_beside_0 11 rfl rfl)
theorem dX7_beside_14 : decode cX7_beside 14 = .ok (.getfield 37, 3) := dk_180 0 37 (dk_at dksX7_beside_0 14 rfl rfl)
theorem dX7_beside_17 : decode cX7_beside 17 = .ok (.if_icmp .ge 40, 3) := dk_162 0 40 (dk_at dksX7_beside_0 17 rfl rfl)
theorem dX7_beside_20 : decode cX7_beside 20 = .ok (.iload_n 2, 1) := dk_28 (dk_at dksX7_beside_0 20 rfl rfl)
theorem dX7_beside_21 : decode cX7_beside 21 = .ok (.iload_n 1, 1) := dk_27 (dk_at dksX7_beside_0 21 rfl rfl)
theorem dX7_beside_22 : decode cX7_beside 22 = .ok (.iload_n 3, 1) := dk_29 (dk_at dksX7_beside_0 22 rfl rfl)
theorem dX7_beside_23 : decode cX7_beside 23 = .ok (.invokestatic 46, 3) := dk_184 0 46 (dk_at dksX7_beside_1 0 rfl rfl)
theorem dX7_beside_26 : decode cX7_beside 26 = .ok (.ifCond .ne 22, 3) := dk_154 0 22 (dk_at dksX7_beside_1 3 rfl rfl)
theorem dX7_beside_29 : decode cX7_beside 29 = .ok (.aload_n 0, 1) := dk_42 (dk_at dksX7_beside_1 6 rfl rfl)
theorem dX7_beside_30 : decode cX7_beside 30 = .ok (.getfield 9, 3) := dk_180 0 9 (dk_at dksX7_beside_1 7 rfl rfl)
theorem dX7_beside_33 : decode cX7_beside 33 = .ok (.iload_n 3, 1) := dk_29 (dk_at dksX7_beside_1 10 rfl rfl)
theorem dX7_beside_34 : decode cX7_beside 34 = .ok (.invokevirtual 80, 3) := dk_182 0 80 (dk_at dksX7_beside_1 11 rfl rfl)
theorem dX7_beside_37 : decode cX7_beside 37 = .ok (.iload_n 1, 1) := dk_27 (dk_at dksX7_beside_1 14 rfl rfl)
theorem dX7_beside_38 : decode cX7_beside 38 = .ok (.iand, 1) := dk_126 (dk_at dksX7_beside_1 15 rfl rfl)
theorem dX7_beside_39 : decode cX7_beside 39 = .ok (.ifCond .eq 9, 3) := dk_153 0 9 (dk_at dksX7_beside_1 16 rfl rfl)
theorem dX7_beside_42 : decode cX7_beside 42 = .ok (.iconst 1, 1) := dk_4 (dk_at dksX7_beside_1 19 rfl rfl)
theorem dX7_beside_43 : decode cX7_beside 43 = .ok (.iload_n 3, 1) := dk_29 (dk_at dksX7_beside_1 20 rfl rfl)
theorem dX7_beside_44 : decode cX7_beside 44 = .ok (.ishl, 1) := dk_120 (dk_at dksX7_beside_1 21 rfl rfl)
theorem dX7_beside_45 : decode cX7_beside 45 = .ok (.goto 4, 3) := dk_167 0 4 (dk_at dksX7_beside_2 0 rfl rfl)
theorem dX7_beside_48 : decode cX7_beside 48 = .ok (.iconst 0, 1) := dk_3 (dk_at dksX7_beside_2 3 rfl rfl)
theorem dX7_beside_49 : decode cX7_beside 49 = .ok (.ior, 1) := dk_128 (dk_at dksX7_beside_2 4 rfl rfl)
theorem dX7_beside_50 : decode cX7_beside 50 = .ok (.istore_n 2, 1) := dk_61 (dk_at dksX7_beside_2 5 rfl rfl)
theorem dX7_beside_51 : decode cX7_beside 51 = .ok (.iinc 3 1, 3) := dk_132 3 1 (dk_at dksX7_beside_2 6 rfl rfl)
theorem dX7_beside_54 : decode cX7_beside 54 = .ok (.goto (-45), 3) := dk_167 255 211 (dk_at dksX7_beside_2 9 rfl rfl)
theorem dX7_beside_57 : decode cX7_beside 57 = .ok (.iload_n 2, 1) := dk_28 (dk_at dksX7_beside_2 12 rfl rfl)
theorem dX7_beside_58 : decode cX7_beside 58 = .ok (.ireturn, 1) := dk_172 (dk_at dksX7_beside_2 13 rfl rfl)
abbrev cX7_barrier : ByteArray := prog_2_method_8_code
def yX7_barrier : MethodName := ⟨RX7, "barrier", "(Z)I"⟩
def dkwX7_barrier_3 : List UInt8 := [182, 0, 83, 21, 4, 100, 42, 182, 0, 86, 160, 0, 5, 29, 61, 132, 3, 1, 167, 255, 174, 28, 172]
abbrev dktX7_barrier_3 : List UInt8 := dkwX7_barrier_3 ++ []
def dkwX7_barrier_2 : List UInt8 := [184, 0, 53, 161, 0, 7, 4, 167, 0, 4, 3, 54, 5, 21, 5, 154, 0, 23, 42, 180, 0, 9, 29]
abbrev dktX7_barrier_2 : List UInt8 := dkwX7_barrier_2 ++ dktX7_barrier_3
def dkwX7_barrier_1 : List UInt8 := [159, 0, 32, 27, 153, 0, 15, 21, 4, 28, 184, 0, 53, 163, 0, 19, 167, 0, 12, 21, 4, 28]
abbrev dktX7_barrier_1 : List UInt8 := dkwX7_barrier_1 ++ dktX7_barrier_2
def dkwX7_barrier_0 : List UInt8 := [2, 61, 3, 62, 29, 42, 180, 0, 9, 182, 0, 24, 163, 0, 77, 29, 184, 0, 53, 54, 4, 28, 2]
abbrev dktX7_barrier_0 : List UInt8 := dkwX7_barrier_0 ++ dktX7_barrier_1
theorem dksX7_barrier_0 : cX7_barrier.data.toList.drop 0 = dktX7_barrier_0 := by decide +kernel
theorem dksX7_barrier_1 : cX7_barrier.data.toList.drop 23 = dktX7_barrier_1 := dk_seg dksX7_barrier_0 23 rfl rfl
theorem dksX7_barrier_2 : cX7_barrier.data.toList.drop 45 = dktX7_barrier_2 := dk_seg dksX7_barrier_1 22 rfl rfl
theorem dksX7_barrier_3 : cX7_barrier.data.toList.drop 68 = dktX7_barrier_3 := dk_seg dksX7_barrier_2 23 rfl rfl
theorem dX7_barrier_0 : decode cX7_barrier 0 = .ok (.iconst (-1), 1) := dk_2 (dk_at dksX7_barrier_0 0 rfl rfl)
theorem dX7_barrier_1 : decode cX7_barrier 1 = .ok (.istore_n 2, 1) := dk_61 (dk_at dksX7_barrier_0 1 rfl rfl)
theorem dX7_barrier_2 : decode cX7_barrier 2 = .ok (.iconst 0, 1) := dk_3 (dk_at dksX7_barrier_0 2 rfl rfl)
theorem dX7_barrier_3 : decode cX7_barrier 3 = .ok (.istore_n 3, 1) := dk_62 (dk_at dksX7_barrier_0 3 rfl rfl)
theorem dX7_barrier_4 : decode cX7_barrier 4 = .ok (.iload_n 3, 1) := dk_29 (dk_at dksX7_barrier_0 4 rfl rfl)
theorem dX7_barrier_5 : decode cX7_barrier 5 = .ok (.aload_n 0, 1) := dk_42 (dk_at dksX7_barrier_0 5 rfl rfl)
theorem dX7_barrier_6 : decode cX7_barrier 6 = .ok (.getfield 9, 3) := dk_180 0 9 (dk_at dksX7_barrier_0 6 rfl rfl)
theorem dX7_barrier_9 : decode cX7_barrier 9 = .ok (.invokevirtual 24, 3) := dk_182 0 24 (dk_at dksX7_barrier_0 9 rfl rfl)
theorem dX7_barrier_12 : decode cX7_barrier 12 = .ok (.if_icmp .gt 77, 3) := dk_163 0 77 (dk_at dksX7_barrier_0 12 rfl rfl)
theorem dX7_barrier_15 : decode cX7_barrier 15 = .ok (.iload_n 3, 1) := dk_29 (dk_at dksX7_barrier_0 15 rfl rfl)
theorem dX7_barrier_16 : decode cX7_barrier 16 = .ok (.invokestatic 53, 3) := dk_184 0 53 (dk_at dksX7_barrier_0 16 rfl rfl)
theorem dX7_barrier_19 : decode cX7_barrier 19 = .ok (.istore 4, 2) := dk_54 4 (dk_at dksX7_barrier_0 19 rfl rfl)
theorem dX7_barrier_21 : decode cX7_barrier 21 = .ok (.iload_n 2, 1) := dk_28 (dk_at dksX7_barrier_0 21 rfl rfl)
theorem dX7_barrier_22 : decode cX7_barrier 22 = .ok (.iconst (-1), 1) := dk_2 (dk_at dksX7_barrier_0 22 rfl rfl)
theorem dX7_barrier_23 : decode cX7_barrier 23 = .ok (.if_icmp .eq 32, 3) := dk_159 0 32 (dk_at dksX7_barrier_1 0 rfl rfl)
theorem dX7_barrier_26 : decode cX7_barrier 26 = .ok (.iload_n 1, 1) := dk_27 (dk_at dksX7_barrier_1 3 rfl rfl)
theorem dX7_barrier_27 : decode cX7_barrier 27 = .ok (.ifCond .eq 15, 3) := dk_153 0 15 (dk_at dksX7_barrier_1 4 rfl rfl)
theorem dX7_barrier_30 : decode cX7_barrier 30 = .ok (.iload 4, 2) := dk_21 4 (dk_at dksX7_barrier_1 7 rfl rfl)
theorem dX7_barrier_32 : decode cX7_barrier 32 = .ok (.iload_n 2, 1) := dk_28 (dk_at dksX7_barrier_1 9 rfl rfl)
theorem dX7_barrier_33 : decode cX7_barrier 33 = .ok (.invokestatic 53, 3) := dk_184 0 53 (dk_at dksX7_barrier_1 10 rfl rfl)
theorem dX7_barrier_36 : decode cX7_barrier 36 = .ok (.if_icmp .gt 19, 3) := dk_163 0 19 (dk_at dksX7_barrier_1 13 rfl rfl)
theorem dX7_barrier_39 : decode cX7_barrier 39 = .ok (.goto 12, 3) := dk_167 0 12 (dk_at dksX7_barrier_1 16 rfl rfl)
theorem dX7_barrier_42 : decode cX7_barrier 42 = .ok (.iload 4, 2) := dk_21 4 (dk_at dksX7_barrier_1 19 rfl rfl)
theorem dX7_barrier_44 : decode cX7_barrier 44 = .ok (.iload_n 2, 1) := dk_28 (dk_at dksX7_barrier_1 21 rfl rfl)
theorem dX7_barrier_45 : decode cX7_barrier 45 = .ok (.invokestatic 53, 3) := dk_184 0 53 (dk_at dksX7_barrier_2 0 rfl rfl)
theorem dX7_barrier_48 : decode cX7_barrier 48 = .ok (.if_icmp .lt 7, 3) := dk_161 0 7 (dk_at dksX7_barrier_2 3 rfl rfl)
theorem dX7_barrier_51 : decode cX7_barrier 51 = .ok (.iconst 1, 1) := dk_4 (dk_at dksX7_barrier_2 6 rfl rfl)
theorem dX7_barrier_52 : decode cX7_barrier 52 = .ok (.goto 4, 3) := dk_167 0 4 (dk_at dksX7_barrier_2 7 rfl rfl)
theorem dX7_barrier_55 : decode cX7_barrier 55 = .ok (.iconst 0, 1) := dk_3 (dk_at dksX7_barrier_2 10 rfl rfl)
theorem dX7_barrier_56 : decode cX7_barrier 56 = .ok (.istore 5, 2) := dk_54 5 (dk_at dksX7_barrier_2 11 rfl rfl)
theorem dX7_barrier_58 : decode cX7_barrier 58 = .ok (.iload 5, 2) := dk_21 5 (dk_at dksX7_barrier_2 13 rfl rfl)
theorem dX7_barrier_60 : decode cX7_barrier 60 = .ok (.ifCond .ne 23, 3) := dk_154 0 23 (dk_at dksX7_barrier_2 15 rfl rfl)
theorem dX7_barrier_63 : decode cX7_barrier 63 = .ok (.aload_n 0, 1) := dk_42 (dk_at dksX7_barrier_2 18 rfl rfl)
theorem dX7_barrier_64 : decode cX7_barrier 64 = .ok (.getfield 9, 3) := dk_180 0 9 (dk_at dksX7_barrier_2 19 rfl rfl)
theorem dX7_barrier_67 : decode cX7_barrier 67 = .ok (.iload_n 3, 1) := dk_29 (dk_at dksX7_barrier_2 22 rfl rfl)
theorem dX7_barrier_68 : decode cX7_barrier 68 = .ok (.invokevirtual 83, 3) := dk_182 0 83 (dk_at dksX7_barrier_3 0 rfl rfl)
theorem dX7_barrier_71 : decode cX7_barrier 71 = .ok (.iload 4, 2) := dk_21 4 (dk_at dksX7_barrier_3 3 rfl rfl)
theorem dX7_barrier_73 : decode cX7_barrier 73 = .ok (.isub, 1) := dk_100 (dk_at dksX7_barrier_3 5 rfl rfl)
theorem dX7_barrier_74 : decode cX7_barrier 74 = .ok (.aload_n 0, 1) := dk_42 (dk_at dksX7_barrier_3 6 rfl rfl)
theorem dX7_barrier_75 : decode cX7_barrier 75 = .ok (.invokevirtual 86, 3) := dk_182 0 86 (dk_at dksX7_barrier_3 7 rfl rfl)
theorem dX7_barrier_78 : decode cX7_barrier 78 = .ok (.if_icmp .ne 5, 3) := dk_160 0 5 (dk_at dksX7_barrier_3 10 rfl rfl)
theorem dX7_barrier_81 : decode cX7_barrier 81 = .ok (.iload_n 3, 1) := dk_29 (dk_at dksX7_barrier_3 13 rfl rfl)
theorem dX7_barrier_82 : decode cX7_barrier 82 = .ok (.istore_n 2, 1) := dk_61 (dk_at dksX7_barrier_3 14 rfl rfl)
theorem dX7_barrier_83 : decode cX7_barrier 83 = .ok (.iinc 3 1, 3) := dk_132 3 1 (dk_at dksX7_barrier_3 15 rfl rfl)
theorem dX7_barrier_86 : decode cX7_barrier 86 = .ok (.goto (-82), 3) := dk_167 255 174 (dk_at dksX7_barrier_3 18 rfl rfl)
theorem dX7_barrier_89 : decode cX7_barrier 89 = .ok (.iload_n 2, 1) := dk_28 (dk_at dksX7_barrier_3 21 rfl rfl)
theorem dX7_barrier_90 : decode cX7_barrier 90 = .ok (.ireturn, 1) := dk_172 (dk_at dksX7_barrier_3 22 rfl rfl)
abbrev cX7_weight : ByteArray := prog_2_method_4_code
def yX7_weight : MethodName := ⟨RX7, "weight", "(IILOddPairs$Pick;)I"⟩
def dkwX7_weight_7 : List UInt8 := [185, 0, 72, 3, 0, 54, 6, 132, 7, 1, 167, 255, 145, 21, 6, 172]
abbrev dktX7_weight_7 : List UInt8 := dkwX7_weight_7 ++ []
def dkwX7_weight_6 : List UInt8 := [21, 7, 46, 96, 54, 8, 21, 6, 2, 160, 0, 8, 21, 8, 167, 0, 13, 45, 21, 6, 21, 8]
abbrev dktX7_weight_6 : List UInt8 := dkwX7_weight_6 ++ dktX7_weight_7
def dkwX7_weight_5 : List UInt8 := [54, 8, 21, 8, 2, 160, 0, 6, 167, 0, 44, 21, 8, 42, 180, 0, 9, 180, 0, 69, 21, 4, 50]
abbrev dktX7_weight_5 : List UInt8 := dkwX7_weight_5 ++ dktX7_weight_6
def dkwX7_weight_4 : List UInt8 := [154, 0, 6, 167, 0, 72, 42, 21, 5, 4, 21, 7, 120, 2, 130, 126, 28, 4, 100, 45, 182, 0, 65]
abbrev dktX7_weight_4 : List UInt8 := dkwX7_weight_4 ++ dktX7_weight_5
def dkwX7_weight_3 : List UInt8 := [162, 0, 105, 21, 5, 21, 7, 184, 0, 46, 153, 0, 89, 42, 180, 0, 9, 21, 4, 21, 7, 182, 0, 50]
abbrev dktX7_weight_3 : List UInt8 := dkwX7_weight_3 ++ dktX7_weight_4
def dkwX7_weight_2 : List UInt8 := [21, 5, 28, 45, 182, 0, 65, 54, 6, 21, 4, 4, 96, 54, 7, 21, 7, 42, 180, 0, 9, 180, 0, 37]
abbrev dktX7_weight_2 : List UInt8 := dkwX7_weight_2 ++ dktX7_weight_3
def dkwX7_weight_1 : List UInt8 := [28, 162, 0, 5, 2, 172, 27, 184, 0, 58, 54, 4, 27, 4, 21, 4, 120, 2, 130, 126, 54, 5, 42]
abbrev dktX7_weight_1 : List UInt8 := dkwX7_weight_1 ++ dktX7_weight_2
def dkwX7_weight_0 : List UInt8 := [28, 154, 0, 5, 3, 172, 27, 184, 0, 53, 5, 28, 104, 161, 0, 15, 42, 180, 0, 20, 27, 182, 0, 30]
abbrev dktX7_weight_0 : List UInt8 := dkwX7_weight_0 ++ dktX7_weight_1
theorem dksX7_weight_0 : cX7_weight.data.toList.drop 0 = dktX7_weight_0 := by decide +kernel
theorem dksX7_weight_1 : cX7_weight.data.toList.drop 24 = dktX7_weight_1 := dk_seg dksX7_weight_0 24 rfl rfl
theorem dksX7_weight_2 : cX7_weight.data.toList.drop 47 = dktX7_weight_2 := dk_seg dksX7_weight_1 23 rfl rfl
theorem dksX7_weight_3 : cX7_weight.data.toList.drop 71 = dktX7_weight_3 := dk_seg dksX7_weight_2 24 rfl rfl
theorem dksX7_weight_4 : cX7_weight.data.toList.drop 95 = dktX7_weight_4 := dk_seg dksX7_weight_3 24 rfl rfl
theorem dksX7_weight_5 : cX7_weight.data.toList.drop 118 = dktX7_weight_5 := dk_seg dksX7_weight_4 23 rfl rfl
theorem dksX7_weight_6 : cX7_weight.data.toList.drop 141 = dktX7_weight_6 := dk_seg dksX7_weight_5 23 rfl rfl
theorem dksX7_weight_7 : cX7_weight.data.toList.drop 163 = dktX7_weight_7 := dk_seg dksX7_weight_6 22 rfl rfl
theorem dX7_weight_0 : decode cX7_weight 0 = .ok (.iload_n 2, 1) := dk_28 (dk_at dksX7_weight_0 0 rfl rfl)
theorem dX7_weight_1 : decode cX7_weight 1 = .ok (.ifCond .ne 5, 3) := dk_154 0 5 (dk_at dksX7_weight_0 1 rfl rfl)
theorem dX7_weight_4 : decode cX7_weight 4 = .ok (.iconst 0, 1) := dk_3 (dk_at dksX7_weight_0 4 rfl rfl)
theorem dX7_weight_5 : decode cX7_weight 5 = .ok (.ireturn, 1) := dk_172 (dk_at dksX7_weight_0 5 rfl rfl)
theorem dX7_weight_6 : decode cX7_weight 6 = .ok (.iload_n 1, 1) := dk_27 (dk_at dksX7_weight_0 6 rfl rfl)
theorem dX7_weight_7 : decode cX7_weight 7 = .ok (.invokestatic 53, 3) := dk_184 0 53 (dk_at dksX7_weight_0 7 rfl rfl)
theorem dX7_weight_10 : decode cX7_weight 10 = .ok (.iconst 2, 1) := dk_5 (dk_at dksX7_weight_0 10 rfl rfl)
theorem dX7_weight_11 : decode cX7_weight 11 = .ok (.iload_n 2, 1) := dk_28 (dk_at dksX7_weight_0 11 rfl rfl)
theorem dX7_weight_12 : decode cX7_weight 12 = .ok (.imul, 1) := dk_104 (dk_at dksX7_weight_0 12 rfl rfl)
theorem dX7_weight_13 : decode cX7_weight 13 = .ok (.if_icmp .lt 15, 3) := dk_161 0 15 (dk_at dksX7_weight_0 13 rfl rfl)
theorem dX7_weight_16 : decode cX7_weight 16 = .ok (.aload_n 0, 1) := dk_42 (dk_at dksX7_weight_0 16 rfl rfl)
theorem dX7_weight_17 : decode cX7_weight 17 = .ok (.getfield 20, 3) := dk_180 0 20 (dk_at dksX7_weight_0 17 rfl rfl)
theorem dX7_weight_20 : decode cX7_weight 20 = .ok (.iload_n 1, 1) := dk_27 (dk_at dksX7_weight_0 20 rfl rfl)
theorem dX7_weight_21 : decode cX7_weight 21 = .ok (.invokevirtual 30, 3) := dk_182 0 30 (dk_at dksX7_weight_0 21 rfl rfl)
theorem dX7_weight_24 : decode cX7_weight 24 = .ok (.iload_n 2, 1) := dk_28 (dk_at dksX7_weight_1 0 rfl rfl)
theorem dX7_weight_25 : decode cX7_weight 25 = .ok (.if_icmp .ge 5, 3) := dk_162 0 5 (dk_at dksX7_weight_1 1 rfl rfl)
theorem dX7_weight_28 : decode cX7_weight 28 = .ok (.iconst (-1), 1) := dk_2 (dk_at dksX7_weight_1 4 rfl rfl)
theorem dX7_weight_29 : decode cX7_weight 29 = .ok (.ireturn, 1) := dk_172 (dk_at dksX7_weight_1 5 rfl rfl)
theorem dX7_weight_30 : decode cX7_weight 30 = .ok (.iload_n 1, 1) := dk_27 (dk_at dksX7_weight_1 6 rfl rfl)
theorem dX7_weight_31 : decode cX7_weight 31 = .ok (.invokestatic 58, 3) := dk_184 0 58 (dk_at dksX7_weight_1 7 rfl rfl)
theorem dX7_weight_34 : decode cX7_weight 34 = .ok (.istore 4, 2) := dk_54 4 (dk_at dksX7_weight_1 10 rfl rfl)
theorem dX7_weight_36 : decode cX7_weight 36 = .ok (.iload_n 1, 1) := dk_27 (dk_at dksX7_weight_1 12 rfl rfl)
theorem dX7_weight_37 : decode cX7_weight 37 = .ok (.iconst 1, 1) := dk_4 (dk_at dksX7_weight_1 13 rfl rfl)
theorem dX7_weight_38 : decode cX7_weight 38 = .ok (.iload 4, 2) := dk_21 4 (dk_at dksX7_weight_1 14 rfl rfl)
theorem dX7_weight_40 : decode cX7_weight 40 = .ok (.ishl, 1) := dk_120 (dk_at dksX7_weight_1 16 rfl rfl)
theorem dX7_weight_41 : decode cX7_weight 41 = .ok (.iconst (-1), 1) := dk_2 (dk_at dksX7_weight_1 17 rfl rfl)
theorem dX7_weight_42 : decode cX7_weight 42 = .ok (.ixor, 1) := dk_130 (dk_at dksX7_weight_1 18 rfl rfl)
theorem dX7_weight_43 : decode cX7_weight 43 = .ok (.iand, 1) := dk_126 (dk_at dksX7_weight_1 19 rfl rfl)
theorem dX7_weight_44 : decode cX7_weight 44 = .ok (.istore 5, 2) := dk_54 5 (dk_at dksX7_weight_1 20 rfl rfl)
theorem dX7_weight_46 : decode cX7_weight 46 = .ok (.aload_n 0, 1) := dk_42 (dk_at dksX7_weight_1 22 rfl rfl)
theorem dX7_weight_47 : decode cX7_weight 47 = .ok (.iload 5, 2) := dk_21 5 (dk_at dksX7_weight_2 0 rfl rfl)
theorem dX7_weight_49 : decode cX7_weight 49 = .ok (.iload_n 2, 1) := dk_28 (dk_at dksX7_weight_2 2 rfl rfl)
theorem dX7_weight_50 : decode cX7_weight 50 = .ok (.aload_n 3, 1) := dk_45 (dk_at dksX7_weight_2 3 rfl rfl)
theorem dX7_weight_51 : decode cX7_weight 51 = .ok (.invokevirtual 65, 3) := dk_182 0 65 (dk_at dksX7_weight_2 4 rfl rfl)
theorem dX7_weight_54 : decode cX7_weight 54 = .ok (.istore 6, 2) := dk_54 6 (dk_at dksX7_weight_2 7 rfl rfl)
theorem dX7_weight_56 : decode cX7_weight 56 = .ok (.iload 4, 2) := dk_21 4 (dk_at dksX7_weight_2 9 rfl rfl)
theorem dX7_weight_58 : decode cX7_weight 58 = .ok (.iconst 1, 1) := dk_4 (dk_at dksX7_weight_2 11 rfl rfl)
theorem dX7_weight_59 : decode cX7_weight 59 = .ok (.iadd, 1) := dk_96 (dk_at dksX7_weight_2 12 rfl rfl)
theorem dX7_weight_60 : decode cX7_weight 60 = .ok (.istore 7, 2) := dk_54 7 (dk_at dksX7_weight_2 13 rfl rfl)
theorem dX7_weight_62 : decode cX7_weight 62 = .ok (.iload 7, 2) := dk_21 7 (dk_at dksX7_weight_2 15 rfl rfl)
theorem dX7_weight_64 : decode cX7_weight 64 = .ok (.aload_n 0, 1) := dk_42 (dk_at dksX7_weight_2 17 rfl rfl)
theorem dX7_weight_65 : decode cX7_weight 65 = .ok (.getfield 9, 3) := dk_180 0 9 (dk_at dksX7_weight_2 18 rfl rfl)
theorem dX7_weight_68 : decode cX7_weight 68 = .ok (.getfield 37, 3) := dk_180 0 37 (dk_at dksX7_weight_2 21 rfl rfl)
theorem dX7_weight_71 : decode cX7_weight 71 = .ok (.if_icmp .ge 105, 3) := dk_162 0 105 (dk_at dksX7_weight_3 0 rfl rfl)
theorem dX7_weight_74 : decode cX7_weight 74 = .ok (.iload 5, 2) := dk_21 5 (dk_at dksX7_weight_3 3 rfl rfl)
theorem dX7_weight_76 : decode cX7_weight 76 = .ok (.iload 7, 2) := dk_21 7 (dk_at dksX7_weight_3 5 rfl rfl)
theorem dX7_weight_78 : decode cX7_weight 78 = .ok (.invokestatic 46, 3) := dk_184 0 46 (dk_at dksX7_weight_3 7 rfl rfl)
theorem dX7_weight_81 : decode cX7_weight 81 = .ok (.ifCond .eq 89, 3) := dk_153 0 89 (dk_at dksX7_weight_3 10 rfl rfl)
theorem dX7_weight_84 : decode cX7_weight 84 = .ok (.aload_n 0, 1) := dk_42 (dk_at dksX7_weight_3 13 rfl rfl)
theorem dX7_weight_85 : decode cX7_weight 85 = .ok (.getfield 9, 3) := dk_180 0 9 (dk_at dksX7_weight_3 14 rfl rfl)
theorem dX7_weight_88 : decode cX7_weight 88 = .ok (.iload 4, 2) := dk_21 4 (dk_at dksX7_weight_3 17 rfl rfl)
theorem dX7_weight_90 : decode cX7_weight 90 = .ok (.iload 7, 2) := dk_21 7 (dk_at dksX7_weight_3 19 rfl rfl)
theorem dX7_weight_92 : decode cX7_weight 92 = .ok (.invokevirtual 50, 3) := dk_182 0 50 (dk_at dksX7_weight_3 21 rfl rfl)
theorem dX7_weight_95 : decode cX7_weight 95 = .ok (.ifCond .ne 6, 3) := dk_154 0 6 (dk_at dksX7_weight_4 0 rfl rfl)
theorem dX7_weight_98 : decode cX7_weight 98 = .ok (.goto 72, 3) := dk_167 0 72 (dk_at dksX7_weight_4 3 rfl rfl)
theorem dX7_weight_101 : decode cX7_weight 101 = .ok (.aload_n 0, 1) := dk_42 (dk_at dksX7_weight_4 6 rfl rfl)
theorem dX7_weight_102 : decode cX7_weight 102 = .ok (.iload 5, 2) := dk_21 5 (dk_at dksX7_weight_4 7 rfl rfl)
theorem dX7_weight_104 : decode cX7_weight 104 = .ok (.iconst 1, 1) := dk_4 (dk_at dksX7_weight_4 9 rfl rfl)
theorem dX7_weight_105 : decode cX7_weight 105 = .ok (.iload 7, 2) := dk_21 7 (dk_at dksX7_weight_4 10 rfl rfl)
theorem dX7_weight_107 : decode cX7_weight 107 = .ok (.ishl, 1) := dk_120 (dk_at dksX7_weight_4 12 rfl rfl)
theorem dX7_weight_108 : decode cX7_weight 108 = .ok (.iconst (-1), 1) := dk_2 (dk_at dksX7_weight_4 13 rfl rfl)
theorem dX7_weight_109 : decode cX7_weight 109 = .ok (.ixor, 1) := dk_130 (dk_at dksX7_weight_4 14 rfl rfl)
theorem dX7_weight_110 : decode cX7_weight 110 = .ok (.iand, 1) := dk_126 (dk_at dksX7_weight_4 15 rfl rfl)
theorem dX7_weight_111 : decode cX7_weight 111 = .ok (.iload_n 2, 1) := dk_28 (dk_at dksX7_weight_4 16 rfl rfl)
theorem dX7_weight_112 : decode cX7_weight 112 = .ok (.iconst 1, 1) := dk_4 (dk_at dksX7_weight_4 17 rfl rfl)
theorem dX7_weight_113 : decode cX7_weight 113 = .ok (.isub, 1) := dk_100 (dk_at dksX7_weight_4 18 rfl rfl)
theorem dX7_weight_114 : decode cX7_weight 114 = .ok (.aload_n 3, 1) := dk_45 (dk_at dksX7_weight_4 19 rfl rfl)
theorem dX7_weight_115 : decode cX7_weight 115 = .ok (.invokevirtual 65, 3) := dk_182 0 65 (dk_at dksX7_weight_4 20 rfl rfl)
theorem dX7_weight_118 : decode cX7_weight 118 = .ok (.istore 8, 2) := dk_54 8 (dk_at dksX7_weight_5 0 rfl rfl)
theorem dX7_weight_120 : decode cX7_weight 120 = .ok (.iload 8, 2) := dk_21 8 (dk_at dksX7_weight_5 2 rfl rfl)
theorem dX7_weight_122 : decode cX7_weight 122 = .ok (.iconst (-1), 1) := dk_2 (dk_at dksX7_weight_5 4 rfl rfl)
theorem dX7_weight_123 : decode cX7_weight 123 = .ok (.if_icmp .ne 6, 3) := dk_160 0 6 (dk_at dksX7_weight_5 5 rfl rfl)
theorem dX7_weight_126 : decode cX7_weight 126 = .ok (.goto 44, 3) := dk_167 0 44 (dk_at dksX7_weight_5 8 rfl rfl)
theorem dX7_weight_129 : decode cX7_weight 129 = .ok (.iload 8, 2) := dk_21 8 (dk_at dksX7_weight_5 11 rfl rfl)
theorem dX7_weight_131 : decode cX7_weight 131 = .ok (.aload_n 0, 1) := dk_42 (dk_at dksX7_weight_5 13 rfl rfl)
theorem dX7_weight_132 : decode cX7_weight 132 = .ok (.getfield 9, 3) := dk_180 0 9 (dk_at dksX7_weight_5 14 rfl rfl)
theorem dX7_weight_135 : decode cX7_weight 135 = .ok (.getfield 69, 3) := dk_180 0 69 (dk_at dksX7_weight_5 17 rfl rfl)
theorem dX7_weight_138 : decode cX7_weight 138 = .ok (.iload 4, 2) := dk_21 4 (dk_at dksX7_weight_5 20 rfl rfl)
theorem dX7_weight_140 : decode cX7_weight 140 = .ok (.aaload, 1) := dk_50 (dk_at dksX7_weight_5 22 rfl rfl)
theorem dX7_weight_141 : decode cX7_weight 141 = .ok (.iload 7, 2) := dk_21 7 (dk_at dksX7_weight_6 0 rfl rfl)
theorem dX7_weight_143 : decode cX7_weight 143 = .ok (.iaload, 1) := dk_46 (dk_at dksX7_weight_6 2 rfl rfl)
theorem dX7_weight_144 : decode cX7_weight 144 = .ok (.iadd, 1) := dk_96 (dk_at dksX7_weight_6 3 rfl rfl)
theorem dX7_weight_145 : decode cX7_weight 145 = .ok (.istore 8, 2) := dk_54 8 (dk_at dksX7_weight_6 4 rfl rfl)
theorem dX7_weight_147 : decode cX7_weight 147 = .ok (.iload 6, 2) := dk_21 6 (dk_at dksX7_weight_6 6 rfl rfl)
theorem dX7_weight_149 : decode cX7_weight 149 = .ok (.iconst (-1), 1) := dk_2 (dk_at dksX7_weight_6 8 rfl rfl)
theorem dX7_weight_150 : decode cX7_weight 150 = .ok (.if_icmp .ne 8, 3) := dk_160 0 8 (dk_at dksX7_weight_6 9 rfl rfl)
theorem dX7_weight_153 : decode cX7_weight 153 = .ok (.iload 8, 2) := dk_21 8 (dk_at dksX7_weight_6 12 rfl rfl)
theorem dX7_weight_155 : decode cX7_weight 155 = .ok (.goto 13, 3) := dk_167 0 13 (dk_at dksX7_weight_6 14 rfl rfl)
theorem dX7_weight_158 : decode cX7_weight 158 = .ok (.aload_n 3, 1) := dk_45 (dk_at dksX7_weight_6 17 rfl rfl)
theorem dX7_weight_159 : decode cX7_weight 159 = .ok (.iload 6, 2) := dk_21 6 (dk_at dksX7_weight_6 18 rfl rfl)
theorem dX7_weight_161 : decode cX7_weight 161 = .ok (.iload 8, 2) := dk_21 8 (dk_at dksX7_weight_6 20 rfl rfl)
theorem dX7_weight_163 : decode cX7_weight 163 = .ok (.invokeinterface 72 3, 5) := by decide +kernel
theorem dX7_weight_168 : decode cX7_weight 168 = .ok (.istore 6, 2) := dk_54 6 (dk_at dksX7_weight_7 5 rfl rfl)
theorem dX7_weight_170 : decode cX7_weight 170 = .ok (.iinc 7 1, 3) := dk_132 7 1 (dk_at dksX7_weight_7 7 rfl rfl)
theorem dX7_weight_173 : decode cX7_weight 173 = .ok (.goto (-111), 3) := dk_167 255 145 (dk_at dksX7_weight_7 10 rfl rfl)
theorem dX7_weight_176 : decode cX7_weight 176 = .ok (.iload 6, 2) := dk_21 6 (dk_at dksX7_weight_7 13 rfl rfl)
theorem dX7_weight_178 : decode cX7_weight 178 = .ok (.ireturn, 1) := dk_172 (dk_at dksX7_weight_7 15 rfl rfl)
theorem q101 : (Jvm.Cond.initialized "OddPairs$Greatest") ∈ lw_all := lw_g (lw_at lw_m1 30 rfl) rfl
theorem q150 : (Jvm.Cond.fieldLinkNest "OddPairs$Greatest" (37 : Nat) "OddPairs$Net" "many" "I" "OddPairs") ∈ lw_tbl := lw_at lw_m1 79 rfl
theorem q157 : (Jvm.Cond.fieldLinkNest "OddPairs$Greatest" (69 : Nat) "OddPairs$Net" "weight" "[[I" "OddPairs") ∈ lw_tbl := lw_at lw_m1 86 rfl
theorem q215 : (Jvm.Cond.instantiable "OddPairs$Greatest" (3 : Nat)) ∈ lw_all := lw_g (lw_at lw_m1 144 rfl) rfl
theorem q217 : (Jvm.Cond.instanceMethod ({ cls := "OddPairs$Greatest", name := "<init>", desc := "(LOddPairs$Net;)V" } : Jvm.MethodName)) ∈ lw_all := lw_g (lw_at lw_m1 146 rfl) rfl
theorem q218 : (Jvm.Cond.code ({ cls := "OddPairs$Greatest", name := "<init>", desc := "(LOddPairs$Net;)V" } : Jvm.MethodName) prog_2_method_1_code (2 : Nat) (Option.none : Option Jvm.ClassFile.FieldType)) ∈ lw_all := lw_g (lw_at lw_m1 147 rfl) rfl
theorem q219 : (Jvm.Cond.methodLink "OddPairs$Greatest" (3 : Nat) ({ cls := "java/lang/Object", name := "<init>", desc := "()V" } : Jvm.MethodName)) ∈ lw_all := lw_g (lw_at lw_m1 148 rfl) rfl
theorem q220 : (Jvm.Cond.classLink "OddPairs$Greatest" (15 : Nat) "OddPairs$Trees") ∈ lw_all := lw_g (lw_at lw_m1 149 rfl) rfl
theorem q222 : (Jvm.Cond.methodLink "OddPairs$Greatest" (17 : Nat) ({ cls := "OddPairs$Trees", name := "<init>", desc := "(LOddPairs$Net;)V" } : Jvm.MethodName)) ∈ lw_all := lw_g (lw_at lw_m1 151 rfl) rfl
theorem q261 : (Jvm.Cond.methodLink "OddPairs$Greatest" (24 : Nat) ({ cls := "OddPairs$Net", name := "all", desc := "()I" } : Jvm.MethodName)) ∈ lw_all := lw_g (lw_at lw_m1 190 rfl) rfl
theorem q265 : (Jvm.Cond.methodLink "OddPairs$Greatest" (30 : Nat) ({ cls := "OddPairs$Trees", name := "most", desc := "(I)I" } : Jvm.MethodName)) ∈ lw_all := lw_g (lw_at lw_m1 194 rfl) rfl
theorem q300 : (Jvm.Cond.fieldLink "OddPairs$Greatest" (9 : Nat) "OddPairs$Greatest" "net" "LOddPairs$Net;") ∈ lw_all := lw_g (lw_at lw_m1 229 rfl) rfl
theorem q301 : (Jvm.Cond.fieldLink "OddPairs$Greatest" (20 : Nat) "OddPairs$Greatest" "trees" "LOddPairs$Trees;") ∈ lw_all := lw_g (lw_at lw_m1 230 rfl) rfl
theorem q302 : (Jvm.Cond.fieldLink "OddPairs$Greatest" (34 : Nat) "OddPairs$Greatest" "most" "I") ∈ lw_all := lw_g (lw_at lw_m1 231 rfl) rfl
theorem q304 : (Jvm.Cond.laysFinal "OddPairs$Greatest" "OddPairs$Greatest" "net" "LOddPairs$Net;") ∈ lw_all := lw_g (lw_at lw_m1 233 rfl) rfl
theorem q305 : (Jvm.Cond.soleField "OddPairs$Greatest" "net") ∈ lw_all := lw_g (lw_at lw_m1 234 rfl) rfl
theorem q306 : (Jvm.Cond.laysFinal "OddPairs$Greatest" "OddPairs$Greatest" "trees" "LOddPairs$Trees;") ∈ lw_all := lw_g (lw_at lw_m1 235 rfl) rfl
theorem q307 : (Jvm.Cond.soleField "OddPairs$Greatest" "trees") ∈ lw_all := lw_g (lw_at lw_m1 236 rfl) rfl
theorem q308 : (Jvm.Cond.laysFinal "OddPairs$Greatest" "OddPairs$Greatest" "most" "I") ∈ lw_all := lw_g (lw_at lw_m1 237 rfl) rfl
theorem q309 : (Jvm.Cond.soleField "OddPairs$Greatest" "most") ∈ lw_all := lw_g (lw_at lw_m1 238 rfl) rfl
theorem q310 : (Jvm.Cond.superclass "OddPairs$Greatest" "java/lang/Object") ∈ lw_all := lw_g (lw_at lw_m1 239 rfl) rfl
theorem q312 : (Jvm.Cond.instanceMethod ({ cls := "OddPairs$Greatest", name := "first", desc := "()[I" } : Jvm.MethodName)) ∈ lw_all := lw_g (lw_at lw_m2 1 rfl) rfl
theorem q313 : (Jvm.Cond.selects "OddPairs$Greatest" ({ cls := "OddPairs$Greatest", name := "first", desc := "()[I" } : Jvm.MethodName) ({ cls := "OddPairs$Greatest", name := "first", desc := "()[I" } : Jvm.MethodName)) ∈ lw_all := lw_g (lw_at lw_m2 2 rfl) rfl
theorem q314 : (Jvm.Cond.code ({ cls := "OddPairs$Greatest", name := "first", desc := "()[I" } : Jvm.MethodName) prog_2_method_2_code (6 : Nat) (Option.some (Jvm.ClassFile.FieldType.array Jvm.ClassFile.FieldType.int))) ∈ lw_all := lw_g (lw_at lw_m2 3 rfl) rfl
theorem q315 : (Jvm.Cond.methodLink "OddPairs$Greatest" (40 : Nat) ({ cls := "java/util/Arrays", name := "fill", desc := "([II)V" } : Jvm.MethodName)) ∈ lw_all := lw_g (lw_at lw_m2 4 rfl) rfl
theorem q316 : (Jvm.Cond.methodLinkNest "OddPairs$Greatest" (46 : Nat) ({ cls := "OddPairs", name := "has", desc := "(II)Z" } : Jvm.MethodName) "OddPairs") ∈ lw_tbl := lw_at lw_m2 5 rfl
theorem q317 : (Jvm.Cond.methodLink "OddPairs$Greatest" (50 : Nat) ({ cls := "OddPairs$Net", name := "isLine", desc := "(II)Z" } : Jvm.MethodName)) ∈ lw_all := lw_g (lw_at lw_m2 6 rfl) rfl
theorem q453 : (Jvm.Cond.selects "OddPairs$Greatest" ({ cls := "java/lang/Object", name := "getClass", desc := "()Ljava/lang/Class;" } : Jvm.MethodName) ({ cls := "java/lang/Object", name := "getClass", desc := "()Ljava/lang/Class;" } : Jvm.MethodName)) ∈ lw_all := lw_g (lw_at lw_m2 142 rfl) rfl
theorem q517 : (Jvm.Cond.instanceMethod ({ cls := "OddPairs$Greatest", name := "ways", desc := "(II)I" } : Jvm.MethodName)) ∈ lw_all := lw_g (lw_at lw_m2 206 rfl) rfl
theorem q518 : (Jvm.Cond.selects "OddPairs$Greatest" ({ cls := "OddPairs$Greatest", name := "ways", desc := "(II)I" } : Jvm.MethodName) ({ cls := "OddPairs$Greatest", name := "ways", desc := "(II)I" } : Jvm.MethodName)) ∈ lw_all := lw_g (lw_at lw_m2 207 rfl) rfl
theorem q519 : (Jvm.Cond.code ({ cls := "OddPairs$Greatest", name := "ways", desc := "(II)I" } : Jvm.MethodName) prog_2_method_3_code (7 : Nat) (Option.some Jvm.ClassFile.FieldType.int)) ∈ lw_all := lw_g (lw_at lw_m2 208 rfl) rfl
theorem q520 : (Jvm.Cond.methodLink "OddPairs$Greatest" (53 : Nat) ({ cls := "java/lang/Integer", name := "bitCount", desc := "(I)I" } : Jvm.MethodName)) ∈ lw_all := lw_g (lw_at lw_m2 209 rfl) rfl
theorem q526 : (Jvm.Cond.methodLink "OddPairs$Greatest" (58 : Nat) ({ cls := "java/lang/Integer", name := "numberOfTrailingZeros", desc := "(I)I" } : Jvm.MethodName)) ∈ lw_all := lw_g (lw_at lw_m2 215 rfl) rfl
theorem q530 : (Jvm.Cond.methodLink "OddPairs$Greatest" (61 : Nat) ({ cls := "OddPairs$Greatest", name := "ways", desc := "(II)I" } : Jvm.MethodName)) ∈ lw_all := lw_g (lw_at lw_m2 219 rfl) rfl
theorem q1268 : (Jvm.Cond.instanceMethod ({ cls := "OddPairs$Greatest", name := "missing", desc := "()I" } : Jvm.MethodName)) ∈ lw_all := lw_g (lw_at lw_m5 237 rfl) rfl
theorem q1269 : (Jvm.Cond.selects "OddPairs$Greatest" ({ cls := "OddPairs$Greatest", name := "missing", desc := "()I" } : Jvm.MethodName) ({ cls := "OddPairs$Greatest", name := "missing", desc := "()I" } : Jvm.MethodName)) ∈ lw_all := lw_g (lw_at lw_m5 238 rfl) rfl
theorem q1270 : (Jvm.Cond.code ({ cls := "OddPairs$Greatest", name := "missing", desc := "()I" } : Jvm.MethodName) prog_2_method_7_code (1 : Nat) (Option.some Jvm.ClassFile.FieldType.int)) ∈ lw_all := lw_g (lw_at lw_m5 239 rfl) rfl
theorem q1391 : (Jvm.Cond.instanceMethod ({ cls := "OddPairs$Greatest", name := "missed", desc := "()I" } : Jvm.MethodName)) ∈ lw_all := lw_g (lw_at lw_m6 120 rfl) rfl
theorem q1392 : (Jvm.Cond.selects "OddPairs$Greatest" ({ cls := "OddPairs$Greatest", name := "missed", desc := "()I" } : Jvm.MethodName) ({ cls := "OddPairs$Greatest", name := "missed", desc := "()I" } : Jvm.MethodName)) ∈ lw_all := lw_g (lw_at lw_m6 121 rfl) rfl
theorem q1393 : (Jvm.Cond.code ({ cls := "OddPairs$Greatest", name := "missed", desc := "()I" } : Jvm.MethodName) prog_2_method_5_code (3 : Nat) (Option.some Jvm.ClassFile.FieldType.int)) ∈ lw_all := lw_g (lw_at lw_m6 122 rfl) rfl
theorem q1395 : (Jvm.Cond.instanceMethod ({ cls := "OddPairs$Greatest", name := "beside", desc := "()I" } : Jvm.MethodName)) ∈ lw_all := lw_g (lw_at lw_m6 124 rfl) rfl
theorem q1396 : (Jvm.Cond.selects "OddPairs$Greatest" ({ cls := "OddPairs$Greatest", name := "beside", desc := "()I" } : Jvm.MethodName) ({ cls := "OddPairs$Greatest", name := "beside", desc := "()I" } : Jvm.MethodName)) ∈ lw_all := lw_g (lw_at lw_m6 125 rfl) rfl
theorem q1397 : (Jvm.Cond.code ({ cls := "OddPairs$Greatest", name := "beside", desc := "()I" } : Jvm.MethodName) prog_2_method_6_code (4 : Nat) (Option.some Jvm.ClassFile.FieldType.int)) ∈ lw_all := lw_g (lw_at lw_m6 126 rfl) rfl
theorem q1398 : (Jvm.Cond.methodLink "OddPairs$Greatest" (77 : Nat) ({ cls := "OddPairs$Greatest", name := "missed", desc := "()I" } : Jvm.MethodName)) ∈ lw_all := lw_g (lw_at lw_m6 127 rfl) rfl
theorem q1399 : (Jvm.Cond.methodLink "OddPairs$Greatest" (80 : Nat) ({ cls := "OddPairs$Net", name := "beside", desc := "(I)I" } : Jvm.MethodName)) ∈ lw_all := lw_g (lw_at lw_m6 128 rfl) rfl
theorem q1429 : (Jvm.Cond.instanceMethod ({ cls := "OddPairs$Greatest", name := "barrier", desc := "(Z)I" } : Jvm.MethodName)) ∈ lw_all := lw_g (lw_at lw_m6 158 rfl) rfl
theorem q1430 : (Jvm.Cond.selects "OddPairs$Greatest" ({ cls := "OddPairs$Greatest", name := "barrier", desc := "(Z)I" } : Jvm.MethodName) ({ cls := "OddPairs$Greatest", name := "barrier", desc := "(Z)I" } : Jvm.MethodName)) ∈ lw_all := lw_g (lw_at lw_m6 159 rfl) rfl
theorem q1431 : (Jvm.Cond.code ({ cls := "OddPairs$Greatest", name := "barrier", desc := "(Z)I" } : Jvm.MethodName) prog_2_method_8_code (6 : Nat) (Option.some Jvm.ClassFile.FieldType.int)) ∈ lw_all := lw_g (lw_at lw_m6 160 rfl) rfl
theorem q1432 : (Jvm.Cond.methodLink "OddPairs$Greatest" (83 : Nat) ({ cls := "OddPairs$Net", name := "odd", desc := "(I)I" } : Jvm.MethodName)) ∈ lw_all := lw_g (lw_at lw_m6 161 rfl) rfl
theorem q1433 : (Jvm.Cond.methodLink "OddPairs$Greatest" (86 : Nat) ({ cls := "OddPairs$Greatest", name := "missing", desc := "()I" } : Jvm.MethodName)) ∈ lw_all := lw_g (lw_at lw_m6 162 rfl) rfl
theorem q1447 : (Jvm.Cond.instanceMethod ({ cls := "OddPairs$Greatest", name := "weight", desc := "(IILOddPairs$Pick;)I" } : Jvm.MethodName)) ∈ lw_all := lw_g (lw_at lw_m6 176 rfl) rfl
theorem q1448 : (Jvm.Cond.selects "OddPairs$Greatest" ({ cls := "OddPairs$Greatest", name := "weight", desc := "(IILOddPairs$Pick;)I" } : Jvm.MethodName) ({ cls := "OddPairs$Greatest", name := "weight", desc := "(IILOddPairs$Pick;)I" } : Jvm.MethodName)) ∈ lw_all := lw_g (lw_at lw_m6 177 rfl) rfl
theorem q1449 : (Jvm.Cond.code ({ cls := "OddPairs$Greatest", name := "weight", desc := "(IILOddPairs$Pick;)I" } : Jvm.MethodName) prog_2_method_4_code (9 : Nat) (Option.some Jvm.ClassFile.FieldType.int)) ∈ lw_all := lw_g (lw_at lw_m6 178 rfl) rfl
theorem q1450 : (Jvm.Cond.methodLink "OddPairs$Greatest" (65 : Nat) ({ cls := "OddPairs$Greatest", name := "weight", desc := "(IILOddPairs$Pick;)I" } : Jvm.MethodName)) ∈ lw_all := lw_g (lw_at lw_m6 179 rfl) rfl
theorem q1451 : (Jvm.Cond.interfaceEntry "OddPairs$Greatest" (72 : Nat)) ∈ lw_tbl := lw_at lw_m6 180 rfl
theorem q1452 : (Jvm.Cond.methodLink "OddPairs$Greatest" (72 : Nat) ({ cls := "OddPairs$Pick", name := "of", desc := "(II)I" } : Jvm.MethodName)) ∈ lw_all := lw_g (lw_at lw_m6 181 rfl) rfl
theorem q1898 : (Jvm.Cond.castable "OddPairs$Greatest" "java/lang/Object") ∈ lw_tbl := lw_at lw_m8 147 rfl
theorem in_X7 : ∀ w ∈ wsX70, w ∈ lw_all := lw_in wsX70 [304, 306, 308] (by decide +kernel) (by decide +kernel)
/-! OddPairs$Trees -/
set_option maxRecDepth 100000
def RX8 : String := "OddPairs$Trees"
def TX8 : u_T := fun k => match k with
  | 0 => ("OddPairs$Trees", "net", "LOddPairs$Net;", true)
  | 1 => ("OddPairs$Trees", "mate", "[I", true)
  | 2 => ("OddPairs$Trees", "from", "[I", true)
  | 3 => ("OddPairs$Trees", "base", "[I", true)
  | 4 => ("OddPairs$Trees", "isInTree", "[Z", true)
  | 5 => ("OddPairs$Trees", "isInRing", "[Z", true)
  | 6 => ("OddPairs$Trees", "isMet", "[Z", true)
  | 7 => ("OddPairs$Trees", "queue", "[I", true)
  | 8 => ("OddPairs$Trees", "first", "I", false)
  | 9 => ("OddPairs$Trees", "last", "I", false)
  | _ => ("OddPairs$Trees", "nodes", "I", false)
def tyX8 : Nat → FieldType := fun k => match k with
  | 0 => .object "OddPairs$Net"
  | 1 => .array .int
  | 2 => .array .int
  | 3 => .array .int
  | 4 => .array .boolean
  | 5 => .array .boolean
  | 6 => .array .boolean
  | 7 => .array .int
  | 8 => .int
  | 9 => .int
  | _ => .int
abbrev wsX80 : List Cond := u_ws RX8 TX8 11
theorem nmX8 : ∀ a, a < 11 → ∀ b, b < 11 → a ≠ b → (TX8 a).2.1 ≠ (TX8 b).2.1 := by decide +kernel
theorem tyX8_ok : ∀ k, k < 11 → parseFieldDescriptor (TX8 k).2.2.1 = some (tyX8 k) := by decide +kernel
abbrev cX8_init : ByteArray := prog_7_method_1_code
def yX8_init : MethodName := ⟨RX8, "<init>", "(LOddPairs$Net;)V"⟩
def dkwX8_init_2 : List UInt8 := [188, 4, 181, 0, 28, 42, 16, 12, 188, 10, 181, 0, 31, 42, 43, 181, 0, 34, 177]
abbrev dktX8_init_2 : List UInt8 := dkwX8_init_2 ++ []
def dkwX8_init_1 : List UInt8 := [188, 10, 181, 0, 18, 42, 16, 12, 188, 4, 181, 0, 21, 42, 16, 12, 188, 4, 181, 0, 25, 42, 16, 12]
abbrev dktX8_init_1 : List UInt8 := dkwX8_init_1 ++ dktX8_init_2
def dkwX8_init_0 : List UInt8 := [42, 183, 0, 3, 42, 16, 12, 188, 10, 181, 0, 9, 42, 16, 12, 188, 10, 181, 0, 15, 42, 16, 12]
abbrev dktX8_init_0 : List UInt8 := dkwX8_init_0 ++ dktX8_init_1
theorem dksX8_init_0 : cX8_init.data.toList.drop 0 = dktX8_init_0 := by decide +kernel
theorem dksX8_init_1 : cX8_init.data.toList.drop 23 = dktX8_init_1 := dk_seg dksX8_init_0 23 rfl rfl
theorem dksX8_init_2 : cX8_init.data.toList.drop 47 = dktX8_init_2 := dk_seg dksX8_init_1 24 rfl rfl
theorem dX8_init_0 : decode cX8_init 0 = .ok (.aload_n 0, 1) := dk_42 (dk_at dksX8_init_0 0 rfl rfl)
theorem dX8_init_1 : decode cX8_init 1 = .ok (.invokespecial 3, 3) := dk_183 0 3 (dk_at dksX8_init_0 1 rfl rfl)
theorem dX8_init_4 : decode cX8_init 4 = .ok (.aload_n 0, 1) := dk_42 (dk_at dksX8_init_0 4 rfl rfl)
theorem dX8_init_5 : decode cX8_init 5 = .ok (.bipush 12, 2) := dk_16 12 (dk_at dksX8_init_0 5 rfl rfl)
theorem dX8_init_7 : decode cX8_init 7 = .ok (.newarray .int, 2) := dk_188_10 (dk_at dksX8_init_0 7 rfl rfl)
theorem dX8_init_9 : decode cX8_init 9 = .ok (.putfield 9, 3) := dk_181 0 9 (dk_at dksX8_init_0 9 rfl rfl)
theorem dX8_init_12 : decode cX8_init 12 = .ok (.aload_n 0, 1) := dk_42 (dk_at dksX8_init_0 12 rfl rfl)
theorem dX8_init_13 : decode cX8_init 13 = .ok (.bipush 12, 2) := dk_16 12 (dk_at dksX8_init_0 13 rfl rfl)
theorem dX8_init_15 : decode cX8_init 15 = .ok (.newarray .int, 2) := dk_188_10 (dk_at dksX8_init_0 15 rfl rfl)
theorem dX8_init_17 : decode cX8_init 17 = .ok (.putfield 15, 3) := dk_181 0 15 (dk_at dksX8_init_0 17 rfl rfl)
theorem dX8_init_20 : decode cX8_init 20 = .ok (.aload_n 0, 1) := dk_42 (dk_at dksX8_init_0 20 rfl rfl)
theorem dX8_init_21 : decode cX8_init 21 = .ok (.bipush 12, 2) := dk_16 12 (dk_at dksX8_init_0 21 rfl rfl)
theorem dX8_init_23 : decode cX8_init 23 = .ok (.newarray .int, 2) := dk_188_10 (dk_at dksX8_init_1 0 rfl rfl)
theorem dX8_init_25 : decode cX8_init 25 = .ok (.putfield 18, 3) := dk_181 0 18 (dk_at dksX8_init_1 2 rfl rfl)
theorem dX8_init_28 : decode cX8_init 28 = .ok (.aload_n 0, 1) := dk_42 (dk_at dksX8_init_1 5 rfl rfl)
theorem dX8_init_29 : decode cX8_init 29 = .ok (.bipush 12, 2) := dk_16 12 (dk_at dksX8_init_1 6 rfl rfl)
theorem dX8_init_31 : decode cX8_init 31 = .ok (.newarray .boolean, 2) := dk_188_4 (dk_at dksX8_init_1 8 rfl rfl)
theorem dX8_init_33 : decode cX8_init 33 = .ok (.putfield 21, 3) := dk_181 0 21 (dk_at dksX8_init_1 10 rfl rfl)
theorem dX8_init_36 : decode cX8_init 36 = .ok (.aload_n 0, 1) := dk_42 (dk_at dksX8_init_1 13 rfl rfl)
theorem dX8_init_37 : decode cX8_init 37 = .ok (.bipush 12, 2) := dk_16 12 (dk_at dksX8_init_1 14 rfl rfl)
theorem dX8_init_39 : decode cX8_init 39 = .ok (.newarray .boolean, 2) := dk_188_4 (dk_at dksX8_init_1 16 rfl rfl)
theorem dX8_init_41 : decode cX8_init 41 = .ok (.putfield 25, 3) := dk_181 0 25 (dk_at dksX8_init_1 18 rfl rfl)
theorem dX8_init_44 : decode cX8_init 44 = .ok (.aload_n 0, 1) := dk_42 (dk_at dksX8_init_1 21 rfl rfl)
theorem dX8_init_45 : decode cX8_init 45 = .ok (.bipush 12, 2) := dk_16 12 (dk_at dksX8_init_1 22 rfl rfl)
theorem dX8_init_47 : decode cX8_init 47 = .ok (.newarray .boolean, 2) := dk_188_4 (dk_at dksX8_init_2 0 rfl rfl)
theorem dX8_init_49 : decode cX8_init 49 = .ok (.putfield 28, 3) := dk_181 0 28 (dk_at dksX8_init_2 2 rfl rfl)
theorem dX8_init_52 : decode cX8_init 52 = .ok (.aload_n 0, 1) := dk_42 (dk_at dksX8_init_2 5 rfl rfl)
theorem dX8_init_53 : decode cX8_init 53 = .ok (.bipush 12, 2) := dk_16 12 (dk_at dksX8_init_2 6 rfl rfl)
theorem dX8_init_55 : decode cX8_init 55 = .ok (.newarray .int, 2) := dk_188_10 (dk_at dksX8_init_2 8 rfl rfl)
theorem dX8_init_57 : decode cX8_init 57 = .ok (.putfield 31, 3) := dk_181 0 31 (dk_at dksX8_init_2 10 rfl rfl)
theorem dX8_init_60 : decode cX8_init 60 = .ok (.aload_n 0, 1) := dk_42 (dk_at dksX8_init_2 13 rfl rfl)
theorem dX8_init_61 : decode cX8_init 61 = .ok (.aload_n 1, 1) := dk_43 (dk_at dksX8_init_2 14 rfl rfl)
theorem dX8_init_62 : decode cX8_init 62 = .ok (.putfield 34, 3) := dk_181 0 34 (dk_at dksX8_init_2 15 rfl rfl)
theorem dX8_init_65 : decode cX8_init 65 = .ok (.return_, 1) := dk_177 (dk_at dksX8_init_2 18 rfl rfl)
abbrev cX8_most : ByteArray := prog_7_method_2_code
def yX8_most : MethodName := ⟨RX8, "most", "(I)I"⟩
def dkwX8_most_3 : List UInt8 := [182, 0, 61, 132, 2, 1, 132, 3, 1, 167, 255, 196, 28, 172]
abbrev dktX8_most_3 : List UInt8 := dkwX8_most_3 ++ []
def dkwX8_most_2 : List UInt8 := [167, 0, 28, 42, 29, 182, 0, 57, 54, 4, 21, 4, 2, 160, 0, 6, 167, 0, 12, 42, 21, 4]
abbrev dktX8_most_2 : List UInt8 := dkwX8_most_2 ++ dktX8_most_3
def dkwX8_most_1 : List UInt8 := [180, 0, 48, 162, 0, 55, 27, 29, 184, 0, 53, 153, 0, 41, 42, 180, 0, 9, 29, 46, 2, 159, 0, 6]
abbrev dktX8_most_1 : List UInt8 := dkwX8_most_1 ++ dktX8_most_2
def dkwX8_most_0 : List UInt8 := [42, 27, 181, 0, 38, 42, 180, 0, 9, 2, 184, 0, 42, 3, 61, 3, 62, 29, 42, 180, 0, 34]
abbrev dktX8_most_0 : List UInt8 := dkwX8_most_0 ++ dktX8_most_1
theorem dksX8_most_0 : cX8_most.data.toList.drop 0 = dktX8_most_0 := by decide +kernel
theorem dksX8_most_1 : cX8_most.data.toList.drop 22 = dktX8_most_1 := dk_seg dksX8_most_0 22 rfl rfl
theorem dksX8_most_2 : cX8_most.data.toList.drop 46 = dktX8_most_2 := dk_seg dksX8_most_1 24 rfl rfl
theorem dksX8_most_3 : cX8_most.data.toList.drop 68 = dktX8_most_3 := dk_seg dksX8_most_2 22 rfl rfl
theorem dX8_most_0 : decode cX8_most 0 = .ok (.aload_n 0, 1) := dk_42 (dk_at dksX8_most_0 0 rfl rfl)
theorem dX8_most_1 : decode cX8_most 1 = .ok (.iload_n 1, 1) := dk_27 (dk_at dksX8_most_0 1 rfl rfl)
theorem dX8_most_2 : decode cX8_most 2 = .ok (.putfield 38, 3) := dk_181 0 38 (dk_at dksX8_most_0 2 rfl rfl)
theorem dX8_most_5 : decode cX8_most 5 = .ok (.aload_n 0, 1) := dk_42 (dk_at dksX8_most_0 5 rfl rfl)
theorem dX8_most_6 : decode cX8_most 6 = .ok (.getfield 9, 3) := dk_180 0 9 (dk_at dksX8_most_0 6 rfl rfl)
theorem dX8_most_9 : decode cX8_most 9 = .ok (.iconst (-1), 1) := dk_2 (dk_at dksX8_most_0 9 rfl rfl)
theorem dX8_most_10 : decode cX8_most 10 = .ok (.invokestatic 42, 3) := dk_184 0 42 (dk_at dksX8_most_0 10 rfl rfl)
theorem dX8_most_13 : decode cX8_most 13 = .ok (.iconst 0, 1) := dk_3 (dk_at dksX8_most_0 13 rfl rfl)
theorem dX8_most_14 : decode cX8_most 14 = .ok (.istore_n 2, 1) := dk_61 (dk_at dksX8_most_0 14 rfl rfl)
theorem dX8_most_15 : decode cX8_most 15 = .ok (.iconst 0, 1) := dk_3 (dk_at dksX8_most_0 15 rfl rfl)
theorem dX8_most_16 : decode cX8_most 16 = .ok (.istore_n 3, 1) := dk_62 (dk_at dksX8_most_0 16 rfl rfl)
theorem dX8_most_17 : decode cX8_most 17 = .ok (.iload_n 3, 1) := dk_29 (dk_at dksX8_most_0 17 rfl rfl)
theorem dX8_most_18 : decode cX8_most 18 = .ok (.aload_n 0, 1) := dk_42 (dk_at dksX8_most_0 18 rfl rfl)
theorem dX8_most_19 : decode cX8_most 19 = .ok (.getfield 34, 3) := dk_180 0 34 (dk_at dksX8_most_0 19 rfl rfl)
theorem dX8_most_22 : decode cX8_most 22 = .ok (.getfield 48, 3) := dk_180 0 48 (dk_at dksX8_most_1 0 rfl rfl)
theorem dX8_most_25 : decode cX8_most 25 = .ok (.if_icmp .ge 55, 3) := dk_162 0 55 (dk_at dksX8_most_1 3 rfl rfl)
theorem dX8_most_28 : decode cX8_most 28 = .ok (.iload_n 1, 1) := dk_27 (dk_at dksX8_most_1 6 rfl rfl)
theorem dX8_most_29 : decode cX8_most 29 = .ok (.iload_n 3, 1) := dk_29 (dk_at dksX8_most_1 7 rfl rfl)
theorem dX8_most_30 : decode cX8_most 30 = .ok (.invokestatic 53, 3) := dk_184 0 53 (dk_at dksX8_most_1 8 rfl rfl)
theorem dX8_most_33 : decode cX8_most 33 = .ok (.ifCond .eq 41, 3) := dk_153 0 41 (dk_at dksX8_most_1 11 rfl rfl)
theorem dX8_most_36 : decode cX8_most 36 = .ok (.aload_n 0, 1) := dk_42 (dk_at dksX8_most_1 14 rfl rfl)
theorem dX8_most_37 : decode cX8_most 37 = .ok (.getfield 9, 3) := dk_180 0 9 (dk_at dksX8_most_1 15 rfl rfl)
theorem dX8_most_40 : decode cX8_most 40 = .ok (.iload_n 3, 1) := dk_29 (dk_at dksX8_most_1 18 rfl rfl)
theorem dX8_most_41 : decode cX8_most 41 = .ok (.iaload, 1) := dk_46 (dk_at dksX8_most_1 19 rfl rfl)
theorem dX8_most_42 : decode cX8_most 42 = .ok (.iconst (-1), 1) := dk_2 (dk_at dksX8_most_1 20 rfl rfl)
theorem dX8_most_43 : decode cX8_most 43 = .ok (.if_icmp .eq 6, 3) := dk_159 0 6 (dk_at dksX8_most_1 21 rfl rfl)
theorem dX8_most_46 : decode cX8_most 46 = .ok (.goto 28, 3) := dk_167 0 28 (dk_at dksX8_most_2 0 rfl rfl)
theorem dX8_most_49 : decode cX8_most 49 = .ok (.aload_n 0, 1) := dk_42 (dk_at dksX8_most_2 3 rfl rfl)
theorem dX8_most_50 : decode cX8_most 50 = .ok (.iload_n 3, 1) := dk_29 (dk_at dksX8_most_2 4 rfl rfl)
theorem dX8_most_51 : decode cX8_most 51 = .ok (.invokevirtual 57, 3) := dk_182 0 57 (dk_at dksX8_most_2 5 rfl rfl)
theorem dX8_most_54 : decode cX8_most 54 = .ok (.istore 4, 2) := dk_54 4 (dk_at dksX8_most_2 8 rfl rfl)
theorem dX8_most_56 : decode cX8_most 56 = .ok (.iload 4, 2) := dk_21 4 (dk_at dksX8_most_2 10 rfl rfl)
theorem dX8_most_58 : decode cX8_most 58 = .ok (.iconst (-1), 1) := dk_2 (dk_at dksX8_most_2 12 rfl rfl)
theorem dX8_most_59 : decode cX8_most 59 = .ok (.if_icmp .ne 6, 3) := dk_160 0 6 (dk_at dksX8_most_2 13 rfl rfl)
theorem dX8_most_62 : decode cX8_most 62 = .ok (.goto 12, 3) := dk_167 0 12 (dk_at dksX8_most_2 16 rfl rfl)
theorem dX8_most_65 : decode cX8_most 65 = .ok (.aload_n 0, 1) := dk_42 (dk_at dksX8_most_2 19 rfl rfl)
theorem dX8_most_66 : decode cX8_most 66 = .ok (.iload 4, 2) := dk_21 4 (dk_at dksX8_most_2 20 rfl rfl)
theorem dX8_most_68 : decode cX8_most 68 = .ok (.invokevirtual 61, 3) := dk_182 0 61 (dk_at dksX8_most_3 0 rfl rfl)
theorem dX8_most_71 : decode cX8_most 71 = .ok (.iinc 2 1, 3) := dk_132 2 1 (dk_at dksX8_most_3 3 rfl rfl)
theorem dX8_most_74 : decode cX8_most 74 = .ok (.iinc 3 1, 3) := dk_132 3 1 (dk_at dksX8_most_3 6 rfl rfl)
theorem dX8_most_77 : decode cX8_most 77 = .ok (.goto (-60), 3) := dk_167 255 196 (dk_at dksX8_most_3 9 rfl rfl)
theorem dX8_most_80 : decode cX8_most 80 = .ok (.iload_n 2, 1) := dk_28 (dk_at dksX8_most_3 12 rfl rfl)
theorem dX8_most_81 : decode cX8_most 81 = .ok (.ireturn, 1) := dk_172 (dk_at dksX8_most_3 13 rfl rfl)
abbrev cX8_grows : ByteArray := prog_7_method_6_code
def yX8_grows : MethodName := ⟨RX8, "grows", "(I)I"⟩
def dkwX8_grows_11 : List UInt8 := [180, 0, 9, 29, 46, 79, 132, 3, 1, 167, 255, 89, 167, 255, 56, 2, 172]
abbrev dktX8_grows_11 : List UInt8 := dkwX8_grows_11 ++ []
def dkwX8_grows_10 : List UInt8 := [180, 0, 9, 29, 46, 4, 84, 42, 180, 0, 31, 42, 89, 180, 0, 76, 90, 4, 96, 181, 0, 76, 42]
abbrev dktX8_grows_10 : List UInt8 := dkwX8_grows_10 ++ dktX8_grows_11
def dkwX8_grows_9 : List UInt8 := [180, 0, 15, 29, 28, 79, 42, 180, 0, 9, 29, 46, 2, 160, 0, 5, 29, 172, 42, 180, 0, 21, 42]
abbrev dktX8_grows_9 : List UInt8 := dkwX8_grows_9 ++ dktX8_grows_10
def dkwX8_grows_8 : List UInt8 := [2, 159, 0, 12, 42, 28, 29, 182, 0, 85, 167, 0, 66, 42, 180, 0, 15, 29, 46, 2, 160, 0, 56, 42]
abbrev dktX8_grows_8 : List UInt8 := dkwX8_grows_8 ++ dktX8_grows_9
def dkwX8_grows_7 : List UInt8 := [159, 0, 28, 42, 180, 0, 9, 29, 46, 2, 159, 0, 27, 42, 180, 0, 15, 42, 180, 0, 9, 29, 46, 46]
abbrev dktX8_grows_7 : List UInt8 := dkwX8_grows_7 ++ dktX8_grows_8
def dkwX8_grows_6 : List UInt8 := [42, 180, 0, 18, 29, 46, 159, 0, 118, 42, 180, 0, 9, 28, 46, 29, 160, 0, 6, 167, 0, 105, 29, 27]
abbrev dktX8_grows_6 : List UInt8 := dkwX8_grows_6 ++ dktX8_grows_7
def dkwX8_grows_5 : List UInt8 := [184, 0, 53, 153, 0, 145, 42, 180, 0, 34, 28, 29, 182, 0, 82, 153, 0, 133, 42, 180, 0, 18, 28, 46]
abbrev dktX8_grows_5 : List UInt8 := dkwX8_grows_5 ++ dktX8_grows_6
def dkwX8_grows_4 : List UInt8 := [181, 0, 79, 46, 61, 3, 62, 29, 42, 180, 0, 34, 180, 0, 48, 162, 0, 162, 42, 180, 0, 38, 29]
abbrev dktX8_grows_4 : List UInt8 := dkwX8_grows_4 ++ dktX8_grows_5
def dkwX8_grows_3 : List UInt8 := [79, 42, 180, 0, 79, 42, 180, 0, 76, 162, 0, 195, 42, 180, 0, 31, 42, 89, 180, 0, 79, 90, 4, 96]
abbrev dktX8_grows_3 : List UInt8 := dkwX8_grows_3 ++ dktX8_grows_4
def dkwX8_grows_2 : List UInt8 := [181, 0, 79, 42, 3, 181, 0, 76, 42, 180, 0, 31, 42, 89, 180, 0, 76, 90, 4, 96, 181, 0, 76, 27]
abbrev dktX8_grows_2 : List UInt8 := dkwX8_grows_2 ++ dktX8_grows_3
def dkwX8_grows_1 : List UInt8 := [42, 180, 0, 18, 28, 28, 79, 132, 2, 1, 167, 255, 240, 42, 180, 0, 21, 27, 4, 84, 42, 3]
abbrev dktX8_grows_1 : List UInt8 := dkwX8_grows_1 ++ dktX8_grows_2
def dkwX8_grows_0 : List UInt8 := [42, 180, 0, 21, 3, 184, 0, 65, 42, 180, 0, 15, 2, 184, 0, 42, 3, 61, 28, 16, 12, 162, 0, 16]
abbrev dktX8_grows_0 : List UInt8 := dkwX8_grows_0 ++ dktX8_grows_1
theorem dksX8_grows_0 : cX8_grows.data.toList.drop 0 = dktX8_grows_0 := by decide +kernel
theorem dksX8_grows_1 : cX8_grows.data.toList.drop 24 = dktX8_grows_1 := dk_seg dksX8_grows_0 24 rfl rfl
theorem dksX8_grows_2 : cX8_grows.data.toList.drop 46 = dktX8_grows_2 := dk_seg dksX8_grows_1 22 rfl rfl
theorem dksX8_grows_3 : cX8_grows.data.toList.drop 70 = dktX8_grows_3 := dk_seg dksX8_grows_2 24 rfl rfl
theorem dksX8_grows_4 : cX8_grows.data.toList.drop 94 = dktX8_grows_4 := dk_seg dksX8_grows_3 24 rfl rfl
theorem dksX8_grows_5 : cX8_grows.data.toList.drop 117 = dktX8_grows_5 := dk_seg dksX8_grows_4 23 rfl rfl
theorem dksX8_grows_6 : cX8_grows.data.toList.drop 141 = dktX8_grows_6 := dk_seg dksX8_grows_5 24 rfl rfl
theorem dksX8_grows_7 : cX8_grows.data.toList.drop 165 = dktX8_grows_7 := dk_seg dksX8_grows_6 24 rfl rfl
theorem dksX8_grows_8 : cX8_grows.data.toList.drop 189 = dktX8_grows_8 := dk_seg dksX8_grows_7 24 rfl rfl
theorem dksX8_grows_9 : cX8_grows.data.toList.drop 213 = dktX8_grows_9 := dk_seg dksX8_grows_8 24 rfl rfl
theorem dksX8_grows_10 : cX8_grows.data.toList.drop 236 = dktX8_grows_10 := dk_seg dksX8_grows_9 23 rfl rfl
theorem dksX8_grows_11 : cX8_grows.data.toList.drop 259 = dktX8_grows_11 := dk_seg dksX8_grows_10 23 rfl rfl
theorem dX8_grows_0 : decode cX8_grows 0 = .ok (.aload_n 0, 1) := dk_42 (dk_at dksX8_grows_0 0 rfl rfl)
theorem dX8_grows_1 : decode cX8_grows 1 = .ok (.getfield 21, 3) := dk_180 0 21 (dk_at dksX8_grows_0 1 rfl rfl)
theorem dX8_grows_4 : decode cX8_grows 4 = .ok (.iconst 0, 1) := dk_3 (dk_at dksX8_grows_0 4 rfl rfl)
theorem dX8_grows_5 : decode cX8_grows 5 = .ok (.invokestatic 65, 3) := dk_184 0 65 (dk_at dksX8_grows_0 5 rfl rfl)
theorem dX8_grows_8 : decode cX8_grows 8 = .ok (.aload_n 0, 1) := dk_42 (dk_at dksX8_grows_0 8 rfl rfl)
theorem dX8_grows_9 : decode cX8_grows 9 = .ok (.getfield 15, 3) := dk_180 0 15 (dk_at dksX8_grows_0 9 rfl rfl)
theorem dX8_grows_12 : decode cX8_grows 12 = .ok (.iconst (-1), 1) := dk_2 (dk_at dksX8_grows_0 12 rfl rfl)
theorem dX8_grows_13 : decode cX8_grows 13 = .ok (.invokestatic 42, 3) := dk_184 0 42 (dk_at dksX8_grows_0 13 rfl rfl)
theorem dX8_grows_16 : decode cX8_grows 16 = .ok (.iconst 0, 1) := dk_3 (dk_at dksX8_grows_0 16 rfl rfl)
theorem dX8_grows_17 : decode cX8_grows 17 = .ok (.istore_n 2, 1) := dk_61 (dk_at dksX8_grows_0 17 rfl rfl)
theorem dX8_grows_18 : decode cX8_grows 18 = .ok (.iload_n 2, 1) := dk_28 (dk_at dksX8_grows_0 18 rfl rfl)
theorem dX8_grows_19 : decode cX8_grows 19 = .ok (.bipush 12, 2) := dk_16 12 (dk_at dksX8_grows_0 19 rfl rfl)
theorem dX8_grows_21 : decode cX8_grows 21 = .ok (.if_icmp .ge 16, 3) := dk_162 0 16 (dk_at dksX8_grows_0 21 rfl rfl)
theorem dX8_grows_24 : decode cX8_grows 24 = .ok (.aload_n 0, 1) := dk_42 (dk_at dksX8_grows_1 0 rfl rfl)
theorem dX8_grows_25 : decode cX8_grows 25 = .ok (.getfield 18, 3) := dk_180 0 18 (dk_at dksX8_grows_1 1 rfl rfl)
theorem dX8_grows_28 : decode cX8_grows 28 = .ok (.iload_n 2, 1) := dk_28 (dk_at dksX8_grows_1 4 rfl rfl)
theorem dX8_grows_29 : decode cX8_grows 29 = .ok (.iload_n 2, 1) := dk_28 (dk_at dksX8_grows_1 5 rfl rfl)
theorem dX8_grows_30 : decode cX8_grows 30 = .ok (.iastore, 1) := dk_79 (dk_at dksX8_grows_1 6 rfl rfl)
theorem dX8_grows_31 : decode cX8_grows 31 = .ok (.iinc 2 1, 3) := dk_132 2 1 (dk_at dksX8_grows_1 7 rfl rfl)
theorem dX8_grows_34 : decode cX8_grows 34 = .ok (.goto (-16), 3) := dk_167 255 240 (dk_at dksX8_grows_1 10 rfl rfl)
theorem dX8_grows_37 : decode cX8_grows 37 = .ok (.aload_n 0, 1) := dk_42 (dk_at dksX8_grows_1 13 rfl rfl)
theorem dX8_grows_38 : decode cX8_grows 38 = .ok (.getfield 21, 3) := dk_180 0 21 (dk_at dksX8_grows_1 14 rfl rfl)
theorem dX8_grows_41 : decode cX8_grows 41 = .ok (.iload_n 1, 1) := dk_27 (dk_at dksX8_grows_1 17 rfl rfl)
theorem dX8_grows_42 : decode cX8_grows 42 = .ok (.iconst 1, 1) := dk_4 (dk_at dksX8_grows_1 18 rfl rfl)
theorem dX8_grows_43 : decode cX8_grows 43 = .ok (.bastore, 1) := dk_84 (dk_at dksX8_grows_1 19 rfl rfl)
theorem dX8_grows_44 : decode cX8_grows 44 = .ok (.aload_n 0, 1) := dk_42 (dk_at dksX8_grows_1 20 rfl rfl)
theorem dX8_grows_45 : decode cX8_grows 45 = .ok (.iconst 0, 1) := dk_3 (dk_at dksX8_grows_1 21 rfl rfl)
theorem dX8_grows_46 : decode cX8_grows 46 = .ok (.putfield 79, 3) := dk_181 0 79 (dk_at dksX8_grows_2 0 rfl rfl)
theorem dX8_grows_49 : decode cX8_grows 49 = .ok (.aload_n 0, 1) := dk_42 (dk_at dksX8_grows_2 3 rfl rfl)
theorem dX8_grows_50 : decode cX8_grows 50 = .ok (.iconst 0, 1) := dk_3 (dk_at dksX8_grows_2 4 rfl rfl)
theorem dX8_grows_51 : decode cX8_grows 51 = .ok (.putfield 76, 3) := dk_181 0 76 (dk_at dksX8_grows_2 5 rfl rfl)
theorem dX8_grows_54 : decode cX8_grows 54 = .ok (.aload_n 0, 1) := dk_42 (dk_at dksX8_grows_2 8 rfl rfl)
theorem dX8_grows_55 : decode cX8_grows 55 = .ok (.getfield 31, 3) := dk_180 0 31 (dk_at dksX8_grows_2 9 rfl rfl)
theorem dX8_grows_58 : decode cX8_grows 58 = .ok (.aload_n 0, 1) := dk_42 (dk_at dksX8_grows_2 12 rfl rfl)
theorem dX8_grows_59 : decode cX8_grows 59 = .ok (.dup, 1) := dk_89 (dk_at dksX8_grows_2 13 rfl rfl)
theorem dX8_grows_60 : decode cX8_grows 60 = .ok (.getfield 76, 3) := dk_180 0 76 (dk_at dksX8_grows_2 14 rfl rfl)
theorem dX8_grows_63 : decode cX8_grows 63 = .ok (.dup_x1, 1) := dk_90 (dk_at dksX8_grows_2 17 rfl rfl)
theorem dX8_grows_64 : decode cX8_grows 64 = .ok (.iconst 1, 1) := dk_4 (dk_at dksX8_grows_2 18 rfl rfl)
theorem dX8_grows_65 : decode cX8_grows 65 = .ok (.iadd, 1) := dk_96 (dk_at dksX8_grows_2 19 rfl rfl)
theorem dX8_grows_66 : decode cX8_grows 66 = .ok (.putfield 76, 3) := dk_181 0 76 (dk_at dksX8_grows_2 20 rfl rfl)
theorem dX8_grows_69 : decode cX8_grows 69 = .ok (.iload_n 1, 1) := dk_27 (dk_at dksX8_grows_2 23 rfl rfl)
theorem dX8_grows_70 : decode cX8_grows 70 = .ok (.iastore, 1) := dk_79 (dk_at dksX8_grows_3 0 rfl rfl)
theorem dX8_grows_71 : decode cX8_grows 71 = .ok (.aload_n 0, 1) := dk_42 (dk_at dksX8_grows_3 1 rfl rfl)
theorem dX8_grows_72 : decode cX8_grows 72 = .ok (.getfield 79, 3) := dk_180 0 79 (dk_at dksX8_grows_3 2 rfl rfl)
theorem dX8_grows_75 : decode cX8_grows 75 = .ok (.aload_n 0, 1) := dk_42 (dk_at dksX8_grows_3 5 rfl rfl)
theorem dX8_grows_76 : decode cX8_grows 76 = .ok (.getfield 76, 3) := dk_180 0 76 (dk_at dksX8_grows_3 6 rfl rfl)
theorem dX8_grows_79 : decode cX8_grows 79 = .ok (.if_icmp .ge 195, 3) := dk_162 0 195 (dk_at dksX8_grows_3 9 rfl rfl)
theorem dX8_grows_82 : decode cX8_grows 82 = .ok (.aload_n 0, 1) := dk_42 (dk_at dksX8_grows_3 12 rfl rfl)
theorem dX8_grows_83 : decode cX8_grows 83 = .ok (.getfield 31, 3) := dk_180 0 31 (dk_at dksX8_grows_3 13 rfl rfl)
theorem dX8_grows_86 : decode cX8_grows 86 = .ok (.aload_n 0, 1) := dk_42 (dk_at dksX8_grows_3 16 rfl rfl)
theorem dX8_grows_87 : decode cX8_grows 87 = .ok (.dup, 1) := dk_89 (dk_at dksX8_grows_3 17 rfl rfl)
theorem dX8_grows_88 : decode cX8_grows 88 = .ok (.getfield 79, 3) := dk_180 0 79 (dk_at dksX8_grows_3 18 rfl rfl)
theorem dX8_grows_91 : decode cX8_grows 91 = .ok (.dup_x1, 1) := dk_90 (dk_at dksX8_grows_3 21 rfl rfl)
theorem dX8_grows_92 : decode cX8_grows 92 = .ok (.iconst 1, 1) := dk_4 (dk_at dksX8_grows_3 22 rfl rfl)
theorem dX8_grows_93 : decode cX8_grows 93 = .ok (.iadd, 1) := dk_96 (dk_at dksX8_grows_3 23 rfl rfl)
theorem dX8_grows_94 : decode cX8_grows 94 = .ok (.putfield 79, 3) := dk_181 0 79 (dk_at dksX8_grows_4 0 rfl rfl)
theorem dX8_grows_97 : decode cX8_grows 97 = .ok (.iaload, 1) := dk_46 (dk_at dksX8_grows_4 3 rfl rfl)
theorem dX8_grows_98 : decode cX8_grows 98 = .ok (.istore_n 2, 1) := dk_61 (dk_at dksX8_grows_4 4 rfl rfl)
theorem dX8_grows_99 : decode cX8_grows 99 = .ok (.iconst 0, 1) := dk_3 (dk_at dksX8_grows_4 5 rfl rfl)
theorem dX8_grows_100 : decode cX8_grows 100 = .ok (.istore_n 3, 1) := dk_62 (dk_at dksX8_grows_4 6 rfl rfl)
theorem dX8_grows_101 : decode cX8_grows 101 = .ok (.iload_n 3, 1) := dk_29 (dk_at dksX8_grows_4 7 rfl rfl)
theorem dX8_grows_102 : decode cX8_grows 102 = .ok (.aload_n 0, 1) := dk_42 (dk_at dksX8_grows_4 8 rfl rfl)
theorem dX8_grows_103 : decode cX8_grows 103 = .ok (.getfield 34, 3) := dk_180 0 34 (dk_at dksX8_grows_4 9 rfl rfl)
theorem dX8_grows_106 : decode cX8_grows 106 = .ok (.getfield 48, 3) := dk_180 0 48 (dk_at dksX8_grows_4 12 rfl rfl)
theorem dX8_grows_109 : decode cX8_grows 109 = .ok (.if_icmp .ge 162, 3) := dk_162 0 162 (dk_at dksX8_grows_4 15 rfl rfl)
theorem dX8_grows_112 : decode cX8_grows 112 = .ok (.aload_n 0, 1) := dk_42 (dk_at dksX8_grows_4 18 rfl rfl)
theorem dX8_grows_113 : decode cX8_grows 113 = .ok (.getfield 38, 3) := dk_180 0 38 (dk_at dksX8_grows_4 19 rfl rfl)
theorem dX8_grows_116 : decode cX8_grows 116 = .ok (.iload_n 3, 1) := dk_29 (dk_at dksX8_grows_4 22 rfl rfl)
theorem dX8_grows_117 : decode cX8_grows 117 = .ok (.invokestatic 53, 3) := dk_184 0 53 (dk_at dksX8_grows_5 0 rfl rfl)
theorem dX8_grows_120 : decode cX8_grows 120 = .ok (.ifCond .eq 145, 3) := dk_153 0 145 (dk_at dksX8_grows_5 3 rfl rfl)
theorem dX8_grows_123 : decode cX8_grows 123 = .ok (.aload_n 0, 1) := dk_42 (dk_at dksX8_grows_5 6 rfl rfl)
theorem dX8_grows_124 : decode cX8_grows 124 = .ok (.getfield 34, 3) := dk_180 0 34 (dk_at dksX8_grows_5 7 rfl rfl)
theorem dX8_grows_127 : decode cX8_grows 127 = .ok (.iload_n 2, 1) := dk_28 (dk_at dksX8_grows_5 10 rfl rfl)
theorem dX8_grows_128 : decode cX8_grows 128 = .ok (.iload_n 3, 1) := dk_29 (dk_at dksX8_grows_5 11 rfl rfl)
theorem dX8_grows_129 : decode cX8_grows 129 = .ok (.invokevirtual 82, 3) := dk_182 0 82 (dk_at dksX8_grows_5 12 rfl rfl)
theorem dX8_grows_132 : decode cX8_grows 132 = .ok (.ifCond .eq 133, 3) := dk_153 0 133 (dk_at dksX8_grows_5 15 rfl rfl)
theorem dX8_grows_135 : decode cX8_grows 135 = .ok (.aload_n 0, 1) := dk_42 (dk_at dksX8_grows_5 18 rfl rfl)
theorem dX8_grows_136 : decode cX8_grows 136 = .ok (.getfield 18, 3) := dk_180 0 18 (dk_at dksX8_grows_5 19 rfl rfl)
theorem dX8_grows_139 : decode cX8_grows 139 = .ok (.iload_n 2, 1) := dk_28 (dk_at dksX8_grows_5 22 rfl rfl)
theorem dX8_grows_140 : decode cX8_grows 140 = .ok (.iaload, 1) := dk_46 (dk_at dksX8_grows_5 23 rfl rfl)
theorem dX8_grows_141 : decode cX8_grows 141 = .ok (.aload_n 0, 1) := dk_42 (dk_at dksX8_grows_6 0 rfl rfl)
theorem dX8_grows_142 : decode cX8_grows 142 = .ok (.getfield 18, 3) := dk_180 0 18 (dk_at dksX8_grows_6 1 rfl rfl)
theorem dX8_grows_145 : decode cX8_grows 145 = .ok (.iload_n 3, 1) := dk_29 (dk_at dksX8_grows_6 4 rfl rfl)
theorem dX8_grows_146 : decode cX8_grows 146 = .ok (.iaload, 1) := dk_46 (dk_at dksX8_grows_6 5 rfl rfl)
theorem dX8_grows_147 : decode cX8_grows 147 = .ok (.if_icmp .eq 118, 3) := dk_159 0 118 (dk_at dksX8_grows_6 6 rfl rfl)
theorem dX8_grows_150 : decode cX8_grows 150 = .ok (.aload_n 0, 1) := dk_42 (dk_at dksX8_grows_6 9 rfl rfl)
theorem dX8_grows_151 : decode cX8_grows 151 = .ok (.getfield 9, 3) := dk_180 0 9 (dk_at dksX8_grows_6 10 rfl rfl)
theorem dX8_grows_154 : decode cX8_grows 154 = .ok (.iload_n 2, 1) := dk_28 (dk_at dksX8_grows_6 13 rfl rfl)
theorem dX8_grows_155 : decode cX8_grows 155 = .ok (.iaload, 1) := dk_46 (dk_at dksX8_grows_6 14 rfl rfl)
theorem dX8_grows_156 : decode cX8_grows 156 = .ok (.iload_n 3, 1) := dk_29 (dk_at dksX8_grows_6 15 rfl rfl)
theorem dX8_grows_157 : decode cX8_grows 157 = .ok (.if_icmp .ne 6, 3) := dk_160 0 6 (dk_at dksX8_grows_6 16 rfl rfl)
theorem dX8_grows_160 : decode cX8_grows 160 = .ok (.goto 105, 3) := dk_167 0 105 (dk_at dksX8_grows_6 19 rfl rfl)
theorem dX8_grows_163 : decode cX8_grows 163 = .ok (.iload_n 3, 1) := dk_29 (dk_at dksX8_grows_6 22 rfl rfl)
theorem dX8_grows_164 : decode cX8_grows 164 = .ok (.iload_n 1, 1) := dk_27 (dk_at dksX8_grows_6 23 rfl rfl)
theorem dX8_grows_165 : decode cX8_grows 165 = .ok (.if_icmp .eq 28, 3) := dk_159 0 28 (dk_at dksX8_grows_7 0 rfl rfl)
theorem dX8_grows_168 : decode cX8_grows 168 = .ok (.aload_n 0, 1) := dk_42 (dk_at dksX8_grows_7 3 rfl rfl)
theorem dX8_grows_169 : decode cX8_grows 169 = .ok (.getfield 9, 3) := dk_180 0 9 (dk_at dksX8_grows_7 4 rfl rfl)
theorem dX8_grows_172 : decode cX8_grows 172 = .ok (.iload_n 3, 1) := dk_29 (dk_at dksX8_grows_7 7 rfl rfl)
theorem dX8_grows_173 : decode cX8_grows 173 = .ok (.iaload, 1) := dk_46 (dk_at dksX8_grows_7 8 rfl rfl)
theorem dX8_grows_174 : decode cX8_grows 174 = .ok (.iconst (-1), 1) := dk_2 (dk_at dksX8_grows_7 9 rfl rfl)
theorem dX8_grows_175 : decode cX8_grows 175 = .ok (.if_icmp .eq 27, 3) := dk_159 0 27 (dk_at dksX8_grows_7 10 rfl rfl)
theorem dX8_grows_178 : decode cX8_grows 178 = .ok (.aload_n 0, 1) := dk_42 (dk_at dksX8_grows_7 13 rfl rfl)
theorem dX8_grows_179 : decode cX8_grows 179 = .ok (.getfield 15, 3) := dk_180 0 15 (dk_at dksX8_grows_7 14 rfl rfl)
theorem dX8_grows_182 : decode cX8_grows 182 = .ok (.aload_n 0, 1) := dk_42 (dk_at dksX8_grows_7 17 rfl rfl)
theorem dX8_grows_183 : decode cX8_grows 183 = .ok (.getfield 9, 3) := dk_180 0 9 (dk_at dksX8_grows_7 18 rfl rfl)
theorem dX8_grows_186 : decode cX8_grows 186 = .ok (.iload_n 3, 1) := dk_29 (dk_at dksX8_grows_7 21 rfl rfl)
theorem dX8_grows_187 : decode cX8_grows 187 = .ok (.iaload, 1) := dk_46 (dk_at dksX8_grows_7 22 rfl rfl)
theorem dX8_grows_188 : decode cX8_grows 188 = .ok (.iaload, 1) := dk_46 (dk_at dksX8_grows_7 23 rfl rfl)
theorem dX8_grows_189 : decode cX8_grows 189 = .ok (.iconst (-1), 1) := dk_2 (dk_at dksX8_grows_8 0 rfl rfl)
theorem dX8_grows_190 : decode cX8_grows 190 = .ok (.if_icmp .eq 12, 3) := dk_159 0 12 (dk_at dksX8_grows_8 1 rfl rfl)
theorem dX8_grows_193 : decode cX8_grows 193 = .ok (.aload_n 0, 1) := dk_42 (dk_at dksX8_grows_8 4 rfl rfl)
theorem dX8_grows_194 : decode cX8_grows 194 = .ok (.iload_n 2, 1) := dk_28 (dk_at dksX8_grows_8 5 rfl rfl)
theorem dX8_grows_195 : decode cX8_grows 195 = .ok (.iload_n 3, 1) := dk_29 (dk_at dksX8_grows_8 6 rfl rfl)
theorem dX8_grows_196 : decode cX8_grows 196 = .ok (.invokevirtual 85, 3) := dk_182 0 85 (dk_at dksX8_grows_8 7 rfl rfl)
theorem dX8_grows_199 : decode cX8_grows 199 = .ok (.goto 66, 3) := dk_167 0 66 (dk_at dksX8_grows_8 10 rfl rfl)
theorem dX8_grows_202 : decode cX8_grows 202 = .ok (.aload_n 0, 1) := dk_42 (dk_at dksX8_grows_8 13 rfl rfl)
theorem dX8_grows_203 : decode cX8_grows 203 = .ok (.getfield 15, 3) := dk_180 0 15 (dk_at dksX8_grows_8 14 rfl rfl)
theorem dX8_grows_206 : decode cX8_grows 206 = .ok (.iload_n 3, 1) := dk_29 (dk_at dksX8_grows_8 17 rfl rfl)
theorem dX8_grows_207 : decode cX8_grows 207 = .ok (.iaload, 1) := dk_46 (dk_at dksX8_grows_8 18 rfl rfl)
theorem dX8_grows_208 : decode cX8_grows 208 = .ok (.iconst (-1), 1) := dk_2 (dk_at dksX8_grows_8 19 rfl rfl)
theorem dX8_grows_209 : decode cX8_grows 209 = .ok (.if_icmp .ne 56, 3) := dk_160 0 56 (dk_at dksX8_grows_8 20 rfl rfl)
theorem dX8_grows_212 : decode cX8_grows 212 = .ok (.aload_n 0, 1) := dk_42 (dk_at dksX8_grows_8 23 rfl rfl)
theorem dX8_grows_213 : decode cX8_grows 213 = .ok (.getfield 15, 3) := dk_180 0 15 (dk_at dksX8_grows_9 0 rfl rfl)
theorem dX8_grows_216 : decode cX8_grows 216 = .ok (.iload_n 3, 1) := dk_29 (dk_at dksX8_grows_9 3 rfl rfl)
theorem dX8_grows_217 : decode cX8_grows 217 = .ok (.iload_n 2, 1) := dk_28 (dk_at dksX8_grows_9 4 rfl rfl)
theorem dX8_grows_218 : decode cX8_grows 218 = .ok (.iastore, 1) := dk_79 (dk_at dksX8_grows_9 5 rfl rfl)
theorem dX8_grows_219 : decode cX8_grows 219 = .ok (.aload_n 0, 1) := dk_42 (dk_at dksX8_grows_9 6 rfl rfl)
theorem dX8_grows_220 : decode cX8_grows 220 = .ok (.getfield 9, 3) := dk_180 0 9 (dk_at dksX8_grows_9 7 rfl rfl)
theorem dX8_grows_223 : decode cX8_grows 223 = .ok (.iload_n 3, 1) := dk_29 (dk_at dksX8_grows_9 10 rfl rfl)
theorem dX8_grows_224 : decode cX8_grows 224 = .ok (.iaload, 1) := dk_46 (dk_at dksX8_grows_9 11 rfl rfl)
theorem dX8_grows_225 : decode cX8_grows 225 = .ok (.iconst (-1), 1) := dk_2 (dk_at dksX8_grows_9 12 rfl rfl)
theorem dX8_grows_226 : decode cX8_grows 226 = .ok (.if_icmp .ne 5, 3) := dk_160 0 5 (dk_at dksX8_grows_9 13 rfl rfl)
theorem dX8_grows_229 : decode cX8_grows 229 = .ok (.iload_n 3, 1) := dk_29 (dk_at dksX8_grows_9 16 rfl rfl)
theorem dX8_grows_230 : decode cX8_grows 230 = .ok (.ireturn, 1) := dk_172 (dk_at dksX8_grows_9 17 rfl rfl)
theorem dX8_grows_231 : decode cX8_grows 231 = .ok (.aload_n 0, 1) := dk_42 (dk_at dksX8_grows_9 18 rfl rfl)
theorem dX8_grows_232 : decode cX8_grows 232 = .ok (.getfield 21, 3) := dk_180 0 21 (dk_at dksX8_grows_9 19 rfl rfl)
theorem dX8_grows_235 : decode cX8_grows 235 = .ok (.aload_n 0, 1) := dk_42 (dk_at dksX8_grows_9 22 rfl rfl)
theorem dX8_grows_236 : decode cX8_grows 236 = .ok (.getfield 9, 3) := dk_180 0 9 (dk_at dksX8_grows_10 0 rfl rfl)
theorem dX8_grows_239 : decode cX8_grows 239 = .ok (.iload_n 3, 1) := dk_29 (dk_at dksX8_grows_10 3 rfl rfl)
theorem dX8_grows_240 : decode cX8_grows 240 = .ok (.iaload, 1) := dk_46 (dk_at dksX8_grows_10 4 rfl rfl)
theorem dX8_grows_241 : decode cX8_grows 241 = .ok (.iconst 1, 1) := dk_4 (dk_at dksX8_grows_10 5 rfl rfl)
theorem dX8_grows_242 : decode cX8_grows 242 = .ok (.bastore, 1) := dk_84 (dk_at dksX8_grows_10 6 rfl rfl)
theorem dX8_grows_243 : decode cX8_grows 243 = .ok (.aload_n 0, 1) := dk_42 (dk_at dksX8_grows_10 7 rfl rfl)
theorem dX8_grows_244 : decode cX8_grows 244 = .ok (.getfield 31, 3) := dk_180 0 31 (dk_at dksX8_grows_10 8 rfl rfl)
theorem dX8_grows_247 : decode cX8_grows 247 = .ok (.aload_n 0, 1) := dk_42 (dk_at dksX8_grows_10 11 rfl rfl)
theorem dX8_grows_248 : decode cX8_grows 248 = .ok (.dup, 1) := dk_89 (dk_at dksX8_grows_10 12 rfl rfl)
theorem dX8_grows_249 : decode cX8_grows 249 = .ok (.getfield 76, 3) := dk_180 0 76 (dk_at dksX8_grows_10 13 rfl rfl)
theorem dX8_grows_252 : decode cX8_grows 252 = .ok (.dup_x1, 1) := dk_90 (dk_at dksX8_grows_10 16 rfl rfl)
theorem dX8_grows_253 : decode cX8_grows 253 = .ok (.iconst 1, 1) := dk_4 (dk_at dksX8_grows_10 17 rfl rfl)
theorem dX8_grows_254 : decode cX8_grows 254 = .ok (.iadd, 1) := dk_96 (dk_at dksX8_grows_10 18 rfl rfl)
theorem dX8_grows_255 : decode cX8_grows 255 = .ok (.putfield 76, 3) := dk_181 0 76 (dk_at dksX8_grows_10 19 rfl rfl)
theorem dX8_grows_258 : decode cX8_grows 258 = .ok (.aload_n 0, 1) := dk_42 (dk_at dksX8_grows_10 22 rfl rfl)
theorem dX8_grows_259 : decode cX8_grows 259 = .ok (.getfield 9, 3) := dk_180 0 9 (dk_at dksX8_grows_11 0 rfl rfl)
theorem dX8_grows_262 : decode cX8_grows 262 = .ok (.iload_n 3, 1) := dk_29 (dk_at dksX8_grows_11 3 rfl rfl)
theorem dX8_grows_263 : decode cX8_grows 263 = .ok (.iaload, 1) := dk_46 (dk_at dksX8_grows_11 4 rfl rfl)
theorem dX8_grows_264 : decode cX8_grows 264 = .ok (.iastore, 1) := dk_79 (dk_at dksX8_grows_11 5 rfl rfl)
theorem dX8_grows_265 : decode cX8_grows 265 = .ok (.iinc 3 1, 3) := dk_132 3 1 (dk_at dksX8_grows_11 6 rfl rfl)
theorem dX8_grows_268 : decode cX8_grows 268 = .ok (.goto (-167), 3) := dk_167 255 89 (dk_at dksX8_grows_11 9 rfl rfl)
theorem dX8_grows_271 : decode cX8_grows 271 = .ok (.goto (-200), 3) := dk_167 255 56 (dk_at dksX8_grows_11 12 rfl rfl)
theorem dX8_grows_274 : decode cX8_grows 274 = .ok (.iconst (-1), 1) := dk_2 (dk_at dksX8_grows_11 15 rfl rfl)
theorem dX8_grows_275 : decode cX8_grows 275 = .ok (.ireturn, 1) := dk_172 (dk_at dksX8_grows_11 16 rfl rfl)
abbrev cX8_shrinks : ByteArray := prog_7_method_5_code
def yX8_shrinks : MethodName := ⟨RX8, "shrinks", "(II)V"⟩
def dkwX8_shrinks_4 : List UInt8 := [42, 89, 180, 0, 76, 90, 4, 96, 181, 0, 76, 21, 4, 79, 132, 4, 1, 167, 255, 176, 177]
abbrev dktX8_shrinks_4 : List UInt8 := dkwX8_shrinks_4 ++ []
def dkwX8_shrinks_3 : List UInt8 := [180, 0, 21, 21, 4, 51, 153, 0, 6, 167, 0, 29, 42, 180, 0, 21, 21, 4, 4, 84, 42, 180, 0, 31]
abbrev dktX8_shrinks_3 : List UInt8 := dkwX8_shrinks_3 ++ dktX8_shrinks_4
def dkwX8_shrinks_2 : List UInt8 := [42, 180, 0, 18, 21, 4, 46, 51, 154, 0, 6, 167, 0, 50, 42, 180, 0, 18, 21, 4, 29, 79, 42]
abbrev dktX8_shrinks_2 : List UInt8 := dkwX8_shrinks_2 ++ dktX8_shrinks_3
def dkwX8_shrinks_1 : List UInt8 := [29, 27, 182, 0, 72, 3, 54, 4, 21, 4, 42, 180, 0, 34, 180, 0, 48, 162, 0, 74, 42, 180, 0, 25]
abbrev dktX8_shrinks_1 : List UInt8 := dkwX8_shrinks_1 ++ dktX8_shrinks_2
def dkwX8_shrinks_0 : List UInt8 := [42, 27, 28, 182, 0, 68, 62, 42, 180, 0, 25, 3, 184, 0, 65, 42, 27, 29, 28, 182, 0, 72, 42, 28]
abbrev dktX8_shrinks_0 : List UInt8 := dkwX8_shrinks_0 ++ dktX8_shrinks_1
theorem dksX8_shrinks_0 : cX8_shrinks.data.toList.drop 0 = dktX8_shrinks_0 := by decide +kernel
theorem dksX8_shrinks_1 : cX8_shrinks.data.toList.drop 24 = dktX8_shrinks_1 := dk_seg dksX8_shrinks_0 24 rfl rfl
theorem dksX8_shrinks_2 : cX8_shrinks.data.toList.drop 48 = dktX8_shrinks_2 := dk_seg dksX8_shrinks_1 24 rfl rfl
theorem dksX8_shrinks_3 : cX8_shrinks.data.toList.drop 71 = dktX8_shrinks_3 := dk_seg dksX8_shrinks_2 23 rfl rfl
theorem dksX8_shrinks_4 : cX8_shrinks.data.toList.drop 95 = dktX8_shrinks_4 := dk_seg dksX8_shrinks_3 24 rfl rfl
theorem dX8_shrinks_0 : decode cX8_shrinks 0 = .ok (.aload_n 0, 1) := dk_42 (dk_at dksX8_shrinks_0 0 rfl rfl)
theorem dX8_shrinks_1 : decode cX8_shrinks 1 = .ok (.iload_n 1, 1) := dk_27 (dk_at dksX8_shrinks_0 1 rfl rfl)
theorem dX8_shrinks_2 : decode cX8_shrinks 2 = .ok (.iload_n 2, 1) := dk_28 (dk_at dksX8_shrinks_0 2 rfl rfl)
theorem dX8_shrinks_3 : decode cX8_shrinks 3 = .ok (.invokevirtual 68, 3) := dk_182 0 68 (dk_at dksX8_shrinks_0 3 rfl rfl)
theorem dX8_shrinks_6 : decode cX8_shrinks 6 = .ok (.istore_n 3, 1) := dk_62 (dk_at dksX8_shrinks_0 6 rfl rfl)
theorem dX8_shrinks_7 : decode cX8_shrinks 7 = .ok (.aload_n 0, 1) := dk_42 (dk_at dksX8_shrinks_0 7 rfl rfl)
theorem dX8_shrinks_8 : decode cX8_shrinks 8 = .ok (.getfield 25, 3) := dk_180 0 25 (dk_at dksX8_shrinks_0 8 rfl rfl)
theorem dX8_shrinks_11 : decode cX8_shrinks 11 = .ok (.iconst 0, 1) := dk_3 (dk_at dksX8_shrinks_0 11 rfl rfl)
theorem dX8_shrinks_12 : decode cX8_shrinks 12 = .ok (.invokestatic 65, 3) := dk_184 0 65 (dk_at dksX8_shrinks_0 12 rfl rfl)
theorem dX8_shrinks_15 : decode cX8_shrinks 15 = .ok (.aload_n 0, 1) := dk_42 (dk_at dksX8_shrinks_0 15 rfl rfl)
theorem dX8_shrinks_16 : decode cX8_shrinks 16 = .ok (.iload_n 1, 1) := dk_27 (dk_at dksX8_shrinks_0 16 rfl rfl)
theorem dX8_shrinks_17 : decode cX8_shrinks 17 = .ok (.iload_n 3, 1) := dk_29 (dk_at dksX8_shrinks_0 17 rfl rfl)
theorem dX8_shrinks_18 : decode cX8_shrinks 18 = .ok (.iload_n 2, 1) := dk_28 (dk_at dksX8_shrinks_0 18 rfl rfl)
theorem dX8_shrinks_19 : decode cX8_shrinks 19 = .ok (.invokevirtual 72, 3) := dk_182 0 72 (dk_at dksX8_shrinks_0 19 rfl rfl)
theorem dX8_shrinks_22 : decode cX8_shrinks 22 = .ok (.aload_n 0, 1) := dk_42 (dk_at dksX8_shrinks_0 22 rfl rfl)
theorem dX8_shrinks_23 : decode cX8_shrinks 23 = .ok (.iload_n 2, 1) := dk_28 (dk_at dksX8_shrinks_0 23 rfl rfl)
theorem dX8_shrinks_24 : decode cX8_shrinks 24 = .ok (.iload_n 3, 1) := dk_29 (dk_at dksX8_shrinks_1 0 rfl rfl)
theorem dX8_shrinks_25 : decode cX8_shrinks 25 = .ok (.iload_n 1, 1) := dk_27 (dk_at dksX8_shrinks_1 1 rfl rfl)
theorem dX8_shrinks_26 : decode cX8_shrinks 26 = .ok (.invokevirtual 72, 3) := dk_182 0 72 (dk_at dksX8_shrinks_1 2 rfl rfl)
theorem dX8_shrinks_29 : decode cX8_shrinks 29 = .ok (.iconst 0, 1) := dk_3 (dk_at dksX8_shrinks_1 5 rfl rfl)
theorem dX8_shrinks_30 : decode cX8_shrinks 30 = .ok (.istore 4, 2) := dk_54 4 (dk_at dksX8_shrinks_1 6 rfl rfl)
theorem dX8_shrinks_32 : decode cX8_shrinks 32 = .ok (.iload 4, 2) := dk_21 4 (dk_at dksX8_shrinks_1 8 rfl rfl)
theorem dX8_shrinks_34 : decode cX8_shrinks 34 = .ok (.aload_n 0, 1) := dk_42 (dk_at dksX8_shrinks_1 10 rfl rfl)
theorem dX8_shrinks_35 : decode cX8_shrinks 35 = .ok (.getfield 34, 3) := dk_180 0 34 (dk_at dksX8_shrinks_1 11 rfl rfl)
theorem dX8_shrinks_38 : decode cX8_shrinks 38 = .ok (.getfield 48, 3) := dk_180 0 48 (dk_at dksX8_shrinks_1 14 rfl rfl)
theorem dX8_shrinks_41 : decode cX8_shrinks 41 = .ok (.if_icmp .ge 74, 3) := dk_162 0 74 (dk_at dksX8_shrinks_1 17 rfl rfl)
theorem dX8_shrinks_44 : decode cX8_shrinks 44 = .ok (.aload_n 0, 1) := dk_42 (dk_at dksX8_shrinks_1 20 rfl rfl)
theorem dX8_shrinks_45 : decode cX8_shrinks 45 = .ok (.getfield 25, 3) := dk_180 0 25 (dk_at dksX8_shrinks_1 21 rfl rfl)
theorem dX8_shrinks_48 : decode cX8_shrinks 48 = .ok (.aload_n 0, 1) := dk_42 (dk_at dksX8_shrinks_2 0 rfl rfl)
theorem dX8_shrinks_49 : decode cX8_shrinks 49 = .ok (.getfield 18, 3) := dk_180 0 18 (dk_at dksX8_shrinks_2 1 rfl rfl)
theorem dX8_shrinks_52 : decode cX8_shrinks 52 = .ok (.iload 4, 2) := dk_21 4 (dk_at dksX8_shrinks_2 4 rfl rfl)
theorem dX8_shrinks_54 : decode cX8_shrinks 54 = .ok (.iaload, 1) := dk_46 (dk_at dksX8_shrinks_2 6 rfl rfl)
theorem dX8_shrinks_55 : decode cX8_shrinks 55 = .ok (.baload, 1) := dk_51 (dk_at dksX8_shrinks_2 7 rfl rfl)
theorem dX8_shrinks_56 : decode cX8_shrinks 56 = .ok (.ifCond .ne 6, 3) := dk_154 0 6 (dk_at dksX8_shrinks_2 8 rfl rfl)
theorem dX8_shrinks_59 : decode cX8_shrinks 59 = .ok (.goto 50, 3) := dk_167 0 50 (dk_at dksX8_shrinks_2 11 rfl rfl)
theorem dX8_shrinks_62 : decode cX8_shrinks 62 = .ok (.aload_n 0, 1) := dk_42 (dk_at dksX8_shrinks_2 14 rfl rfl)
theorem dX8_shrinks_63 : decode cX8_shrinks 63 = .ok (.getfield 18, 3) := dk_180 0 18 (dk_at dksX8_shrinks_2 15 rfl rfl)
theorem dX8_shrinks_66 : decode cX8_shrinks 66 = .ok (.iload 4, 2) := dk_21 4 (dk_at dksX8_shrinks_2 18 rfl rfl)
theorem dX8_shrinks_68 : decode cX8_shrinks 68 = .ok (.iload_n 3, 1) := dk_29 (dk_at dksX8_shrinks_2 20 rfl rfl)
theorem dX8_shrinks_69 : decode cX8_shrinks 69 = .ok (.iastore, 1) := dk_79 (dk_at dksX8_shrinks_2 21 rfl rfl)
theorem dX8_shrinks_70 : decode cX8_shrinks 70 = .ok (.aload_n 0, 1) := dk_42 (dk_at dksX8_shrinks_2 22 rfl rfl)
theorem dX8_shrinks_71 : decode cX8_shrinks 71 = .ok (.getfield 21, 3) := dk_180 0 21 (dk_at dksX8_shrinks_3 0 rfl rfl)
theorem dX8_shrinks_74 : decode cX8_shrinks 74 = .ok (.iload 4, 2) := dk_21 4 (dk_at dksX8_shrinks_3 3 rfl rfl)
theorem dX8_shrinks_76 : decode cX8_shrinks 76 = .ok (.baload, 1) := dk_51 (dk_at dksX8_shrinks_3 5 rfl rfl)
theorem dX8_shrinks_77 : decode cX8_shrinks 77 = .ok (.ifCond .eq 6, 3) := dk_153 0 6 (dk_at dksX8_shrinks_3 6 rfl rfl)
theorem dX8_shrinks_80 : decode cX8_shrinks 80 = .ok (.goto 29, 3) := dk_167 0 29 (dk_at dksX8_shrinks_3 9 rfl rfl)
theorem dX8_shrinks_83 : decode cX8_shrinks 83 = .ok (.aload_n 0, 1) := dk_42 (dk_at dksX8_shrinks_3 12 rfl rfl)
theorem dX8_shrinks_84 : decode cX8_shrinks 84 = .ok (.getfield 21, 3) := dk_180 0 21 (dk_at dksX8_shrinks_3 13 rfl rfl)
theorem dX8_shrinks_87 : decode cX8_shrinks 87 = .ok (.iload 4, 2) := dk_21 4 (dk_at dksX8_shrinks_3 16 rfl rfl)
theorem dX8_shrinks_89 : decode cX8_shrinks 89 = .ok (.iconst 1, 1) := dk_4 (dk_at dksX8_shrinks_3 18 rfl rfl)
theorem dX8_shrinks_90 : decode cX8_shrinks 90 = .ok (.bastore, 1) := dk_84 (dk_at dksX8_shrinks_3 19 rfl rfl)
theorem dX8_shrinks_91 : decode cX8_shrinks 91 = .ok (.aload_n 0, 1) := dk_42 (dk_at dksX8_shrinks_3 20 rfl rfl)
theorem dX8_shrinks_92 : decode cX8_shrinks 92 = .ok (.getfield 31, 3) := dk_180 0 31 (dk_at dksX8_shrinks_3 21 rfl rfl)
theorem dX8_shrinks_95 : decode cX8_shrinks 95 = .ok (.aload_n 0, 1) := dk_42 (dk_at dksX8_shrinks_4 0 rfl rfl)
theorem dX8_shrinks_96 : decode cX8_shrinks 96 = .ok (.dup, 1) := dk_89 (dk_at dksX8_shrinks_4 1 rfl rfl)
theorem dX8_shrinks_97 : decode cX8_shrinks 97 = .ok (.getfield 76, 3) := dk_180 0 76 (dk_at dksX8_shrinks_4 2 rfl rfl)
theorem dX8_shrinks_100 : decode cX8_shrinks 100 = .ok (.dup_x1, 1) := dk_90 (dk_at dksX8_shrinks_4 5 rfl rfl)
theorem dX8_shrinks_101 : decode cX8_shrinks 101 = .ok (.iconst 1, 1) := dk_4 (dk_at dksX8_shrinks_4 6 rfl rfl)
theorem dX8_shrinks_102 : decode cX8_shrinks 102 = .ok (.iadd, 1) := dk_96 (dk_at dksX8_shrinks_4 7 rfl rfl)
theorem dX8_shrinks_103 : decode cX8_shrinks 103 = .ok (.putfield 76, 3) := dk_181 0 76 (dk_at dksX8_shrinks_4 8 rfl rfl)
theorem dX8_shrinks_106 : decode cX8_shrinks 106 = .ok (.iload 4, 2) := dk_21 4 (dk_at dksX8_shrinks_4 11 rfl rfl)
theorem dX8_shrinks_108 : decode cX8_shrinks 108 = .ok (.iastore, 1) := dk_79 (dk_at dksX8_shrinks_4 13 rfl rfl)
theorem dX8_shrinks_109 : decode cX8_shrinks 109 = .ok (.iinc 4 1, 3) := dk_132 4 1 (dk_at dksX8_shrinks_4 14 rfl rfl)
theorem dX8_shrinks_112 : decode cX8_shrinks 112 = .ok (.goto (-80), 3) := dk_167 255 176 (dk_at dksX8_shrinks_4 17 rfl rfl)
theorem dX8_shrinks_115 : decode cX8_shrinks 115 = .ok (.return_, 1) := dk_177 (dk_at dksX8_shrinks_4 20 rfl rfl)
abbrev cX8_common : ByteArray := prog_7_method_3_code
def yX8_common : MethodName := ⟨RX8, "common", "(II)I"⟩
def dkwX8_common_3 : List UInt8 := [180, 0, 18, 42, 180, 0, 15, 42, 180, 0, 9, 21, 4, 46, 46, 46, 54, 4, 167, 255, 227, 21, 4, 172]
abbrev dktX8_common_3 : List UInt8 := dkwX8_common_3 ++ []
def dkwX8_common_2 : List UInt8 := [62, 167, 255, 217, 42, 180, 0, 18, 28, 46, 54, 4, 42, 180, 0, 28, 21, 4, 51, 154, 0, 25, 42]
abbrev dktX8_common_2 : List UInt8 := dkwX8_common_2 ++ dktX8_common_3
def dkwX8_common_1 : List UInt8 := [42, 180, 0, 9, 29, 46, 2, 160, 0, 6, 167, 0, 18, 42, 180, 0, 15, 42, 180, 0, 9, 29, 46, 46]
abbrev dktX8_common_1 : List UInt8 := dkwX8_common_1 ++ dktX8_common_2
def dkwX8_common_0 : List UInt8 := [42, 180, 0, 28, 3, 184, 0, 65, 27, 62, 42, 180, 0, 18, 29, 46, 62, 42, 180, 0, 28, 29, 4, 84]
abbrev dktX8_common_0 : List UInt8 := dkwX8_common_0 ++ dktX8_common_1
theorem dksX8_common_0 : cX8_common.data.toList.drop 0 = dktX8_common_0 := by decide +kernel
theorem dksX8_common_1 : cX8_common.data.toList.drop 24 = dktX8_common_1 := dk_seg dksX8_common_0 24 rfl rfl
theorem dksX8_common_2 : cX8_common.data.toList.drop 48 = dktX8_common_2 := dk_seg dksX8_common_1 24 rfl rfl
theorem dksX8_common_3 : cX8_common.data.toList.drop 71 = dktX8_common_3 := dk_seg dksX8_common_2 23 rfl rfl
theorem dX8_common_0 : decode cX8_common 0 = .ok (.aload_n 0, 1) := dk_42 (dk_at dksX8_common_0 0 rfl rfl)
theorem dX8_common_1 : decode cX8_common 1 = .ok (.getfield 28, 3) := dk_180 0 28 (dk_at dksX8_common_0 1 rfl rfl)
theorem dX8_common_4 : decode cX8_common 4 = .ok (.iconst 0, 1) := dk_3 (dk_at dksX8_common_0 4 rfl rfl)
theorem dX8_common_5 : decode cX8_common 5 = .ok (.invokestatic 65, 3) := dk_184 0 65 (dk_at dksX8_common_0 5 rfl rfl)
theorem dX8_common_8 : decode cX8_common 8 = .ok (.iload_n 1, 1) := dk_27 (dk_at dksX8_common_0 8 rfl rfl)
theorem dX8_common_9 : decode cX8_common 9 = .ok (.istore_n 3, 1) := dk_62 (dk_at dksX8_common_0 9 rfl rfl)
theorem dX8_common_10 : decode cX8_common 10 = .ok (.aload_n 0, 1) := dk_42 (dk_at dksX8_common_0 10 rfl rfl)
theorem dX8_common_11 : decode cX8_common 11 = .ok (.getfield 18, 3) := dk_180 0 18 (dk_at dksX8_common_0 11 rfl rfl)
theorem dX8_common_14 : decode cX8_common 14 = .ok (.iload_n 3, 1) := dk_29 (dk_at dksX8_common_0 14 rfl rfl)
theorem dX8_common_15 : decode cX8_common 15 = .ok (.iaload, 1) := dk_46 (dk_at dksX8_common_0 15 rfl rfl)
theorem dX8_common_16 : decode cX8_common 16 = .ok (.istore_n 3, 1) := dk_62 (dk_at dksX8_common_0 16 rfl rfl)
theorem dX8_common_17 : decode cX8_common 17 = .ok (.aload_n 0, 1) := dk_42 (dk_at dksX8_common_0 17 rfl rfl)
theorem dX8_common_18 : decode cX8_common 18 = .ok (.getfield 28, 3) := dk_180 0 28 (dk_at dksX8_common_0 18 rfl rfl)
theorem dX8_common_21 : decode cX8_common 21 = .ok (.iload_n 3, 1) := dk_29 (dk_at dksX8_common_0 21 rfl rfl)
theorem dX8_common_22 : decode cX8_common 22 = .ok (.iconst 1, 1) := dk_4 (dk_at dksX8_common_0 22 rfl rfl)
theorem dX8_common_23 : decode cX8_common 23 = .ok (.bastore, 1) := dk_84 (dk_at dksX8_common_0 23 rfl rfl)
theorem dX8_common_24 : decode cX8_common 24 = .ok (.aload_n 0, 1) := dk_42 (dk_at dksX8_common_1 0 rfl rfl)
theorem dX8_common_25 : decode cX8_common 25 = .ok (.getfield 9, 3) := dk_180 0 9 (dk_at dksX8_common_1 1 rfl rfl)
theorem dX8_common_28 : decode cX8_common 28 = .ok (.iload_n 3, 1) := dk_29 (dk_at dksX8_common_1 4 rfl rfl)
theorem dX8_common_29 : decode cX8_common 29 = .ok (.iaload, 1) := dk_46 (dk_at dksX8_common_1 5 rfl rfl)
theorem dX8_common_30 : decode cX8_common 30 = .ok (.iconst (-1), 1) := dk_2 (dk_at dksX8_common_1 6 rfl rfl)
theorem dX8_common_31 : decode cX8_common 31 = .ok (.if_icmp .ne 6, 3) := dk_160 0 6 (dk_at dksX8_common_1 7 rfl rfl)
theorem dX8_common_34 : decode cX8_common 34 = .ok (.goto 18, 3) := dk_167 0 18 (dk_at dksX8_common_1 10 rfl rfl)
theorem dX8_common_37 : decode cX8_common 37 = .ok (.aload_n 0, 1) := dk_42 (dk_at dksX8_common_1 13 rfl rfl)
theorem dX8_common_38 : decode cX8_common 38 = .ok (.getfield 15, 3) := dk_180 0 15 (dk_at dksX8_common_1 14 rfl rfl)
theorem dX8_common_41 : decode cX8_common 41 = .ok (.aload_n 0, 1) := dk_42 (dk_at dksX8_common_1 17 rfl rfl)
theorem dX8_common_42 : decode cX8_common 42 = .ok (.getfield 9, 3) := dk_180 0 9 (dk_at dksX8_common_1 18 rfl rfl)
theorem dX8_common_45 : decode cX8_common 45 = .ok (.iload_n 3, 1) := dk_29 (dk_at dksX8_common_1 21 rfl rfl)
theorem dX8_common_46 : decode cX8_common 46 = .ok (.iaload, 1) := dk_46 (dk_at dksX8_common_1 22 rfl rfl)
theorem dX8_common_47 : decode cX8_common 47 = .ok (.iaload, 1) := dk_46 (dk_at dksX8_common_1 23 rfl rfl)
theorem dX8_common_48 : decode cX8_common 48 = .ok (.istore_n 3, 1) := dk_62 (dk_at dksX8_common_2 0 rfl rfl)
theorem dX8_common_49 : decode cX8_common 49 = .ok (.goto (-39), 3) := dk_167 255 217 (dk_at dksX8_common_2 1 rfl rfl)
theorem dX8_common_52 : decode cX8_common 52 = .ok (.aload_n 0, 1) := dk_42 (dk_at dksX8_common_2 4 rfl rfl)
theorem dX8_common_53 : decode cX8_common 53 = .ok (.getfield 18, 3) := dk_180 0 18 (dk_at dksX8_common_2 5 rfl rfl)
theorem dX8_common_56 : decode cX8_common 56 = .ok (.iload_n 2, 1) := dk_28 (dk_at dksX8_common_2 8 rfl rfl)
theorem dX8_common_57 : decode cX8_common 57 = .ok (.iaload, 1) := dk_46 (dk_at dksX8_common_2 9 rfl rfl)
theorem dX8_common_58 : decode cX8_common 58 = .ok (.istore 4, 2) := dk_54 4 (dk_at dksX8_common_2 10 rfl rfl)
theorem dX8_common_60 : decode cX8_common 60 = .ok (.aload_n 0, 1) := dk_42 (dk_at dksX8_common_2 12 rfl rfl)
theorem dX8_common_61 : decode cX8_common 61 = .ok (.getfield 28, 3) := dk_180 0 28 (dk_at dksX8_common_2 13 rfl rfl)
theorem dX8_common_64 : decode cX8_common 64 = .ok (.iload 4, 2) := dk_21 4 (dk_at dksX8_common_2 16 rfl rfl)
theorem dX8_common_66 : decode cX8_common 66 = .ok (.baload, 1) := dk_51 (dk_at dksX8_common_2 18 rfl rfl)
theorem dX8_common_67 : decode cX8_common 67 = .ok (.ifCond .ne 25, 3) := dk_154 0 25 (dk_at dksX8_common_2 19 rfl rfl)
theorem dX8_common_70 : decode cX8_common 70 = .ok (.aload_n 0, 1) := dk_42 (dk_at dksX8_common_2 22 rfl rfl)
theorem dX8_common_71 : decode cX8_common 71 = .ok (.getfield 18, 3) := dk_180 0 18 (dk_at dksX8_common_3 0 rfl rfl)
theorem dX8_common_74 : decode cX8_common 74 = .ok (.aload_n 0, 1) := dk_42 (dk_at dksX8_common_3 3 rfl rfl)
theorem dX8_common_75 : decode cX8_common 75 = .ok (.getfield 15, 3) := dk_180 0 15 (dk_at dksX8_common_3 4 rfl rfl)
theorem dX8_common_78 : decode cX8_common 78 = .ok (.aload_n 0, 1) := dk_42 (dk_at dksX8_common_3 7 rfl rfl)
theorem dX8_common_79 : decode cX8_common 79 = .ok (.getfield 9, 3) := dk_180 0 9 (dk_at dksX8_common_3 8 rfl rfl)
theorem dX8_common_82 : decode cX8_common 82 = .ok (.iload 4, 2) := dk_21 4 (dk_at dksX8_common_3 11 rfl rfl)
theorem dX8_common_84 : decode cX8_common 84 = .ok (.iaload, 1) := dk_46 (dk_at dksX8_common_3 13 rfl rfl)
theorem dX8_common_85 : decode cX8_common 85 = .ok (.iaload, 1) := dk_46 (dk_at dksX8_common_3 14 rfl rfl)
theorem dX8_common_86 : decode cX8_common 86 = .ok (.iaload, 1) := dk_46 (dk_at dksX8_common_3 15 rfl rfl)
theorem dX8_common_87 : decode cX8_common 87 = .ok (.istore 4, 2) := dk_54 4 (dk_at dksX8_common_3 16 rfl rfl)
theorem dX8_common_89 : decode cX8_common 89 = .ok (.goto (-29), 3) := dk_167 255 227 (dk_at dksX8_common_3 18 rfl rfl)
theorem dX8_common_92 : decode cX8_common 92 = .ok (.iload 4, 2) := dk_21 4 (dk_at dksX8_common_3 21 rfl rfl)
theorem dX8_common_94 : decode cX8_common 94 = .ok (.ireturn, 1) := dk_172 (dk_at dksX8_common_3 23 rfl rfl)
abbrev cX8_marks : ByteArray := prog_7_method_4_code
def yX8_marks : MethodName := ⟨RX8, "marks", "(III)V"⟩
def dkwX8_marks_3 : List UInt8 := [42, 180, 0, 9, 21, 4, 46, 46, 54, 4, 167, 255, 182, 177]
abbrev dktX8_marks_3 : List UInt8 := dkwX8_marks_3 ++ []
def dkwX8_marks_2 : List UInt8 := [4, 84, 42, 180, 0, 15, 21, 4, 21, 5, 79, 42, 180, 0, 9, 21, 4, 46, 54, 5, 42, 180, 0, 15]
abbrev dktX8_marks_2 : List UInt8 := dkwX8_marks_2 ++ dktX8_marks_3
def dkwX8_marks_1 : List UInt8 := [180, 0, 18, 21, 4, 46, 4, 84, 42, 180, 0, 25, 42, 180, 0, 18, 42, 180, 0, 9, 21, 4, 46, 46]
abbrev dktX8_marks_1 : List UInt8 := dkwX8_marks_1 ++ dktX8_marks_2
def dkwX8_marks_0 : List UInt8 := [27, 54, 4, 29, 54, 5, 42, 180, 0, 18, 21, 4, 46, 28, 159, 0, 69, 42, 180, 0, 25, 42]
abbrev dktX8_marks_0 : List UInt8 := dkwX8_marks_0 ++ dktX8_marks_1
theorem dksX8_marks_0 : cX8_marks.data.toList.drop 0 = dktX8_marks_0 := by decide +kernel
theorem dksX8_marks_1 : cX8_marks.data.toList.drop 22 = dktX8_marks_1 := dk_seg dksX8_marks_0 22 rfl rfl
theorem dksX8_marks_2 : cX8_marks.data.toList.drop 46 = dktX8_marks_2 := dk_seg dksX8_marks_1 24 rfl rfl
theorem dksX8_marks_3 : cX8_marks.data.toList.drop 70 = dktX8_marks_3 := dk_seg dksX8_marks_2 24 rfl rfl
theorem dX8_marks_0 : decode cX8_marks 0 = .ok (.iload_n 1, 1) := dk_27 (dk_at dksX8_marks_0 0 rfl rfl)
theorem dX8_marks_1 : decode cX8_marks 1 = .ok (.istore 4, 2) := dk_54 4 (dk_at dksX8_marks_0 1 rfl rfl)
theorem dX8_marks_3 : decode cX8_marks 3 = .ok (.iload_n 3, 1) := dk_29 (dk_at dksX8_marks_0 3 rfl rfl)
theorem dX8_marks_4 : decode cX8_marks 4 = .ok (.istore 5, 2) := dk_54 5 (dk_at dksX8_marks_0 4 rfl rfl)
theorem dX8_marks_6 : decode cX8_marks 6 = .ok (.aload_n 0, 1) := dk_42 (dk_at dksX8_marks_0 6 rfl rfl)
theorem dX8_marks_7 : decode cX8_marks 7 = .ok (.getfield 18, 3) := dk_180 0 18 (dk_at dksX8_marks_0 7 rfl rfl)
theorem dX8_marks_10 : decode cX8_marks 10 = .ok (.iload 4, 2) := dk_21 4 (dk_at dksX8_marks_0 10 rfl rfl)
theorem dX8_marks_12 : decode cX8_marks 12 = .ok (.iaload, 1) := dk_46 (dk_at dksX8_marks_0 12 rfl rfl)
theorem dX8_marks_13 : decode cX8_marks 13 = .ok (.iload_n 2, 1) := dk_28 (dk_at dksX8_marks_0 13 rfl rfl)
theorem dX8_marks_14 : decode cX8_marks 14 = .ok (.if_icmp .eq 69, 3) := dk_159 0 69 (dk_at dksX8_marks_0 14 rfl rfl)
theorem dX8_marks_17 : decode cX8_marks 17 = .ok (.aload_n 0, 1) := dk_42 (dk_at dksX8_marks_0 17 rfl rfl)
theorem dX8_marks_18 : decode cX8_marks 18 = .ok (.getfield 25, 3) := dk_180 0 25 (dk_at dksX8_marks_0 18 rfl rfl)
theorem dX8_marks_21 : decode cX8_marks 21 = .ok (.aload_n 0, 1) := dk_42 (dk_at dksX8_marks_0 21 rfl rfl)
theorem dX8_marks_22 : decode cX8_marks 22 = .ok (.getfield 18, 3) := dk_180 0 18 (dk_at dksX8_marks_1 0 rfl rfl)
theorem dX8_marks_25 : decode cX8_marks 25 = .ok (.iload 4, 2) := dk_21 4 (dk_at dksX8_marks_1 3 rfl rfl)
theorem dX8_marks_27 : decode cX8_marks 27 = .ok (.iaload, 1) := dk_46 (dk_at dksX8_marks_1 5 rfl rfl)
theorem dX8_marks_28 : decode cX8_marks 28 = .ok (.iconst 1, 1) := dk_4 (dk_at dksX8_marks_1 6 rfl rfl)
theorem dX8_marks_29 : decode cX8_marks 29 = .ok (.bastore, 1) := dk_84 (dk_at dksX8_marks_1 7 rfl rfl)
theorem dX8_marks_30 : decode cX8_marks 30 = .ok (.aload_n 0, 1) := dk_42 (dk_at dksX8_marks_1 8 rfl rfl)
theorem dX8_marks_31 : decode cX8_marks 31 = .ok (.getfield 25, 3) := dk_180 0 25 (dk_at dksX8_marks_1 9 rfl rfl)
theorem dX8_marks_34 : decode cX8_marks 34 = .ok (.aload_n 0, 1) := dk_42 (dk_at dksX8_marks_1 12 rfl rfl)
theorem dX8_marks_35 : decode cX8_marks 35 = .ok (.getfield 18, 3) := dk_180 0 18 (dk_at dksX8_marks_1 13 rfl rfl)
theorem dX8_marks_38 : decode cX8_marks 38 = .ok (.aload_n 0, 1) := dk_42 (dk_at dksX8_marks_1 16 rfl rfl)
theorem dX8_marks_39 : decode cX8_marks 39 = .ok (.getfield 9, 3) := dk_180 0 9 (dk_at dksX8_marks_1 17 rfl rfl)
theorem dX8_marks_42 : decode cX8_marks 42 = .ok (.iload 4, 2) := dk_21 4 (dk_at dksX8_marks_1 20 rfl rfl)
theorem dX8_marks_44 : decode cX8_marks 44 = .ok (.iaload, 1) := dk_46 (dk_at dksX8_marks_1 22 rfl rfl)
theorem dX8_marks_45 : decode cX8_marks 45 = .ok (.iaload, 1) := dk_46 (dk_at dksX8_marks_1 23 rfl rfl)
theorem dX8_marks_46 : decode cX8_marks 46 = .ok (.iconst 1, 1) := dk_4 (dk_at dksX8_marks_2 0 rfl rfl)
theorem dX8_marks_47 : decode cX8_marks 47 = .ok (.bastore, 1) := dk_84 (dk_at dksX8_marks_2 1 rfl rfl)
theorem dX8_marks_48 : decode cX8_marks 48 = .ok (.aload_n 0, 1) := dk_42 (dk_at dksX8_marks_2 2 rfl rfl)
theorem dX8_marks_49 : decode cX8_marks 49 = .ok (.getfield 15, 3) := dk_180 0 15 (dk_at dksX8_marks_2 3 rfl rfl)
theorem dX8_marks_52 : decode cX8_marks 52 = .ok (.iload 4, 2) := dk_21 4 (dk_at dksX8_marks_2 6 rfl rfl)
theorem dX8_marks_54 : decode cX8_marks 54 = .ok (.iload 5, 2) := dk_21 5 (dk_at dksX8_marks_2 8 rfl rfl)
theorem dX8_marks_56 : decode cX8_marks 56 = .ok (.iastore, 1) := dk_79 (dk_at dksX8_marks_2 10 rfl rfl)
theorem dX8_marks_57 : decode cX8_marks 57 = .ok (.aload_n 0, 1) := dk_42 (dk_at dksX8_marks_2 11 rfl rfl)
theorem dX8_marks_58 : decode cX8_marks 58 = .ok (.getfield 9, 3) := dk_180 0 9 (dk_at dksX8_marks_2 12 rfl rfl)
theorem dX8_marks_61 : decode cX8_marks 61 = .ok (.iload 4, 2) := dk_21 4 (dk_at dksX8_marks_2 15 rfl rfl)
theorem dX8_marks_63 : decode cX8_marks 63 = .ok (.iaload, 1) := dk_46 (dk_at dksX8_marks_2 17 rfl rfl)
theorem dX8_marks_64 : decode cX8_marks 64 = .ok (.istore 5, 2) := dk_54 5 (dk_at dksX8_marks_2 18 rfl rfl)
theorem dX8_marks_66 : decode cX8_marks 66 = .ok (.aload_n 0, 1) := dk_42 (dk_at dksX8_marks_2 20 rfl rfl)
theorem dX8_marks_67 : decode cX8_marks 67 = .ok (.getfield 15, 3) := dk_180 0 15 (dk_at dksX8_marks_2 21 rfl rfl)
theorem dX8_marks_70 : decode cX8_marks 70 = .ok (.aload_n 0, 1) := dk_42 (dk_at dksX8_marks_3 0 rfl rfl)
theorem dX8_marks_71 : decode cX8_marks 71 = .ok (.getfield 9, 3) := dk_180 0 9 (dk_at dksX8_marks_3 1 rfl rfl)
theorem dX8_marks_74 : decode cX8_marks 74 = .ok (.iload 4, 2) := dk_21 4 (dk_at dksX8_marks_3 4 rfl rfl)
theorem dX8_marks_76 : decode cX8_marks 76 = .ok (.iaload, 1) := dk_46 (dk_at dksX8_marks_3 6 rfl rfl)
theorem dX8_marks_77 : decode cX8_marks 77 = .ok (.iaload, 1) := dk_46 (dk_at dksX8_marks_3 7 rfl rfl)
theorem dX8_marks_78 : decode cX8_marks 78 = .ok (.istore 4, 2) := dk_54 4 (dk_at dksX8_marks_3 8 rfl rfl)
theorem dX8_marks_80 : decode cX8_marks 80 = .ok (.goto (-74), 3) := dk_167 255 182 (dk_at dksX8_marks_3 10 rfl rfl)
theorem dX8_marks_83 : decode cX8_marks 83 = .ok (.return_, 1) := dk_177 (dk_at dksX8_marks_3 13 rfl rfl)
abbrev cX8_opens : ByteArray := prog_7_method_7_code
def yX8_opens : MethodName := ⟨RX8, "opens", "(I)V"⟩
def dkwX8_opens_1 : List UInt8 := [180, 0, 9, 28, 29, 79, 42, 180, 0, 9, 29, 28, 79, 21, 4, 61, 167, 255, 219, 177]
abbrev dktX8_opens_1 : List UInt8 := dkwX8_opens_1 ++ []
def dkwX8_opens_0 : List UInt8 := [27, 61, 28, 2, 159, 0, 38, 42, 180, 0, 15, 28, 46, 62, 42, 180, 0, 9, 29, 46, 54, 4, 42]
abbrev dktX8_opens_0 : List UInt8 := dkwX8_opens_0 ++ dktX8_opens_1
theorem dksX8_opens_0 : cX8_opens.data.toList.drop 0 = dktX8_opens_0 := by decide +kernel
theorem dksX8_opens_1 : cX8_opens.data.toList.drop 23 = dktX8_opens_1 := dk_seg dksX8_opens_0 23 rfl rfl
theorem dX8_opens_0 : decode cX8_opens 0 = .ok (.iload_n 1, 1) := dk_27 (dk_at dksX8_opens_0 0 rfl rfl)
theorem dX8_opens_1 : decode cX8_opens 1 = .ok (.istore_n 2, 1) := dk_61 (dk_at dksX8_opens_0 1 rfl rfl)
theorem dX8_opens_2 : decode cX8_opens 2 = .ok (.iload_n 2, 1) := dk_28 (dk_at dksX8_opens_0 2 rfl rfl)
theorem dX8_opens_3 : decode cX8_opens 3 = .ok (.iconst (-1), 1) := dk_2 (dk_at dksX8_opens_0 3 rfl rfl)
theorem dX8_opens_4 : decode cX8_opens 4 = .ok (.if_icmp .eq 38, 3) := dk_159 0 38 (dk_at dksX8_opens_0 4 rfl rfl)
theorem dX8_opens_7 : decode cX8_opens 7 = .ok (.aload_n 0, 1) := dk_42 (dk_at dksX8_opens_0 7 rfl rfl)
theorem dX8_opens_8 : decode cX8_opens 8 = .ok (.getfield 15, 3) := dk_180 0 15 (dk_at dksX8_opens_0 8 rfl rfl)
theorem dX8_opens_11 : decode cX8_opens 11 = .ok (.iload_n 2, 1) := dk_28 (dk_at dksX8_opens_0 11 rfl rfl)
theorem dX8_opens_12 : decode cX8_opens 12 = .ok (.iaload, 1) := dk_46 (dk_at dksX8_opens_0 12 rfl rfl)
theorem dX8_opens_13 : decode cX8_opens 13 = .ok (.istore_n 3, 1) := dk_62 (dk_at dksX8_opens_0 13 rfl rfl)
theorem dX8_opens_14 : decode cX8_opens 14 = .ok (.aload_n 0, 1) := dk_42 (dk_at dksX8_opens_0 14 rfl rfl)
theorem dX8_opens_15 : decode cX8_opens 15 = .ok (.getfield 9, 3) := dk_180 0 9 (dk_at dksX8_opens_0 15 rfl rfl)
theorem dX8_opens_18 : decode cX8_opens 18 = .ok (.iload_n 3, 1) := dk_29 (dk_at dksX8_opens_0 18 rfl rfl)
theorem dX8_opens_19 : decode cX8_opens 19 = .ok (.iaload, 1) := dk_46 (dk_at dksX8_opens_0 19 rfl rfl)
theorem dX8_opens_20 : decode cX8_opens 20 = .ok (.istore 4, 2) := dk_54 4 (dk_at dksX8_opens_0 20 rfl rfl)
theorem dX8_opens_22 : decode cX8_opens 22 = .ok (.aload_n 0, 1) := dk_42 (dk_at dksX8_opens_0 22 rfl rfl)
theorem dX8_opens_23 : decode cX8_opens 23 = .ok (.getfield 9, 3) := dk_180 0 9 (dk_at dksX8_opens_1 0 rfl rfl)
theorem dX8_opens_26 : decode cX8_opens 26 = .ok (.iload_n 2, 1) := dk_28 (dk_at dksX8_opens_1 3 rfl rfl)
theorem dX8_opens_27 : decode cX8_opens 27 = .ok (.iload_n 3, 1) := dk_29 (dk_at dksX8_opens_1 4 rfl rfl)
theorem dX8_opens_28 : decode cX8_opens 28 = .ok (.iastore, 1) := dk_79 (dk_at dksX8_opens_1 5 rfl rfl)
theorem dX8_opens_29 : decode cX8_opens 29 = .ok (.aload_n 0, 1) := dk_42 (dk_at dksX8_opens_1 6 rfl rfl)
theorem dX8_opens_30 : decode cX8_opens 30 = .ok (.getfield 9, 3) := dk_180 0 9 (dk_at dksX8_opens_1 7 rfl rfl)
theorem dX8_opens_33 : decode cX8_opens 33 = .ok (.iload_n 3, 1) := dk_29 (dk_at dksX8_opens_1 10 rfl rfl)
theorem dX8_opens_34 : decode cX8_opens 34 = .ok (.iload_n 2, 1) := dk_28 (dk_at dksX8_opens_1 11 rfl rfl)
theorem dX8_opens_35 : decode cX8_opens 35 = .ok (.iastore, 1) := dk_79 (dk_at dksX8_opens_1 12 rfl rfl)
theorem dX8_opens_36 : decode cX8_opens 36 = .ok (.iload 4, 2) := dk_21 4 (dk_at dksX8_opens_1 13 rfl rfl)
theorem dX8_opens_38 : decode cX8_opens 38 = .ok (.istore_n 2, 1) := dk_61 (dk_at dksX8_opens_1 15 rfl rfl)
theorem dX8_opens_39 : decode cX8_opens 39 = .ok (.goto (-37), 3) := dk_167 255 219 (dk_at dksX8_opens_1 16 rfl rfl)
theorem dX8_opens_42 : decode cX8_opens 42 = .ok (.return_, 1) := dk_177 (dk_at dksX8_opens_1 19 rfl rfl)
theorem q102 : (Jvm.Cond.initialized "OddPairs$Trees") ∈ lw_all := lw_g (lw_at lw_m1 31 rfl) rfl
theorem q152 : (Jvm.Cond.fieldLinkNest "OddPairs$Trees" (48 : Nat) "OddPairs$Net" "many" "I" "OddPairs") ∈ lw_tbl := lw_at lw_m1 81 rfl
theorem q221 : (Jvm.Cond.instantiable "OddPairs$Trees" (11 : Nat)) ∈ lw_all := lw_g (lw_at lw_m1 150 rfl) rfl
theorem q223 : (Jvm.Cond.instanceMethod ({ cls := "OddPairs$Trees", name := "<init>", desc := "(LOddPairs$Net;)V" } : Jvm.MethodName)) ∈ lw_all := lw_g (lw_at lw_m1 152 rfl) rfl
theorem q224 : (Jvm.Cond.code ({ cls := "OddPairs$Trees", name := "<init>", desc := "(LOddPairs$Net;)V" } : Jvm.MethodName) prog_7_method_1_code (2 : Nat) (Option.none : Option Jvm.ClassFile.FieldType)) ∈ lw_all := lw_g (lw_at lw_m1 153 rfl) rfl
theorem q225 : (Jvm.Cond.methodLink "OddPairs$Trees" (3 : Nat) ({ cls := "java/lang/Object", name := "<init>", desc := "()V" } : Jvm.MethodName)) ∈ lw_all := lw_g (lw_at lw_m1 154 rfl) rfl
theorem q226 : (Jvm.Cond.fieldLink "OddPairs$Trees" (34 : Nat) "OddPairs$Trees" "net" "LOddPairs$Net;") ∈ lw_all := lw_g (lw_at lw_m1 155 rfl) rfl
theorem q227 : (Jvm.Cond.fieldLink "OddPairs$Trees" (9 : Nat) "OddPairs$Trees" "mate" "[I") ∈ lw_all := lw_g (lw_at lw_m1 156 rfl) rfl
theorem q228 : (Jvm.Cond.fieldLink "OddPairs$Trees" (15 : Nat) "OddPairs$Trees" "from" "[I") ∈ lw_all := lw_g (lw_at lw_m1 157 rfl) rfl
theorem q229 : (Jvm.Cond.fieldLink "OddPairs$Trees" (18 : Nat) "OddPairs$Trees" "base" "[I") ∈ lw_all := lw_g (lw_at lw_m1 158 rfl) rfl
theorem q230 : (Jvm.Cond.fieldLink "OddPairs$Trees" (21 : Nat) "OddPairs$Trees" "isInTree" "[Z") ∈ lw_all := lw_g (lw_at lw_m1 159 rfl) rfl
theorem q231 : (Jvm.Cond.fieldLink "OddPairs$Trees" (25 : Nat) "OddPairs$Trees" "isInRing" "[Z") ∈ lw_all := lw_g (lw_at lw_m1 160 rfl) rfl
theorem q232 : (Jvm.Cond.fieldLink "OddPairs$Trees" (28 : Nat) "OddPairs$Trees" "isMet" "[Z") ∈ lw_all := lw_g (lw_at lw_m1 161 rfl) rfl
theorem q233 : (Jvm.Cond.fieldLink "OddPairs$Trees" (31 : Nat) "OddPairs$Trees" "queue" "[I") ∈ lw_all := lw_g (lw_at lw_m1 162 rfl) rfl
theorem q234 : (Jvm.Cond.fieldLink "OddPairs$Trees" (79 : Nat) "OddPairs$Trees" "first" "I") ∈ lw_all := lw_g (lw_at lw_m1 163 rfl) rfl
theorem q235 : (Jvm.Cond.fieldLink "OddPairs$Trees" (76 : Nat) "OddPairs$Trees" "last" "I") ∈ lw_all := lw_g (lw_at lw_m1 164 rfl) rfl
theorem q236 : (Jvm.Cond.fieldLink "OddPairs$Trees" (38 : Nat) "OddPairs$Trees" "nodes" "I") ∈ lw_all := lw_g (lw_at lw_m1 165 rfl) rfl
theorem q237 : (Jvm.Cond.laysFinal "OddPairs$Trees" "OddPairs$Trees" "net" "LOddPairs$Net;") ∈ lw_all := lw_g (lw_at lw_m1 166 rfl) rfl
theorem q238 : (Jvm.Cond.soleField "OddPairs$Trees" "net") ∈ lw_all := lw_g (lw_at lw_m1 167 rfl) rfl
theorem q239 : (Jvm.Cond.laysFinal "OddPairs$Trees" "OddPairs$Trees" "mate" "[I") ∈ lw_all := lw_g (lw_at lw_m1 168 rfl) rfl
theorem q240 : (Jvm.Cond.soleField "OddPairs$Trees" "mate") ∈ lw_all := lw_g (lw_at lw_m1 169 rfl) rfl
theorem q241 : (Jvm.Cond.laysFinal "OddPairs$Trees" "OddPairs$Trees" "from" "[I") ∈ lw_all := lw_g (lw_at lw_m1 170 rfl) rfl
theorem q242 : (Jvm.Cond.soleField "OddPairs$Trees" "from") ∈ lw_all := lw_g (lw_at lw_m1 171 rfl) rfl
theorem q243 : (Jvm.Cond.laysFinal "OddPairs$Trees" "OddPairs$Trees" "base" "[I") ∈ lw_all := lw_g (lw_at lw_m1 172 rfl) rfl
theorem q244 : (Jvm.Cond.soleField "OddPairs$Trees" "base") ∈ lw_all := lw_g (lw_at lw_m1 173 rfl) rfl
theorem q245 : (Jvm.Cond.laysFinal "OddPairs$Trees" "OddPairs$Trees" "isInTree" "[Z") ∈ lw_all := lw_g (lw_at lw_m1 174 rfl) rfl
theorem q246 : (Jvm.Cond.soleField "OddPairs$Trees" "isInTree") ∈ lw_all := lw_g (lw_at lw_m1 175 rfl) rfl
theorem q247 : (Jvm.Cond.laysFinal "OddPairs$Trees" "OddPairs$Trees" "isInRing" "[Z") ∈ lw_all := lw_g (lw_at lw_m1 176 rfl) rfl
theorem q248 : (Jvm.Cond.soleField "OddPairs$Trees" "isInRing") ∈ lw_all := lw_g (lw_at lw_m1 177 rfl) rfl
theorem q249 : (Jvm.Cond.laysFinal "OddPairs$Trees" "OddPairs$Trees" "isMet" "[Z") ∈ lw_all := lw_g (lw_at lw_m1 178 rfl) rfl
theorem q250 : (Jvm.Cond.soleField "OddPairs$Trees" "isMet") ∈ lw_all := lw_g (lw_at lw_m1 179 rfl) rfl
theorem q251 : (Jvm.Cond.laysFinal "OddPairs$Trees" "OddPairs$Trees" "queue" "[I") ∈ lw_all := lw_g (lw_at lw_m1 180 rfl) rfl
theorem q252 : (Jvm.Cond.soleField "OddPairs$Trees" "queue") ∈ lw_all := lw_g (lw_at lw_m1 181 rfl) rfl
theorem q253 : (Jvm.Cond.lays "OddPairs$Trees" "OddPairs$Trees" "first" "I") ∈ lw_all := lw_g (lw_at lw_m1 182 rfl) rfl
theorem q254 : (Jvm.Cond.soleField "OddPairs$Trees" "first") ∈ lw_all := lw_g (lw_at lw_m1 183 rfl) rfl
theorem q255 : (Jvm.Cond.lays "OddPairs$Trees" "OddPairs$Trees" "last" "I") ∈ lw_all := lw_g (lw_at lw_m1 184 rfl) rfl
theorem q256 : (Jvm.Cond.soleField "OddPairs$Trees" "last") ∈ lw_all := lw_g (lw_at lw_m1 185 rfl) rfl
theorem q257 : (Jvm.Cond.lays "OddPairs$Trees" "OddPairs$Trees" "nodes" "I") ∈ lw_all := lw_g (lw_at lw_m1 186 rfl) rfl
theorem q258 : (Jvm.Cond.soleField "OddPairs$Trees" "nodes") ∈ lw_all := lw_g (lw_at lw_m1 187 rfl) rfl
theorem q259 : (Jvm.Cond.superclass "OddPairs$Trees" "java/lang/Object") ∈ lw_all := lw_g (lw_at lw_m1 188 rfl) rfl
theorem q266 : (Jvm.Cond.instanceMethod ({ cls := "OddPairs$Trees", name := "most", desc := "(I)I" } : Jvm.MethodName)) ∈ lw_all := lw_g (lw_at lw_m1 195 rfl) rfl
theorem q267 : (Jvm.Cond.selects "OddPairs$Trees" ({ cls := "OddPairs$Trees", name := "most", desc := "(I)I" } : Jvm.MethodName) ({ cls := "OddPairs$Trees", name := "most", desc := "(I)I" } : Jvm.MethodName)) ∈ lw_all := lw_g (lw_at lw_m1 196 rfl) rfl
theorem q268 : (Jvm.Cond.code ({ cls := "OddPairs$Trees", name := "most", desc := "(I)I" } : Jvm.MethodName) prog_7_method_2_code (5 : Nat) (Option.some Jvm.ClassFile.FieldType.int)) ∈ lw_all := lw_g (lw_at lw_m1 197 rfl) rfl
theorem q269 : (Jvm.Cond.methodLink "OddPairs$Trees" (42 : Nat) ({ cls := "java/util/Arrays", name := "fill", desc := "([II)V" } : Jvm.MethodName)) ∈ lw_all := lw_g (lw_at lw_m1 198 rfl) rfl
theorem q270 : (Jvm.Cond.methodLinkNest "OddPairs$Trees" (53 : Nat) ({ cls := "OddPairs", name := "has", desc := "(II)Z" } : Jvm.MethodName) "OddPairs") ∈ lw_tbl := lw_at lw_m1 199 rfl
theorem q273 : (Jvm.Cond.methodLink "OddPairs$Trees" (57 : Nat) ({ cls := "OddPairs$Trees", name := "grows", desc := "(I)I" } : Jvm.MethodName)) ∈ lw_all := lw_g (lw_at lw_m1 202 rfl) rfl
theorem q274 : (Jvm.Cond.privateMethod ({ cls := "OddPairs$Trees", name := "grows", desc := "(I)I" } : Jvm.MethodName)) ∈ lw_tbl := lw_at lw_m1 203 rfl
theorem q275 : (Jvm.Cond.instanceMethod ({ cls := "OddPairs$Trees", name := "grows", desc := "(I)I" } : Jvm.MethodName)) ∈ lw_all := lw_g (lw_at lw_m1 204 rfl) rfl
theorem q276 : (Jvm.Cond.code ({ cls := "OddPairs$Trees", name := "grows", desc := "(I)I" } : Jvm.MethodName) prog_7_method_6_code (4 : Nat) (Option.some Jvm.ClassFile.FieldType.int)) ∈ lw_all := lw_g (lw_at lw_m1 205 rfl) rfl
theorem q277 : (Jvm.Cond.methodLink "OddPairs$Trees" (65 : Nat) ({ cls := "java/util/Arrays", name := "fill", desc := "([ZZ)V" } : Jvm.MethodName)) ∈ lw_all := lw_g (lw_at lw_m1 206 rfl) rfl
theorem q280 : (Jvm.Cond.methodLink "OddPairs$Trees" (82 : Nat) ({ cls := "OddPairs$Net", name := "isLine", desc := "(II)Z" } : Jvm.MethodName)) ∈ lw_all := lw_g (lw_at lw_m1 209 rfl) rfl
theorem q284 : (Jvm.Cond.methodLink "OddPairs$Trees" (85 : Nat) ({ cls := "OddPairs$Trees", name := "shrinks", desc := "(II)V" } : Jvm.MethodName)) ∈ lw_all := lw_g (lw_at lw_m1 213 rfl) rfl
theorem q285 : (Jvm.Cond.privateMethod ({ cls := "OddPairs$Trees", name := "shrinks", desc := "(II)V" } : Jvm.MethodName)) ∈ lw_tbl := lw_at lw_m1 214 rfl
theorem q286 : (Jvm.Cond.instanceMethod ({ cls := "OddPairs$Trees", name := "shrinks", desc := "(II)V" } : Jvm.MethodName)) ∈ lw_all := lw_g (lw_at lw_m1 215 rfl) rfl
theorem q287 : (Jvm.Cond.code ({ cls := "OddPairs$Trees", name := "shrinks", desc := "(II)V" } : Jvm.MethodName) prog_7_method_5_code (5 : Nat) (Option.none : Option Jvm.ClassFile.FieldType)) ∈ lw_all := lw_g (lw_at lw_m1 216 rfl) rfl
theorem q288 : (Jvm.Cond.methodLink "OddPairs$Trees" (68 : Nat) ({ cls := "OddPairs$Trees", name := "common", desc := "(II)I" } : Jvm.MethodName)) ∈ lw_all := lw_g (lw_at lw_m1 217 rfl) rfl
theorem q289 : (Jvm.Cond.privateMethod ({ cls := "OddPairs$Trees", name := "common", desc := "(II)I" } : Jvm.MethodName)) ∈ lw_tbl := lw_at lw_m1 218 rfl
theorem q290 : (Jvm.Cond.instanceMethod ({ cls := "OddPairs$Trees", name := "common", desc := "(II)I" } : Jvm.MethodName)) ∈ lw_all := lw_g (lw_at lw_m1 219 rfl) rfl
theorem q291 : (Jvm.Cond.code ({ cls := "OddPairs$Trees", name := "common", desc := "(II)I" } : Jvm.MethodName) prog_7_method_3_code (5 : Nat) (Option.some Jvm.ClassFile.FieldType.int)) ∈ lw_all := lw_g (lw_at lw_m1 220 rfl) rfl
theorem q292 : (Jvm.Cond.methodLink "OddPairs$Trees" (72 : Nat) ({ cls := "OddPairs$Trees", name := "marks", desc := "(III)V" } : Jvm.MethodName)) ∈ lw_all := lw_g (lw_at lw_m1 221 rfl) rfl
theorem q293 : (Jvm.Cond.privateMethod ({ cls := "OddPairs$Trees", name := "marks", desc := "(III)V" } : Jvm.MethodName)) ∈ lw_tbl := lw_at lw_m1 222 rfl
theorem q294 : (Jvm.Cond.instanceMethod ({ cls := "OddPairs$Trees", name := "marks", desc := "(III)V" } : Jvm.MethodName)) ∈ lw_all := lw_g (lw_at lw_m1 223 rfl) rfl
theorem q295 : (Jvm.Cond.code ({ cls := "OddPairs$Trees", name := "marks", desc := "(III)V" } : Jvm.MethodName) prog_7_method_4_code (6 : Nat) (Option.none : Option Jvm.ClassFile.FieldType)) ∈ lw_all := lw_g (lw_at lw_m1 224 rfl) rfl
theorem q296 : (Jvm.Cond.methodLink "OddPairs$Trees" (61 : Nat) ({ cls := "OddPairs$Trees", name := "opens", desc := "(I)V" } : Jvm.MethodName)) ∈ lw_all := lw_g (lw_at lw_m1 225 rfl) rfl
theorem q297 : (Jvm.Cond.privateMethod ({ cls := "OddPairs$Trees", name := "opens", desc := "(I)V" } : Jvm.MethodName)) ∈ lw_tbl := lw_at lw_m1 226 rfl
theorem q298 : (Jvm.Cond.instanceMethod ({ cls := "OddPairs$Trees", name := "opens", desc := "(I)V" } : Jvm.MethodName)) ∈ lw_all := lw_g (lw_at lw_m1 227 rfl) rfl
theorem q299 : (Jvm.Cond.code ({ cls := "OddPairs$Trees", name := "opens", desc := "(I)V" } : Jvm.MethodName) prog_7_method_7_code (5 : Nat) (Option.none : Option Jvm.ClassFile.FieldType)) ∈ lw_all := lw_g (lw_at lw_m1 228 rfl) rfl
theorem q457 : (Jvm.Cond.selects "OddPairs$Trees" ({ cls := "java/lang/Object", name := "getClass", desc := "()Ljava/lang/Class;" } : Jvm.MethodName) ({ cls := "java/lang/Object", name := "getClass", desc := "()Ljava/lang/Class;" } : Jvm.MethodName)) ∈ lw_all := lw_g (lw_at lw_m2 146 rfl) rfl
theorem q1899 : (Jvm.Cond.castable "OddPairs$Trees" "java/lang/Object") ∈ lw_tbl := lw_at lw_m8 148 rfl
theorem in_X8 : ∀ w ∈ wsX80, w ∈ lw_all := lw_in wsX80 [237, 239, 241, 243, 245, 247, 249, 251, 253, 255, 257] (by decide +kernel) (by decide +kernel)
/-! OddPairs$Without -/
set_option maxRecDepth 100000
def RX9 : String := "OddPairs$Without"
def TX9 : u_T := fun k => match k with
  | 0 => ("OddPairs$Without", "of", "LOddPairs$Net;", true)
  | 1 => ("OddPairs$Without", "a", "I", true)
  | 2 => ("OddPairs$Without", "b", "I", true)
  | _ => ("OddPairs$Without", "was", "I", true)
def tyX9 : Nat → FieldType := fun k => match k with
  | 0 => .object "OddPairs$Net"
  | 1 => .int
  | 2 => .int
  | _ => .int
abbrev wsX90 : List Cond := u_ws RX9 TX9 4
theorem nmX9 : ∀ a, a < 4 → ∀ b, b < 4 → a ≠ b → (TX9 a).2.1 ≠ (TX9 b).2.1 := by decide +kernel
theorem tyX9_ok : ∀ k, k < 4 → parseFieldDescriptor (TX9 k).2.2.1 = some (tyX9 k) := by decide +kernel
abbrev cX9_init : ByteArray := prog_9_method_1_code
def yX9_init : MethodName := ⟨RX9, "<init>", "(LOddPairs$Net;II)V"⟩
def dkwX9_init_1 : List UInt8 := [28, 50, 29, 46, 181, 0, 28, 43, 28, 29, 2, 182, 0, 31, 177]
abbrev dktX9_init_1 : List UInt8 := dkwX9_init_1 ++ []
def dkwX9_init_0 : List UInt8 := [42, 183, 0, 3, 42, 43, 181, 0, 9, 42, 28, 181, 0, 15, 42, 29, 181, 0, 19, 42, 43, 180, 0, 22]
abbrev dktX9_init_0 : List UInt8 := dkwX9_init_0 ++ dktX9_init_1
theorem dksX9_init_0 : cX9_init.data.toList.drop 0 = dktX9_init_0 := by decide +kernel
theorem dksX9_init_1 : cX9_init.data.toList.drop 24 = dktX9_init_1 := dk_seg dksX9_init_0 24 rfl rfl
theorem dX9_init_0 : decode cX9_init 0 = .ok (.aload_n 0, 1) := dk_42 (dk_at dksX9_init_0 0 rfl rfl)
theorem dX9_init_1 : decode cX9_init 1 = .ok (.invokespecial 3, 3) := dk_183 0 3 (dk_at dksX9_init_0 1 rfl rfl)
theorem dX9_init_4 : decode cX9_init 4 = .ok (.aload_n 0, 1) := dk_42 (dk_at dksX9_init_0 4 rfl rfl)
theorem dX9_init_5 : decode cX9_init 5 = .ok (.aload_n 1, 1) := dk_43 (dk_at dksX9_init_0 5 rfl rfl)
theorem dX9_init_6 : decode cX9_init 6 = .ok (.putfield 9, 3) := dk_181 0 9 (dk_at dksX9_init_0 6 rfl rfl)
theorem dX9_init_9 : decode cX9_init 9 = .ok (.aload_n 0, 1) := dk_42 (dk_at dksX9_init_0 9 rfl rfl)
theorem dX9_init_10 : decode cX9_init 10 = .ok (.iload_n 2, 1) := dk_28 (dk_at dksX9_init_0 10 rfl rfl)
theorem dX9_init_11 : decode cX9_init 11 = .ok (.putfield 15, 3) := dk_181 0 15 (dk_at dksX9_init_0 11 rfl rfl)
theorem dX9_init_14 : decode cX9_init 14 = .ok (.aload_n 0, 1) := dk_42 (dk_at dksX9_init_0 14 rfl rfl)
theorem dX9_init_15 : decode cX9_init 15 = .ok (.iload_n 3, 1) := dk_29 (dk_at dksX9_init_0 15 rfl rfl)
theorem dX9_init_16 : decode cX9_init 16 = .ok (.putfield 19, 3) := dk_181 0 19 (dk_at dksX9_init_0 16 rfl rfl)
theorem dX9_init_19 : decode cX9_init 19 = .ok (.aload_n 0, 1) := dk_42 (dk_at dksX9_init_0 19 rfl rfl)
theorem dX9_init_20 : decode cX9_init 20 = .ok (.aload_n 1, 1) := dk_43 (dk_at dksX9_init_0 20 rfl rfl)
theorem dX9_init_21 : decode cX9_init 21 = .ok (.getfield 22, 3) := dk_180 0 22 (dk_at dksX9_init_0 21 rfl rfl)
theorem dX9_init_24 : decode cX9_init 24 = .ok (.iload_n 2, 1) := dk_28 (dk_at dksX9_init_1 0 rfl rfl)
theorem dX9_init_25 : decode cX9_init 25 = .ok (.aaload, 1) := dk_50 (dk_at dksX9_init_1 1 rfl rfl)
theorem dX9_init_26 : decode cX9_init 26 = .ok (.iload_n 3, 1) := dk_29 (dk_at dksX9_init_1 2 rfl rfl)
theorem dX9_init_27 : decode cX9_init 27 = .ok (.iaload, 1) := dk_46 (dk_at dksX9_init_1 3 rfl rfl)
theorem dX9_init_28 : decode cX9_init 28 = .ok (.putfield 28, 3) := dk_181 0 28 (dk_at dksX9_init_1 4 rfl rfl)
theorem dX9_init_31 : decode cX9_init 31 = .ok (.aload_n 1, 1) := dk_43 (dk_at dksX9_init_1 7 rfl rfl)
theorem dX9_init_32 : decode cX9_init 32 = .ok (.iload_n 2, 1) := dk_28 (dk_at dksX9_init_1 8 rfl rfl)
theorem dX9_init_33 : decode cX9_init 33 = .ok (.iload_n 3, 1) := dk_29 (dk_at dksX9_init_1 9 rfl rfl)
theorem dX9_init_34 : decode cX9_init 34 = .ok (.iconst (-1), 1) := dk_2 (dk_at dksX9_init_1 10 rfl rfl)
theorem dX9_init_35 : decode cX9_init 35 = .ok (.invokevirtual 31, 3) := dk_182 0 31 (dk_at dksX9_init_1 11 rfl rfl)
theorem dX9_init_38 : decode cX9_init 38 = .ok (.return_, 1) := dk_177 (dk_at dksX9_init_1 14 rfl rfl)
abbrev cX9_most : ByteArray := prog_9_method_2_code
def yX9_most : MethodName := ⟨RX9, "most", "()I"⟩
def dkwX9_most_0 : List UInt8 := [187, 0, 35, 89, 42, 180, 0, 9, 183, 0, 37, 42, 180, 0, 9, 182, 0, 40, 182, 0, 44, 172]
abbrev dktX9_most_0 : List UInt8 := dkwX9_most_0 ++ []
theorem dksX9_most_0 : cX9_most.data.toList.drop 0 = dktX9_most_0 := by decide +kernel
theorem dX9_most_0 : decode cX9_most 0 = .ok (.new 35, 3) := dk_187 0 35 (dk_at dksX9_most_0 0 rfl rfl)
theorem dX9_most_3 : decode cX9_most 3 = .ok (.dup, 1) := dk_89 (dk_at dksX9_most_0 3 rfl rfl)
theorem dX9_most_4 : decode cX9_most 4 = .ok (.aload_n 0, 1) := dk_42 (dk_at dksX9_most_0 4 rfl rfl)
theorem dX9_most_5 : decode cX9_most 5 = .ok (.getfield 9, 3) := dk_180 0 9 (dk_at dksX9_most_0 5 rfl rfl)
theorem dX9_most_8 : decode cX9_most 8 = .ok (.invokespecial 37, 3) := dk_183 0 37 (dk_at dksX9_most_0 8 rfl rfl)
theorem dX9_most_11 : decode cX9_most 11 = .ok (.aload_n 0, 1) := dk_42 (dk_at dksX9_most_0 11 rfl rfl)
theorem dX9_most_12 : decode cX9_most 12 = .ok (.getfield 9, 3) := dk_180 0 9 (dk_at dksX9_most_0 12 rfl rfl)
theorem dX9_most_15 : decode cX9_most 15 = .ok (.invokevirtual 40, 3) := dk_182 0 40 (dk_at dksX9_most_0 15 rfl rfl)
theorem dX9_most_18 : decode cX9_most 18 = .ok (.invokevirtual 44, 3) := dk_182 0 44 (dk_at dksX9_most_0 18 rfl rfl)
theorem dX9_most_21 : decode cX9_most 21 = .ok (.ireturn, 1) := dk_172 (dk_at dksX9_most_0 21 rfl rfl)
abbrev cX9_close : ByteArray := prog_9_method_3_code
def yX9_close : MethodName := ⟨RX9, "close", "()V"⟩
def dkwX9_close_0 : List UInt8 := [42, 180, 0, 9, 42, 180, 0, 15, 42, 180, 0, 19, 42, 180, 0, 28, 182, 0, 31, 177]
abbrev dktX9_close_0 : List UInt8 := dkwX9_close_0 ++ []
theorem dksX9_close_0 : cX9_close.data.toList.drop 0 = dktX9_close_0 := by decide +kernel
theorem dX9_close_0 : decode cX9_close 0 = .ok (.aload_n 0, 1) := dk_42 (dk_at dksX9_close_0 0 rfl rfl)
theorem dX9_close_1 : decode cX9_close 1 = .ok (.getfield 9, 3) := dk_180 0 9 (dk_at dksX9_close_0 1 rfl rfl)
theorem dX9_close_4 : decode cX9_close 4 = .ok (.aload_n 0, 1) := dk_42 (dk_at dksX9_close_0 4 rfl rfl)
theorem dX9_close_5 : decode cX9_close 5 = .ok (.getfield 15, 3) := dk_180 0 15 (dk_at dksX9_close_0 5 rfl rfl)
theorem dX9_close_8 : decode cX9_close 8 = .ok (.aload_n 0, 1) := dk_42 (dk_at dksX9_close_0 8 rfl rfl)
theorem dX9_close_9 : decode cX9_close 9 = .ok (.getfield 19, 3) := dk_180 0 19 (dk_at dksX9_close_0 9 rfl rfl)
theorem dX9_close_12 : decode cX9_close 12 = .ok (.aload_n 0, 1) := dk_42 (dk_at dksX9_close_0 12 rfl rfl)
theorem dX9_close_13 : decode cX9_close 13 = .ok (.getfield 28, 3) := dk_180 0 28 (dk_at dksX9_close_0 13 rfl rfl)
theorem dX9_close_16 : decode cX9_close 16 = .ok (.invokevirtual 31, 3) := dk_182 0 31 (dk_at dksX9_close_0 16 rfl rfl)
theorem dX9_close_19 : decode cX9_close 19 = .ok (.return_, 1) := dk_177 (dk_at dksX9_close_0 19 rfl rfl)
theorem q103 : (Jvm.Cond.initialized "OddPairs$Without") ∈ lw_all := lw_g (lw_at lw_m1 32 rfl) rfl
theorem q156 : (Jvm.Cond.fieldLinkNest "OddPairs$Without" (22 : Nat) "OddPairs$Net" "weight" "[[I" "OddPairs") ∈ lw_tbl := lw_at lw_m1 85 rfl
theorem q459 : (Jvm.Cond.selects "OddPairs$Without" ({ cls := "java/lang/Object", name := "getClass", desc := "()Ljava/lang/Class;" } : Jvm.MethodName) ({ cls := "java/lang/Object", name := "getClass", desc := "()Ljava/lang/Class;" } : Jvm.MethodName)) ∈ lw_all := lw_g (lw_at lw_m2 148 rfl) rfl
theorem q1284 : (Jvm.Cond.instantiable "OddPairs$Without" (4 : Nat)) ∈ lw_all := lw_g (lw_at lw_m6 13 rfl) rfl
theorem q1286 : (Jvm.Cond.instanceMethod ({ cls := "OddPairs$Without", name := "<init>", desc := "(LOddPairs$Net;II)V" } : Jvm.MethodName)) ∈ lw_all := lw_g (lw_at lw_m6 15 rfl) rfl
theorem q1287 : (Jvm.Cond.code ({ cls := "OddPairs$Without", name := "<init>", desc := "(LOddPairs$Net;II)V" } : Jvm.MethodName) prog_9_method_1_code (4 : Nat) (Option.none : Option Jvm.ClassFile.FieldType)) ∈ lw_all := lw_g (lw_at lw_m6 16 rfl) rfl
theorem q1288 : (Jvm.Cond.methodLink "OddPairs$Without" (3 : Nat) ({ cls := "java/lang/Object", name := "<init>", desc := "()V" } : Jvm.MethodName)) ∈ lw_all := lw_g (lw_at lw_m6 17 rfl) rfl
theorem q1289 : (Jvm.Cond.methodLink "OddPairs$Without" (31 : Nat) ({ cls := "OddPairs$Net", name := "joins", desc := "(III)V" } : Jvm.MethodName)) ∈ lw_all := lw_g (lw_at lw_m6 18 rfl) rfl
theorem q1290 : (Jvm.Cond.fieldLink "OddPairs$Without" (9 : Nat) "OddPairs$Without" "of" "LOddPairs$Net;") ∈ lw_all := lw_g (lw_at lw_m6 19 rfl) rfl
theorem q1291 : (Jvm.Cond.fieldLink "OddPairs$Without" (15 : Nat) "OddPairs$Without" "a" "I") ∈ lw_all := lw_g (lw_at lw_m6 20 rfl) rfl
theorem q1292 : (Jvm.Cond.fieldLink "OddPairs$Without" (19 : Nat) "OddPairs$Without" "b" "I") ∈ lw_all := lw_g (lw_at lw_m6 21 rfl) rfl
theorem q1293 : (Jvm.Cond.fieldLink "OddPairs$Without" (28 : Nat) "OddPairs$Without" "was" "I") ∈ lw_all := lw_g (lw_at lw_m6 22 rfl) rfl
theorem q1294 : (Jvm.Cond.laysFinal "OddPairs$Without" "OddPairs$Without" "of" "LOddPairs$Net;") ∈ lw_all := lw_g (lw_at lw_m6 23 rfl) rfl
theorem q1295 : (Jvm.Cond.soleField "OddPairs$Without" "of") ∈ lw_all := lw_g (lw_at lw_m6 24 rfl) rfl
theorem q1296 : (Jvm.Cond.laysFinal "OddPairs$Without" "OddPairs$Without" "a" "I") ∈ lw_all := lw_g (lw_at lw_m6 25 rfl) rfl
theorem q1297 : (Jvm.Cond.soleField "OddPairs$Without" "a") ∈ lw_all := lw_g (lw_at lw_m6 26 rfl) rfl
theorem q1298 : (Jvm.Cond.laysFinal "OddPairs$Without" "OddPairs$Without" "b" "I") ∈ lw_all := lw_g (lw_at lw_m6 27 rfl) rfl
theorem q1299 : (Jvm.Cond.soleField "OddPairs$Without" "b") ∈ lw_all := lw_g (lw_at lw_m6 28 rfl) rfl
theorem q1300 : (Jvm.Cond.laysFinal "OddPairs$Without" "OddPairs$Without" "was" "I") ∈ lw_all := lw_g (lw_at lw_m6 29 rfl) rfl
theorem q1301 : (Jvm.Cond.soleField "OddPairs$Without" "was") ∈ lw_all := lw_g (lw_at lw_m6 30 rfl) rfl
theorem q1302 : (Jvm.Cond.superclass "OddPairs$Without" "java/lang/Object") ∈ lw_all := lw_g (lw_at lw_m6 31 rfl) rfl
theorem q1304 : (Jvm.Cond.instanceMethod ({ cls := "OddPairs$Without", name := "most", desc := "()I" } : Jvm.MethodName)) ∈ lw_all := lw_g (lw_at lw_m6 33 rfl) rfl
theorem q1305 : (Jvm.Cond.selects "OddPairs$Without" ({ cls := "OddPairs$Without", name := "most", desc := "()I" } : Jvm.MethodName) ({ cls := "OddPairs$Without", name := "most", desc := "()I" } : Jvm.MethodName)) ∈ lw_all := lw_g (lw_at lw_m6 34 rfl) rfl
theorem q1306 : (Jvm.Cond.code ({ cls := "OddPairs$Without", name := "most", desc := "()I" } : Jvm.MethodName) prog_9_method_2_code (1 : Nat) (Option.some Jvm.ClassFile.FieldType.int)) ∈ lw_all := lw_g (lw_at lw_m6 35 rfl) rfl
theorem q1307 : (Jvm.Cond.classLink "OddPairs$Without" (35 : Nat) "OddPairs$Trees") ∈ lw_all := lw_g (lw_at lw_m6 36 rfl) rfl
theorem q1308 : (Jvm.Cond.methodLink "OddPairs$Without" (37 : Nat) ({ cls := "OddPairs$Trees", name := "<init>", desc := "(LOddPairs$Net;)V" } : Jvm.MethodName)) ∈ lw_all := lw_g (lw_at lw_m6 37 rfl) rfl
theorem q1309 : (Jvm.Cond.methodLink "OddPairs$Without" (40 : Nat) ({ cls := "OddPairs$Net", name := "all", desc := "()I" } : Jvm.MethodName)) ∈ lw_all := lw_g (lw_at lw_m6 38 rfl) rfl
theorem q1310 : (Jvm.Cond.methodLink "OddPairs$Without" (44 : Nat) ({ cls := "OddPairs$Trees", name := "most", desc := "(I)I" } : Jvm.MethodName)) ∈ lw_all := lw_g (lw_at lw_m6 39 rfl) rfl
theorem q1312 : (Jvm.Cond.instanceMethod ({ cls := "OddPairs$Without", name := "close", desc := "()V" } : Jvm.MethodName)) ∈ lw_all := lw_g (lw_at lw_m6 41 rfl) rfl
theorem q1313 : (Jvm.Cond.selects "OddPairs$Without" ({ cls := "OddPairs$Without", name := "close", desc := "()V" } : Jvm.MethodName) ({ cls := "OddPairs$Without", name := "close", desc := "()V" } : Jvm.MethodName)) ∈ lw_all := lw_g (lw_at lw_m6 42 rfl) rfl
theorem q1314 : (Jvm.Cond.code ({ cls := "OddPairs$Without", name := "close", desc := "()V" } : Jvm.MethodName) prog_9_method_3_code (1 : Nat) (Option.none : Option Jvm.ClassFile.FieldType)) ∈ lw_all := lw_g (lw_at lw_m6 43 rfl) rfl
theorem q1900 : (Jvm.Cond.castable "OddPairs$Without" "java/lang/Object") ∈ lw_tbl := lw_at lw_m8 149 rfl
theorem in_X9 : ∀ w ∈ wsX90, w ∈ lw_all := lw_in wsX90 [1294, 1296, 1298, 1300] (by decide +kernel) (by decide +kernel)
/-! OddPairs$Label -/
set_option maxRecDepth 100000
def RX10 : String := "OddPairs$Label"
abbrev cX10_of : ByteArray := prog_3_method_4_code
def yX10_of : MethodName := ⟨RX10, "of", "(III)LOddPairs$Label;"⟩
def dkwX10_of_1 : List UInt8 := [178, 0, 7, 167, 0, 6, 178, 0, 10, 176]
abbrev dktX10_of_1 : List UInt8 := dkwX10_of_1 ++ []
def dkwX10_of_0 : List UInt8 := [26, 28, 184, 0, 32, 153, 0, 9, 178, 0, 3, 167, 0, 20, 27, 28, 184, 0, 32, 153, 0, 9]
abbrev dktX10_of_0 : List UInt8 := dkwX10_of_0 ++ dktX10_of_1
theorem dksX10_of_0 : cX10_of.data.toList.drop 0 = dktX10_of_0 := by decide +kernel
theorem dksX10_of_1 : cX10_of.data.toList.drop 22 = dktX10_of_1 := dk_seg dksX10_of_0 22 rfl rfl
theorem dX10_of_0 : decode cX10_of 0 = .ok (.iload_n 0, 1) := dk_26 (dk_at dksX10_of_0 0 rfl rfl)
theorem dX10_of_1 : decode cX10_of 1 = .ok (.iload_n 2, 1) := dk_28 (dk_at dksX10_of_0 1 rfl rfl)
theorem dX10_of_2 : decode cX10_of 2 = .ok (.invokestatic 32, 3) := dk_184 0 32 (dk_at dksX10_of_0 2 rfl rfl)
theorem dX10_of_5 : decode cX10_of 5 = .ok (.ifCond .eq 9, 3) := dk_153 0 9 (dk_at dksX10_of_0 5 rfl rfl)
theorem dX10_of_8 : decode cX10_of 8 = .ok (.getstatic 3, 3) := dk_178 0 3 (dk_at dksX10_of_0 8 rfl rfl)
theorem dX10_of_11 : decode cX10_of 11 = .ok (.goto 20, 3) := dk_167 0 20 (dk_at dksX10_of_0 11 rfl rfl)
theorem dX10_of_14 : decode cX10_of 14 = .ok (.iload_n 1, 1) := dk_27 (dk_at dksX10_of_0 14 rfl rfl)
theorem dX10_of_15 : decode cX10_of 15 = .ok (.iload_n 2, 1) := dk_28 (dk_at dksX10_of_0 15 rfl rfl)
theorem dX10_of_16 : decode cX10_of 16 = .ok (.invokestatic 32, 3) := dk_184 0 32 (dk_at dksX10_of_0 16 rfl rfl)
theorem dX10_of_19 : decode cX10_of 19 = .ok (.ifCond .eq 9, 3) := dk_153 0 9 (dk_at dksX10_of_0 19 rfl rfl)
theorem dX10_of_22 : decode cX10_of 22 = .ok (.getstatic 7, 3) := dk_178 0 7 (dk_at dksX10_of_1 0 rfl rfl)
theorem dX10_of_25 : decode cX10_of 25 = .ok (.goto 6, 3) := dk_167 0 6 (dk_at dksX10_of_1 3 rfl rfl)
theorem dX10_of_28 : decode cX10_of 28 = .ok (.getstatic 10, 3) := dk_178 0 10 (dk_at dksX10_of_1 6 rfl rfl)
theorem dX10_of_31 : decode cX10_of 31 = .ok (.areturn, 1) := dk_176 (dk_at dksX10_of_1 9 rfl rfl)
theorem q106 : (Jvm.Cond.initialized "OddPairs$Label") ∈ lw_all := lw_g (lw_at lw_m1 35 rfl) rfl
theorem q454 : (Jvm.Cond.selects "OddPairs$Label" ({ cls := "java/lang/Object", name := "getClass", desc := "()Ljava/lang/Class;" } : Jvm.MethodName) ({ cls := "java/lang/Object", name := "getClass", desc := "()Ljava/lang/Class;" } : Jvm.MethodName)) ∈ lw_all := lw_g (lw_at lw_m2 143 rfl) rfl
theorem q1375 : (Jvm.Cond.static ({ cls := "OddPairs$Label", name := "of", desc := "(III)LOddPairs$Label;" } : Jvm.MethodName)) ∈ lw_all := lw_g (lw_at lw_m6 104 rfl) rfl
theorem q1376 : (Jvm.Cond.code ({ cls := "OddPairs$Label", name := "of", desc := "(III)LOddPairs$Label;" } : Jvm.MethodName) prog_3_method_4_code (3 : Nat) (Option.some (Jvm.ClassFile.FieldType.object "OddPairs$Label"))) ∈ lw_all := lw_g (lw_at lw_m6 105 rfl) rfl
theorem q1377 : (Jvm.Cond.methodLinkNest "OddPairs$Label" (32 : Nat) ({ cls := "OddPairs", name := "has", desc := "(II)Z" } : Jvm.MethodName) "OddPairs") ∈ lw_tbl := lw_at lw_m6 106 rfl
theorem q1378 : (Jvm.Cond.fieldLink "OddPairs$Label" (3 : Nat) "OddPairs$Label" "EVEN" "LOddPairs$Label;") ∈ lw_all := lw_g (lw_at lw_m6 107 rfl) rfl
theorem q1379 : (Jvm.Cond.laysStatic "OddPairs$Label" "EVEN" "LOddPairs$Label;") ∈ lw_tbl := lw_at lw_m6 108 rfl
theorem q1380 : (Jvm.Cond.fieldLink "OddPairs$Label" (7 : Nat) "OddPairs$Label" "ODD" "LOddPairs$Label;") ∈ lw_all := lw_g (lw_at lw_m6 109 rfl) rfl
theorem q1381 : (Jvm.Cond.laysStatic "OddPairs$Label" "ODD" "LOddPairs$Label;") ∈ lw_tbl := lw_at lw_m6 110 rfl
theorem q1382 : (Jvm.Cond.fieldLink "OddPairs$Label" (10 : Nat) "OddPairs$Label" "OUT" "LOddPairs$Label;") ∈ lw_all := lw_g (lw_at lw_m6 111 rfl) rfl
theorem q1383 : (Jvm.Cond.laysStatic "OddPairs$Label" "OUT" "LOddPairs$Label;") ∈ lw_tbl := lw_at lw_m6 112 rfl
theorem q1385 : (Jvm.Cond.sameMethod "OddPairs$Label" "java/lang/Enum" "ordinal" "()I") ∈ lw_all := lw_g (lw_at lw_m6 114 rfl) rfl
theorem q1387 : (Jvm.Cond.selects "OddPairs$Label" ({ cls := "OddPairs$Label", name := "ordinal", desc := "()I" } : Jvm.MethodName) ({ cls := "java/lang/Enum", name := "ordinal", desc := "()I" } : Jvm.MethodName)) ∈ lw_all := lw_g (lw_at lw_m6 116 rfl) rfl
theorem q1901 : (Jvm.Cond.castable "OddPairs$Label" "java/lang/Object") ∈ lw_tbl := lw_at lw_m8 150 rfl
