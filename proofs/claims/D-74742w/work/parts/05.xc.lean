/-! OddPairsModel -/
set_option maxRecDepth 100000
def RX3 : String := "OddPairsModel"
def TX3 : u_T := fun k => match k with
  | 0 => ("OddPairsModel", "thrown", "I", false)
  | 1 => ("OddPairsModel", "refused", "[I", true)
  | 2 => ("OddPairsModel", "tape", "I", false)
  | 3 => ("OddPairsModel", "size", "I", false)
  | 4 => ("OddPairsModel", "at", "I", false)
  | 5 => ("OddPairsModel", "place", "I", false)
  | 6 => ("OddPairsModel", "fault", "I", false)
  | 7 => ("OddPairsModel", "faultAt", "I", false)
  | 8 => ("OddPairsModel", "fed", "[I", true)
  | 9 => ("OddPairsModel", "now", "[I", true)
  | 10 => ("OddPairsModel", "told", "[I", true)
  | 11 => ("OddPairsModel", "past", "[[I", true)
  | 12 => ("OddPairsModel", "backs", "I", false)
  | 13 => ("OddPairsModel", "pairTold", "[I", true)
  | 14 => ("OddPairsModel", "pairs", "I", false)
  | 15 => ("OddPairsModel", "most", "[I", true)
  | 16 => ("OddPairsModel", "heavy", "[I", true)
  | 17 => ("OddPairsModel", "light", "[I", true)
  | 18 => ("OddPairsModel", "ways", "[J", true)
  | 19 => ("OddPairsModel", "isLaid", "Z", false)
  | 20 => ("OddPairsModel", "firstRow", "[I", true)
  | 21 => ("OddPairsModel", "been", "[Z", true)
  | 22 => ("OddPairsModel", "even", "I", false)
  | 23 => ("OddPairsModel", "odd", "I", false)
  | 24 => ("OddPairsModel", "row", "[I", true)
  | 25 => ("OddPairsModel", "rowMany", "I", false)
  | _ => ("OddPairsModel", "number", "[I", true)
def tyX3 : Nat → FieldType := fun k => match k with
  | 0 => .int
  | 1 => .array .int
  | 2 => .int
  | 3 => .int
  | 4 => .int
  | 5 => .int
  | 6 => .int
  | 7 => .int
  | 8 => .array .int
  | 9 => .array .int
  | 10 => .array .int
  | 11 => .array (.array .int)
  | 12 => .int
  | 13 => .array .int
  | 14 => .int
  | 15 => .array .int
  | 16 => .array .int
  | 17 => .array .int
  | 18 => .array .long
  | 19 => .boolean
  | 20 => .array .int
  | 21 => .array .boolean
  | 22 => .int
  | 23 => .int
  | 24 => .array .int
  | 25 => .int
  | _ => .array .int
abbrev wsX30 : List Cond := u_ws RX3 TX3 27
set_option maxRecDepth 100000 in
theorem nmX3 : ∀ a, a < 27 → ∀ b, b < 27 → a ≠ b → (TX3 a).2.1 ≠ (TX3 b).2.1 := by decide +kernel
set_option maxRecDepth 100000 in
theorem tyX3_ok : ∀ k, k < 27 → parseFieldDescriptor (TX3 k).2.2.1 = some (tyX3 k) := by decide +kernel
abbrev cX3_init : ByteArray := prog_12_method_1_code
def yX3_init : MethodName := ⟨RX3, "<init>", "()V"⟩
def dkwX3_init_6 : List UInt8 := [180, 0, 20, 3, 5, 79, 42, 180, 0, 20, 3, 4, 4, 184, 0, 65, 42, 182, 0, 69, 177]
abbrev dktX3_init_6 : List UInt8 := dkwX3_init_6 ++ []
def dkwX3_init_5 : List UInt8 := [42, 16, 13, 188, 10, 181, 0, 55, 42, 16, 12, 188, 10, 181, 0, 58, 42, 180, 0, 20, 184, 0, 61, 42]
abbrev dktX3_init_5 : List UInt8 := dkwX3_init_5 ++ dktX3_init_6
def dkwX3_init_4 : List UInt8 := [17, 16, 0, 188, 11, 181, 0, 43, 42, 16, 12, 188, 10, 181, 0, 47, 42, 18, 50, 188, 4, 181, 0, 51]
abbrev dktX3_init_4 : List UInt8 := dkwX3_init_4 ++ dktX3_init_5
def dkwX3_init_3 : List UInt8 := [188, 10, 181, 0, 34, 42, 17, 16, 0, 188, 10, 181, 0, 37, 42, 17, 16, 0, 188, 10, 181, 0, 40, 42]
abbrev dktX3_init_3 : List UInt8 := dkwX3_init_3 ++ dktX3_init_4
def dkwX3_init_2 : List UInt8 := [17, 0, 157, 197, 0, 26, 2, 181, 0, 28, 42, 17, 1, 244, 188, 10, 181, 0, 31, 42, 17, 16, 0]
abbrev dktX3_init_2 : List UInt8 := dkwX3_init_2 ++ dktX3_init_3
def dkwX3_init_1 : List UInt8 := [181, 0, 17, 42, 17, 0, 157, 188, 10, 181, 0, 20, 42, 17, 0, 157, 188, 10, 181, 0, 23, 42, 16, 8]
abbrev dktX3_init_1 : List UInt8 := dkwX3_init_1 ++ dktX3_init_2
def dkwX3_init_0 : List UInt8 := [42, 183, 0, 3, 42, 6, 188, 10, 181, 0, 9, 42, 2, 181, 0, 13, 42, 17, 1, 244, 188, 10]
abbrev dktX3_init_0 : List UInt8 := dkwX3_init_0 ++ dktX3_init_1
theorem dksX3_init_0 : cX3_init.data.toList.drop 0 = dktX3_init_0 := by decide +kernel
theorem dksX3_init_1 : cX3_init.data.toList.drop 22 = dktX3_init_1 := dk_seg dksX3_init_0 22 rfl rfl
theorem dksX3_init_2 : cX3_init.data.toList.drop 46 = dktX3_init_2 := dk_seg dksX3_init_1 24 rfl rfl
theorem dksX3_init_3 : cX3_init.data.toList.drop 69 = dktX3_init_3 := dk_seg dksX3_init_2 23 rfl rfl
theorem dksX3_init_4 : cX3_init.data.toList.drop 93 = dktX3_init_4 := dk_seg dksX3_init_3 24 rfl rfl
theorem dksX3_init_5 : cX3_init.data.toList.drop 117 = dktX3_init_5 := dk_seg dksX3_init_4 24 rfl rfl
theorem dksX3_init_6 : cX3_init.data.toList.drop 141 = dktX3_init_6 := dk_seg dksX3_init_5 24 rfl rfl
theorem dX3_init_0 : decode cX3_init 0 = .ok (.aload_n 0, 1) := dk_42 (dk_at dksX3_init_0 0 rfl rfl)
theorem dX3_init_1 : decode cX3_init 1 = .ok (.invokespecial 3, 3) := dk_183 0 3 (dk_at dksX3_init_0 1 rfl rfl)
theorem dX3_init_4 : decode cX3_init 4 = .ok (.aload_n 0, 1) := dk_42 (dk_at dksX3_init_0 4 rfl rfl)
theorem dX3_init_5 : decode cX3_init 5 = .ok (.iconst 3, 1) := dk_6 (dk_at dksX3_init_0 5 rfl rfl)
theorem dX3_init_6 : decode cX3_init 6 = .ok (.newarray .int, 2) := dk_188_10 (dk_at dksX3_init_0 6 rfl rfl)
theorem dX3_init_8 : decode cX3_init 8 = .ok (.putfield 9, 3) := dk_181 0 9 (dk_at dksX3_init_0 8 rfl rfl)
theorem dX3_init_11 : decode cX3_init 11 = .ok (.aload_n 0, 1) := dk_42 (dk_at dksX3_init_0 11 rfl rfl)
theorem dX3_init_12 : decode cX3_init 12 = .ok (.iconst (-1), 1) := dk_2 (dk_at dksX3_init_0 12 rfl rfl)
theorem dX3_init_13 : decode cX3_init 13 = .ok (.putfield 13, 3) := dk_181 0 13 (dk_at dksX3_init_0 13 rfl rfl)
theorem dX3_init_16 : decode cX3_init 16 = .ok (.aload_n 0, 1) := dk_42 (dk_at dksX3_init_0 16 rfl rfl)
theorem dX3_init_17 : decode cX3_init 17 = .ok (.sipush 500, 3) := dk_17 1 244 (dk_at dksX3_init_0 17 rfl rfl)
theorem dX3_init_20 : decode cX3_init 20 = .ok (.newarray .int, 2) := dk_188_10 (dk_at dksX3_init_0 20 rfl rfl)
theorem dX3_init_22 : decode cX3_init 22 = .ok (.putfield 17, 3) := dk_181 0 17 (dk_at dksX3_init_1 0 rfl rfl)
theorem dX3_init_25 : decode cX3_init 25 = .ok (.aload_n 0, 1) := dk_42 (dk_at dksX3_init_1 3 rfl rfl)
theorem dX3_init_26 : decode cX3_init 26 = .ok (.sipush 157, 3) := dk_17 0 157 (dk_at dksX3_init_1 4 rfl rfl)
theorem dX3_init_29 : decode cX3_init 29 = .ok (.newarray .int, 2) := dk_188_10 (dk_at dksX3_init_1 7 rfl rfl)
theorem dX3_init_31 : decode cX3_init 31 = .ok (.putfield 20, 3) := dk_181 0 20 (dk_at dksX3_init_1 9 rfl rfl)
theorem dX3_init_34 : decode cX3_init 34 = .ok (.aload_n 0, 1) := dk_42 (dk_at dksX3_init_1 12 rfl rfl)
theorem dX3_init_35 : decode cX3_init 35 = .ok (.sipush 157, 3) := dk_17 0 157 (dk_at dksX3_init_1 13 rfl rfl)
theorem dX3_init_38 : decode cX3_init 38 = .ok (.newarray .int, 2) := dk_188_10 (dk_at dksX3_init_1 16 rfl rfl)
theorem dX3_init_40 : decode cX3_init 40 = .ok (.putfield 23, 3) := dk_181 0 23 (dk_at dksX3_init_1 18 rfl rfl)
theorem dX3_init_43 : decode cX3_init 43 = .ok (.aload_n 0, 1) := dk_42 (dk_at dksX3_init_1 21 rfl rfl)
theorem dX3_init_44 : decode cX3_init 44 = .ok (.bipush 8, 2) := dk_16 8 (dk_at dksX3_init_1 22 rfl rfl)
theorem dX3_init_46 : decode cX3_init 46 = .ok (.sipush 157, 3) := dk_17 0 157 (dk_at dksX3_init_2 0 rfl rfl)
theorem dX3_init_49 : decode cX3_init 49 = .ok (.multianewarray 26 2, 4) := by decide +kernel
theorem dX3_init_53 : decode cX3_init 53 = .ok (.putfield 28, 3) := dk_181 0 28 (dk_at dksX3_init_2 7 rfl rfl)
theorem dX3_init_56 : decode cX3_init 56 = .ok (.aload_n 0, 1) := dk_42 (dk_at dksX3_init_2 10 rfl rfl)
theorem dX3_init_57 : decode cX3_init 57 = .ok (.sipush 500, 3) := dk_17 1 244 (dk_at dksX3_init_2 11 rfl rfl)
theorem dX3_init_60 : decode cX3_init 60 = .ok (.newarray .int, 2) := dk_188_10 (dk_at dksX3_init_2 14 rfl rfl)
theorem dX3_init_62 : decode cX3_init 62 = .ok (.putfield 31, 3) := dk_181 0 31 (dk_at dksX3_init_2 16 rfl rfl)
theorem dX3_init_65 : decode cX3_init 65 = .ok (.aload_n 0, 1) := dk_42 (dk_at dksX3_init_2 19 rfl rfl)
theorem dX3_init_66 : decode cX3_init 66 = .ok (.sipush 4096, 3) := dk_17 16 0 (dk_at dksX3_init_2 20 rfl rfl)
theorem dX3_init_69 : decode cX3_init 69 = .ok (.newarray .int, 2) := dk_188_10 (dk_at dksX3_init_3 0 rfl rfl)
theorem dX3_init_71 : decode cX3_init 71 = .ok (.putfield 34, 3) := dk_181 0 34 (dk_at dksX3_init_3 2 rfl rfl)
theorem dX3_init_74 : decode cX3_init 74 = .ok (.aload_n 0, 1) := dk_42 (dk_at dksX3_init_3 5 rfl rfl)
theorem dX3_init_75 : decode cX3_init 75 = .ok (.sipush 4096, 3) := dk_17 16 0 (dk_at dksX3_init_3 6 rfl rfl)
theorem dX3_init_78 : decode cX3_init 78 = .ok (.newarray .int, 2) := dk_188_10 (dk_at dksX3_init_3 9 rfl rfl)
theorem dX3_init_80 : decode cX3_init 80 = .ok (.putfield 37, 3) := dk_181 0 37 (dk_at dksX3_init_3 11 rfl rfl)
theorem dX3_init_83 : decode cX3_init 83 = .ok (.aload_n 0, 1) := dk_42 (dk_at dksX3_init_3 14 rfl rfl)
theorem dX3_init_84 : decode cX3_init 84 = .ok (.sipush 4096, 3) := dk_17 16 0 (dk_at dksX3_init_3 15 rfl rfl)
theorem dX3_init_87 : decode cX3_init 87 = .ok (.newarray .int, 2) := dk_188_10 (dk_at dksX3_init_3 18 rfl rfl)
theorem dX3_init_89 : decode cX3_init 89 = .ok (.putfield 40, 3) := dk_181 0 40 (dk_at dksX3_init_3 20 rfl rfl)
theorem dX3_init_92 : decode cX3_init 92 = .ok (.aload_n 0, 1) := dk_42 (dk_at dksX3_init_3 23 rfl rfl)
theorem dX3_init_93 : decode cX3_init 93 = .ok (.sipush 4096, 3) := dk_17 16 0 (dk_at dksX3_init_4 0 rfl rfl)
theorem dX3_init_96 : decode cX3_init 96 = .ok (.newarray .long, 2) := dk_188_11 (dk_at dksX3_init_4 3 rfl rfl)
theorem dX3_init_98 : decode cX3_init 98 = .ok (.putfield 43, 3) := dk_181 0 43 (dk_at dksX3_init_4 5 rfl rfl)
theorem dX3_init_101 : decode cX3_init 101 = .ok (.aload_n 0, 1) := dk_42 (dk_at dksX3_init_4 8 rfl rfl)
theorem dX3_init_102 : decode cX3_init 102 = .ok (.bipush 12, 2) := dk_16 12 (dk_at dksX3_init_4 9 rfl rfl)
theorem dX3_init_104 : decode cX3_init 104 = .ok (.newarray .int, 2) := dk_188_10 (dk_at dksX3_init_4 11 rfl rfl)
theorem dX3_init_106 : decode cX3_init 106 = .ok (.putfield 47, 3) := dk_181 0 47 (dk_at dksX3_init_4 13 rfl rfl)
theorem dX3_init_109 : decode cX3_init 109 = .ok (.aload_n 0, 1) := dk_42 (dk_at dksX3_init_4 16 rfl rfl)
theorem dX3_init_110 : decode cX3_init 110 = .ok (.ldc 50, 2) := dk_18 50 (dk_at dksX3_init_4 17 rfl rfl)
theorem dX3_init_112 : decode cX3_init 112 = .ok (.newarray .boolean, 2) := dk_188_4 (dk_at dksX3_init_4 19 rfl rfl)
theorem dX3_init_114 : decode cX3_init 114 = .ok (.putfield 51, 3) := dk_181 0 51 (dk_at dksX3_init_4 21 rfl rfl)
theorem dX3_init_117 : decode cX3_init 117 = .ok (.aload_n 0, 1) := dk_42 (dk_at dksX3_init_5 0 rfl rfl)
theorem dX3_init_118 : decode cX3_init 118 = .ok (.bipush 13, 2) := dk_16 13 (dk_at dksX3_init_5 1 rfl rfl)
theorem dX3_init_120 : decode cX3_init 120 = .ok (.newarray .int, 2) := dk_188_10 (dk_at dksX3_init_5 3 rfl rfl)
theorem dX3_init_122 : decode cX3_init 122 = .ok (.putfield 55, 3) := dk_181 0 55 (dk_at dksX3_init_5 5 rfl rfl)
theorem dX3_init_125 : decode cX3_init 125 = .ok (.aload_n 0, 1) := dk_42 (dk_at dksX3_init_5 8 rfl rfl)
theorem dX3_init_126 : decode cX3_init 126 = .ok (.bipush 12, 2) := dk_16 12 (dk_at dksX3_init_5 9 rfl rfl)
theorem dX3_init_128 : decode cX3_init 128 = .ok (.newarray .int, 2) := dk_188_10 (dk_at dksX3_init_5 11 rfl rfl)
theorem dX3_init_130 : decode cX3_init 130 = .ok (.putfield 58, 3) := dk_181 0 58 (dk_at dksX3_init_5 13 rfl rfl)
theorem dX3_init_133 : decode cX3_init 133 = .ok (.aload_n 0, 1) := dk_42 (dk_at dksX3_init_5 16 rfl rfl)
theorem dX3_init_134 : decode cX3_init 134 = .ok (.getfield 20, 3) := dk_180 0 20 (dk_at dksX3_init_5 17 rfl rfl)
theorem dX3_init_137 : decode cX3_init 137 = .ok (.invokestatic 61, 3) := dk_184 0 61 (dk_at dksX3_init_5 20 rfl rfl)
theorem dX3_init_140 : decode cX3_init 140 = .ok (.aload_n 0, 1) := dk_42 (dk_at dksX3_init_5 23 rfl rfl)
theorem dX3_init_141 : decode cX3_init 141 = .ok (.getfield 20, 3) := dk_180 0 20 (dk_at dksX3_init_6 0 rfl rfl)
theorem dX3_init_144 : decode cX3_init 144 = .ok (.iconst 0, 1) := dk_3 (dk_at dksX3_init_6 3 rfl rfl)
theorem dX3_init_145 : decode cX3_init 145 = .ok (.iconst 2, 1) := dk_5 (dk_at dksX3_init_6 4 rfl rfl)
theorem dX3_init_146 : decode cX3_init 146 = .ok (.iastore, 1) := dk_79 (dk_at dksX3_init_6 5 rfl rfl)
theorem dX3_init_147 : decode cX3_init 147 = .ok (.aload_n 0, 1) := dk_42 (dk_at dksX3_init_6 6 rfl rfl)
theorem dX3_init_148 : decode cX3_init 148 = .ok (.getfield 20, 3) := dk_180 0 20 (dk_at dksX3_init_6 7 rfl rfl)
theorem dX3_init_151 : decode cX3_init 151 = .ok (.iconst 0, 1) := dk_3 (dk_at dksX3_init_6 10 rfl rfl)
theorem dX3_init_152 : decode cX3_init 152 = .ok (.iconst 1, 1) := dk_4 (dk_at dksX3_init_6 11 rfl rfl)
theorem dX3_init_153 : decode cX3_init 153 = .ok (.iconst 1, 1) := dk_4 (dk_at dksX3_init_6 12 rfl rfl)
theorem dX3_init_154 : decode cX3_init 154 = .ok (.invokestatic 65, 3) := dk_184 0 65 (dk_at dksX3_init_6 13 rfl rfl)
theorem dX3_init_157 : decode cX3_init 157 = .ok (.aload_n 0, 1) := dk_42 (dk_at dksX3_init_6 16 rfl rfl)
theorem dX3_init_158 : decode cX3_init 158 = .ok (.invokevirtual 69, 3) := dk_182 0 69 (dk_at dksX3_init_6 17 rfl rfl)
theorem dX3_init_161 : decode cX3_init 161 = .ok (.return_, 1) := dk_177 (dk_at dksX3_init_6 20 rfl rfl)
abbrev cX3_begins : ByteArray := prog_12_method_2_code
def yX3_begins : MethodName := ⟨RX3, "begins", "([I)V"⟩
def dkwX3_begins_0 : List UInt8 := [3, 60, 27, 17, 0, 157, 162, 0, 13, 42, 27, 2, 79, 132, 1, 1, 167, 255, 242, 177]
abbrev dktX3_begins_0 : List UInt8 := dkwX3_begins_0 ++ []
theorem dksX3_begins_0 : cX3_begins.data.toList.drop 0 = dktX3_begins_0 := by decide +kernel
theorem dX3_begins_0 : decode cX3_begins 0 = .ok (.iconst 0, 1) := dk_3 (dk_at dksX3_begins_0 0 rfl rfl)
theorem dX3_begins_1 : decode cX3_begins 1 = .ok (.istore_n 1, 1) := dk_60 (dk_at dksX3_begins_0 1 rfl rfl)
theorem dX3_begins_2 : decode cX3_begins 2 = .ok (.iload_n 1, 1) := dk_27 (dk_at dksX3_begins_0 2 rfl rfl)
theorem dX3_begins_3 : decode cX3_begins 3 = .ok (.sipush 157, 3) := dk_17 0 157 (dk_at dksX3_begins_0 3 rfl rfl)
theorem dX3_begins_6 : decode cX3_begins 6 = .ok (.if_icmp .ge 13, 3) := dk_162 0 13 (dk_at dksX3_begins_0 6 rfl rfl)
theorem dX3_begins_9 : decode cX3_begins 9 = .ok (.aload_n 0, 1) := dk_42 (dk_at dksX3_begins_0 9 rfl rfl)
theorem dX3_begins_10 : decode cX3_begins 10 = .ok (.iload_n 1, 1) := dk_27 (dk_at dksX3_begins_0 10 rfl rfl)
theorem dX3_begins_11 : decode cX3_begins 11 = .ok (.iconst (-1), 1) := dk_2 (dk_at dksX3_begins_0 11 rfl rfl)
theorem dX3_begins_12 : decode cX3_begins 12 = .ok (.iastore, 1) := dk_79 (dk_at dksX3_begins_0 12 rfl rfl)
theorem dX3_begins_13 : decode cX3_begins 13 = .ok (.iinc 1 1, 3) := dk_132 1 1 (dk_at dksX3_begins_0 13 rfl rfl)
theorem dX3_begins_16 : decode cX3_begins 16 = .ok (.goto (-14), 3) := dk_167 255 242 (dk_at dksX3_begins_0 16 rfl rfl)
theorem dX3_begins_19 : decode cX3_begins 19 = .ok (.return_, 1) := dk_177 (dk_at dksX3_begins_0 19 rfl rfl)
abbrev cX3_joins : ByteArray := prog_12_method_9_code
def yX3_joins : MethodName := ⟨RX3, "joins", "([IIII)V"⟩
def dkwX3_joins_1 : List UInt8 := [177]
abbrev dktX3_joins_1 : List UInt8 := dkwX3_joins_1 ++ []
def dkwX3_joins_0 : List UInt8 := [42, 16, 13, 16, 12, 27, 104, 96, 28, 96, 29, 79, 42, 16, 13, 16, 12, 28, 104, 96, 27, 96, 29, 79]
abbrev dktX3_joins_0 : List UInt8 := dkwX3_joins_0 ++ dktX3_joins_1
theorem dksX3_joins_0 : cX3_joins.data.toList.drop 0 = dktX3_joins_0 := by decide +kernel
theorem dksX3_joins_1 : cX3_joins.data.toList.drop 24 = dktX3_joins_1 := dk_seg dksX3_joins_0 24 rfl rfl
theorem dX3_joins_0 : decode cX3_joins 0 = .ok (.aload_n 0, 1) := dk_42 (dk_at dksX3_joins_0 0 rfl rfl)
theorem dX3_joins_1 : decode cX3_joins 1 = .ok (.bipush 13, 2) := dk_16 13 (dk_at dksX3_joins_0 1 rfl rfl)
theorem dX3_joins_3 : decode cX3_joins 3 = .ok (.bipush 12, 2) := dk_16 12 (dk_at dksX3_joins_0 3 rfl rfl)
theorem dX3_joins_5 : decode cX3_joins 5 = .ok (.iload_n 1, 1) := dk_27 (dk_at dksX3_joins_0 5 rfl rfl)
theorem dX3_joins_6 : decode cX3_joins 6 = .ok (.imul, 1) := dk_104 (dk_at dksX3_joins_0 6 rfl rfl)
theorem dX3_joins_7 : decode cX3_joins 7 = .ok (.iadd, 1) := dk_96 (dk_at dksX3_joins_0 7 rfl rfl)
theorem dX3_joins_8 : decode cX3_joins 8 = .ok (.iload_n 2, 1) := dk_28 (dk_at dksX3_joins_0 8 rfl rfl)
theorem dX3_joins_9 : decode cX3_joins 9 = .ok (.iadd, 1) := dk_96 (dk_at dksX3_joins_0 9 rfl rfl)
theorem dX3_joins_10 : decode cX3_joins 10 = .ok (.iload_n 3, 1) := dk_29 (dk_at dksX3_joins_0 10 rfl rfl)
theorem dX3_joins_11 : decode cX3_joins 11 = .ok (.iastore, 1) := dk_79 (dk_at dksX3_joins_0 11 rfl rfl)
theorem dX3_joins_12 : decode cX3_joins 12 = .ok (.aload_n 0, 1) := dk_42 (dk_at dksX3_joins_0 12 rfl rfl)
theorem dX3_joins_13 : decode cX3_joins 13 = .ok (.bipush 13, 2) := dk_16 13 (dk_at dksX3_joins_0 13 rfl rfl)
theorem dX3_joins_15 : decode cX3_joins 15 = .ok (.bipush 12, 2) := dk_16 12 (dk_at dksX3_joins_0 15 rfl rfl)
theorem dX3_joins_17 : decode cX3_joins 17 = .ok (.iload_n 2, 1) := dk_28 (dk_at dksX3_joins_0 17 rfl rfl)
theorem dX3_joins_18 : decode cX3_joins 18 = .ok (.imul, 1) := dk_104 (dk_at dksX3_joins_0 18 rfl rfl)
theorem dX3_joins_19 : decode cX3_joins 19 = .ok (.iadd, 1) := dk_96 (dk_at dksX3_joins_0 19 rfl rfl)
theorem dX3_joins_20 : decode cX3_joins 20 = .ok (.iload_n 1, 1) := dk_27 (dk_at dksX3_joins_0 20 rfl rfl)
theorem dX3_joins_21 : decode cX3_joins 21 = .ok (.iadd, 1) := dk_96 (dk_at dksX3_joins_0 21 rfl rfl)
theorem dX3_joins_22 : decode cX3_joins 22 = .ok (.iload_n 3, 1) := dk_29 (dk_at dksX3_joins_0 22 rfl rfl)
theorem dX3_joins_23 : decode cX3_joins 23 = .ok (.iastore, 1) := dk_79 (dk_at dksX3_joins_0 23 rfl rfl)
theorem dX3_joins_24 : decode cX3_joins 24 = .ok (.return_, 1) := dk_177 (dk_at dksX3_joins_1 0 rfl rfl)
abbrev cX3_changes : ByteArray := prog_12_method_32_code
def yX3_changes : MethodName := ⟨RX3, "changes", "()V"⟩
def dkwX3_changes_0 : List UInt8 := [42, 3, 181, 0, 187, 177]
abbrev dktX3_changes_0 : List UInt8 := dkwX3_changes_0 ++ []
theorem dksX3_changes_0 : cX3_changes.data.toList.drop 0 = dktX3_changes_0 := by decide +kernel
theorem dX3_changes_0 : decode cX3_changes 0 = .ok (.aload_n 0, 1) := dk_42 (dk_at dksX3_changes_0 0 rfl rfl)
theorem dX3_changes_1 : decode cX3_changes 1 = .ok (.iconst 0, 1) := dk_3 (dk_at dksX3_changes_0 1 rfl rfl)
theorem dX3_changes_2 : decode cX3_changes 2 = .ok (.putfield 187, 3) := dk_181 0 187 (dk_at dksX3_changes_0 2 rfl rfl)
theorem dX3_changes_5 : decode cX3_changes 5 = .ok (.return_, 1) := dk_177 (dk_at dksX3_changes_0 5 rfl rfl)
abbrev cX3_thrown : ByteArray := prog_12_method_3_code
def yX3_thrown : MethodName := ⟨RX3, "thrown", "()I"⟩
theorem dX3_thrown_0 : decode cX3_thrown 0 = .ok (.aload_n 0, 1) := by decide +kernel
theorem dX3_thrown_1 : decode cX3_thrown 1 = .ok (.getfield 72, 3) := by decide +kernel
theorem dX3_thrown_4 : decode cX3_thrown 4 = .ok (.ireturn, 1) := by decide +kernel
abbrev cX3_feed : ByteArray := prog_12_method_7_code
def yX3_feed : MethodName := ⟨RX3, "feed", "(IIIII)I"⟩
def dkwX3_feed_5 : List UInt8 := [167, 255, 162, 42, 180, 0, 75, 172]
abbrev dktX3_feed_5 : List UInt8 := dkwX3_feed_5 ++ []
def dkwX3_feed_4 : List UInt8 := [112, 104, 100, 122, 17, 0, 255, 126, 79, 42, 89, 180, 0, 75, 4, 96, 181, 0, 75, 132, 6, 1]
abbrev dktX3_feed_4 : List UInt8 := dkwX3_feed_4 ++ dktX3_feed_5
def dkwX3_feed_3 : List UInt8 := [167, 0, 5, 21, 5, 54, 7, 42, 180, 0, 17, 42, 180, 0, 75, 21, 7, 16, 24, 16, 8, 21, 6, 7]
abbrev dktX3_feed_3 : List UInt8 := dkwX3_feed_3 ++ dktX3_feed_4
def dkwX3_feed_2 : List UInt8 := [28, 167, 0, 28, 21, 6, 16, 12, 162, 0, 7, 29, 167, 0, 17, 21, 6, 16, 16, 162, 0, 8, 21, 4]
abbrev dktX3_feed_2 : List UInt8 := dkwX3_feed_2 ++ dktX3_feed_3
def dkwX3_feed_1 : List UInt8 := [21, 6, 16, 20, 162, 0, 93, 21, 6, 7, 162, 0, 7, 27, 167, 0, 39, 21, 6, 16, 8, 162, 0, 7]
abbrev dktX3_feed_1 : List UInt8 := dkwX3_feed_1 ++ dktX3_feed_2
def dkwX3_feed_0 : List UInt8 := [42, 3, 181, 0, 72, 42, 180, 0, 75, 16, 20, 96, 17, 1, 244, 164, 0, 5, 2, 172, 3, 54, 6]
abbrev dktX3_feed_0 : List UInt8 := dkwX3_feed_0 ++ dktX3_feed_1
theorem dksX3_feed_0 : cX3_feed.data.toList.drop 0 = dktX3_feed_0 := by decide +kernel
theorem dksX3_feed_1 : cX3_feed.data.toList.drop 23 = dktX3_feed_1 := dk_seg dksX3_feed_0 23 rfl rfl
theorem dksX3_feed_2 : cX3_feed.data.toList.drop 47 = dktX3_feed_2 := dk_seg dksX3_feed_1 24 rfl rfl
theorem dksX3_feed_3 : cX3_feed.data.toList.drop 71 = dktX3_feed_3 := dk_seg dksX3_feed_2 24 rfl rfl
theorem dksX3_feed_4 : cX3_feed.data.toList.drop 95 = dktX3_feed_4 := dk_seg dksX3_feed_3 24 rfl rfl
theorem dksX3_feed_5 : cX3_feed.data.toList.drop 117 = dktX3_feed_5 := dk_seg dksX3_feed_4 22 rfl rfl
theorem dX3_feed_0 : decode cX3_feed 0 = .ok (.aload_n 0, 1) := dk_42 (dk_at dksX3_feed_0 0 rfl rfl)
theorem dX3_feed_1 : decode cX3_feed 1 = .ok (.iconst 0, 1) := dk_3 (dk_at dksX3_feed_0 1 rfl rfl)
theorem dX3_feed_2 : decode cX3_feed 2 = .ok (.putfield 72, 3) := dk_181 0 72 (dk_at dksX3_feed_0 2 rfl rfl)
theorem dX3_feed_5 : decode cX3_feed 5 = .ok (.aload_n 0, 1) := dk_42 (dk_at dksX3_feed_0 5 rfl rfl)
theorem dX3_feed_6 : decode cX3_feed 6 = .ok (.getfield 75, 3) := dk_180 0 75 (dk_at dksX3_feed_0 6 rfl rfl)
theorem dX3_feed_9 : decode cX3_feed 9 = .ok (.bipush 20, 2) := dk_16 20 (dk_at dksX3_feed_0 9 rfl rfl)
theorem dX3_feed_11 : decode cX3_feed 11 = .ok (.iadd, 1) := dk_96 (dk_at dksX3_feed_0 11 rfl rfl)
theorem dX3_feed_12 : decode cX3_feed 12 = .ok (.sipush 500, 3) := dk_17 1 244 (dk_at dksX3_feed_0 12 rfl rfl)
theorem dX3_feed_15 : decode cX3_feed 15 = .ok (.if_icmp .le 5, 3) := dk_164 0 5 (dk_at dksX3_feed_0 15 rfl rfl)
theorem dX3_feed_18 : decode cX3_feed 18 = .ok (.iconst (-1), 1) := dk_2 (dk_at dksX3_feed_0 18 rfl rfl)
theorem dX3_feed_19 : decode cX3_feed 19 = .ok (.ireturn, 1) := dk_172 (dk_at dksX3_feed_0 19 rfl rfl)
theorem dX3_feed_20 : decode cX3_feed 20 = .ok (.iconst 0, 1) := dk_3 (dk_at dksX3_feed_0 20 rfl rfl)
theorem dX3_feed_21 : decode cX3_feed 21 = .ok (.istore 6, 2) := dk_54 6 (dk_at dksX3_feed_0 21 rfl rfl)
theorem dX3_feed_23 : decode cX3_feed 23 = .ok (.iload 6, 2) := dk_21 6 (dk_at dksX3_feed_1 0 rfl rfl)
theorem dX3_feed_25 : decode cX3_feed 25 = .ok (.bipush 20, 2) := dk_16 20 (dk_at dksX3_feed_1 2 rfl rfl)
theorem dX3_feed_27 : decode cX3_feed 27 = .ok (.if_icmp .ge 93, 3) := dk_162 0 93 (dk_at dksX3_feed_1 4 rfl rfl)
theorem dX3_feed_30 : decode cX3_feed 30 = .ok (.iload 6, 2) := dk_21 6 (dk_at dksX3_feed_1 7 rfl rfl)
theorem dX3_feed_32 : decode cX3_feed 32 = .ok (.iconst 4, 1) := dk_7 (dk_at dksX3_feed_1 9 rfl rfl)
theorem dX3_feed_33 : decode cX3_feed 33 = .ok (.if_icmp .ge 7, 3) := dk_162 0 7 (dk_at dksX3_feed_1 10 rfl rfl)
theorem dX3_feed_36 : decode cX3_feed 36 = .ok (.iload_n 1, 1) := dk_27 (dk_at dksX3_feed_1 13 rfl rfl)
theorem dX3_feed_37 : decode cX3_feed 37 = .ok (.goto 39, 3) := dk_167 0 39 (dk_at dksX3_feed_1 14 rfl rfl)
theorem dX3_feed_40 : decode cX3_feed 40 = .ok (.iload 6, 2) := dk_21 6 (dk_at dksX3_feed_1 17 rfl rfl)
theorem dX3_feed_42 : decode cX3_feed 42 = .ok (.bipush 8, 2) := dk_16 8 (dk_at dksX3_feed_1 19 rfl rfl)
theorem dX3_feed_44 : decode cX3_feed 44 = .ok (.if_icmp .ge 7, 3) := dk_162 0 7 (dk_at dksX3_feed_1 21 rfl rfl)
theorem dX3_feed_47 : decode cX3_feed 47 = .ok (.iload_n 2, 1) := dk_28 (dk_at dksX3_feed_2 0 rfl rfl)
theorem dX3_feed_48 : decode cX3_feed 48 = .ok (.goto 28, 3) := dk_167 0 28 (dk_at dksX3_feed_2 1 rfl rfl)
theorem dX3_feed_51 : decode cX3_feed 51 = .ok (.iload 6, 2) := dk_21 6 (dk_at dksX3_feed_2 4 rfl rfl)
theorem dX3_feed_53 : decode cX3_feed 53 = .ok (.bipush 12, 2) := dk_16 12 (dk_at dksX3_feed_2 6 rfl rfl)
theorem dX3_feed_55 : decode cX3_feed 55 = .ok (.if_icmp .ge 7, 3) := dk_162 0 7 (dk_at dksX3_feed_2 8 rfl rfl)
theorem dX3_feed_58 : decode cX3_feed 58 = .ok (.iload_n 3, 1) := dk_29 (dk_at dksX3_feed_2 11 rfl rfl)
theorem dX3_feed_59 : decode cX3_feed 59 = .ok (.goto 17, 3) := dk_167 0 17 (dk_at dksX3_feed_2 12 rfl rfl)
theorem dX3_feed_62 : decode cX3_feed 62 = .ok (.iload 6, 2) := dk_21 6 (dk_at dksX3_feed_2 15 rfl rfl)
theorem dX3_feed_64 : decode cX3_feed 64 = .ok (.bipush 16, 2) := dk_16 16 (dk_at dksX3_feed_2 17 rfl rfl)
theorem dX3_feed_66 : decode cX3_feed 66 = .ok (.if_icmp .ge 8, 3) := dk_162 0 8 (dk_at dksX3_feed_2 19 rfl rfl)
theorem dX3_feed_69 : decode cX3_feed 69 = .ok (.iload 4, 2) := dk_21 4 (dk_at dksX3_feed_2 22 rfl rfl)
theorem dX3_feed_71 : decode cX3_feed 71 = .ok (.goto 5, 3) := dk_167 0 5 (dk_at dksX3_feed_3 0 rfl rfl)
theorem dX3_feed_74 : decode cX3_feed 74 = .ok (.iload 5, 2) := dk_21 5 (dk_at dksX3_feed_3 3 rfl rfl)
theorem dX3_feed_76 : decode cX3_feed 76 = .ok (.istore 7, 2) := dk_54 7 (dk_at dksX3_feed_3 5 rfl rfl)
theorem dX3_feed_78 : decode cX3_feed 78 = .ok (.aload_n 0, 1) := dk_42 (dk_at dksX3_feed_3 7 rfl rfl)
theorem dX3_feed_79 : decode cX3_feed 79 = .ok (.getfield 17, 3) := dk_180 0 17 (dk_at dksX3_feed_3 8 rfl rfl)
theorem dX3_feed_82 : decode cX3_feed 82 = .ok (.aload_n 0, 1) := dk_42 (dk_at dksX3_feed_3 11 rfl rfl)
theorem dX3_feed_83 : decode cX3_feed 83 = .ok (.getfield 75, 3) := dk_180 0 75 (dk_at dksX3_feed_3 12 rfl rfl)
theorem dX3_feed_86 : decode cX3_feed 86 = .ok (.iload 7, 2) := dk_21 7 (dk_at dksX3_feed_3 15 rfl rfl)
theorem dX3_feed_88 : decode cX3_feed 88 = .ok (.bipush 24, 2) := dk_16 24 (dk_at dksX3_feed_3 17 rfl rfl)
theorem dX3_feed_90 : decode cX3_feed 90 = .ok (.bipush 8, 2) := dk_16 8 (dk_at dksX3_feed_3 19 rfl rfl)
theorem dX3_feed_92 : decode cX3_feed 92 = .ok (.iload 6, 2) := dk_21 6 (dk_at dksX3_feed_3 21 rfl rfl)
theorem dX3_feed_94 : decode cX3_feed 94 = .ok (.iconst 4, 1) := dk_7 (dk_at dksX3_feed_3 23 rfl rfl)
theorem dX3_feed_95 : decode cX3_feed 95 = .ok (.irem, 1) := dk_112 (dk_at dksX3_feed_4 0 rfl rfl)
theorem dX3_feed_96 : decode cX3_feed 96 = .ok (.imul, 1) := dk_104 (dk_at dksX3_feed_4 1 rfl rfl)
theorem dX3_feed_97 : decode cX3_feed 97 = .ok (.isub, 1) := dk_100 (dk_at dksX3_feed_4 2 rfl rfl)
theorem dX3_feed_98 : decode cX3_feed 98 = .ok (.ishr, 1) := dk_122 (dk_at dksX3_feed_4 3 rfl rfl)
theorem dX3_feed_99 : decode cX3_feed 99 = .ok (.sipush 255, 3) := dk_17 0 255 (dk_at dksX3_feed_4 4 rfl rfl)
theorem dX3_feed_102 : decode cX3_feed 102 = .ok (.iand, 1) := dk_126 (dk_at dksX3_feed_4 7 rfl rfl)
theorem dX3_feed_103 : decode cX3_feed 103 = .ok (.iastore, 1) := dk_79 (dk_at dksX3_feed_4 8 rfl rfl)
theorem dX3_feed_104 : decode cX3_feed 104 = .ok (.aload_n 0, 1) := dk_42 (dk_at dksX3_feed_4 9 rfl rfl)
theorem dX3_feed_105 : decode cX3_feed 105 = .ok (.dup, 1) := dk_89 (dk_at dksX3_feed_4 10 rfl rfl)
theorem dX3_feed_106 : decode cX3_feed 106 = .ok (.getfield 75, 3) := dk_180 0 75 (dk_at dksX3_feed_4 11 rfl rfl)
theorem dX3_feed_109 : decode cX3_feed 109 = .ok (.iconst 1, 1) := dk_4 (dk_at dksX3_feed_4 14 rfl rfl)
theorem dX3_feed_110 : decode cX3_feed 110 = .ok (.iadd, 1) := dk_96 (dk_at dksX3_feed_4 15 rfl rfl)
theorem dX3_feed_111 : decode cX3_feed 111 = .ok (.putfield 75, 3) := dk_181 0 75 (dk_at dksX3_feed_4 16 rfl rfl)
theorem dX3_feed_114 : decode cX3_feed 114 = .ok (.iinc 6 1, 3) := dk_132 6 1 (dk_at dksX3_feed_4 19 rfl rfl)
theorem dX3_feed_117 : decode cX3_feed 117 = .ok (.goto (-94), 3) := dk_167 255 162 (dk_at dksX3_feed_5 0 rfl rfl)
theorem dX3_feed_120 : decode cX3_feed 120 = .ok (.aload_n 0, 1) := dk_42 (dk_at dksX3_feed_5 3 rfl rfl)
theorem dX3_feed_121 : decode cX3_feed 121 = .ok (.getfield 75, 3) := dk_180 0 75 (dk_at dksX3_feed_5 4 rfl rfl)
theorem dX3_feed_124 : decode cX3_feed 124 = .ok (.ireturn, 1) := dk_172 (dk_at dksX3_feed_5 7 rfl rfl)
abbrev cX3_text : ByteArray := prog_12_method_23_code
def yX3_text : MethodName := ⟨RX3, "text", "(I)I"⟩
def dkwX3_text_8 : List UInt8 := [184, 0, 174, 42, 182, 0, 69, 42, 182, 0, 178, 172]
abbrev dktX3_text_8 : List UInt8 := dkwX3_text_8 ++ []
def dkwX3_text_7 : List UInt8 := [154, 0, 11, 42, 180, 0, 88, 16, 10, 100, 172, 42, 182, 0, 171, 42, 180, 0, 23, 42, 180, 0, 20]
abbrev dktX3_text_7 : List UInt8 := dkwX3_text_7 ++ dktX3_text_8
def dkwX3_text_6 : List UInt8 := [154, 0, 12, 42, 6, 42, 180, 0, 78, 182, 0, 115, 42, 42, 180, 0, 91, 181, 0, 13, 42, 182, 0, 94]
abbrev dktX3_text_6 : List UInt8 := dkwX3_text_6 ++ dktX3_text_7
def dkwX3_text_5 : List UInt8 := [2, 159, 0, 10, 42, 182, 0, 165, 167, 255, 237, 42, 182, 0, 94, 153, 0, 19, 42, 182, 0, 168]
abbrev dktX3_text_5 : List UInt8 := dkwX3_text_5 ++ dktX3_text_6
def dkwX3_text_4 : List UInt8 := [16, 12, 3, 182, 0, 128, 79, 42, 16, 59, 182, 0, 155, 42, 182, 0, 94, 153, 0, 18, 42, 182, 0, 98]
abbrev dktX3_text_4 : List UInt8 := dkwX3_text_4 ++ dktX3_text_5
def dkwX3_text_3 : List UInt8 := [18, 163, 182, 0, 139, 154, 0, 12, 42, 4, 42, 180, 0, 81, 182, 0, 115, 42, 180, 0, 23, 3, 42, 4]
abbrev dktX3_text_3 : List UInt8 := dkwX3_text_3 ++ dktX3_text_4
def dkwX3_text_2 : List UInt8 := [42, 3, 181, 0, 88, 42, 2, 181, 0, 91, 42, 3, 181, 0, 152, 42, 180, 0, 23, 184, 0, 61, 42]
abbrev dktX3_text_2 : List UInt8 := dkwX3_text_2 ++ dktX3_text_3
def dkwX3_text_1 : List UInt8 := [4, 182, 0, 159, 153, 0, 5, 3, 172, 42, 3, 181, 0, 75, 42, 27, 181, 0, 78, 42, 3, 181, 0, 81]
abbrev dktX3_text_1 : List UInt8 := dkwX3_text_1 ++ dktX3_text_2
def dkwX3_text_0 : List UInt8 := [42, 3, 181, 0, 72, 42, 27, 3, 42, 180, 0, 75, 184, 0, 111, 154, 0, 7, 4, 167, 0, 4, 3, 4]
abbrev dktX3_text_0 : List UInt8 := dkwX3_text_0 ++ dktX3_text_1
theorem dksX3_text_0 : cX3_text.data.toList.drop 0 = dktX3_text_0 := by decide +kernel
theorem dksX3_text_1 : cX3_text.data.toList.drop 24 = dktX3_text_1 := dk_seg dksX3_text_0 24 rfl rfl
theorem dksX3_text_2 : cX3_text.data.toList.drop 48 = dktX3_text_2 := dk_seg dksX3_text_1 24 rfl rfl
theorem dksX3_text_3 : cX3_text.data.toList.drop 71 = dktX3_text_3 := dk_seg dksX3_text_2 23 rfl rfl
theorem dksX3_text_4 : cX3_text.data.toList.drop 95 = dktX3_text_4 := dk_seg dksX3_text_3 24 rfl rfl
theorem dksX3_text_5 : cX3_text.data.toList.drop 119 = dktX3_text_5 := dk_seg dksX3_text_4 24 rfl rfl
theorem dksX3_text_6 : cX3_text.data.toList.drop 141 = dktX3_text_6 := dk_seg dksX3_text_5 22 rfl rfl
theorem dksX3_text_7 : cX3_text.data.toList.drop 165 = dktX3_text_7 := dk_seg dksX3_text_6 24 rfl rfl
theorem dksX3_text_8 : cX3_text.data.toList.drop 188 = dktX3_text_8 := dk_seg dksX3_text_7 23 rfl rfl
theorem dX3_text_0 : decode cX3_text 0 = .ok (.aload_n 0, 1) := dk_42 (dk_at dksX3_text_0 0 rfl rfl)
theorem dX3_text_1 : decode cX3_text 1 = .ok (.iconst 0, 1) := dk_3 (dk_at dksX3_text_0 1 rfl rfl)
theorem dX3_text_2 : decode cX3_text 2 = .ok (.putfield 72, 3) := dk_181 0 72 (dk_at dksX3_text_0 2 rfl rfl)
theorem dX3_text_5 : decode cX3_text 5 = .ok (.aload_n 0, 1) := dk_42 (dk_at dksX3_text_0 5 rfl rfl)
theorem dX3_text_6 : decode cX3_text 6 = .ok (.iload_n 1, 1) := dk_27 (dk_at dksX3_text_0 6 rfl rfl)
theorem dX3_text_7 : decode cX3_text 7 = .ok (.iconst 0, 1) := dk_3 (dk_at dksX3_text_0 7 rfl rfl)
theorem dX3_text_8 : decode cX3_text 8 = .ok (.aload_n 0, 1) := dk_42 (dk_at dksX3_text_0 8 rfl rfl)
theorem dX3_text_9 : decode cX3_text 9 = .ok (.getfield 75, 3) := dk_180 0 75 (dk_at dksX3_text_0 9 rfl rfl)
theorem dX3_text_12 : decode cX3_text 12 = .ok (.invokestatic 111, 3) := dk_184 0 111 (dk_at dksX3_text_0 12 rfl rfl)
theorem dX3_text_15 : decode cX3_text 15 = .ok (.ifCond .ne 7, 3) := dk_154 0 7 (dk_at dksX3_text_0 15 rfl rfl)
theorem dX3_text_18 : decode cX3_text 18 = .ok (.iconst 1, 1) := dk_4 (dk_at dksX3_text_0 18 rfl rfl)
theorem dX3_text_19 : decode cX3_text 19 = .ok (.goto 4, 3) := dk_167 0 4 (dk_at dksX3_text_0 19 rfl rfl)
theorem dX3_text_22 : decode cX3_text 22 = .ok (.iconst 0, 1) := dk_3 (dk_at dksX3_text_0 22 rfl rfl)
theorem dX3_text_23 : decode cX3_text 23 = .ok (.iconst 1, 1) := dk_4 (dk_at dksX3_text_0 23 rfl rfl)
theorem dX3_text_24 : decode cX3_text 24 = .ok (.iconst 1, 1) := dk_4 (dk_at dksX3_text_1 0 rfl rfl)
theorem dX3_text_25 : decode cX3_text 25 = .ok (.invokevirtual 159, 3) := dk_182 0 159 (dk_at dksX3_text_1 1 rfl rfl)
theorem dX3_text_28 : decode cX3_text 28 = .ok (.ifCond .eq 5, 3) := dk_153 0 5 (dk_at dksX3_text_1 4 rfl rfl)
theorem dX3_text_31 : decode cX3_text 31 = .ok (.iconst 0, 1) := dk_3 (dk_at dksX3_text_1 7 rfl rfl)
theorem dX3_text_32 : decode cX3_text 32 = .ok (.ireturn, 1) := dk_172 (dk_at dksX3_text_1 8 rfl rfl)
theorem dX3_text_33 : decode cX3_text 33 = .ok (.aload_n 0, 1) := dk_42 (dk_at dksX3_text_1 9 rfl rfl)
theorem dX3_text_34 : decode cX3_text 34 = .ok (.iconst 0, 1) := dk_3 (dk_at dksX3_text_1 10 rfl rfl)
theorem dX3_text_35 : decode cX3_text 35 = .ok (.putfield 75, 3) := dk_181 0 75 (dk_at dksX3_text_1 11 rfl rfl)
theorem dX3_text_38 : decode cX3_text 38 = .ok (.aload_n 0, 1) := dk_42 (dk_at dksX3_text_1 14 rfl rfl)
theorem dX3_text_39 : decode cX3_text 39 = .ok (.iload_n 1, 1) := dk_27 (dk_at dksX3_text_1 15 rfl rfl)
theorem dX3_text_40 : decode cX3_text 40 = .ok (.putfield 78, 3) := dk_181 0 78 (dk_at dksX3_text_1 16 rfl rfl)
theorem dX3_text_43 : decode cX3_text 43 = .ok (.aload_n 0, 1) := dk_42 (dk_at dksX3_text_1 19 rfl rfl)
theorem dX3_text_44 : decode cX3_text 44 = .ok (.iconst 0, 1) := dk_3 (dk_at dksX3_text_1 20 rfl rfl)
theorem dX3_text_45 : decode cX3_text 45 = .ok (.putfield 81, 3) := dk_181 0 81 (dk_at dksX3_text_1 21 rfl rfl)
theorem dX3_text_48 : decode cX3_text 48 = .ok (.aload_n 0, 1) := dk_42 (dk_at dksX3_text_2 0 rfl rfl)
theorem dX3_text_49 : decode cX3_text 49 = .ok (.iconst 0, 1) := dk_3 (dk_at dksX3_text_2 1 rfl rfl)
theorem dX3_text_50 : decode cX3_text 50 = .ok (.putfield 88, 3) := dk_181 0 88 (dk_at dksX3_text_2 2 rfl rfl)
theorem dX3_text_53 : decode cX3_text 53 = .ok (.aload_n 0, 1) := dk_42 (dk_at dksX3_text_2 5 rfl rfl)
theorem dX3_text_54 : decode cX3_text 54 = .ok (.iconst (-1), 1) := dk_2 (dk_at dksX3_text_2 6 rfl rfl)
theorem dX3_text_55 : decode cX3_text 55 = .ok (.putfield 91, 3) := dk_181 0 91 (dk_at dksX3_text_2 7 rfl rfl)
theorem dX3_text_58 : decode cX3_text 58 = .ok (.aload_n 0, 1) := dk_42 (dk_at dksX3_text_2 10 rfl rfl)
theorem dX3_text_59 : decode cX3_text 59 = .ok (.iconst 0, 1) := dk_3 (dk_at dksX3_text_2 11 rfl rfl)
theorem dX3_text_60 : decode cX3_text 60 = .ok (.putfield 152, 3) := dk_181 0 152 (dk_at dksX3_text_2 12 rfl rfl)
theorem dX3_text_63 : decode cX3_text 63 = .ok (.aload_n 0, 1) := dk_42 (dk_at dksX3_text_2 15 rfl rfl)
theorem dX3_text_64 : decode cX3_text 64 = .ok (.getfield 23, 3) := dk_180 0 23 (dk_at dksX3_text_2 16 rfl rfl)
theorem dX3_text_67 : decode cX3_text 67 = .ok (.invokestatic 61, 3) := dk_184 0 61 (dk_at dksX3_text_2 19 rfl rfl)
theorem dX3_text_70 : decode cX3_text 70 = .ok (.aload_n 0, 1) := dk_42 (dk_at dksX3_text_2 22 rfl rfl)
theorem dX3_text_71 : decode cX3_text 71 = .ok (.ldc 163, 2) := dk_18 163 (dk_at dksX3_text_3 0 rfl rfl)
theorem dX3_text_73 : decode cX3_text 73 = .ok (.invokevirtual 139, 3) := dk_182 0 139 (dk_at dksX3_text_3 2 rfl rfl)
theorem dX3_text_76 : decode cX3_text 76 = .ok (.ifCond .ne 12, 3) := dk_154 0 12 (dk_at dksX3_text_3 5 rfl rfl)
theorem dX3_text_79 : decode cX3_text 79 = .ok (.aload_n 0, 1) := dk_42 (dk_at dksX3_text_3 8 rfl rfl)
theorem dX3_text_80 : decode cX3_text 80 = .ok (.iconst 1, 1) := dk_4 (dk_at dksX3_text_3 9 rfl rfl)
theorem dX3_text_81 : decode cX3_text 81 = .ok (.aload_n 0, 1) := dk_42 (dk_at dksX3_text_3 10 rfl rfl)
theorem dX3_text_82 : decode cX3_text 82 = .ok (.getfield 81, 3) := dk_180 0 81 (dk_at dksX3_text_3 11 rfl rfl)
theorem dX3_text_85 : decode cX3_text 85 = .ok (.invokevirtual 115, 3) := dk_182 0 115 (dk_at dksX3_text_3 14 rfl rfl)
theorem dX3_text_88 : decode cX3_text 88 = .ok (.aload_n 0, 1) := dk_42 (dk_at dksX3_text_3 17 rfl rfl)
theorem dX3_text_89 : decode cX3_text 89 = .ok (.getfield 23, 3) := dk_180 0 23 (dk_at dksX3_text_3 18 rfl rfl)
theorem dX3_text_92 : decode cX3_text 92 = .ok (.iconst 0, 1) := dk_3 (dk_at dksX3_text_3 21 rfl rfl)
theorem dX3_text_93 : decode cX3_text 93 = .ok (.aload_n 0, 1) := dk_42 (dk_at dksX3_text_3 22 rfl rfl)
theorem dX3_text_94 : decode cX3_text 94 = .ok (.iconst 1, 1) := dk_4 (dk_at dksX3_text_3 23 rfl rfl)
theorem dX3_text_95 : decode cX3_text 95 = .ok (.bipush 12, 2) := dk_16 12 (dk_at dksX3_text_4 0 rfl rfl)
theorem dX3_text_97 : decode cX3_text 97 = .ok (.iconst 0, 1) := dk_3 (dk_at dksX3_text_4 2 rfl rfl)
theorem dX3_text_98 : decode cX3_text 98 = .ok (.invokevirtual 128, 3) := dk_182 0 128 (dk_at dksX3_text_4 3 rfl rfl)
theorem dX3_text_101 : decode cX3_text 101 = .ok (.iastore, 1) := dk_79 (dk_at dksX3_text_4 6 rfl rfl)
theorem dX3_text_102 : decode cX3_text 102 = .ok (.aload_n 0, 1) := dk_42 (dk_at dksX3_text_4 7 rfl rfl)
theorem dX3_text_103 : decode cX3_text 103 = .ok (.bipush 59, 2) := dk_16 59 (dk_at dksX3_text_4 8 rfl rfl)
theorem dX3_text_105 : decode cX3_text 105 = .ok (.invokevirtual 155, 3) := dk_182 0 155 (dk_at dksX3_text_4 10 rfl rfl)
theorem dX3_text_108 : decode cX3_text 108 = .ok (.aload_n 0, 1) := dk_42 (dk_at dksX3_text_4 13 rfl rfl)
theorem dX3_text_109 : decode cX3_text 109 = .ok (.invokevirtual 94, 3) := dk_182 0 94 (dk_at dksX3_text_4 14 rfl rfl)
theorem dX3_text_112 : decode cX3_text 112 = .ok (.ifCond .eq 18, 3) := dk_153 0 18 (dk_at dksX3_text_4 17 rfl rfl)
theorem dX3_text_115 : decode cX3_text 115 = .ok (.aload_n 0, 1) := dk_42 (dk_at dksX3_text_4 20 rfl rfl)
theorem dX3_text_116 : decode cX3_text 116 = .ok (.invokevirtual 98, 3) := dk_182 0 98 (dk_at dksX3_text_4 21 rfl rfl)
theorem dX3_text_119 : decode cX3_text 119 = .ok (.iconst (-1), 1) := dk_2 (dk_at dksX3_text_5 0 rfl rfl)
theorem dX3_text_120 : decode cX3_text 120 = .ok (.if_icmp .eq 10, 3) := dk_159 0 10 (dk_at dksX3_text_5 1 rfl rfl)
theorem dX3_text_123 : decode cX3_text 123 = .ok (.aload_n 0, 1) := dk_42 (dk_at dksX3_text_5 4 rfl rfl)
theorem dX3_text_124 : decode cX3_text 124 = .ok (.invokevirtual 165, 3) := dk_182 0 165 (dk_at dksX3_text_5 5 rfl rfl)
theorem dX3_text_127 : decode cX3_text 127 = .ok (.goto (-19), 3) := dk_167 255 237 (dk_at dksX3_text_5 8 rfl rfl)
theorem dX3_text_130 : decode cX3_text 130 = .ok (.aload_n 0, 1) := dk_42 (dk_at dksX3_text_5 11 rfl rfl)
theorem dX3_text_131 : decode cX3_text 131 = .ok (.invokevirtual 94, 3) := dk_182 0 94 (dk_at dksX3_text_5 12 rfl rfl)
theorem dX3_text_134 : decode cX3_text 134 = .ok (.ifCond .eq 19, 3) := dk_153 0 19 (dk_at dksX3_text_5 15 rfl rfl)
theorem dX3_text_137 : decode cX3_text 137 = .ok (.aload_n 0, 1) := dk_42 (dk_at dksX3_text_5 18 rfl rfl)
theorem dX3_text_138 : decode cX3_text 138 = .ok (.invokevirtual 168, 3) := dk_182 0 168 (dk_at dksX3_text_5 19 rfl rfl)
theorem dX3_text_141 : decode cX3_text 141 = .ok (.ifCond .ne 12, 3) := dk_154 0 12 (dk_at dksX3_text_6 0 rfl rfl)
theorem dX3_text_144 : decode cX3_text 144 = .ok (.aload_n 0, 1) := dk_42 (dk_at dksX3_text_6 3 rfl rfl)
theorem dX3_text_145 : decode cX3_text 145 = .ok (.iconst 3, 1) := dk_6 (dk_at dksX3_text_6 4 rfl rfl)
theorem dX3_text_146 : decode cX3_text 146 = .ok (.aload_n 0, 1) := dk_42 (dk_at dksX3_text_6 5 rfl rfl)
theorem dX3_text_147 : decode cX3_text 147 = .ok (.getfield 78, 3) := dk_180 0 78 (dk_at dksX3_text_6 6 rfl rfl)
theorem dX3_text_150 : decode cX3_text 150 = .ok (.invokevirtual 115, 3) := dk_182 0 115 (dk_at dksX3_text_6 9 rfl rfl)
theorem dX3_text_153 : decode cX3_text 153 = .ok (.aload_n 0, 1) := dk_42 (dk_at dksX3_text_6 12 rfl rfl)
theorem dX3_text_154 : decode cX3_text 154 = .ok (.aload_n 0, 1) := dk_42 (dk_at dksX3_text_6 13 rfl rfl)
theorem dX3_text_155 : decode cX3_text 155 = .ok (.getfield 91, 3) := dk_180 0 91 (dk_at dksX3_text_6 14 rfl rfl)
theorem dX3_text_158 : decode cX3_text 158 = .ok (.putfield 13, 3) := dk_181 0 13 (dk_at dksX3_text_6 17 rfl rfl)
theorem dX3_text_161 : decode cX3_text 161 = .ok (.aload_n 0, 1) := dk_42 (dk_at dksX3_text_6 20 rfl rfl)
theorem dX3_text_162 : decode cX3_text 162 = .ok (.invokevirtual 94, 3) := dk_182 0 94 (dk_at dksX3_text_6 21 rfl rfl)
theorem dX3_text_165 : decode cX3_text 165 = .ok (.ifCond .ne 11, 3) := dk_154 0 11 (dk_at dksX3_text_7 0 rfl rfl)
theorem dX3_text_168 : decode cX3_text 168 = .ok (.aload_n 0, 1) := dk_42 (dk_at dksX3_text_7 3 rfl rfl)
theorem dX3_text_169 : decode cX3_text 169 = .ok (.getfield 88, 3) := dk_180 0 88 (dk_at dksX3_text_7 4 rfl rfl)
theorem dX3_text_172 : decode cX3_text 172 = .ok (.bipush 10, 2) := dk_16 10 (dk_at dksX3_text_7 7 rfl rfl)
theorem dX3_text_174 : decode cX3_text 174 = .ok (.isub, 1) := dk_100 (dk_at dksX3_text_7 9 rfl rfl)
theorem dX3_text_175 : decode cX3_text 175 = .ok (.ireturn, 1) := dk_172 (dk_at dksX3_text_7 10 rfl rfl)
theorem dX3_text_176 : decode cX3_text 176 = .ok (.aload_n 0, 1) := dk_42 (dk_at dksX3_text_7 11 rfl rfl)
theorem dX3_text_177 : decode cX3_text 177 = .ok (.invokevirtual 171, 3) := dk_182 0 171 (dk_at dksX3_text_7 12 rfl rfl)
theorem dX3_text_180 : decode cX3_text 180 = .ok (.aload_n 0, 1) := dk_42 (dk_at dksX3_text_7 15 rfl rfl)
theorem dX3_text_181 : decode cX3_text 181 = .ok (.getfield 23, 3) := dk_180 0 23 (dk_at dksX3_text_7 16 rfl rfl)
theorem dX3_text_184 : decode cX3_text 184 = .ok (.aload_n 0, 1) := dk_42 (dk_at dksX3_text_7 19 rfl rfl)
theorem dX3_text_185 : decode cX3_text 185 = .ok (.getfield 20, 3) := dk_180 0 20 (dk_at dksX3_text_7 20 rfl rfl)
theorem dX3_text_188 : decode cX3_text 188 = .ok (.invokestatic 174, 3) := dk_184 0 174 (dk_at dksX3_text_8 0 rfl rfl)
theorem dX3_text_191 : decode cX3_text 191 = .ok (.aload_n 0, 1) := dk_42 (dk_at dksX3_text_8 3 rfl rfl)
theorem dX3_text_192 : decode cX3_text 192 = .ok (.invokevirtual 69, 3) := dk_182 0 69 (dk_at dksX3_text_8 4 rfl rfl)
theorem dX3_text_195 : decode cX3_text 195 = .ok (.aload_n 0, 1) := dk_42 (dk_at dksX3_text_8 7 rfl rfl)
theorem dX3_text_196 : decode cX3_text 196 = .ok (.invokevirtual 178, 3) := dk_182 0 178 (dk_at dksX3_text_8 8 rfl rfl)
theorem dX3_text_199 : decode cX3_text 199 = .ok (.ireturn, 1) := dk_172 (dk_at dksX3_text_8 11 rfl rfl)
abbrev cX3_in : ByteArray := prog_12_method_5_code
def yX3_in : MethodName := ⟨RX3, "in", "(III)Z"⟩
def dkwX3_in_0 : List UInt8 := [26, 27, 161, 0, 12, 26, 28, 163, 0, 7, 4, 167, 0, 4, 3, 172]
abbrev dktX3_in_0 : List UInt8 := dkwX3_in_0 ++ []
theorem dksX3_in_0 : cX3_in.data.toList.drop 0 = dktX3_in_0 := by decide +kernel
theorem dX3_in_0 : decode cX3_in 0 = .ok (.iload_n 0, 1) := dk_26 (dk_at dksX3_in_0 0 rfl rfl)
theorem dX3_in_1 : decode cX3_in 1 = .ok (.iload_n 1, 1) := dk_27 (dk_at dksX3_in_0 1 rfl rfl)
theorem dX3_in_2 : decode cX3_in 2 = .ok (.if_icmp .lt 12, 3) := dk_161 0 12 (dk_at dksX3_in_0 2 rfl rfl)
theorem dX3_in_5 : decode cX3_in 5 = .ok (.iload_n 0, 1) := dk_26 (dk_at dksX3_in_0 5 rfl rfl)
theorem dX3_in_6 : decode cX3_in 6 = .ok (.iload_n 2, 1) := dk_28 (dk_at dksX3_in_0 6 rfl rfl)
theorem dX3_in_7 : decode cX3_in 7 = .ok (.if_icmp .gt 7, 3) := dk_163 0 7 (dk_at dksX3_in_0 7 rfl rfl)
theorem dX3_in_10 : decode cX3_in 10 = .ok (.iconst 1, 1) := dk_4 (dk_at dksX3_in_0 10 rfl rfl)
theorem dX3_in_11 : decode cX3_in 11 = .ok (.goto 4, 3) := dk_167 0 4 (dk_at dksX3_in_0 11 rfl rfl)
theorem dX3_in_14 : decode cX3_in 14 = .ok (.iconst 0, 1) := dk_3 (dk_at dksX3_in_0 14 rfl rfl)
theorem dX3_in_15 : decode cX3_in 15 = .ok (.ireturn, 1) := dk_172 (dk_at dksX3_in_0 15 rfl rfl)
abbrev cX3_bad : ByteArray := prog_12_method_4_code
def yX3_bad : MethodName := ⟨RX3, "bad", "(ZII)Z"⟩
def dkwX3_bad_1 : List UInt8 := [96, 79, 42, 180, 0, 72, 153, 0, 7, 4, 167, 0, 4, 3, 172]
abbrev dktX3_bad_1 : List UInt8 := dkwX3_bad_1 ++ []
def dkwX3_bad_0 : List UInt8 := [27, 153, 0, 25, 42, 180, 0, 72, 154, 0, 18, 42, 28, 181, 0, 72, 42, 180, 0, 9, 29, 92, 46, 4]
abbrev dktX3_bad_0 : List UInt8 := dkwX3_bad_0 ++ dktX3_bad_1
theorem dksX3_bad_0 : cX3_bad.data.toList.drop 0 = dktX3_bad_0 := by decide +kernel
theorem dksX3_bad_1 : cX3_bad.data.toList.drop 24 = dktX3_bad_1 := dk_seg dksX3_bad_0 24 rfl rfl
theorem dX3_bad_0 : decode cX3_bad 0 = .ok (.iload_n 1, 1) := dk_27 (dk_at dksX3_bad_0 0 rfl rfl)
theorem dX3_bad_1 : decode cX3_bad 1 = .ok (.ifCond .eq 25, 3) := dk_153 0 25 (dk_at dksX3_bad_0 1 rfl rfl)
theorem dX3_bad_4 : decode cX3_bad 4 = .ok (.aload_n 0, 1) := dk_42 (dk_at dksX3_bad_0 4 rfl rfl)
theorem dX3_bad_5 : decode cX3_bad 5 = .ok (.getfield 72, 3) := dk_180 0 72 (dk_at dksX3_bad_0 5 rfl rfl)
theorem dX3_bad_8 : decode cX3_bad 8 = .ok (.ifCond .ne 18, 3) := dk_154 0 18 (dk_at dksX3_bad_0 8 rfl rfl)
theorem dX3_bad_11 : decode cX3_bad 11 = .ok (.aload_n 0, 1) := dk_42 (dk_at dksX3_bad_0 11 rfl rfl)
theorem dX3_bad_12 : decode cX3_bad 12 = .ok (.iload_n 2, 1) := dk_28 (dk_at dksX3_bad_0 12 rfl rfl)
theorem dX3_bad_13 : decode cX3_bad 13 = .ok (.putfield 72, 3) := dk_181 0 72 (dk_at dksX3_bad_0 13 rfl rfl)
theorem dX3_bad_16 : decode cX3_bad 16 = .ok (.aload_n 0, 1) := dk_42 (dk_at dksX3_bad_0 16 rfl rfl)
theorem dX3_bad_17 : decode cX3_bad 17 = .ok (.getfield 9, 3) := dk_180 0 9 (dk_at dksX3_bad_0 17 rfl rfl)
theorem dX3_bad_20 : decode cX3_bad 20 = .ok (.iload_n 3, 1) := dk_29 (dk_at dksX3_bad_0 20 rfl rfl)
theorem dX3_bad_21 : decode cX3_bad 21 = .ok (.dup2, 1) := dk_92 (dk_at dksX3_bad_0 21 rfl rfl)
theorem dX3_bad_22 : decode cX3_bad 22 = .ok (.iaload, 1) := dk_46 (dk_at dksX3_bad_0 22 rfl rfl)
theorem dX3_bad_23 : decode cX3_bad 23 = .ok (.iconst 1, 1) := dk_4 (dk_at dksX3_bad_0 23 rfl rfl)
theorem dX3_bad_24 : decode cX3_bad 24 = .ok (.iadd, 1) := dk_96 (dk_at dksX3_bad_1 0 rfl rfl)
theorem dX3_bad_25 : decode cX3_bad 25 = .ok (.iastore, 1) := dk_79 (dk_at dksX3_bad_1 1 rfl rfl)
theorem dX3_bad_26 : decode cX3_bad 26 = .ok (.aload_n 0, 1) := dk_42 (dk_at dksX3_bad_1 2 rfl rfl)
theorem dX3_bad_27 : decode cX3_bad 27 = .ok (.getfield 72, 3) := dk_180 0 72 (dk_at dksX3_bad_1 3 rfl rfl)
theorem dX3_bad_30 : decode cX3_bad 30 = .ok (.ifCond .eq 7, 3) := dk_153 0 7 (dk_at dksX3_bad_1 6 rfl rfl)
theorem dX3_bad_33 : decode cX3_bad 33 = .ok (.iconst 1, 1) := dk_4 (dk_at dksX3_bad_1 9 rfl rfl)
theorem dX3_bad_34 : decode cX3_bad 34 = .ok (.goto 4, 3) := dk_167 0 4 (dk_at dksX3_bad_1 10 rfl rfl)
theorem dX3_bad_37 : decode cX3_bad 37 = .ok (.iconst 0, 1) := dk_3 (dk_at dksX3_bad_1 13 rfl rfl)
theorem dX3_bad_38 : decode cX3_bad 38 = .ok (.ireturn, 1) := dk_172 (dk_at dksX3_bad_1 14 rfl rfl)
abbrev cX3_takes : ByteArray := prog_12_method_15_code
def yX3_takes : MethodName := ⟨RX3, "takes", "(Ljava/lang/String;)Z"⟩
def dkwX3_takes_3 : List UInt8 := [184, 0, 111, 153, 0, 5, 3, 172, 42, 89, 180, 0, 81, 28, 96, 181, 0, 81, 4, 172]
abbrev dktX3_takes_3 : List UInt8 := dkwX3_takes_3 ++ []
def dkwX3_takes_2 : List UInt8 := [28, 43, 182, 0, 102, 161, 0, 23, 42, 42, 180, 0, 81, 28, 96, 182, 0, 84, 16, 97, 16, 122]
abbrev dktX3_takes_2 : List UInt8 := dkwX3_takes_2 ++ dktX3_takes_3
def dkwX3_takes_1 : List UInt8 := [42, 42, 180, 0, 81, 28, 96, 182, 0, 84, 43, 28, 182, 0, 107, 160, 0, 9, 132, 2, 1, 167, 255, 227]
abbrev dktX3_takes_1 : List UInt8 := dkwX3_takes_1 ++ dktX3_takes_2
def dkwX3_takes_0 : List UInt8 := [42, 182, 0, 94, 154, 0, 5, 3, 172, 42, 182, 0, 98, 87, 3, 61, 28, 43, 182, 0, 102, 162, 0, 27]
abbrev dktX3_takes_0 : List UInt8 := dkwX3_takes_0 ++ dktX3_takes_1
theorem dksX3_takes_0 : cX3_takes.data.toList.drop 0 = dktX3_takes_0 := by decide +kernel
theorem dksX3_takes_1 : cX3_takes.data.toList.drop 24 = dktX3_takes_1 := dk_seg dksX3_takes_0 24 rfl rfl
theorem dksX3_takes_2 : cX3_takes.data.toList.drop 48 = dktX3_takes_2 := dk_seg dksX3_takes_1 24 rfl rfl
theorem dksX3_takes_3 : cX3_takes.data.toList.drop 70 = dktX3_takes_3 := dk_seg dksX3_takes_2 22 rfl rfl
theorem dX3_takes_0 : decode cX3_takes 0 = .ok (.aload_n 0, 1) := dk_42 (dk_at dksX3_takes_0 0 rfl rfl)
theorem dX3_takes_1 : decode cX3_takes 1 = .ok (.invokevirtual 94, 3) := dk_182 0 94 (dk_at dksX3_takes_0 1 rfl rfl)
theorem dX3_takes_4 : decode cX3_takes 4 = .ok (.ifCond .ne 5, 3) := dk_154 0 5 (dk_at dksX3_takes_0 4 rfl rfl)
theorem dX3_takes_7 : decode cX3_takes 7 = .ok (.iconst 0, 1) := dk_3 (dk_at dksX3_takes_0 7 rfl rfl)
theorem dX3_takes_8 : decode cX3_takes 8 = .ok (.ireturn, 1) := dk_172 (dk_at dksX3_takes_0 8 rfl rfl)
theorem dX3_takes_9 : decode cX3_takes 9 = .ok (.aload_n 0, 1) := dk_42 (dk_at dksX3_takes_0 9 rfl rfl)
theorem dX3_takes_10 : decode cX3_takes 10 = .ok (.invokevirtual 98, 3) := dk_182 0 98 (dk_at dksX3_takes_0 10 rfl rfl)
theorem dX3_takes_13 : decode cX3_takes 13 = .ok (.pop, 1) := dk_87 (dk_at dksX3_takes_0 13 rfl rfl)
theorem dX3_takes_14 : decode cX3_takes 14 = .ok (.iconst 0, 1) := dk_3 (dk_at dksX3_takes_0 14 rfl rfl)
theorem dX3_takes_15 : decode cX3_takes 15 = .ok (.istore_n 2, 1) := dk_61 (dk_at dksX3_takes_0 15 rfl rfl)
theorem dX3_takes_16 : decode cX3_takes 16 = .ok (.iload_n 2, 1) := dk_28 (dk_at dksX3_takes_0 16 rfl rfl)
theorem dX3_takes_17 : decode cX3_takes 17 = .ok (.aload_n 1, 1) := dk_43 (dk_at dksX3_takes_0 17 rfl rfl)
theorem dX3_takes_18 : decode cX3_takes 18 = .ok (.invokevirtual 102, 3) := dk_182 0 102 (dk_at dksX3_takes_0 18 rfl rfl)
theorem dX3_takes_21 : decode cX3_takes 21 = .ok (.if_icmp .ge 27, 3) := dk_162 0 27 (dk_at dksX3_takes_0 21 rfl rfl)
theorem dX3_takes_24 : decode cX3_takes 24 = .ok (.aload_n 0, 1) := dk_42 (dk_at dksX3_takes_1 0 rfl rfl)
theorem dX3_takes_25 : decode cX3_takes 25 = .ok (.aload_n 0, 1) := dk_42 (dk_at dksX3_takes_1 1 rfl rfl)
theorem dX3_takes_26 : decode cX3_takes 26 = .ok (.getfield 81, 3) := dk_180 0 81 (dk_at dksX3_takes_1 2 rfl rfl)
theorem dX3_takes_29 : decode cX3_takes 29 = .ok (.iload_n 2, 1) := dk_28 (dk_at dksX3_takes_1 5 rfl rfl)
theorem dX3_takes_30 : decode cX3_takes 30 = .ok (.iadd, 1) := dk_96 (dk_at dksX3_takes_1 6 rfl rfl)
theorem dX3_takes_31 : decode cX3_takes 31 = .ok (.invokevirtual 84, 3) := dk_182 0 84 (dk_at dksX3_takes_1 7 rfl rfl)
theorem dX3_takes_34 : decode cX3_takes 34 = .ok (.aload_n 1, 1) := dk_43 (dk_at dksX3_takes_1 10 rfl rfl)
theorem dX3_takes_35 : decode cX3_takes 35 = .ok (.iload_n 2, 1) := dk_28 (dk_at dksX3_takes_1 11 rfl rfl)
theorem dX3_takes_36 : decode cX3_takes 36 = .ok (.invokevirtual 107, 3) := dk_182 0 107 (dk_at dksX3_takes_1 12 rfl rfl)
theorem dX3_takes_39 : decode cX3_takes 39 = .ok (.if_icmp .ne 9, 3) := dk_160 0 9 (dk_at dksX3_takes_1 15 rfl rfl)
theorem dX3_takes_42 : decode cX3_takes 42 = .ok (.iinc 2 1, 3) := dk_132 2 1 (dk_at dksX3_takes_1 18 rfl rfl)
theorem dX3_takes_45 : decode cX3_takes 45 = .ok (.goto (-29), 3) := dk_167 255 227 (dk_at dksX3_takes_1 21 rfl rfl)
theorem dX3_takes_48 : decode cX3_takes 48 = .ok (.iload_n 2, 1) := dk_28 (dk_at dksX3_takes_2 0 rfl rfl)
theorem dX3_takes_49 : decode cX3_takes 49 = .ok (.aload_n 1, 1) := dk_43 (dk_at dksX3_takes_2 1 rfl rfl)
theorem dX3_takes_50 : decode cX3_takes 50 = .ok (.invokevirtual 102, 3) := dk_182 0 102 (dk_at dksX3_takes_2 2 rfl rfl)
theorem dX3_takes_53 : decode cX3_takes 53 = .ok (.if_icmp .lt 23, 3) := dk_161 0 23 (dk_at dksX3_takes_2 5 rfl rfl)
theorem dX3_takes_56 : decode cX3_takes 56 = .ok (.aload_n 0, 1) := dk_42 (dk_at dksX3_takes_2 8 rfl rfl)
theorem dX3_takes_57 : decode cX3_takes 57 = .ok (.aload_n 0, 1) := dk_42 (dk_at dksX3_takes_2 9 rfl rfl)
theorem dX3_takes_58 : decode cX3_takes 58 = .ok (.getfield 81, 3) := dk_180 0 81 (dk_at dksX3_takes_2 10 rfl rfl)
theorem dX3_takes_61 : decode cX3_takes 61 = .ok (.iload_n 2, 1) := dk_28 (dk_at dksX3_takes_2 13 rfl rfl)
theorem dX3_takes_62 : decode cX3_takes 62 = .ok (.iadd, 1) := dk_96 (dk_at dksX3_takes_2 14 rfl rfl)
theorem dX3_takes_63 : decode cX3_takes 63 = .ok (.invokevirtual 84, 3) := dk_182 0 84 (dk_at dksX3_takes_2 15 rfl rfl)
theorem dX3_takes_66 : decode cX3_takes 66 = .ok (.bipush 97, 2) := dk_16 97 (dk_at dksX3_takes_2 18 rfl rfl)
theorem dX3_takes_68 : decode cX3_takes 68 = .ok (.bipush 122, 2) := dk_16 122 (dk_at dksX3_takes_2 20 rfl rfl)
theorem dX3_takes_70 : decode cX3_takes 70 = .ok (.invokestatic 111, 3) := dk_184 0 111 (dk_at dksX3_takes_3 0 rfl rfl)
theorem dX3_takes_73 : decode cX3_takes 73 = .ok (.ifCond .eq 5, 3) := dk_153 0 5 (dk_at dksX3_takes_3 3 rfl rfl)
theorem dX3_takes_76 : decode cX3_takes 76 = .ok (.iconst 0, 1) := dk_3 (dk_at dksX3_takes_3 6 rfl rfl)
theorem dX3_takes_77 : decode cX3_takes 77 = .ok (.ireturn, 1) := dk_172 (dk_at dksX3_takes_3 7 rfl rfl)
theorem dX3_takes_78 : decode cX3_takes 78 = .ok (.aload_n 0, 1) := dk_42 (dk_at dksX3_takes_3 8 rfl rfl)
theorem dX3_takes_79 : decode cX3_takes 79 = .ok (.dup, 1) := dk_89 (dk_at dksX3_takes_3 9 rfl rfl)
theorem dX3_takes_80 : decode cX3_takes 80 = .ok (.getfield 81, 3) := dk_180 0 81 (dk_at dksX3_takes_3 10 rfl rfl)
theorem dX3_takes_83 : decode cX3_takes 83 = .ok (.iload_n 2, 1) := dk_28 (dk_at dksX3_takes_3 13 rfl rfl)
theorem dX3_takes_84 : decode cX3_takes 84 = .ok (.iadd, 1) := dk_96 (dk_at dksX3_takes_3 14 rfl rfl)
theorem dX3_takes_85 : decode cX3_takes 85 = .ok (.putfield 81, 3) := dk_181 0 81 (dk_at dksX3_takes_3 15 rfl rfl)
theorem dX3_takes_88 : decode cX3_takes 88 = .ok (.iconst 1, 1) := dk_4 (dk_at dksX3_takes_3 18 rfl rfl)
theorem dX3_takes_89 : decode cX3_takes 89 = .ok (.ireturn, 1) := dk_172 (dk_at dksX3_takes_3 19 rfl rfl)
abbrev cX3_fine : ByteArray := prog_12_method_12_code
def yX3_fine : MethodName := ⟨RX3, "fine", "()Z"⟩
def dkwX3_fine_0 : List UInt8 := [42, 180, 0, 88, 154, 0, 7, 4, 167, 0, 4, 3, 172]
abbrev dktX3_fine_0 : List UInt8 := dkwX3_fine_0 ++ []
theorem dksX3_fine_0 : cX3_fine.data.toList.drop 0 = dktX3_fine_0 := by decide +kernel
theorem dX3_fine_0 : decode cX3_fine 0 = .ok (.aload_n 0, 1) := dk_42 (dk_at dksX3_fine_0 0 rfl rfl)
theorem dX3_fine_1 : decode cX3_fine 1 = .ok (.getfield 88, 3) := dk_180 0 88 (dk_at dksX3_fine_0 1 rfl rfl)
theorem dX3_fine_4 : decode cX3_fine 4 = .ok (.ifCond .ne 7, 3) := dk_154 0 7 (dk_at dksX3_fine_0 4 rfl rfl)
theorem dX3_fine_7 : decode cX3_fine 7 = .ok (.iconst 1, 1) := dk_4 (dk_at dksX3_fine_0 7 rfl rfl)
theorem dX3_fine_8 : decode cX3_fine 8 = .ok (.goto 4, 3) := dk_167 0 4 (dk_at dksX3_fine_0 8 rfl rfl)
theorem dX3_fine_11 : decode cX3_fine 11 = .ok (.iconst 0, 1) := dk_3 (dk_at dksX3_fine_0 11 rfl rfl)
theorem dX3_fine_12 : decode cX3_fine 12 = .ok (.ireturn, 1) := dk_172 (dk_at dksX3_fine_0 12 rfl rfl)
abbrev cX3_here : ByteArray := prog_12_method_11_code
def yX3_here : MethodName := ⟨RX3, "here", "()I"⟩
def dkwX3_here_1 : List UInt8 := [167, 255, 233, 42, 42, 180, 0, 81, 182, 0, 84, 172]
abbrev dktX3_here_1 : List UInt8 := dkwX3_here_1 ++ []
def dkwX3_here_0 : List UInt8 := [42, 42, 180, 0, 81, 182, 0, 84, 16, 32, 160, 0, 16, 42, 89, 180, 0, 81, 4, 96, 181, 0, 81]
abbrev dktX3_here_0 : List UInt8 := dkwX3_here_0 ++ dktX3_here_1
theorem dksX3_here_0 : cX3_here.data.toList.drop 0 = dktX3_here_0 := by decide +kernel
theorem dksX3_here_1 : cX3_here.data.toList.drop 23 = dktX3_here_1 := dk_seg dksX3_here_0 23 rfl rfl
theorem dX3_here_0 : decode cX3_here 0 = .ok (.aload_n 0, 1) := dk_42 (dk_at dksX3_here_0 0 rfl rfl)
theorem dX3_here_1 : decode cX3_here 1 = .ok (.aload_n 0, 1) := dk_42 (dk_at dksX3_here_0 1 rfl rfl)
theorem dX3_here_2 : decode cX3_here 2 = .ok (.getfield 81, 3) := dk_180 0 81 (dk_at dksX3_here_0 2 rfl rfl)
theorem dX3_here_5 : decode cX3_here 5 = .ok (.invokevirtual 84, 3) := dk_182 0 84 (dk_at dksX3_here_0 5 rfl rfl)
theorem dX3_here_8 : decode cX3_here 8 = .ok (.bipush 32, 2) := dk_16 32 (dk_at dksX3_here_0 8 rfl rfl)
theorem dX3_here_10 : decode cX3_here 10 = .ok (.if_icmp .ne 16, 3) := dk_160 0 16 (dk_at dksX3_here_0 10 rfl rfl)
theorem dX3_here_13 : decode cX3_here 13 = .ok (.aload_n 0, 1) := dk_42 (dk_at dksX3_here_0 13 rfl rfl)
theorem dX3_here_14 : decode cX3_here 14 = .ok (.dup, 1) := dk_89 (dk_at dksX3_here_0 14 rfl rfl)
theorem dX3_here_15 : decode cX3_here 15 = .ok (.getfield 81, 3) := dk_180 0 81 (dk_at dksX3_here_0 15 rfl rfl)
theorem dX3_here_18 : decode cX3_here 18 = .ok (.iconst 1, 1) := dk_4 (dk_at dksX3_here_0 18 rfl rfl)
theorem dX3_here_19 : decode cX3_here 19 = .ok (.iadd, 1) := dk_96 (dk_at dksX3_here_0 19 rfl rfl)
theorem dX3_here_20 : decode cX3_here 20 = .ok (.putfield 81, 3) := dk_181 0 81 (dk_at dksX3_here_0 20 rfl rfl)
theorem dX3_here_23 : decode cX3_here 23 = .ok (.goto (-23), 3) := dk_167 255 233 (dk_at dksX3_here_1 0 rfl rfl)
theorem dX3_here_26 : decode cX3_here 26 = .ok (.aload_n 0, 1) := dk_42 (dk_at dksX3_here_1 3 rfl rfl)
theorem dX3_here_27 : decode cX3_here 27 = .ok (.aload_n 0, 1) := dk_42 (dk_at dksX3_here_1 4 rfl rfl)
theorem dX3_here_28 : decode cX3_here 28 = .ok (.getfield 81, 3) := dk_180 0 81 (dk_at dksX3_here_1 5 rfl rfl)
theorem dX3_here_31 : decode cX3_here 31 = .ok (.invokevirtual 84, 3) := dk_182 0 84 (dk_at dksX3_here_1 8 rfl rfl)
theorem dX3_here_34 : decode cX3_here 34 = .ok (.ireturn, 1) := dk_172 (dk_at dksX3_here_1 11 rfl rfl)
abbrev cX3_byteAt : ByteArray := prog_12_method_10_code
def yX3_byteAt : MethodName := ⟨RX3, "byteAt", "(I)I"⟩
def dkwX3_byteAt_0 : List UInt8 := [27, 42, 180, 0, 78, 161, 0, 7, 2, 167, 0, 9, 42, 180, 0, 17, 27, 46, 172]
abbrev dktX3_byteAt_0 : List UInt8 := dkwX3_byteAt_0 ++ []
theorem dksX3_byteAt_0 : cX3_byteAt.data.toList.drop 0 = dktX3_byteAt_0 := by decide +kernel
theorem dX3_byteAt_0 : decode cX3_byteAt 0 = .ok (.iload_n 1, 1) := dk_27 (dk_at dksX3_byteAt_0 0 rfl rfl)
theorem dX3_byteAt_1 : decode cX3_byteAt 1 = .ok (.aload_n 0, 1) := dk_42 (dk_at dksX3_byteAt_0 1 rfl rfl)
theorem dX3_byteAt_2 : decode cX3_byteAt 2 = .ok (.getfield 78, 3) := dk_180 0 78 (dk_at dksX3_byteAt_0 2 rfl rfl)
theorem dX3_byteAt_5 : decode cX3_byteAt 5 = .ok (.if_icmp .lt 7, 3) := dk_161 0 7 (dk_at dksX3_byteAt_0 5 rfl rfl)
theorem dX3_byteAt_8 : decode cX3_byteAt 8 = .ok (.iconst (-1), 1) := dk_2 (dk_at dksX3_byteAt_0 8 rfl rfl)
theorem dX3_byteAt_9 : decode cX3_byteAt 9 = .ok (.goto 9, 3) := dk_167 0 9 (dk_at dksX3_byteAt_0 9 rfl rfl)
theorem dX3_byteAt_12 : decode cX3_byteAt 12 = .ok (.aload_n 0, 1) := dk_42 (dk_at dksX3_byteAt_0 12 rfl rfl)
theorem dX3_byteAt_13 : decode cX3_byteAt 13 = .ok (.getfield 17, 3) := dk_180 0 17 (dk_at dksX3_byteAt_0 13 rfl rfl)
theorem dX3_byteAt_16 : decode cX3_byteAt 16 = .ok (.iload_n 1, 1) := dk_27 (dk_at dksX3_byteAt_0 16 rfl rfl)
theorem dX3_byteAt_17 : decode cX3_byteAt 17 = .ok (.iaload, 1) := dk_46 (dk_at dksX3_byteAt_0 17 rfl rfl)
theorem dX3_byteAt_18 : decode cX3_byteAt 18 = .ok (.ireturn, 1) := dk_172 (dk_at dksX3_byteAt_0 18 rfl rfl)
abbrev cX3_wrong : ByteArray := prog_12_method_13_code
def yX3_wrong : MethodName := ⟨RX3, "wrong", "(II)V"⟩
def dkwX3_wrong_0 : List UInt8 := [42, 180, 0, 88, 154, 0, 13, 42, 27, 181, 0, 88, 42, 28, 181, 0, 91, 177]
abbrev dktX3_wrong_0 : List UInt8 := dkwX3_wrong_0 ++ []
theorem dksX3_wrong_0 : cX3_wrong.data.toList.drop 0 = dktX3_wrong_0 := by decide +kernel
theorem dX3_wrong_0 : decode cX3_wrong 0 = .ok (.aload_n 0, 1) := dk_42 (dk_at dksX3_wrong_0 0 rfl rfl)
theorem dX3_wrong_1 : decode cX3_wrong 1 = .ok (.getfield 88, 3) := dk_180 0 88 (dk_at dksX3_wrong_0 1 rfl rfl)
theorem dX3_wrong_4 : decode cX3_wrong 4 = .ok (.ifCond .ne 13, 3) := dk_154 0 13 (dk_at dksX3_wrong_0 4 rfl rfl)
theorem dX3_wrong_7 : decode cX3_wrong 7 = .ok (.aload_n 0, 1) := dk_42 (dk_at dksX3_wrong_0 7 rfl rfl)
theorem dX3_wrong_8 : decode cX3_wrong 8 = .ok (.iload_n 1, 1) := dk_27 (dk_at dksX3_wrong_0 8 rfl rfl)
theorem dX3_wrong_9 : decode cX3_wrong 9 = .ok (.putfield 88, 3) := dk_181 0 88 (dk_at dksX3_wrong_0 9 rfl rfl)
theorem dX3_wrong_12 : decode cX3_wrong 12 = .ok (.aload_n 0, 1) := dk_42 (dk_at dksX3_wrong_0 12 rfl rfl)
theorem dX3_wrong_13 : decode cX3_wrong 13 = .ok (.iload_n 2, 1) := dk_28 (dk_at dksX3_wrong_0 13 rfl rfl)
theorem dX3_wrong_14 : decode cX3_wrong 14 = .ok (.putfield 91, 3) := dk_181 0 91 (dk_at dksX3_wrong_0 14 rfl rfl)
theorem dX3_wrong_17 : decode cX3_wrong 17 = .ok (.return_, 1) := dk_177 (dk_at dksX3_wrong_0 17 rfl rfl)
abbrev cX3_number : ByteArray := prog_12_method_17_code
def yX3_number : MethodName := ⟨RX3, "number", "(III)I"⟩
def dkwX3_number_5 : List UInt8 := [160, 0, 10, 42, 5, 21, 4, 182, 0, 115, 21, 5, 172]
abbrev dktX3_number_5 : List UInt8 := dkwX3_number_5 ++ []
def dkwX3_number_4 : List UInt8 := [27, 28, 184, 0, 111, 153, 0, 20, 21, 5, 16, 12, 162, 0, 20, 29, 21, 5, 122, 4, 126, 4]
abbrev dktX3_number_4 : List UInt8 := dkwX3_number_4 ++ dktX3_number_5
def dkwX3_number_3 : List UInt8 := [96, 16, 48, 100, 184, 0, 124, 54, 5, 42, 89, 180, 0, 81, 4, 96, 181, 0, 81, 167, 255, 208, 21, 5]
abbrev dktX3_number_3 : List UInt8 := dkwX3_number_3 ++ dktX3_number_4
def dkwX3_number_2 : List UInt8 := [182, 0, 84, 184, 0, 119, 153, 0, 40, 18, 123, 16, 10, 21, 5, 104, 42, 42, 180, 0, 81, 182, 0, 84]
abbrev dktX3_number_2 : List UInt8 := dkwX3_number_2 ++ dktX3_number_3
def dkwX3_number_1 : List UInt8 := [180, 0, 81, 182, 0, 115, 3, 172, 42, 180, 0, 81, 54, 4, 3, 54, 5, 42, 42, 180, 0, 81]
abbrev dktX3_number_1 : List UInt8 := dkwX3_number_1 ++ dktX3_number_2
def dkwX3_number_0 : List UInt8 := [42, 182, 0, 94, 154, 0, 5, 3, 172, 42, 182, 0, 98, 184, 0, 119, 154, 0, 14, 42, 4, 42]
abbrev dktX3_number_0 : List UInt8 := dkwX3_number_0 ++ dktX3_number_1
theorem dksX3_number_0 : cX3_number.data.toList.drop 0 = dktX3_number_0 := by decide +kernel
theorem dksX3_number_1 : cX3_number.data.toList.drop 22 = dktX3_number_1 := dk_seg dksX3_number_0 22 rfl rfl
theorem dksX3_number_2 : cX3_number.data.toList.drop 44 = dktX3_number_2 := dk_seg dksX3_number_1 22 rfl rfl
theorem dksX3_number_3 : cX3_number.data.toList.drop 68 = dktX3_number_3 := dk_seg dksX3_number_2 24 rfl rfl
theorem dksX3_number_4 : cX3_number.data.toList.drop 92 = dktX3_number_4 := dk_seg dksX3_number_3 24 rfl rfl
theorem dksX3_number_5 : cX3_number.data.toList.drop 114 = dktX3_number_5 := dk_seg dksX3_number_4 22 rfl rfl
theorem dX3_number_0 : decode cX3_number 0 = .ok (.aload_n 0, 1) := dk_42 (dk_at dksX3_number_0 0 rfl rfl)
theorem dX3_number_1 : decode cX3_number 1 = .ok (.invokevirtual 94, 3) := dk_182 0 94 (dk_at dksX3_number_0 1 rfl rfl)
theorem dX3_number_4 : decode cX3_number 4 = .ok (.ifCond .ne 5, 3) := dk_154 0 5 (dk_at dksX3_number_0 4 rfl rfl)
theorem dX3_number_7 : decode cX3_number 7 = .ok (.iconst 0, 1) := dk_3 (dk_at dksX3_number_0 7 rfl rfl)
theorem dX3_number_8 : decode cX3_number 8 = .ok (.ireturn, 1) := dk_172 (dk_at dksX3_number_0 8 rfl rfl)
theorem dX3_number_9 : decode cX3_number 9 = .ok (.aload_n 0, 1) := dk_42 (dk_at dksX3_number_0 9 rfl rfl)
theorem dX3_number_10 : decode cX3_number 10 = .ok (.invokevirtual 98, 3) := dk_182 0 98 (dk_at dksX3_number_0 10 rfl rfl)
theorem dX3_number_13 : decode cX3_number 13 = .ok (.invokestatic 119, 3) := dk_184 0 119 (dk_at dksX3_number_0 13 rfl rfl)
theorem dX3_number_16 : decode cX3_number 16 = .ok (.ifCond .ne 14, 3) := dk_154 0 14 (dk_at dksX3_number_0 16 rfl rfl)
theorem dX3_number_19 : decode cX3_number 19 = .ok (.aload_n 0, 1) := dk_42 (dk_at dksX3_number_0 19 rfl rfl)
theorem dX3_number_20 : decode cX3_number 20 = .ok (.iconst 1, 1) := dk_4 (dk_at dksX3_number_0 20 rfl rfl)
theorem dX3_number_21 : decode cX3_number 21 = .ok (.aload_n 0, 1) := dk_42 (dk_at dksX3_number_0 21 rfl rfl)
theorem dX3_number_22 : decode cX3_number 22 = .ok (.getfield 81, 3) := dk_180 0 81 (dk_at dksX3_number_1 0 rfl rfl)
theorem dX3_number_25 : decode cX3_number 25 = .ok (.invokevirtual 115, 3) := dk_182 0 115 (dk_at dksX3_number_1 3 rfl rfl)
theorem dX3_number_28 : decode cX3_number 28 = .ok (.iconst 0, 1) := dk_3 (dk_at dksX3_number_1 6 rfl rfl)
theorem dX3_number_29 : decode cX3_number 29 = .ok (.ireturn, 1) := dk_172 (dk_at dksX3_number_1 7 rfl rfl)
theorem dX3_number_30 : decode cX3_number 30 = .ok (.aload_n 0, 1) := dk_42 (dk_at dksX3_number_1 8 rfl rfl)
theorem dX3_number_31 : decode cX3_number 31 = .ok (.getfield 81, 3) := dk_180 0 81 (dk_at dksX3_number_1 9 rfl rfl)
theorem dX3_number_34 : decode cX3_number 34 = .ok (.istore 4, 2) := dk_54 4 (dk_at dksX3_number_1 12 rfl rfl)
theorem dX3_number_36 : decode cX3_number 36 = .ok (.iconst 0, 1) := dk_3 (dk_at dksX3_number_1 14 rfl rfl)
theorem dX3_number_37 : decode cX3_number 37 = .ok (.istore 5, 2) := dk_54 5 (dk_at dksX3_number_1 15 rfl rfl)
theorem dX3_number_39 : decode cX3_number 39 = .ok (.aload_n 0, 1) := dk_42 (dk_at dksX3_number_1 17 rfl rfl)
theorem dX3_number_40 : decode cX3_number 40 = .ok (.aload_n 0, 1) := dk_42 (dk_at dksX3_number_1 18 rfl rfl)
theorem dX3_number_41 : decode cX3_number 41 = .ok (.getfield 81, 3) := dk_180 0 81 (dk_at dksX3_number_1 19 rfl rfl)
theorem dX3_number_44 : decode cX3_number 44 = .ok (.invokevirtual 84, 3) := dk_182 0 84 (dk_at dksX3_number_2 0 rfl rfl)
theorem dX3_number_47 : decode cX3_number 47 = .ok (.invokestatic 119, 3) := dk_184 0 119 (dk_at dksX3_number_2 3 rfl rfl)
theorem dX3_number_50 : decode cX3_number 50 = .ok (.ifCond .eq 40, 3) := dk_153 0 40 (dk_at dksX3_number_2 6 rfl rfl)
theorem dX3_number_53 : decode cX3_number 53 = .ok (.ldc 123, 2) := dk_18 123 (dk_at dksX3_number_2 9 rfl rfl)
theorem dX3_number_55 : decode cX3_number 55 = .ok (.bipush 10, 2) := dk_16 10 (dk_at dksX3_number_2 11 rfl rfl)
theorem dX3_number_57 : decode cX3_number 57 = .ok (.iload 5, 2) := dk_21 5 (dk_at dksX3_number_2 13 rfl rfl)
theorem dX3_number_59 : decode cX3_number 59 = .ok (.imul, 1) := dk_104 (dk_at dksX3_number_2 15 rfl rfl)
theorem dX3_number_60 : decode cX3_number 60 = .ok (.aload_n 0, 1) := dk_42 (dk_at dksX3_number_2 16 rfl rfl)
theorem dX3_number_61 : decode cX3_number 61 = .ok (.aload_n 0, 1) := dk_42 (dk_at dksX3_number_2 17 rfl rfl)
theorem dX3_number_62 : decode cX3_number 62 = .ok (.getfield 81, 3) := dk_180 0 81 (dk_at dksX3_number_2 18 rfl rfl)
theorem dX3_number_65 : decode cX3_number 65 = .ok (.invokevirtual 84, 3) := dk_182 0 84 (dk_at dksX3_number_2 21 rfl rfl)
theorem dX3_number_68 : decode cX3_number 68 = .ok (.iadd, 1) := dk_96 (dk_at dksX3_number_3 0 rfl rfl)
theorem dX3_number_69 : decode cX3_number 69 = .ok (.bipush 48, 2) := dk_16 48 (dk_at dksX3_number_3 1 rfl rfl)
theorem dX3_number_71 : decode cX3_number 71 = .ok (.isub, 1) := dk_100 (dk_at dksX3_number_3 3 rfl rfl)
theorem dX3_number_72 : decode cX3_number 72 = .ok (.invokestatic 124, 3) := dk_184 0 124 (dk_at dksX3_number_3 4 rfl rfl)
theorem dX3_number_75 : decode cX3_number 75 = .ok (.istore 5, 2) := dk_54 5 (dk_at dksX3_number_3 7 rfl rfl)
theorem dX3_number_77 : decode cX3_number 77 = .ok (.aload_n 0, 1) := dk_42 (dk_at dksX3_number_3 9 rfl rfl)
theorem dX3_number_78 : decode cX3_number 78 = .ok (.dup, 1) := dk_89 (dk_at dksX3_number_3 10 rfl rfl)
theorem dX3_number_79 : decode cX3_number 79 = .ok (.getfield 81, 3) := dk_180 0 81 (dk_at dksX3_number_3 11 rfl rfl)
theorem dX3_number_82 : decode cX3_number 82 = .ok (.iconst 1, 1) := dk_4 (dk_at dksX3_number_3 14 rfl rfl)
theorem dX3_number_83 : decode cX3_number 83 = .ok (.iadd, 1) := dk_96 (dk_at dksX3_number_3 15 rfl rfl)
theorem dX3_number_84 : decode cX3_number 84 = .ok (.putfield 81, 3) := dk_181 0 81 (dk_at dksX3_number_3 16 rfl rfl)
theorem dX3_number_87 : decode cX3_number 87 = .ok (.goto (-48), 3) := dk_167 255 208 (dk_at dksX3_number_3 19 rfl rfl)
theorem dX3_number_90 : decode cX3_number 90 = .ok (.iload 5, 2) := dk_21 5 (dk_at dksX3_number_3 22 rfl rfl)
theorem dX3_number_92 : decode cX3_number 92 = .ok (.iload_n 1, 1) := dk_27 (dk_at dksX3_number_4 0 rfl rfl)
theorem dX3_number_93 : decode cX3_number 93 = .ok (.iload_n 2, 1) := dk_28 (dk_at dksX3_number_4 1 rfl rfl)
theorem dX3_number_94 : decode cX3_number 94 = .ok (.invokestatic 111, 3) := dk_184 0 111 (dk_at dksX3_number_4 2 rfl rfl)
theorem dX3_number_97 : decode cX3_number 97 = .ok (.ifCond .eq 20, 3) := dk_153 0 20 (dk_at dksX3_number_4 5 rfl rfl)
theorem dX3_number_100 : decode cX3_number 100 = .ok (.iload 5, 2) := dk_21 5 (dk_at dksX3_number_4 8 rfl rfl)
theorem dX3_number_102 : decode cX3_number 102 = .ok (.bipush 12, 2) := dk_16 12 (dk_at dksX3_number_4 10 rfl rfl)
theorem dX3_number_104 : decode cX3_number 104 = .ok (.if_icmp .ge 20, 3) := dk_162 0 20 (dk_at dksX3_number_4 12 rfl rfl)
theorem dX3_number_107 : decode cX3_number 107 = .ok (.iload_n 3, 1) := dk_29 (dk_at dksX3_number_4 15 rfl rfl)
theorem dX3_number_108 : decode cX3_number 108 = .ok (.iload 5, 2) := dk_21 5 (dk_at dksX3_number_4 16 rfl rfl)
theorem dX3_number_110 : decode cX3_number 110 = .ok (.ishr, 1) := dk_122 (dk_at dksX3_number_4 18 rfl rfl)
theorem dX3_number_111 : decode cX3_number 111 = .ok (.iconst 1, 1) := dk_4 (dk_at dksX3_number_4 19 rfl rfl)
theorem dX3_number_112 : decode cX3_number 112 = .ok (.iand, 1) := dk_126 (dk_at dksX3_number_4 20 rfl rfl)
theorem dX3_number_113 : decode cX3_number 113 = .ok (.iconst 1, 1) := dk_4 (dk_at dksX3_number_4 21 rfl rfl)
theorem dX3_number_114 : decode cX3_number 114 = .ok (.if_icmp .ne 10, 3) := dk_160 0 10 (dk_at dksX3_number_5 0 rfl rfl)
theorem dX3_number_117 : decode cX3_number 117 = .ok (.aload_n 0, 1) := dk_42 (dk_at dksX3_number_5 3 rfl rfl)
theorem dX3_number_118 : decode cX3_number 118 = .ok (.iconst 2, 1) := dk_5 (dk_at dksX3_number_5 4 rfl rfl)
theorem dX3_number_119 : decode cX3_number 119 = .ok (.iload 4, 2) := dk_21 4 (dk_at dksX3_number_5 5 rfl rfl)
theorem dX3_number_121 : decode cX3_number 121 = .ok (.invokevirtual 115, 3) := dk_182 0 115 (dk_at dksX3_number_5 7 rfl rfl)
theorem dX3_number_124 : decode cX3_number 124 = .ok (.iload 5, 2) := dk_21 5 (dk_at dksX3_number_5 10 rfl rfl)
theorem dX3_number_126 : decode cX3_number 126 = .ok (.ireturn, 1) := dk_172 (dk_at dksX3_number_5 12 rfl rfl)
abbrev cX3_isDigit : ByteArray := prog_12_method_14_code
def yX3_isDigit : MethodName := ⟨RX3, "isDigit", "(I)Z"⟩
def dkwX3_isDigit_0 : List UInt8 := [26, 16, 48, 161, 0, 13, 26, 16, 57, 163, 0, 7, 4, 167, 0, 4, 3, 172]
abbrev dktX3_isDigit_0 : List UInt8 := dkwX3_isDigit_0 ++ []
theorem dksX3_isDigit_0 : cX3_isDigit.data.toList.drop 0 = dktX3_isDigit_0 := by decide +kernel
theorem dX3_isDigit_0 : decode cX3_isDigit 0 = .ok (.iload_n 0, 1) := dk_26 (dk_at dksX3_isDigit_0 0 rfl rfl)
theorem dX3_isDigit_1 : decode cX3_isDigit 1 = .ok (.bipush 48, 2) := dk_16 48 (dk_at dksX3_isDigit_0 1 rfl rfl)
theorem dX3_isDigit_3 : decode cX3_isDigit 3 = .ok (.if_icmp .lt 13, 3) := dk_161 0 13 (dk_at dksX3_isDigit_0 3 rfl rfl)
theorem dX3_isDigit_6 : decode cX3_isDigit 6 = .ok (.iload_n 0, 1) := dk_26 (dk_at dksX3_isDigit_0 6 rfl rfl)
theorem dX3_isDigit_7 : decode cX3_isDigit 7 = .ok (.bipush 57, 2) := dk_16 57 (dk_at dksX3_isDigit_0 7 rfl rfl)
theorem dX3_isDigit_9 : decode cX3_isDigit 9 = .ok (.if_icmp .gt 7, 3) := dk_163 0 7 (dk_at dksX3_isDigit_0 9 rfl rfl)
theorem dX3_isDigit_12 : decode cX3_isDigit 12 = .ok (.iconst 1, 1) := dk_4 (dk_at dksX3_isDigit_0 12 rfl rfl)
theorem dX3_isDigit_13 : decode cX3_isDigit 13 = .ok (.goto 4, 3) := dk_167 0 4 (dk_at dksX3_isDigit_0 13 rfl rfl)
theorem dX3_isDigit_16 : decode cX3_isDigit 16 = .ok (.iconst 0, 1) := dk_3 (dk_at dksX3_isDigit_0 16 rfl rfl)
theorem dX3_isDigit_17 : decode cX3_isDigit 17 = .ok (.ireturn, 1) := dk_172 (dk_at dksX3_isDigit_0 17 rfl rfl)
abbrev cX3_less : ByteArray := prog_12_method_6_code
def yX3_less : MethodName := ⟨RX3, "less", "(II)I"⟩
def dkwX3_less_0 : List UInt8 := [26, 27, 162, 0, 7, 26, 167, 0, 4, 27, 172]
abbrev dktX3_less_0 : List UInt8 := dkwX3_less_0 ++ []
theorem dksX3_less_0 : cX3_less.data.toList.drop 0 = dktX3_less_0 := by decide +kernel
theorem dX3_less_0 : decode cX3_less 0 = .ok (.iload_n 0, 1) := dk_26 (dk_at dksX3_less_0 0 rfl rfl)
theorem dX3_less_1 : decode cX3_less 1 = .ok (.iload_n 1, 1) := dk_27 (dk_at dksX3_less_0 1 rfl rfl)
theorem dX3_less_2 : decode cX3_less 2 = .ok (.if_icmp .ge 7, 3) := dk_162 0 7 (dk_at dksX3_less_0 2 rfl rfl)
theorem dX3_less_5 : decode cX3_less 5 = .ok (.iload_n 0, 1) := dk_26 (dk_at dksX3_less_0 5 rfl rfl)
theorem dX3_less_6 : decode cX3_less 6 = .ok (.goto 4, 3) := dk_167 0 4 (dk_at dksX3_less_0 6 rfl rfl)
theorem dX3_less_9 : decode cX3_less 9 = .ok (.iload_n 1, 1) := dk_27 (dk_at dksX3_less_0 9 rfl rfl)
theorem dX3_less_10 : decode cX3_less 10 = .ok (.ireturn, 1) := dk_172 (dk_at dksX3_less_0 10 rfl rfl)
abbrev cX3_must : ByteArray := prog_12_method_16_code
def yX3_must : MethodName := ⟨RX3, "must", "(I)V"⟩
def dkwX3_must_1 : List UInt8 := [181, 0, 81, 167, 0, 12, 42, 4, 42, 180, 0, 81, 182, 0, 115, 177]
abbrev dktX3_must_1 : List UInt8 := dkwX3_must_1 ++ []
def dkwX3_must_0 : List UInt8 := [42, 182, 0, 94, 154, 0, 4, 177, 42, 182, 0, 98, 27, 160, 0, 16, 42, 89, 180, 0, 81, 4, 96]
abbrev dktX3_must_0 : List UInt8 := dkwX3_must_0 ++ dktX3_must_1
theorem dksX3_must_0 : cX3_must.data.toList.drop 0 = dktX3_must_0 := by decide +kernel
theorem dksX3_must_1 : cX3_must.data.toList.drop 23 = dktX3_must_1 := dk_seg dksX3_must_0 23 rfl rfl
theorem dX3_must_0 : decode cX3_must 0 = .ok (.aload_n 0, 1) := dk_42 (dk_at dksX3_must_0 0 rfl rfl)
theorem dX3_must_1 : decode cX3_must 1 = .ok (.invokevirtual 94, 3) := dk_182 0 94 (dk_at dksX3_must_0 1 rfl rfl)
theorem dX3_must_4 : decode cX3_must 4 = .ok (.ifCond .ne 4, 3) := dk_154 0 4 (dk_at dksX3_must_0 4 rfl rfl)
theorem dX3_must_7 : decode cX3_must 7 = .ok (.return_, 1) := dk_177 (dk_at dksX3_must_0 7 rfl rfl)
theorem dX3_must_8 : decode cX3_must 8 = .ok (.aload_n 0, 1) := dk_42 (dk_at dksX3_must_0 8 rfl rfl)
theorem dX3_must_9 : decode cX3_must 9 = .ok (.invokevirtual 98, 3) := dk_182 0 98 (dk_at dksX3_must_0 9 rfl rfl)
theorem dX3_must_12 : decode cX3_must 12 = .ok (.iload_n 1, 1) := dk_27 (dk_at dksX3_must_0 12 rfl rfl)
theorem dX3_must_13 : decode cX3_must 13 = .ok (.if_icmp .ne 16, 3) := dk_160 0 16 (dk_at dksX3_must_0 13 rfl rfl)
theorem dX3_must_16 : decode cX3_must 16 = .ok (.aload_n 0, 1) := dk_42 (dk_at dksX3_must_0 16 rfl rfl)
theorem dX3_must_17 : decode cX3_must 17 = .ok (.dup, 1) := dk_89 (dk_at dksX3_must_0 17 rfl rfl)
theorem dX3_must_18 : decode cX3_must 18 = .ok (.getfield 81, 3) := dk_180 0 81 (dk_at dksX3_must_0 18 rfl rfl)
theorem dX3_must_21 : decode cX3_must 21 = .ok (.iconst 1, 1) := dk_4 (dk_at dksX3_must_0 21 rfl rfl)
theorem dX3_must_22 : decode cX3_must 22 = .ok (.iadd, 1) := dk_96 (dk_at dksX3_must_0 22 rfl rfl)
theorem dX3_must_23 : decode cX3_must 23 = .ok (.putfield 81, 3) := dk_181 0 81 (dk_at dksX3_must_1 0 rfl rfl)
theorem dX3_must_26 : decode cX3_must 26 = .ok (.goto 12, 3) := dk_167 0 12 (dk_at dksX3_must_1 3 rfl rfl)
theorem dX3_must_29 : decode cX3_must 29 = .ok (.aload_n 0, 1) := dk_42 (dk_at dksX3_must_1 6 rfl rfl)
theorem dX3_must_30 : decode cX3_must 30 = .ok (.iconst 1, 1) := dk_4 (dk_at dksX3_must_1 7 rfl rfl)
theorem dX3_must_31 : decode cX3_must 31 = .ok (.aload_n 0, 1) := dk_42 (dk_at dksX3_must_1 8 rfl rfl)
theorem dX3_must_32 : decode cX3_must 32 = .ok (.getfield 81, 3) := dk_180 0 81 (dk_at dksX3_must_1 9 rfl rfl)
theorem dX3_must_35 : decode cX3_must 35 = .ok (.invokevirtual 115, 3) := dk_182 0 115 (dk_at dksX3_must_1 12 rfl rfl)
theorem dX3_must_38 : decode cX3_must 38 = .ok (.return_, 1) := dk_177 (dk_at dksX3_must_1 15 rfl rfl)
abbrev cX3_readsLine : ByteArray := prog_12_method_21_code
def yX3_readsLine : MethodName := ⟨RX3, "readsLine", "()V"⟩
def dkwX3_readsLine_10 : List UInt8 := [181, 0, 152, 167, 0, 9, 42, 4, 27, 182, 0, 115, 42, 16, 59, 182, 0, 155, 177]
abbrev dktX3_readsLine_10 : List UInt8 := dkwX3_readsLine_10 ++ []
def dkwX3_readsLine_9 : List UInt8 := [180, 0, 152, 28, 79, 42, 180, 0, 31, 42, 180, 0, 152, 4, 96, 29, 79, 42, 89, 180, 0, 152, 5, 96]
abbrev dktX3_readsLine_9 : List UInt8 := dkwX3_readsLine_9 ++ dktX3_readsLine_10
def dkwX3_readsLine_8 : List UInt8 := [28, 120, 167, 0, 4, 3, 182, 0, 131, 62, 42, 182, 0, 94, 153, 0, 35, 42, 180, 0, 31, 42]
abbrev dktX3_readsLine_8 : List UInt8 := dkwX3_readsLine_8 ++ dktX3_readsLine_9
def dkwX3_readsLine_7 : List UInt8 := [42, 18, 150, 182, 0, 139, 153, 0, 70, 42, 3, 182, 0, 131, 61, 42, 42, 182, 0, 94, 153, 0, 9, 4]
abbrev dktX3_readsLine_7 : List UInt8 := dkwX3_readsLine_7 ++ dktX3_readsLine_8
def dkwX3_readsLine_6 : List UInt8 := [162, 0, 15, 42, 28, 29, 182, 0, 134, 132, 3, 1, 167, 255, 242, 132, 2, 1, 167, 255, 224, 167, 0, 85]
abbrev dktX3_readsLine_6 : List UInt8 := dkwX3_readsLine_6 ++ dktX3_readsLine_7
def dkwX3_readsLine_5 : List UInt8 := [182, 0, 139, 153, 0, 43, 3, 61, 28, 42, 180, 0, 23, 3, 46, 162, 0, 28, 3, 62, 29, 28]
abbrev dktX3_readsLine_5 : List UInt8 := dkwX3_readsLine_5 ++ dktX3_readsLine_6
def dkwX3_readsLine_4 : List UInt8 := [167, 0, 150, 42, 18, 143, 182, 0, 139, 153, 0, 10, 42, 182, 0, 145, 167, 0, 134, 42, 18, 148]
abbrev dktX3_readsLine_4 : List UInt8 := dkwX3_readsLine_4 ++ dktX3_readsLine_5
def dkwX3_readsLine_3 : List UInt8 := [182, 0, 128, 54, 4, 42, 182, 0, 94, 153, 0, 14, 42, 180, 0, 23, 28, 29, 21, 4, 184, 0, 65]
abbrev dktX3_readsLine_3 : List UInt8 := dkwX3_readsLine_3 ++ dktX3_readsLine_4
def dkwX3_readsLine_2 : List UInt8 := [182, 0, 94, 153, 0, 24, 42, 182, 0, 98, 184, 0, 119, 153, 0, 14, 42, 3, 17, 3, 231, 3]
abbrev dktX3_readsLine_2 : List UInt8 := dkwX3_readsLine_2 ++ dktX3_readsLine_3
def dkwX3_readsLine_1 : List UInt8 := [61, 42, 42, 182, 0, 94, 153, 0, 9, 4, 28, 120, 167, 0, 4, 3, 182, 0, 131, 62, 4, 54, 4, 42]
abbrev dktX3_readsLine_1 : List UInt8 := dkwX3_readsLine_1 ++ dktX3_readsLine_2
def dkwX3_readsLine_0 : List UInt8 := [42, 182, 0, 98, 87, 42, 180, 0, 81, 60, 42, 18, 137, 182, 0, 139, 153, 0, 80, 42, 3, 182, 0, 131]
abbrev dktX3_readsLine_0 : List UInt8 := dkwX3_readsLine_0 ++ dktX3_readsLine_1
theorem dksX3_readsLine_0 : cX3_readsLine.data.toList.drop 0 = dktX3_readsLine_0 := by decide +kernel
theorem dksX3_readsLine_1 : cX3_readsLine.data.toList.drop 24 = dktX3_readsLine_1 := dk_seg dksX3_readsLine_0 24 rfl rfl
theorem dksX3_readsLine_2 : cX3_readsLine.data.toList.drop 48 = dktX3_readsLine_2 := dk_seg dksX3_readsLine_1 24 rfl rfl
theorem dksX3_readsLine_3 : cX3_readsLine.data.toList.drop 70 = dktX3_readsLine_3 := dk_seg dksX3_readsLine_2 22 rfl rfl
theorem dksX3_readsLine_4 : cX3_readsLine.data.toList.drop 93 = dktX3_readsLine_4 := dk_seg dksX3_readsLine_3 23 rfl rfl
theorem dksX3_readsLine_5 : cX3_readsLine.data.toList.drop 115 = dktX3_readsLine_5 := dk_seg dksX3_readsLine_4 22 rfl rfl
theorem dksX3_readsLine_6 : cX3_readsLine.data.toList.drop 137 = dktX3_readsLine_6 := dk_seg dksX3_readsLine_5 22 rfl rfl
theorem dksX3_readsLine_7 : cX3_readsLine.data.toList.drop 161 = dktX3_readsLine_7 := dk_seg dksX3_readsLine_6 24 rfl rfl
theorem dksX3_readsLine_8 : cX3_readsLine.data.toList.drop 185 = dktX3_readsLine_8 := dk_seg dksX3_readsLine_7 24 rfl rfl
theorem dksX3_readsLine_9 : cX3_readsLine.data.toList.drop 207 = dktX3_readsLine_9 := dk_seg dksX3_readsLine_8 22 rfl rfl
theorem dksX3_readsLine_10 : cX3_readsLine.data.toList.drop 231 = dktX3_readsLine_10 := dk_seg dksX3_readsLine_9 24 rfl rfl
theorem dX3_readsLine_0 : decode cX3_readsLine 0 = .ok (.aload_n 0, 1) := dk_42 (dk_at dksX3_readsLine_0 0 rfl rfl)
theorem dX3_readsLine_1 : decode cX3_readsLine 1 = .ok (.invokevirtual 98, 3) := dk_182 0 98 (dk_at dksX3_readsLine_0 1 rfl rfl)
theorem dX3_readsLine_4 : decode cX3_readsLine 4 = .ok (.pop, 1) := dk_87 (dk_at dksX3_readsLine_0 4 rfl rfl)
theorem dX3_readsLine_5 : decode cX3_readsLine 5 = .ok (.aload_n 0, 1) := dk_42 (dk_at dksX3_readsLine_0 5 rfl rfl)
theorem dX3_readsLine_6 : decode cX3_readsLine 6 = .ok (.getfield 81, 3) := dk_180 0 81 (dk_at dksX3_readsLine_0 6 rfl rfl)
theorem dX3_readsLine_9 : decode cX3_readsLine 9 = .ok (.istore_n 1, 1) := dk_60 (dk_at dksX3_readsLine_0 9 rfl rfl)
theorem dX3_readsLine_10 : decode cX3_readsLine 10 = .ok (.aload_n 0, 1) := dk_42 (dk_at dksX3_readsLine_0 10 rfl rfl)
theorem dX3_readsLine_11 : decode cX3_readsLine 11 = .ok (.ldc 137, 2) := dk_18 137 (dk_at dksX3_readsLine_0 11 rfl rfl)
theorem dX3_readsLine_13 : decode cX3_readsLine 13 = .ok (.invokevirtual 139, 3) := dk_182 0 139 (dk_at dksX3_readsLine_0 13 rfl rfl)
theorem dX3_readsLine_16 : decode cX3_readsLine 16 = .ok (.ifCond .eq 80, 3) := dk_153 0 80 (dk_at dksX3_readsLine_0 16 rfl rfl)
theorem dX3_readsLine_19 : decode cX3_readsLine 19 = .ok (.aload_n 0, 1) := dk_42 (dk_at dksX3_readsLine_0 19 rfl rfl)
theorem dX3_readsLine_20 : decode cX3_readsLine 20 = .ok (.iconst 0, 1) := dk_3 (dk_at dksX3_readsLine_0 20 rfl rfl)
theorem dX3_readsLine_21 : decode cX3_readsLine 21 = .ok (.invokevirtual 131, 3) := dk_182 0 131 (dk_at dksX3_readsLine_0 21 rfl rfl)
theorem dX3_readsLine_24 : decode cX3_readsLine 24 = .ok (.istore_n 2, 1) := dk_61 (dk_at dksX3_readsLine_1 0 rfl rfl)
theorem dX3_readsLine_25 : decode cX3_readsLine 25 = .ok (.aload_n 0, 1) := dk_42 (dk_at dksX3_readsLine_1 1 rfl rfl)
theorem dX3_readsLine_26 : decode cX3_readsLine 26 = .ok (.aload_n 0, 1) := dk_42 (dk_at dksX3_readsLine_1 2 rfl rfl)
theorem dX3_readsLine_27 : decode cX3_readsLine 27 = .ok (.invokevirtual 94, 3) := dk_182 0 94 (dk_at dksX3_readsLine_1 3 rfl rfl)
theorem dX3_readsLine_30 : decode cX3_readsLine 30 = .ok (.ifCond .eq 9, 3) := dk_153 0 9 (dk_at dksX3_readsLine_1 6 rfl rfl)
theorem dX3_readsLine_33 : decode cX3_readsLine 33 = .ok (.iconst 1, 1) := dk_4 (dk_at dksX3_readsLine_1 9 rfl rfl)
theorem dX3_readsLine_34 : decode cX3_readsLine 34 = .ok (.iload_n 2, 1) := dk_28 (dk_at dksX3_readsLine_1 10 rfl rfl)
theorem dX3_readsLine_35 : decode cX3_readsLine 35 = .ok (.ishl, 1) := dk_120 (dk_at dksX3_readsLine_1 11 rfl rfl)
theorem dX3_readsLine_36 : decode cX3_readsLine 36 = .ok (.goto 4, 3) := dk_167 0 4 (dk_at dksX3_readsLine_1 12 rfl rfl)
theorem dX3_readsLine_39 : decode cX3_readsLine 39 = .ok (.iconst 0, 1) := dk_3 (dk_at dksX3_readsLine_1 15 rfl rfl)
theorem dX3_readsLine_40 : decode cX3_readsLine 40 = .ok (.invokevirtual 131, 3) := dk_182 0 131 (dk_at dksX3_readsLine_1 16 rfl rfl)
theorem dX3_readsLine_43 : decode cX3_readsLine 43 = .ok (.istore_n 3, 1) := dk_62 (dk_at dksX3_readsLine_1 19 rfl rfl)
theorem dX3_readsLine_44 : decode cX3_readsLine 44 = .ok (.iconst 1, 1) := dk_4 (dk_at dksX3_readsLine_1 20 rfl rfl)
theorem dX3_readsLine_45 : decode cX3_readsLine 45 = .ok (.istore 4, 2) := dk_54 4 (dk_at dksX3_readsLine_1 21 rfl rfl)
theorem dX3_readsLine_47 : decode cX3_readsLine 47 = .ok (.aload_n 0, 1) := dk_42 (dk_at dksX3_readsLine_1 23 rfl rfl)
theorem dX3_readsLine_48 : decode cX3_readsLine 48 = .ok (.invokevirtual 94, 3) := dk_182 0 94 (dk_at dksX3_readsLine_2 0 rfl rfl)
theorem dX3_readsLine_51 : decode cX3_readsLine 51 = .ok (.ifCond .eq 24, 3) := dk_153 0 24 (dk_at dksX3_readsLine_2 3 rfl rfl)
theorem dX3_readsLine_54 : decode cX3_readsLine 54 = .ok (.aload_n 0, 1) := dk_42 (dk_at dksX3_readsLine_2 6 rfl rfl)
theorem dX3_readsLine_55 : decode cX3_readsLine 55 = .ok (.invokevirtual 98, 3) := dk_182 0 98 (dk_at dksX3_readsLine_2 7 rfl rfl)
theorem dX3_readsLine_58 : decode cX3_readsLine 58 = .ok (.invokestatic 119, 3) := dk_184 0 119 (dk_at dksX3_readsLine_2 10 rfl rfl)
theorem dX3_readsLine_61 : decode cX3_readsLine 61 = .ok (.ifCond .eq 14, 3) := dk_153 0 14 (dk_at dksX3_readsLine_2 13 rfl rfl)
theorem dX3_readsLine_64 : decode cX3_readsLine 64 = .ok (.aload_n 0, 1) := dk_42 (dk_at dksX3_readsLine_2 16 rfl rfl)
theorem dX3_readsLine_65 : decode cX3_readsLine 65 = .ok (.iconst 0, 1) := dk_3 (dk_at dksX3_readsLine_2 17 rfl rfl)
theorem dX3_readsLine_66 : decode cX3_readsLine 66 = .ok (.sipush 999, 3) := dk_17 3 231 (dk_at dksX3_readsLine_2 18 rfl rfl)
theorem dX3_readsLine_69 : decode cX3_readsLine 69 = .ok (.iconst 0, 1) := dk_3 (dk_at dksX3_readsLine_2 21 rfl rfl)
theorem dX3_readsLine_70 : decode cX3_readsLine 70 = .ok (.invokevirtual 128, 3) := dk_182 0 128 (dk_at dksX3_readsLine_3 0 rfl rfl)
theorem dX3_readsLine_73 : decode cX3_readsLine 73 = .ok (.istore 4, 2) := dk_54 4 (dk_at dksX3_readsLine_3 3 rfl rfl)
theorem dX3_readsLine_75 : decode cX3_readsLine 75 = .ok (.aload_n 0, 1) := dk_42 (dk_at dksX3_readsLine_3 5 rfl rfl)
theorem dX3_readsLine_76 : decode cX3_readsLine 76 = .ok (.invokevirtual 94, 3) := dk_182 0 94 (dk_at dksX3_readsLine_3 6 rfl rfl)
theorem dX3_readsLine_79 : decode cX3_readsLine 79 = .ok (.ifCond .eq 14, 3) := dk_153 0 14 (dk_at dksX3_readsLine_3 9 rfl rfl)
theorem dX3_readsLine_82 : decode cX3_readsLine 82 = .ok (.aload_n 0, 1) := dk_42 (dk_at dksX3_readsLine_3 12 rfl rfl)
theorem dX3_readsLine_83 : decode cX3_readsLine 83 = .ok (.getfield 23, 3) := dk_180 0 23 (dk_at dksX3_readsLine_3 13 rfl rfl)
theorem dX3_readsLine_86 : decode cX3_readsLine 86 = .ok (.iload_n 2, 1) := dk_28 (dk_at dksX3_readsLine_3 16 rfl rfl)
theorem dX3_readsLine_87 : decode cX3_readsLine 87 = .ok (.iload_n 3, 1) := dk_29 (dk_at dksX3_readsLine_3 17 rfl rfl)
theorem dX3_readsLine_88 : decode cX3_readsLine 88 = .ok (.iload 4, 2) := dk_21 4 (dk_at dksX3_readsLine_3 18 rfl rfl)
theorem dX3_readsLine_90 : decode cX3_readsLine 90 = .ok (.invokestatic 65, 3) := dk_184 0 65 (dk_at dksX3_readsLine_3 20 rfl rfl)
theorem dX3_readsLine_93 : decode cX3_readsLine 93 = .ok (.goto 150, 3) := dk_167 0 150 (dk_at dksX3_readsLine_4 0 rfl rfl)
theorem dX3_readsLine_96 : decode cX3_readsLine 96 = .ok (.aload_n 0, 1) := dk_42 (dk_at dksX3_readsLine_4 3 rfl rfl)
theorem dX3_readsLine_97 : decode cX3_readsLine 97 = .ok (.ldc 143, 2) := dk_18 143 (dk_at dksX3_readsLine_4 4 rfl rfl)
theorem dX3_readsLine_99 : decode cX3_readsLine 99 = .ok (.invokevirtual 139, 3) := dk_182 0 139 (dk_at dksX3_readsLine_4 6 rfl rfl)
theorem dX3_readsLine_102 : decode cX3_readsLine 102 = .ok (.ifCond .eq 10, 3) := dk_153 0 10 (dk_at dksX3_readsLine_4 9 rfl rfl)
theorem dX3_readsLine_105 : decode cX3_readsLine 105 = .ok (.aload_n 0, 1) := dk_42 (dk_at dksX3_readsLine_4 12 rfl rfl)
theorem dX3_readsLine_106 : decode cX3_readsLine 106 = .ok (.invokevirtual 145, 3) := dk_182 0 145 (dk_at dksX3_readsLine_4 13 rfl rfl)
theorem dX3_readsLine_109 : decode cX3_readsLine 109 = .ok (.goto 134, 3) := dk_167 0 134 (dk_at dksX3_readsLine_4 16 rfl rfl)
theorem dX3_readsLine_112 : decode cX3_readsLine 112 = .ok (.aload_n 0, 1) := dk_42 (dk_at dksX3_readsLine_4 19 rfl rfl)
theorem dX3_readsLine_113 : decode cX3_readsLine 113 = .ok (.ldc 148, 2) := dk_18 148 (dk_at dksX3_readsLine_4 20 rfl rfl)
theorem dX3_readsLine_115 : decode cX3_readsLine 115 = .ok (.invokevirtual 139, 3) := dk_182 0 139 (dk_at dksX3_readsLine_5 0 rfl rfl)
theorem dX3_readsLine_118 : decode cX3_readsLine 118 = .ok (.ifCond .eq 43, 3) := dk_153 0 43 (dk_at dksX3_readsLine_5 3 rfl rfl)
theorem dX3_readsLine_121 : decode cX3_readsLine 121 = .ok (.iconst 0, 1) := dk_3 (dk_at dksX3_readsLine_5 6 rfl rfl)
theorem dX3_readsLine_122 : decode cX3_readsLine 122 = .ok (.istore_n 2, 1) := dk_61 (dk_at dksX3_readsLine_5 7 rfl rfl)
theorem dX3_readsLine_123 : decode cX3_readsLine 123 = .ok (.iload_n 2, 1) := dk_28 (dk_at dksX3_readsLine_5 8 rfl rfl)
theorem dX3_readsLine_124 : decode cX3_readsLine 124 = .ok (.aload_n 0, 1) := dk_42 (dk_at dksX3_readsLine_5 9 rfl rfl)
theorem dX3_readsLine_125 : decode cX3_readsLine 125 = .ok (.getfield 23, 3) := dk_180 0 23 (dk_at dksX3_readsLine_5 10 rfl rfl)
theorem dX3_readsLine_128 : decode cX3_readsLine 128 = .ok (.iconst 0, 1) := dk_3 (dk_at dksX3_readsLine_5 13 rfl rfl)
theorem dX3_readsLine_129 : decode cX3_readsLine 129 = .ok (.iaload, 1) := dk_46 (dk_at dksX3_readsLine_5 14 rfl rfl)
theorem dX3_readsLine_130 : decode cX3_readsLine 130 = .ok (.if_icmp .ge 28, 3) := dk_162 0 28 (dk_at dksX3_readsLine_5 15 rfl rfl)
theorem dX3_readsLine_133 : decode cX3_readsLine 133 = .ok (.iconst 0, 1) := dk_3 (dk_at dksX3_readsLine_5 18 rfl rfl)
theorem dX3_readsLine_134 : decode cX3_readsLine 134 = .ok (.istore_n 3, 1) := dk_62 (dk_at dksX3_readsLine_5 19 rfl rfl)
theorem dX3_readsLine_135 : decode cX3_readsLine 135 = .ok (.iload_n 3, 1) := dk_29 (dk_at dksX3_readsLine_5 20 rfl rfl)
theorem dX3_readsLine_136 : decode cX3_readsLine 136 = .ok (.iload_n 2, 1) := dk_28 (dk_at dksX3_readsLine_5 21 rfl rfl)
theorem dX3_readsLine_137 : decode cX3_readsLine 137 = .ok (.if_icmp .ge 15, 3) := dk_162 0 15 (dk_at dksX3_readsLine_6 0 rfl rfl)
theorem dX3_readsLine_140 : decode cX3_readsLine 140 = .ok (.aload_n 0, 1) := dk_42 (dk_at dksX3_readsLine_6 3 rfl rfl)
theorem dX3_readsLine_141 : decode cX3_readsLine 141 = .ok (.iload_n 2, 1) := dk_28 (dk_at dksX3_readsLine_6 4 rfl rfl)
theorem dX3_readsLine_142 : decode cX3_readsLine 142 = .ok (.iload_n 3, 1) := dk_29 (dk_at dksX3_readsLine_6 5 rfl rfl)
theorem dX3_readsLine_143 : decode cX3_readsLine 143 = .ok (.invokevirtual 134, 3) := dk_182 0 134 (dk_at dksX3_readsLine_6 6 rfl rfl)
theorem dX3_readsLine_146 : decode cX3_readsLine 146 = .ok (.iinc 3 1, 3) := dk_132 3 1 (dk_at dksX3_readsLine_6 9 rfl rfl)
theorem dX3_readsLine_149 : decode cX3_readsLine 149 = .ok (.goto (-14), 3) := dk_167 255 242 (dk_at dksX3_readsLine_6 12 rfl rfl)
theorem dX3_readsLine_152 : decode cX3_readsLine 152 = .ok (.iinc 2 1, 3) := dk_132 2 1 (dk_at dksX3_readsLine_6 15 rfl rfl)
theorem dX3_readsLine_155 : decode cX3_readsLine 155 = .ok (.goto (-32), 3) := dk_167 255 224 (dk_at dksX3_readsLine_6 18 rfl rfl)
theorem dX3_readsLine_158 : decode cX3_readsLine 158 = .ok (.goto 85, 3) := dk_167 0 85 (dk_at dksX3_readsLine_6 21 rfl rfl)
theorem dX3_readsLine_161 : decode cX3_readsLine 161 = .ok (.aload_n 0, 1) := dk_42 (dk_at dksX3_readsLine_7 0 rfl rfl)
theorem dX3_readsLine_162 : decode cX3_readsLine 162 = .ok (.ldc 150, 2) := dk_18 150 (dk_at dksX3_readsLine_7 1 rfl rfl)
theorem dX3_readsLine_164 : decode cX3_readsLine 164 = .ok (.invokevirtual 139, 3) := dk_182 0 139 (dk_at dksX3_readsLine_7 3 rfl rfl)
theorem dX3_readsLine_167 : decode cX3_readsLine 167 = .ok (.ifCond .eq 70, 3) := dk_153 0 70 (dk_at dksX3_readsLine_7 6 rfl rfl)
theorem dX3_readsLine_170 : decode cX3_readsLine 170 = .ok (.aload_n 0, 1) := dk_42 (dk_at dksX3_readsLine_7 9 rfl rfl)
theorem dX3_readsLine_171 : decode cX3_readsLine 171 = .ok (.iconst 0, 1) := dk_3 (dk_at dksX3_readsLine_7 10 rfl rfl)
theorem dX3_readsLine_172 : decode cX3_readsLine 172 = .ok (.invokevirtual 131, 3) := dk_182 0 131 (dk_at dksX3_readsLine_7 11 rfl rfl)
theorem dX3_readsLine_175 : decode cX3_readsLine 175 = .ok (.istore_n 2, 1) := dk_61 (dk_at dksX3_readsLine_7 14 rfl rfl)
theorem dX3_readsLine_176 : decode cX3_readsLine 176 = .ok (.aload_n 0, 1) := dk_42 (dk_at dksX3_readsLine_7 15 rfl rfl)
theorem dX3_readsLine_177 : decode cX3_readsLine 177 = .ok (.aload_n 0, 1) := dk_42 (dk_at dksX3_readsLine_7 16 rfl rfl)
theorem dX3_readsLine_178 : decode cX3_readsLine 178 = .ok (.invokevirtual 94, 3) := dk_182 0 94 (dk_at dksX3_readsLine_7 17 rfl rfl)
theorem dX3_readsLine_181 : decode cX3_readsLine 181 = .ok (.ifCond .eq 9, 3) := dk_153 0 9 (dk_at dksX3_readsLine_7 20 rfl rfl)
theorem dX3_readsLine_184 : decode cX3_readsLine 184 = .ok (.iconst 1, 1) := dk_4 (dk_at dksX3_readsLine_7 23 rfl rfl)
theorem dX3_readsLine_185 : decode cX3_readsLine 185 = .ok (.iload_n 2, 1) := dk_28 (dk_at dksX3_readsLine_8 0 rfl rfl)
theorem dX3_readsLine_186 : decode cX3_readsLine 186 = .ok (.ishl, 1) := dk_120 (dk_at dksX3_readsLine_8 1 rfl rfl)
theorem dX3_readsLine_187 : decode cX3_readsLine 187 = .ok (.goto 4, 3) := dk_167 0 4 (dk_at dksX3_readsLine_8 2 rfl rfl)
theorem dX3_readsLine_190 : decode cX3_readsLine 190 = .ok (.iconst 0, 1) := dk_3 (dk_at dksX3_readsLine_8 5 rfl rfl)
theorem dX3_readsLine_191 : decode cX3_readsLine 191 = .ok (.invokevirtual 131, 3) := dk_182 0 131 (dk_at dksX3_readsLine_8 6 rfl rfl)
theorem dX3_readsLine_194 : decode cX3_readsLine 194 = .ok (.istore_n 3, 1) := dk_62 (dk_at dksX3_readsLine_8 9 rfl rfl)
theorem dX3_readsLine_195 : decode cX3_readsLine 195 = .ok (.aload_n 0, 1) := dk_42 (dk_at dksX3_readsLine_8 10 rfl rfl)
theorem dX3_readsLine_196 : decode cX3_readsLine 196 = .ok (.invokevirtual 94, 3) := dk_182 0 94 (dk_at dksX3_readsLine_8 11 rfl rfl)
theorem dX3_readsLine_199 : decode cX3_readsLine 199 = .ok (.ifCond .eq 35, 3) := dk_153 0 35 (dk_at dksX3_readsLine_8 14 rfl rfl)
theorem dX3_readsLine_202 : decode cX3_readsLine 202 = .ok (.aload_n 0, 1) := dk_42 (dk_at dksX3_readsLine_8 17 rfl rfl)
theorem dX3_readsLine_203 : decode cX3_readsLine 203 = .ok (.getfield 31, 3) := dk_180 0 31 (dk_at dksX3_readsLine_8 18 rfl rfl)
theorem dX3_readsLine_206 : decode cX3_readsLine 206 = .ok (.aload_n 0, 1) := dk_42 (dk_at dksX3_readsLine_8 21 rfl rfl)
theorem dX3_readsLine_207 : decode cX3_readsLine 207 = .ok (.getfield 152, 3) := dk_180 0 152 (dk_at dksX3_readsLine_9 0 rfl rfl)
theorem dX3_readsLine_210 : decode cX3_readsLine 210 = .ok (.iload_n 2, 1) := dk_28 (dk_at dksX3_readsLine_9 3 rfl rfl)
theorem dX3_readsLine_211 : decode cX3_readsLine 211 = .ok (.iastore, 1) := dk_79 (dk_at dksX3_readsLine_9 4 rfl rfl)
theorem dX3_readsLine_212 : decode cX3_readsLine 212 = .ok (.aload_n 0, 1) := dk_42 (dk_at dksX3_readsLine_9 5 rfl rfl)
theorem dX3_readsLine_213 : decode cX3_readsLine 213 = .ok (.getfield 31, 3) := dk_180 0 31 (dk_at dksX3_readsLine_9 6 rfl rfl)
theorem dX3_readsLine_216 : decode cX3_readsLine 216 = .ok (.aload_n 0, 1) := dk_42 (dk_at dksX3_readsLine_9 9 rfl rfl)
theorem dX3_readsLine_217 : decode cX3_readsLine 217 = .ok (.getfield 152, 3) := dk_180 0 152 (dk_at dksX3_readsLine_9 10 rfl rfl)
theorem dX3_readsLine_220 : decode cX3_readsLine 220 = .ok (.iconst 1, 1) := dk_4 (dk_at dksX3_readsLine_9 13 rfl rfl)
theorem dX3_readsLine_221 : decode cX3_readsLine 221 = .ok (.iadd, 1) := dk_96 (dk_at dksX3_readsLine_9 14 rfl rfl)
theorem dX3_readsLine_222 : decode cX3_readsLine 222 = .ok (.iload_n 3, 1) := dk_29 (dk_at dksX3_readsLine_9 15 rfl rfl)
theorem dX3_readsLine_223 : decode cX3_readsLine 223 = .ok (.iastore, 1) := dk_79 (dk_at dksX3_readsLine_9 16 rfl rfl)
theorem dX3_readsLine_224 : decode cX3_readsLine 224 = .ok (.aload_n 0, 1) := dk_42 (dk_at dksX3_readsLine_9 17 rfl rfl)
theorem dX3_readsLine_225 : decode cX3_readsLine 225 = .ok (.dup, 1) := dk_89 (dk_at dksX3_readsLine_9 18 rfl rfl)
theorem dX3_readsLine_226 : decode cX3_readsLine 226 = .ok (.getfield 152, 3) := dk_180 0 152 (dk_at dksX3_readsLine_9 19 rfl rfl)
theorem dX3_readsLine_229 : decode cX3_readsLine 229 = .ok (.iconst 2, 1) := dk_5 (dk_at dksX3_readsLine_9 22 rfl rfl)
theorem dX3_readsLine_230 : decode cX3_readsLine 230 = .ok (.iadd, 1) := dk_96 (dk_at dksX3_readsLine_9 23 rfl rfl)
theorem dX3_readsLine_231 : decode cX3_readsLine 231 = .ok (.putfield 152, 3) := dk_181 0 152 (dk_at dksX3_readsLine_10 0 rfl rfl)
theorem dX3_readsLine_234 : decode cX3_readsLine 234 = .ok (.goto 9, 3) := dk_167 0 9 (dk_at dksX3_readsLine_10 3 rfl rfl)
theorem dX3_readsLine_237 : decode cX3_readsLine 237 = .ok (.aload_n 0, 1) := dk_42 (dk_at dksX3_readsLine_10 6 rfl rfl)
theorem dX3_readsLine_238 : decode cX3_readsLine 238 = .ok (.iconst 1, 1) := dk_4 (dk_at dksX3_readsLine_10 7 rfl rfl)
theorem dX3_readsLine_239 : decode cX3_readsLine 239 = .ok (.iload_n 1, 1) := dk_27 (dk_at dksX3_readsLine_10 8 rfl rfl)
theorem dX3_readsLine_240 : decode cX3_readsLine 240 = .ok (.invokevirtual 115, 3) := dk_182 0 115 (dk_at dksX3_readsLine_10 9 rfl rfl)
theorem dX3_readsLine_243 : decode cX3_readsLine 243 = .ok (.aload_n 0, 1) := dk_42 (dk_at dksX3_readsLine_10 12 rfl rfl)
theorem dX3_readsLine_244 : decode cX3_readsLine 244 = .ok (.bipush 59, 2) := dk_16 59 (dk_at dksX3_readsLine_10 13 rfl rfl)
theorem dX3_readsLine_246 : decode cX3_readsLine 246 = .ok (.invokevirtual 155, 3) := dk_182 0 155 (dk_at dksX3_readsLine_10 15 rfl rfl)
theorem dX3_readsLine_249 : decode cX3_readsLine 249 = .ok (.return_, 1) := dk_177 (dk_at dksX3_readsLine_10 18 rfl rfl)
abbrev cX3_nodeTold : ByteArray := prog_12_method_18_code
def yX3_nodeTold : MethodName := ⟨RX3, "nodeTold", "(I)I"⟩
def dkwX3_nodeTold_0 : List UInt8 := [42, 3, 42, 180, 0, 23, 3, 46, 4, 100, 27, 182, 0, 128, 172]
abbrev dktX3_nodeTold_0 : List UInt8 := dkwX3_nodeTold_0 ++ []
theorem dksX3_nodeTold_0 : cX3_nodeTold.data.toList.drop 0 = dktX3_nodeTold_0 := by decide +kernel
theorem dX3_nodeTold_0 : decode cX3_nodeTold 0 = .ok (.aload_n 0, 1) := dk_42 (dk_at dksX3_nodeTold_0 0 rfl rfl)
theorem dX3_nodeTold_1 : decode cX3_nodeTold 1 = .ok (.iconst 0, 1) := dk_3 (dk_at dksX3_nodeTold_0 1 rfl rfl)
theorem dX3_nodeTold_2 : decode cX3_nodeTold 2 = .ok (.aload_n 0, 1) := dk_42 (dk_at dksX3_nodeTold_0 2 rfl rfl)
theorem dX3_nodeTold_3 : decode cX3_nodeTold 3 = .ok (.getfield 23, 3) := dk_180 0 23 (dk_at dksX3_nodeTold_0 3 rfl rfl)
theorem dX3_nodeTold_6 : decode cX3_nodeTold 6 = .ok (.iconst 0, 1) := dk_3 (dk_at dksX3_nodeTold_0 6 rfl rfl)
theorem dX3_nodeTold_7 : decode cX3_nodeTold 7 = .ok (.iaload, 1) := dk_46 (dk_at dksX3_nodeTold_0 7 rfl rfl)
theorem dX3_nodeTold_8 : decode cX3_nodeTold 8 = .ok (.iconst 1, 1) := dk_4 (dk_at dksX3_nodeTold_0 8 rfl rfl)
theorem dX3_nodeTold_9 : decode cX3_nodeTold 9 = .ok (.isub, 1) := dk_100 (dk_at dksX3_nodeTold_0 9 rfl rfl)
theorem dX3_nodeTold_10 : decode cX3_nodeTold 10 = .ok (.iload_n 1, 1) := dk_27 (dk_at dksX3_nodeTold_0 10 rfl rfl)
theorem dX3_nodeTold_11 : decode cX3_nodeTold 11 = .ok (.invokevirtual 128, 3) := dk_182 0 128 (dk_at dksX3_nodeTold_0 11 rfl rfl)
theorem dX3_nodeTold_14 : decode cX3_nodeTold 14 = .ok (.ireturn, 1) := dk_172 (dk_at dksX3_nodeTold_0 14 rfl rfl)
abbrev cX3_readsRing : ByteArray := prog_12_method_20_code
def yX3_readsRing : MethodName := ⟨RX3, "readsRing", "()V"⟩
def dkwX3_readsRing_4 : List UInt8 := [21, 5, 61, 132, 4, 1, 167, 255, 182, 42, 182, 0, 94, 153, 0, 9, 42, 28, 27, 182, 0, 134, 177]
abbrev dktX3_readsRing_4 : List UInt8 := dkwX3_readsRing_4 ++ []
def dkwX3_readsRing_3 : List UInt8 := [54, 5, 42, 182, 0, 94, 154, 0, 4, 177, 42, 28, 21, 5, 182, 0, 134, 29, 4, 21, 5, 120, 128, 62]
abbrev dktX3_readsRing_3 : List UInt8 := dkwX3_readsRing_3 ++ dktX3_readsRing_4
def dkwX3_readsRing_2 : List UInt8 := [153, 0, 57, 21, 4, 16, 12, 160, 0, 12, 42, 4, 42, 180, 0, 81, 182, 0, 115, 42, 29, 182, 0, 131]
abbrev dktX3_readsRing_2 : List UInt8 := dkwX3_readsRing_2 ++ dktX3_readsRing_3
def dkwX3_readsRing_1 : List UInt8 := [54, 4, 42, 182, 0, 94, 153, 0, 73, 21, 4, 5, 161, 0, 13, 42, 182, 0, 98, 184, 0, 119]
abbrev dktX3_readsRing_1 : List UInt8 := dkwX3_readsRing_1 ++ dktX3_readsRing_2
def dkwX3_readsRing_0 : List UInt8 := [42, 3, 182, 0, 131, 60, 27, 61, 42, 182, 0, 94, 153, 0, 9, 4, 27, 120, 167, 0, 4, 3, 62, 4]
abbrev dktX3_readsRing_0 : List UInt8 := dkwX3_readsRing_0 ++ dktX3_readsRing_1
theorem dksX3_readsRing_0 : cX3_readsRing.data.toList.drop 0 = dktX3_readsRing_0 := by decide +kernel
theorem dksX3_readsRing_1 : cX3_readsRing.data.toList.drop 24 = dktX3_readsRing_1 := dk_seg dksX3_readsRing_0 24 rfl rfl
theorem dksX3_readsRing_2 : cX3_readsRing.data.toList.drop 46 = dktX3_readsRing_2 := dk_seg dksX3_readsRing_1 22 rfl rfl
theorem dksX3_readsRing_3 : cX3_readsRing.data.toList.drop 70 = dktX3_readsRing_3 := dk_seg dksX3_readsRing_2 24 rfl rfl
theorem dksX3_readsRing_4 : cX3_readsRing.data.toList.drop 94 = dktX3_readsRing_4 := dk_seg dksX3_readsRing_3 24 rfl rfl
theorem dX3_readsRing_0 : decode cX3_readsRing 0 = .ok (.aload_n 0, 1) := dk_42 (dk_at dksX3_readsRing_0 0 rfl rfl)
theorem dX3_readsRing_1 : decode cX3_readsRing 1 = .ok (.iconst 0, 1) := dk_3 (dk_at dksX3_readsRing_0 1 rfl rfl)
theorem dX3_readsRing_2 : decode cX3_readsRing 2 = .ok (.invokevirtual 131, 3) := dk_182 0 131 (dk_at dksX3_readsRing_0 2 rfl rfl)
theorem dX3_readsRing_5 : decode cX3_readsRing 5 = .ok (.istore_n 1, 1) := dk_60 (dk_at dksX3_readsRing_0 5 rfl rfl)
theorem dX3_readsRing_6 : decode cX3_readsRing 6 = .ok (.iload_n 1, 1) := dk_27 (dk_at dksX3_readsRing_0 6 rfl rfl)
theorem dX3_readsRing_7 : decode cX3_readsRing 7 = .ok (.istore_n 2, 1) := dk_61 (dk_at dksX3_readsRing_0 7 rfl rfl)
theorem dX3_readsRing_8 : decode cX3_readsRing 8 = .ok (.aload_n 0, 1) := dk_42 (dk_at dksX3_readsRing_0 8 rfl rfl)
theorem dX3_readsRing_9 : decode cX3_readsRing 9 = .ok (.invokevirtual 94, 3) := dk_182 0 94 (dk_at dksX3_readsRing_0 9 rfl rfl)
theorem dX3_readsRing_12 : decode cX3_readsRing 12 = .ok (.ifCond .eq 9, 3) := dk_153 0 9 (dk_at dksX3_readsRing_0 12 rfl rfl)
theorem dX3_readsRing_15 : decode cX3_readsRing 15 = .ok (.iconst 1, 1) := dk_4 (dk_at dksX3_readsRing_0 15 rfl rfl)
theorem dX3_readsRing_16 : decode cX3_readsRing 16 = .ok (.iload_n 1, 1) := dk_27 (dk_at dksX3_readsRing_0 16 rfl rfl)
theorem dX3_readsRing_17 : decode cX3_readsRing 17 = .ok (.ishl, 1) := dk_120 (dk_at dksX3_readsRing_0 17 rfl rfl)
theorem dX3_readsRing_18 : decode cX3_readsRing 18 = .ok (.goto 4, 3) := dk_167 0 4 (dk_at dksX3_readsRing_0 18 rfl rfl)
theorem dX3_readsRing_21 : decode cX3_readsRing 21 = .ok (.iconst 0, 1) := dk_3 (dk_at dksX3_readsRing_0 21 rfl rfl)
theorem dX3_readsRing_22 : decode cX3_readsRing 22 = .ok (.istore_n 3, 1) := dk_62 (dk_at dksX3_readsRing_0 22 rfl rfl)
theorem dX3_readsRing_23 : decode cX3_readsRing 23 = .ok (.iconst 1, 1) := dk_4 (dk_at dksX3_readsRing_0 23 rfl rfl)
theorem dX3_readsRing_24 : decode cX3_readsRing 24 = .ok (.istore 4, 2) := dk_54 4 (dk_at dksX3_readsRing_1 0 rfl rfl)
theorem dX3_readsRing_26 : decode cX3_readsRing 26 = .ok (.aload_n 0, 1) := dk_42 (dk_at dksX3_readsRing_1 2 rfl rfl)
theorem dX3_readsRing_27 : decode cX3_readsRing 27 = .ok (.invokevirtual 94, 3) := dk_182 0 94 (dk_at dksX3_readsRing_1 3 rfl rfl)
theorem dX3_readsRing_30 : decode cX3_readsRing 30 = .ok (.ifCond .eq 73, 3) := dk_153 0 73 (dk_at dksX3_readsRing_1 6 rfl rfl)
theorem dX3_readsRing_33 : decode cX3_readsRing 33 = .ok (.iload 4, 2) := dk_21 4 (dk_at dksX3_readsRing_1 9 rfl rfl)
theorem dX3_readsRing_35 : decode cX3_readsRing 35 = .ok (.iconst 2, 1) := dk_5 (dk_at dksX3_readsRing_1 11 rfl rfl)
theorem dX3_readsRing_36 : decode cX3_readsRing 36 = .ok (.if_icmp .lt 13, 3) := dk_161 0 13 (dk_at dksX3_readsRing_1 12 rfl rfl)
theorem dX3_readsRing_39 : decode cX3_readsRing 39 = .ok (.aload_n 0, 1) := dk_42 (dk_at dksX3_readsRing_1 15 rfl rfl)
theorem dX3_readsRing_40 : decode cX3_readsRing 40 = .ok (.invokevirtual 98, 3) := dk_182 0 98 (dk_at dksX3_readsRing_1 16 rfl rfl)
theorem dX3_readsRing_43 : decode cX3_readsRing 43 = .ok (.invokestatic 119, 3) := dk_184 0 119 (dk_at dksX3_readsRing_1 19 rfl rfl)
theorem dX3_readsRing_46 : decode cX3_readsRing 46 = .ok (.ifCond .eq 57, 3) := dk_153 0 57 (dk_at dksX3_readsRing_2 0 rfl rfl)
theorem dX3_readsRing_49 : decode cX3_readsRing 49 = .ok (.iload 4, 2) := dk_21 4 (dk_at dksX3_readsRing_2 3 rfl rfl)
theorem dX3_readsRing_51 : decode cX3_readsRing 51 = .ok (.bipush 12, 2) := dk_16 12 (dk_at dksX3_readsRing_2 5 rfl rfl)
theorem dX3_readsRing_53 : decode cX3_readsRing 53 = .ok (.if_icmp .ne 12, 3) := dk_160 0 12 (dk_at dksX3_readsRing_2 7 rfl rfl)
theorem dX3_readsRing_56 : decode cX3_readsRing 56 = .ok (.aload_n 0, 1) := dk_42 (dk_at dksX3_readsRing_2 10 rfl rfl)
theorem dX3_readsRing_57 : decode cX3_readsRing 57 = .ok (.iconst 1, 1) := dk_4 (dk_at dksX3_readsRing_2 11 rfl rfl)
theorem dX3_readsRing_58 : decode cX3_readsRing 58 = .ok (.aload_n 0, 1) := dk_42 (dk_at dksX3_readsRing_2 12 rfl rfl)
theorem dX3_readsRing_59 : decode cX3_readsRing 59 = .ok (.getfield 81, 3) := dk_180 0 81 (dk_at dksX3_readsRing_2 13 rfl rfl)
theorem dX3_readsRing_62 : decode cX3_readsRing 62 = .ok (.invokevirtual 115, 3) := dk_182 0 115 (dk_at dksX3_readsRing_2 16 rfl rfl)
theorem dX3_readsRing_65 : decode cX3_readsRing 65 = .ok (.aload_n 0, 1) := dk_42 (dk_at dksX3_readsRing_2 19 rfl rfl)
theorem dX3_readsRing_66 : decode cX3_readsRing 66 = .ok (.iload_n 3, 1) := dk_29 (dk_at dksX3_readsRing_2 20 rfl rfl)
theorem dX3_readsRing_67 : decode cX3_readsRing 67 = .ok (.invokevirtual 131, 3) := dk_182 0 131 (dk_at dksX3_readsRing_2 21 rfl rfl)
theorem dX3_readsRing_70 : decode cX3_readsRing 70 = .ok (.istore 5, 2) := dk_54 5 (dk_at dksX3_readsRing_3 0 rfl rfl)
theorem dX3_readsRing_72 : decode cX3_readsRing 72 = .ok (.aload_n 0, 1) := dk_42 (dk_at dksX3_readsRing_3 2 rfl rfl)
theorem dX3_readsRing_73 : decode cX3_readsRing 73 = .ok (.invokevirtual 94, 3) := dk_182 0 94 (dk_at dksX3_readsRing_3 3 rfl rfl)
theorem dX3_readsRing_76 : decode cX3_readsRing 76 = .ok (.ifCond .ne 4, 3) := dk_154 0 4 (dk_at dksX3_readsRing_3 6 rfl rfl)
theorem dX3_readsRing_79 : decode cX3_readsRing 79 = .ok (.return_, 1) := dk_177 (dk_at dksX3_readsRing_3 9 rfl rfl)
theorem dX3_readsRing_80 : decode cX3_readsRing 80 = .ok (.aload_n 0, 1) := dk_42 (dk_at dksX3_readsRing_3 10 rfl rfl)
theorem dX3_readsRing_81 : decode cX3_readsRing 81 = .ok (.iload_n 2, 1) := dk_28 (dk_at dksX3_readsRing_3 11 rfl rfl)
theorem dX3_readsRing_82 : decode cX3_readsRing 82 = .ok (.iload 5, 2) := dk_21 5 (dk_at dksX3_readsRing_3 12 rfl rfl)
theorem dX3_readsRing_84 : decode cX3_readsRing 84 = .ok (.invokevirtual 134, 3) := dk_182 0 134 (dk_at dksX3_readsRing_3 14 rfl rfl)
theorem dX3_readsRing_87 : decode cX3_readsRing 87 = .ok (.iload_n 3, 1) := dk_29 (dk_at dksX3_readsRing_3 17 rfl rfl)
theorem dX3_readsRing_88 : decode cX3_readsRing 88 = .ok (.iconst 1, 1) := dk_4 (dk_at dksX3_readsRing_3 18 rfl rfl)
theorem dX3_readsRing_89 : decode cX3_readsRing 89 = .ok (.iload 5, 2) := dk_21 5 (dk_at dksX3_readsRing_3 19 rfl rfl)
theorem dX3_readsRing_91 : decode cX3_readsRing 91 = .ok (.ishl, 1) := dk_120 (dk_at dksX3_readsRing_3 21 rfl rfl)
theorem dX3_readsRing_92 : decode cX3_readsRing 92 = .ok (.ior, 1) := dk_128 (dk_at dksX3_readsRing_3 22 rfl rfl)
theorem dX3_readsRing_93 : decode cX3_readsRing 93 = .ok (.istore_n 3, 1) := dk_62 (dk_at dksX3_readsRing_3 23 rfl rfl)
theorem dX3_readsRing_94 : decode cX3_readsRing 94 = .ok (.iload 5, 2) := dk_21 5 (dk_at dksX3_readsRing_4 0 rfl rfl)
theorem dX3_readsRing_96 : decode cX3_readsRing 96 = .ok (.istore_n 2, 1) := dk_61 (dk_at dksX3_readsRing_4 2 rfl rfl)
theorem dX3_readsRing_97 : decode cX3_readsRing 97 = .ok (.iinc 4 1, 3) := dk_132 4 1 (dk_at dksX3_readsRing_4 3 rfl rfl)
theorem dX3_readsRing_100 : decode cX3_readsRing 100 = .ok (.goto (-74), 3) := dk_167 255 182 (dk_at dksX3_readsRing_4 6 rfl rfl)
theorem dX3_readsRing_103 : decode cX3_readsRing 103 = .ok (.aload_n 0, 1) := dk_42 (dk_at dksX3_readsRing_4 9 rfl rfl)
theorem dX3_readsRing_104 : decode cX3_readsRing 104 = .ok (.invokevirtual 94, 3) := dk_182 0 94 (dk_at dksX3_readsRing_4 10 rfl rfl)
theorem dX3_readsRing_107 : decode cX3_readsRing 107 = .ok (.ifCond .eq 9, 3) := dk_153 0 9 (dk_at dksX3_readsRing_4 13 rfl rfl)
theorem dX3_readsRing_110 : decode cX3_readsRing 110 = .ok (.aload_n 0, 1) := dk_42 (dk_at dksX3_readsRing_4 16 rfl rfl)
theorem dX3_readsRing_111 : decode cX3_readsRing 111 = .ok (.iload_n 2, 1) := dk_28 (dk_at dksX3_readsRing_4 17 rfl rfl)
theorem dX3_readsRing_112 : decode cX3_readsRing 112 = .ok (.iload_n 1, 1) := dk_27 (dk_at dksX3_readsRing_4 18 rfl rfl)
theorem dX3_readsRing_113 : decode cX3_readsRing 113 = .ok (.invokevirtual 134, 3) := dk_182 0 134 (dk_at dksX3_readsRing_4 19 rfl rfl)
theorem dX3_readsRing_116 : decode cX3_readsRing 116 = .ok (.return_, 1) := dk_177 (dk_at dksX3_readsRing_4 22 rfl rfl)
abbrev cX3_comes : ByteArray := prog_12_method_19_code
def yX3_comes : MethodName := ⟨RX3, "comes", "(II)V"⟩
def dkwX3_comes_1 : List UInt8 := [160, 0, 13, 42, 180, 0, 23, 27, 28, 4, 184, 0, 65, 177]
abbrev dktX3_comes_1 : List UInt8 := dkwX3_comes_1 ++ []
def dkwX3_comes_0 : List UInt8 := [42, 182, 0, 94, 153, 0, 31, 42, 180, 0, 23, 16, 13, 16, 12, 27, 104, 96, 28, 96, 46, 2]
abbrev dktX3_comes_0 : List UInt8 := dkwX3_comes_0 ++ dktX3_comes_1
theorem dksX3_comes_0 : cX3_comes.data.toList.drop 0 = dktX3_comes_0 := by decide +kernel
theorem dksX3_comes_1 : cX3_comes.data.toList.drop 22 = dktX3_comes_1 := dk_seg dksX3_comes_0 22 rfl rfl
theorem dX3_comes_0 : decode cX3_comes 0 = .ok (.aload_n 0, 1) := dk_42 (dk_at dksX3_comes_0 0 rfl rfl)
theorem dX3_comes_1 : decode cX3_comes 1 = .ok (.invokevirtual 94, 3) := dk_182 0 94 (dk_at dksX3_comes_0 1 rfl rfl)
theorem dX3_comes_4 : decode cX3_comes 4 = .ok (.ifCond .eq 31, 3) := dk_153 0 31 (dk_at dksX3_comes_0 4 rfl rfl)
theorem dX3_comes_7 : decode cX3_comes 7 = .ok (.aload_n 0, 1) := dk_42 (dk_at dksX3_comes_0 7 rfl rfl)
theorem dX3_comes_8 : decode cX3_comes 8 = .ok (.getfield 23, 3) := dk_180 0 23 (dk_at dksX3_comes_0 8 rfl rfl)
theorem dX3_comes_11 : decode cX3_comes 11 = .ok (.bipush 13, 2) := dk_16 13 (dk_at dksX3_comes_0 11 rfl rfl)
theorem dX3_comes_13 : decode cX3_comes 13 = .ok (.bipush 12, 2) := dk_16 12 (dk_at dksX3_comes_0 13 rfl rfl)
theorem dX3_comes_15 : decode cX3_comes 15 = .ok (.iload_n 1, 1) := dk_27 (dk_at dksX3_comes_0 15 rfl rfl)
theorem dX3_comes_16 : decode cX3_comes 16 = .ok (.imul, 1) := dk_104 (dk_at dksX3_comes_0 16 rfl rfl)
theorem dX3_comes_17 : decode cX3_comes 17 = .ok (.iadd, 1) := dk_96 (dk_at dksX3_comes_0 17 rfl rfl)
theorem dX3_comes_18 : decode cX3_comes 18 = .ok (.iload_n 2, 1) := dk_28 (dk_at dksX3_comes_0 18 rfl rfl)
theorem dX3_comes_19 : decode cX3_comes 19 = .ok (.iadd, 1) := dk_96 (dk_at dksX3_comes_0 19 rfl rfl)
theorem dX3_comes_20 : decode cX3_comes 20 = .ok (.iaload, 1) := dk_46 (dk_at dksX3_comes_0 20 rfl rfl)
theorem dX3_comes_21 : decode cX3_comes 21 = .ok (.iconst (-1), 1) := dk_2 (dk_at dksX3_comes_0 21 rfl rfl)
theorem dX3_comes_22 : decode cX3_comes 22 = .ok (.if_icmp .ne 13, 3) := dk_160 0 13 (dk_at dksX3_comes_1 0 rfl rfl)
theorem dX3_comes_25 : decode cX3_comes 25 = .ok (.aload_n 0, 1) := dk_42 (dk_at dksX3_comes_1 3 rfl rfl)
theorem dX3_comes_26 : decode cX3_comes 26 = .ok (.getfield 23, 3) := dk_180 0 23 (dk_at dksX3_comes_1 4 rfl rfl)
theorem dX3_comes_29 : decode cX3_comes 29 = .ok (.iload_n 1, 1) := dk_27 (dk_at dksX3_comes_1 7 rfl rfl)
theorem dX3_comes_30 : decode cX3_comes 30 = .ok (.iload_n 2, 1) := dk_28 (dk_at dksX3_comes_1 8 rfl rfl)
theorem dX3_comes_31 : decode cX3_comes 31 = .ok (.iconst 1, 1) := dk_4 (dk_at dksX3_comes_1 9 rfl rfl)
theorem dX3_comes_32 : decode cX3_comes 32 = .ok (.invokestatic 65, 3) := dk_184 0 65 (dk_at dksX3_comes_1 10 rfl rfl)
theorem dX3_comes_35 : decode cX3_comes 35 = .ok (.return_, 1) := dk_177 (dk_at dksX3_comes_1 13 rfl rfl)
abbrev cX3_arePairs : ByteArray := prog_12_method_22_code
def yX3_arePairs : MethodName := ⟨RX3, "arePairs", "()Z"⟩
def dkwX3_arePairs_4 : List UInt8 := [172]
abbrev dktX3_arePairs_4 : List UInt8 := dkwX3_arePairs_4 ++ []
def dkwX3_arePairs_3 : List UInt8 := [180, 0, 23, 4, 28, 96, 29, 79, 42, 180, 0, 23, 4, 29, 96, 28, 79, 132, 1, 2, 167, 255, 167, 4]
abbrev dktX3_arePairs_3 : List UInt8 := dkwX3_arePairs_3 ++ dktX3_arePairs_4
def dkwX3_arePairs_2 : List UInt8 := [4, 28, 96, 46, 2, 160, 0, 15, 42, 180, 0, 23, 4, 29, 96, 46, 2, 159, 0, 5, 3, 172, 42]
abbrev dktX3_arePairs_2 : List UInt8 := dkwX3_arePairs_2 ++ dktX3_arePairs_3
def dkwX3_arePairs_1 : List UInt8 := [46, 62, 42, 180, 0, 23, 16, 13, 16, 12, 28, 104, 96, 29, 96, 46, 2, 159, 0, 27, 42, 180, 0, 23]
abbrev dktX3_arePairs_1 : List UInt8 := dkwX3_arePairs_1 ++ dktX3_arePairs_2
def dkwX3_arePairs_0 : List UInt8 := [3, 60, 27, 42, 180, 0, 152, 162, 0, 87, 42, 180, 0, 31, 27, 46, 61, 42, 180, 0, 31, 27, 4, 96]
abbrev dktX3_arePairs_0 : List UInt8 := dkwX3_arePairs_0 ++ dktX3_arePairs_1
theorem dksX3_arePairs_0 : cX3_arePairs.data.toList.drop 0 = dktX3_arePairs_0 := by decide +kernel
theorem dksX3_arePairs_1 : cX3_arePairs.data.toList.drop 24 = dktX3_arePairs_1 := dk_seg dksX3_arePairs_0 24 rfl rfl
theorem dksX3_arePairs_2 : cX3_arePairs.data.toList.drop 48 = dktX3_arePairs_2 := dk_seg dksX3_arePairs_1 24 rfl rfl
theorem dksX3_arePairs_3 : cX3_arePairs.data.toList.drop 71 = dktX3_arePairs_3 := dk_seg dksX3_arePairs_2 23 rfl rfl
theorem dksX3_arePairs_4 : cX3_arePairs.data.toList.drop 95 = dktX3_arePairs_4 := dk_seg dksX3_arePairs_3 24 rfl rfl
theorem dX3_arePairs_0 : decode cX3_arePairs 0 = .ok (.iconst 0, 1) := dk_3 (dk_at dksX3_arePairs_0 0 rfl rfl)
theorem dX3_arePairs_1 : decode cX3_arePairs 1 = .ok (.istore_n 1, 1) := dk_60 (dk_at dksX3_arePairs_0 1 rfl rfl)
theorem dX3_arePairs_2 : decode cX3_arePairs 2 = .ok (.iload_n 1, 1) := dk_27 (dk_at dksX3_arePairs_0 2 rfl rfl)
theorem dX3_arePairs_3 : decode cX3_arePairs 3 = .ok (.aload_n 0, 1) := dk_42 (dk_at dksX3_arePairs_0 3 rfl rfl)
theorem dX3_arePairs_4 : decode cX3_arePairs 4 = .ok (.getfield 152, 3) := dk_180 0 152 (dk_at dksX3_arePairs_0 4 rfl rfl)
theorem dX3_arePairs_7 : decode cX3_arePairs 7 = .ok (.if_icmp .ge 87, 3) := dk_162 0 87 (dk_at dksX3_arePairs_0 7 rfl rfl)
theorem dX3_arePairs_10 : decode cX3_arePairs 10 = .ok (.aload_n 0, 1) := dk_42 (dk_at dksX3_arePairs_0 10 rfl rfl)
theorem dX3_arePairs_11 : decode cX3_arePairs 11 = .ok (.getfield 31, 3) := dk_180 0 31 (dk_at dksX3_arePairs_0 11 rfl rfl)
theorem dX3_arePairs_14 : decode cX3_arePairs 14 = .ok (.iload_n 1, 1) := dk_27 (dk_at dksX3_arePairs_0 14 rfl rfl)
theorem dX3_arePairs_15 : decode cX3_arePairs 15 = .ok (.iaload, 1) := dk_46 (dk_at dksX3_arePairs_0 15 rfl rfl)
theorem dX3_arePairs_16 : decode cX3_arePairs 16 = .ok (.istore_n 2, 1) := dk_61 (dk_at dksX3_arePairs_0 16 rfl rfl)
theorem dX3_arePairs_17 : decode cX3_arePairs 17 = .ok (.aload_n 0, 1) := dk_42 (dk_at dksX3_arePairs_0 17 rfl rfl)
theorem dX3_arePairs_18 : decode cX3_arePairs 18 = .ok (.getfield 31, 3) := dk_180 0 31 (dk_at dksX3_arePairs_0 18 rfl rfl)
theorem dX3_arePairs_21 : decode cX3_arePairs 21 = .ok (.iload_n 1, 1) := dk_27 (dk_at dksX3_arePairs_0 21 rfl rfl)
theorem dX3_arePairs_22 : decode cX3_arePairs 22 = .ok (.iconst 1, 1) := dk_4 (dk_at dksX3_arePairs_0 22 rfl rfl)
theorem dX3_arePairs_23 : decode cX3_arePairs 23 = .ok (.iadd, 1) := dk_96 (dk_at dksX3_arePairs_0 23 rfl rfl)
theorem dX3_arePairs_24 : decode cX3_arePairs 24 = .ok (.iaload, 1) := dk_46 (dk_at dksX3_arePairs_1 0 rfl rfl)
theorem dX3_arePairs_25 : decode cX3_arePairs 25 = .ok (.istore_n 3, 1) := dk_62 (dk_at dksX3_arePairs_1 1 rfl rfl)
theorem dX3_arePairs_26 : decode cX3_arePairs 26 = .ok (.aload_n 0, 1) := dk_42 (dk_at dksX3_arePairs_1 2 rfl rfl)
theorem dX3_arePairs_27 : decode cX3_arePairs 27 = .ok (.getfield 23, 3) := dk_180 0 23 (dk_at dksX3_arePairs_1 3 rfl rfl)
theorem dX3_arePairs_30 : decode cX3_arePairs 30 = .ok (.bipush 13, 2) := dk_16 13 (dk_at dksX3_arePairs_1 6 rfl rfl)
theorem dX3_arePairs_32 : decode cX3_arePairs 32 = .ok (.bipush 12, 2) := dk_16 12 (dk_at dksX3_arePairs_1 8 rfl rfl)
theorem dX3_arePairs_34 : decode cX3_arePairs 34 = .ok (.iload_n 2, 1) := dk_28 (dk_at dksX3_arePairs_1 10 rfl rfl)
theorem dX3_arePairs_35 : decode cX3_arePairs 35 = .ok (.imul, 1) := dk_104 (dk_at dksX3_arePairs_1 11 rfl rfl)
theorem dX3_arePairs_36 : decode cX3_arePairs 36 = .ok (.iadd, 1) := dk_96 (dk_at dksX3_arePairs_1 12 rfl rfl)
theorem dX3_arePairs_37 : decode cX3_arePairs 37 = .ok (.iload_n 3, 1) := dk_29 (dk_at dksX3_arePairs_1 13 rfl rfl)
theorem dX3_arePairs_38 : decode cX3_arePairs 38 = .ok (.iadd, 1) := dk_96 (dk_at dksX3_arePairs_1 14 rfl rfl)
theorem dX3_arePairs_39 : decode cX3_arePairs 39 = .ok (.iaload, 1) := dk_46 (dk_at dksX3_arePairs_1 15 rfl rfl)
theorem dX3_arePairs_40 : decode cX3_arePairs 40 = .ok (.iconst (-1), 1) := dk_2 (dk_at dksX3_arePairs_1 16 rfl rfl)
theorem dX3_arePairs_41 : decode cX3_arePairs 41 = .ok (.if_icmp .eq 27, 3) := dk_159 0 27 (dk_at dksX3_arePairs_1 17 rfl rfl)
theorem dX3_arePairs_44 : decode cX3_arePairs 44 = .ok (.aload_n 0, 1) := dk_42 (dk_at dksX3_arePairs_1 20 rfl rfl)
theorem dX3_arePairs_45 : decode cX3_arePairs 45 = .ok (.getfield 23, 3) := dk_180 0 23 (dk_at dksX3_arePairs_1 21 rfl rfl)
theorem dX3_arePairs_48 : decode cX3_arePairs 48 = .ok (.iconst 1, 1) := dk_4 (dk_at dksX3_arePairs_2 0 rfl rfl)
theorem dX3_arePairs_49 : decode cX3_arePairs 49 = .ok (.iload_n 2, 1) := dk_28 (dk_at dksX3_arePairs_2 1 rfl rfl)
theorem dX3_arePairs_50 : decode cX3_arePairs 50 = .ok (.iadd, 1) := dk_96 (dk_at dksX3_arePairs_2 2 rfl rfl)
theorem dX3_arePairs_51 : decode cX3_arePairs 51 = .ok (.iaload, 1) := dk_46 (dk_at dksX3_arePairs_2 3 rfl rfl)
theorem dX3_arePairs_52 : decode cX3_arePairs 52 = .ok (.iconst (-1), 1) := dk_2 (dk_at dksX3_arePairs_2 4 rfl rfl)
theorem dX3_arePairs_53 : decode cX3_arePairs 53 = .ok (.if_icmp .ne 15, 3) := dk_160 0 15 (dk_at dksX3_arePairs_2 5 rfl rfl)
theorem dX3_arePairs_56 : decode cX3_arePairs 56 = .ok (.aload_n 0, 1) := dk_42 (dk_at dksX3_arePairs_2 8 rfl rfl)
theorem dX3_arePairs_57 : decode cX3_arePairs 57 = .ok (.getfield 23, 3) := dk_180 0 23 (dk_at dksX3_arePairs_2 9 rfl rfl)
theorem dX3_arePairs_60 : decode cX3_arePairs 60 = .ok (.iconst 1, 1) := dk_4 (dk_at dksX3_arePairs_2 12 rfl rfl)
theorem dX3_arePairs_61 : decode cX3_arePairs 61 = .ok (.iload_n 3, 1) := dk_29 (dk_at dksX3_arePairs_2 13 rfl rfl)
theorem dX3_arePairs_62 : decode cX3_arePairs 62 = .ok (.iadd, 1) := dk_96 (dk_at dksX3_arePairs_2 14 rfl rfl)
theorem dX3_arePairs_63 : decode cX3_arePairs 63 = .ok (.iaload, 1) := dk_46 (dk_at dksX3_arePairs_2 15 rfl rfl)
theorem dX3_arePairs_64 : decode cX3_arePairs 64 = .ok (.iconst (-1), 1) := dk_2 (dk_at dksX3_arePairs_2 16 rfl rfl)
theorem dX3_arePairs_65 : decode cX3_arePairs 65 = .ok (.if_icmp .eq 5, 3) := dk_159 0 5 (dk_at dksX3_arePairs_2 17 rfl rfl)
theorem dX3_arePairs_68 : decode cX3_arePairs 68 = .ok (.iconst 0, 1) := dk_3 (dk_at dksX3_arePairs_2 20 rfl rfl)
theorem dX3_arePairs_69 : decode cX3_arePairs 69 = .ok (.ireturn, 1) := dk_172 (dk_at dksX3_arePairs_2 21 rfl rfl)
theorem dX3_arePairs_70 : decode cX3_arePairs 70 = .ok (.aload_n 0, 1) := dk_42 (dk_at dksX3_arePairs_2 22 rfl rfl)
theorem dX3_arePairs_71 : decode cX3_arePairs 71 = .ok (.getfield 23, 3) := dk_180 0 23 (dk_at dksX3_arePairs_3 0 rfl rfl)
theorem dX3_arePairs_74 : decode cX3_arePairs 74 = .ok (.iconst 1, 1) := dk_4 (dk_at dksX3_arePairs_3 3 rfl rfl)
theorem dX3_arePairs_75 : decode cX3_arePairs 75 = .ok (.iload_n 2, 1) := dk_28 (dk_at dksX3_arePairs_3 4 rfl rfl)
theorem dX3_arePairs_76 : decode cX3_arePairs 76 = .ok (.iadd, 1) := dk_96 (dk_at dksX3_arePairs_3 5 rfl rfl)
theorem dX3_arePairs_77 : decode cX3_arePairs 77 = .ok (.iload_n 3, 1) := dk_29 (dk_at dksX3_arePairs_3 6 rfl rfl)
theorem dX3_arePairs_78 : decode cX3_arePairs 78 = .ok (.iastore, 1) := dk_79 (dk_at dksX3_arePairs_3 7 rfl rfl)
theorem dX3_arePairs_79 : decode cX3_arePairs 79 = .ok (.aload_n 0, 1) := dk_42 (dk_at dksX3_arePairs_3 8 rfl rfl)
theorem dX3_arePairs_80 : decode cX3_arePairs 80 = .ok (.getfield 23, 3) := dk_180 0 23 (dk_at dksX3_arePairs_3 9 rfl rfl)
theorem dX3_arePairs_83 : decode cX3_arePairs 83 = .ok (.iconst 1, 1) := dk_4 (dk_at dksX3_arePairs_3 12 rfl rfl)
theorem dX3_arePairs_84 : decode cX3_arePairs 84 = .ok (.iload_n 3, 1) := dk_29 (dk_at dksX3_arePairs_3 13 rfl rfl)
theorem dX3_arePairs_85 : decode cX3_arePairs 85 = .ok (.iadd, 1) := dk_96 (dk_at dksX3_arePairs_3 14 rfl rfl)
theorem dX3_arePairs_86 : decode cX3_arePairs 86 = .ok (.iload_n 2, 1) := dk_28 (dk_at dksX3_arePairs_3 15 rfl rfl)
theorem dX3_arePairs_87 : decode cX3_arePairs 87 = .ok (.iastore, 1) := dk_79 (dk_at dksX3_arePairs_3 16 rfl rfl)
theorem dX3_arePairs_88 : decode cX3_arePairs 88 = .ok (.iinc 1 2, 3) := dk_132 1 2 (dk_at dksX3_arePairs_3 17 rfl rfl)
theorem dX3_arePairs_91 : decode cX3_arePairs 91 = .ok (.goto (-89), 3) := dk_167 255 167 (dk_at dksX3_arePairs_3 20 rfl rfl)
theorem dX3_arePairs_94 : decode cX3_arePairs 94 = .ok (.iconst 1, 1) := dk_4 (dk_at dksX3_arePairs_3 23 rfl rfl)
theorem dX3_arePairs_95 : decode cX3_arePairs 95 = .ok (.ireturn, 1) := dk_172 (dk_at dksX3_arePairs_4 0 rfl rfl)
abbrev cX3_remembers : ByteArray := prog_12_method_50_code
def yX3_remembers : MethodName := ⟨RX3, "remembers", "()V"⟩
def dkwX3_remembers_3 : List UInt8 := [4, 96, 181, 0, 242, 177]
abbrev dktX3_remembers_3 : List UInt8 := dkwX3_remembers_3 ++ []
def dkwX3_remembers_2 : List UInt8 := [181, 0, 242, 42, 180, 0, 20, 42, 180, 0, 28, 42, 180, 0, 242, 50, 184, 0, 174, 42, 89, 180, 0, 242]
abbrev dktX3_remembers_2 : List UInt8 := dkwX3_remembers_2 ++ dktX3_remembers_3
def dkwX3_remembers_1 : List UInt8 := [180, 0, 28, 27, 4, 100, 50, 184, 0, 174, 132, 1, 1, 167, 255, 230, 42, 89, 180, 0, 242, 4, 100]
abbrev dktX3_remembers_1 : List UInt8 := dkwX3_remembers_1 ++ dktX3_remembers_2
def dkwX3_remembers_0 : List UInt8 := [42, 180, 0, 242, 16, 8, 160, 0, 44, 4, 60, 27, 16, 8, 162, 0, 26, 42, 180, 0, 28, 27, 50, 42]
abbrev dktX3_remembers_0 : List UInt8 := dkwX3_remembers_0 ++ dktX3_remembers_1
theorem dksX3_remembers_0 : cX3_remembers.data.toList.drop 0 = dktX3_remembers_0 := by decide +kernel
theorem dksX3_remembers_1 : cX3_remembers.data.toList.drop 24 = dktX3_remembers_1 := dk_seg dksX3_remembers_0 24 rfl rfl
theorem dksX3_remembers_2 : cX3_remembers.data.toList.drop 47 = dktX3_remembers_2 := dk_seg dksX3_remembers_1 23 rfl rfl
theorem dksX3_remembers_3 : cX3_remembers.data.toList.drop 71 = dktX3_remembers_3 := dk_seg dksX3_remembers_2 24 rfl rfl
theorem dX3_remembers_0 : decode cX3_remembers 0 = .ok (.aload_n 0, 1) := dk_42 (dk_at dksX3_remembers_0 0 rfl rfl)
theorem dX3_remembers_1 : decode cX3_remembers 1 = .ok (.getfield 242, 3) := dk_180 0 242 (dk_at dksX3_remembers_0 1 rfl rfl)
theorem dX3_remembers_4 : decode cX3_remembers 4 = .ok (.bipush 8, 2) := dk_16 8 (dk_at dksX3_remembers_0 4 rfl rfl)
theorem dX3_remembers_6 : decode cX3_remembers 6 = .ok (.if_icmp .ne 44, 3) := dk_160 0 44 (dk_at dksX3_remembers_0 6 rfl rfl)
theorem dX3_remembers_9 : decode cX3_remembers 9 = .ok (.iconst 1, 1) := dk_4 (dk_at dksX3_remembers_0 9 rfl rfl)
theorem dX3_remembers_10 : decode cX3_remembers 10 = .ok (.istore_n 1, 1) := dk_60 (dk_at dksX3_remembers_0 10 rfl rfl)
theorem dX3_remembers_11 : decode cX3_remembers 11 = .ok (.iload_n 1, 1) := dk_27 (dk_at dksX3_remembers_0 11 rfl rfl)
theorem dX3_remembers_12 : decode cX3_remembers 12 = .ok (.bipush 8, 2) := dk_16 8 (dk_at dksX3_remembers_0 12 rfl rfl)
theorem dX3_remembers_14 : decode cX3_remembers 14 = .ok (.if_icmp .ge 26, 3) := dk_162 0 26 (dk_at dksX3_remembers_0 14 rfl rfl)
theorem dX3_remembers_17 : decode cX3_remembers 17 = .ok (.aload_n 0, 1) := dk_42 (dk_at dksX3_remembers_0 17 rfl rfl)
theorem dX3_remembers_18 : decode cX3_remembers 18 = .ok (.getfield 28, 3) := dk_180 0 28 (dk_at dksX3_remembers_0 18 rfl rfl)
theorem dX3_remembers_21 : decode cX3_remembers 21 = .ok (.iload_n 1, 1) := dk_27 (dk_at dksX3_remembers_0 21 rfl rfl)
theorem dX3_remembers_22 : decode cX3_remembers 22 = .ok (.aaload, 1) := dk_50 (dk_at dksX3_remembers_0 22 rfl rfl)
theorem dX3_remembers_23 : decode cX3_remembers 23 = .ok (.aload_n 0, 1) := dk_42 (dk_at dksX3_remembers_0 23 rfl rfl)
theorem dX3_remembers_24 : decode cX3_remembers 24 = .ok (.getfield 28, 3) := dk_180 0 28 (dk_at dksX3_remembers_1 0 rfl rfl)
theorem dX3_remembers_27 : decode cX3_remembers 27 = .ok (.iload_n 1, 1) := dk_27 (dk_at dksX3_remembers_1 3 rfl rfl)
theorem dX3_remembers_28 : decode cX3_remembers 28 = .ok (.iconst 1, 1) := dk_4 (dk_at dksX3_remembers_1 4 rfl rfl)
theorem dX3_remembers_29 : decode cX3_remembers 29 = .ok (.isub, 1) := dk_100 (dk_at dksX3_remembers_1 5 rfl rfl)
theorem dX3_remembers_30 : decode cX3_remembers 30 = .ok (.aaload, 1) := dk_50 (dk_at dksX3_remembers_1 6 rfl rfl)
theorem dX3_remembers_31 : decode cX3_remembers 31 = .ok (.invokestatic 174, 3) := dk_184 0 174 (dk_at dksX3_remembers_1 7 rfl rfl)
theorem dX3_remembers_34 : decode cX3_remembers 34 = .ok (.iinc 1 1, 3) := dk_132 1 1 (dk_at dksX3_remembers_1 10 rfl rfl)
theorem dX3_remembers_37 : decode cX3_remembers 37 = .ok (.goto (-26), 3) := dk_167 255 230 (dk_at dksX3_remembers_1 13 rfl rfl)
theorem dX3_remembers_40 : decode cX3_remembers 40 = .ok (.aload_n 0, 1) := dk_42 (dk_at dksX3_remembers_1 16 rfl rfl)
theorem dX3_remembers_41 : decode cX3_remembers 41 = .ok (.dup, 1) := dk_89 (dk_at dksX3_remembers_1 17 rfl rfl)
theorem dX3_remembers_42 : decode cX3_remembers 42 = .ok (.getfield 242, 3) := dk_180 0 242 (dk_at dksX3_remembers_1 18 rfl rfl)
theorem dX3_remembers_45 : decode cX3_remembers 45 = .ok (.iconst 1, 1) := dk_4 (dk_at dksX3_remembers_1 21 rfl rfl)
theorem dX3_remembers_46 : decode cX3_remembers 46 = .ok (.isub, 1) := dk_100 (dk_at dksX3_remembers_1 22 rfl rfl)
theorem dX3_remembers_47 : decode cX3_remembers 47 = .ok (.putfield 242, 3) := dk_181 0 242 (dk_at dksX3_remembers_2 0 rfl rfl)
theorem dX3_remembers_50 : decode cX3_remembers 50 = .ok (.aload_n 0, 1) := dk_42 (dk_at dksX3_remembers_2 3 rfl rfl)
theorem dX3_remembers_51 : decode cX3_remembers 51 = .ok (.getfield 20, 3) := dk_180 0 20 (dk_at dksX3_remembers_2 4 rfl rfl)
theorem dX3_remembers_54 : decode cX3_remembers 54 = .ok (.aload_n 0, 1) := dk_42 (dk_at dksX3_remembers_2 7 rfl rfl)
theorem dX3_remembers_55 : decode cX3_remembers 55 = .ok (.getfield 28, 3) := dk_180 0 28 (dk_at dksX3_remembers_2 8 rfl rfl)
theorem dX3_remembers_58 : decode cX3_remembers 58 = .ok (.aload_n 0, 1) := dk_42 (dk_at dksX3_remembers_2 11 rfl rfl)
theorem dX3_remembers_59 : decode cX3_remembers 59 = .ok (.getfield 242, 3) := dk_180 0 242 (dk_at dksX3_remembers_2 12 rfl rfl)
theorem dX3_remembers_62 : decode cX3_remembers 62 = .ok (.aaload, 1) := dk_50 (dk_at dksX3_remembers_2 15 rfl rfl)
theorem dX3_remembers_63 : decode cX3_remembers 63 = .ok (.invokestatic 174, 3) := dk_184 0 174 (dk_at dksX3_remembers_2 16 rfl rfl)
theorem dX3_remembers_66 : decode cX3_remembers 66 = .ok (.aload_n 0, 1) := dk_42 (dk_at dksX3_remembers_2 19 rfl rfl)
theorem dX3_remembers_67 : decode cX3_remembers 67 = .ok (.dup, 1) := dk_89 (dk_at dksX3_remembers_2 20 rfl rfl)
theorem dX3_remembers_68 : decode cX3_remembers 68 = .ok (.getfield 242, 3) := dk_180 0 242 (dk_at dksX3_remembers_2 21 rfl rfl)
theorem dX3_remembers_71 : decode cX3_remembers 71 = .ok (.iconst 1, 1) := dk_4 (dk_at dksX3_remembers_3 0 rfl rfl)
theorem dX3_remembers_72 : decode cX3_remembers 72 = .ok (.iadd, 1) := dk_96 (dk_at dksX3_remembers_3 1 rfl rfl)
theorem dX3_remembers_73 : decode cX3_remembers 73 = .ok (.putfield 242, 3) := dk_181 0 242 (dk_at dksX3_remembers_3 2 rfl rfl)
theorem dX3_remembers_76 : decode cX3_remembers 76 = .ok (.return_, 1) := dk_177 (dk_at dksX3_remembers_3 5 rfl rfl)
abbrev cX3_copies : ByteArray := prog_12_method_8_code
def yX3_copies : MethodName := ⟨RX3, "copies", "([I[I)V"⟩
def dkwX3_copies_0 : List UInt8 := [3, 61, 28, 17, 0, 157, 162, 0, 15, 43, 28, 42, 28, 46, 79, 132, 2, 1, 167, 255, 240, 177]
abbrev dktX3_copies_0 : List UInt8 := dkwX3_copies_0 ++ []
theorem dksX3_copies_0 : cX3_copies.data.toList.drop 0 = dktX3_copies_0 := by decide +kernel
theorem dX3_copies_0 : decode cX3_copies 0 = .ok (.iconst 0, 1) := dk_3 (dk_at dksX3_copies_0 0 rfl rfl)
theorem dX3_copies_1 : decode cX3_copies 1 = .ok (.istore_n 2, 1) := dk_61 (dk_at dksX3_copies_0 1 rfl rfl)
theorem dX3_copies_2 : decode cX3_copies 2 = .ok (.iload_n 2, 1) := dk_28 (dk_at dksX3_copies_0 2 rfl rfl)
theorem dX3_copies_3 : decode cX3_copies 3 = .ok (.sipush 157, 3) := dk_17 0 157 (dk_at dksX3_copies_0 3 rfl rfl)
theorem dX3_copies_6 : decode cX3_copies 6 = .ok (.if_icmp .ge 15, 3) := dk_162 0 15 (dk_at dksX3_copies_0 6 rfl rfl)
theorem dX3_copies_9 : decode cX3_copies 9 = .ok (.aload_n 1, 1) := dk_43 (dk_at dksX3_copies_0 9 rfl rfl)
theorem dX3_copies_10 : decode cX3_copies 10 = .ok (.iload_n 2, 1) := dk_28 (dk_at dksX3_copies_0 10 rfl rfl)
theorem dX3_copies_11 : decode cX3_copies 11 = .ok (.aload_n 0, 1) := dk_42 (dk_at dksX3_copies_0 11 rfl rfl)
theorem dX3_copies_12 : decode cX3_copies 12 = .ok (.iload_n 2, 1) := dk_28 (dk_at dksX3_copies_0 12 rfl rfl)
theorem dX3_copies_13 : decode cX3_copies 13 = .ok (.iaload, 1) := dk_46 (dk_at dksX3_copies_0 13 rfl rfl)
theorem dX3_copies_14 : decode cX3_copies 14 = .ok (.iastore, 1) := dk_79 (dk_at dksX3_copies_0 14 rfl rfl)
theorem dX3_copies_15 : decode cX3_copies 15 = .ok (.iinc 2 1, 3) := dk_132 2 1 (dk_at dksX3_copies_0 15 rfl rfl)
theorem dX3_copies_18 : decode cX3_copies 18 = .ok (.goto (-16), 3) := dk_167 255 240 (dk_at dksX3_copies_0 18 rfl rfl)
theorem dX3_copies_21 : decode cX3_copies 21 = .ok (.return_, 1) := dk_177 (dk_at dksX3_copies_0 21 rfl rfl)
abbrev cX3_lines : ByteArray := prog_12_method_36_code
def yX3_lines : MethodName := ⟨RX3, "lines", "()I"⟩
def dkwX3_lines_2 : List UInt8 := [167, 255, 214, 27, 172]
abbrev dktX3_lines_2 : List UInt8 := dkwX3_lines_2 ++ []
def dkwX3_lines_1 : List UInt8 := [182, 0, 203, 2, 160, 0, 7, 3, 167, 0, 4, 4, 96, 60, 132, 3, 1, 167, 255, 230, 132, 2, 1]
abbrev dktX3_lines_1 : List UInt8 := dkwX3_lines_1 ++ dktX3_lines_2
def dkwX3_lines_0 : List UInt8 := [3, 60, 3, 61, 28, 42, 182, 0, 181, 162, 0, 40, 3, 62, 29, 28, 162, 0, 27, 27, 42, 28, 29]
abbrev dktX3_lines_0 : List UInt8 := dkwX3_lines_0 ++ dktX3_lines_1
theorem dksX3_lines_0 : cX3_lines.data.toList.drop 0 = dktX3_lines_0 := by decide +kernel
theorem dksX3_lines_1 : cX3_lines.data.toList.drop 23 = dktX3_lines_1 := dk_seg dksX3_lines_0 23 rfl rfl
theorem dksX3_lines_2 : cX3_lines.data.toList.drop 46 = dktX3_lines_2 := dk_seg dksX3_lines_1 23 rfl rfl
theorem dX3_lines_0 : decode cX3_lines 0 = .ok (.iconst 0, 1) := dk_3 (dk_at dksX3_lines_0 0 rfl rfl)
theorem dX3_lines_1 : decode cX3_lines 1 = .ok (.istore_n 1, 1) := dk_60 (dk_at dksX3_lines_0 1 rfl rfl)
theorem dX3_lines_2 : decode cX3_lines 2 = .ok (.iconst 0, 1) := dk_3 (dk_at dksX3_lines_0 2 rfl rfl)
theorem dX3_lines_3 : decode cX3_lines 3 = .ok (.istore_n 2, 1) := dk_61 (dk_at dksX3_lines_0 3 rfl rfl)
theorem dX3_lines_4 : decode cX3_lines 4 = .ok (.iload_n 2, 1) := dk_28 (dk_at dksX3_lines_0 4 rfl rfl)
theorem dX3_lines_5 : decode cX3_lines 5 = .ok (.aload_n 0, 1) := dk_42 (dk_at dksX3_lines_0 5 rfl rfl)
theorem dX3_lines_6 : decode cX3_lines 6 = .ok (.invokevirtual 181, 3) := dk_182 0 181 (dk_at dksX3_lines_0 6 rfl rfl)
theorem dX3_lines_9 : decode cX3_lines 9 = .ok (.if_icmp .ge 40, 3) := dk_162 0 40 (dk_at dksX3_lines_0 9 rfl rfl)
theorem dX3_lines_12 : decode cX3_lines 12 = .ok (.iconst 0, 1) := dk_3 (dk_at dksX3_lines_0 12 rfl rfl)
theorem dX3_lines_13 : decode cX3_lines 13 = .ok (.istore_n 3, 1) := dk_62 (dk_at dksX3_lines_0 13 rfl rfl)
theorem dX3_lines_14 : decode cX3_lines 14 = .ok (.iload_n 3, 1) := dk_29 (dk_at dksX3_lines_0 14 rfl rfl)
theorem dX3_lines_15 : decode cX3_lines 15 = .ok (.iload_n 2, 1) := dk_28 (dk_at dksX3_lines_0 15 rfl rfl)
theorem dX3_lines_16 : decode cX3_lines 16 = .ok (.if_icmp .ge 27, 3) := dk_162 0 27 (dk_at dksX3_lines_0 16 rfl rfl)
theorem dX3_lines_19 : decode cX3_lines 19 = .ok (.iload_n 1, 1) := dk_27 (dk_at dksX3_lines_0 19 rfl rfl)
theorem dX3_lines_20 : decode cX3_lines 20 = .ok (.aload_n 0, 1) := dk_42 (dk_at dksX3_lines_0 20 rfl rfl)
theorem dX3_lines_21 : decode cX3_lines 21 = .ok (.iload_n 2, 1) := dk_28 (dk_at dksX3_lines_0 21 rfl rfl)
theorem dX3_lines_22 : decode cX3_lines 22 = .ok (.iload_n 3, 1) := dk_29 (dk_at dksX3_lines_0 22 rfl rfl)
theorem dX3_lines_23 : decode cX3_lines 23 = .ok (.invokevirtual 203, 3) := dk_182 0 203 (dk_at dksX3_lines_1 0 rfl rfl)
theorem dX3_lines_26 : decode cX3_lines 26 = .ok (.iconst (-1), 1) := dk_2 (dk_at dksX3_lines_1 3 rfl rfl)
theorem dX3_lines_27 : decode cX3_lines 27 = .ok (.if_icmp .ne 7, 3) := dk_160 0 7 (dk_at dksX3_lines_1 4 rfl rfl)
theorem dX3_lines_30 : decode cX3_lines 30 = .ok (.iconst 0, 1) := dk_3 (dk_at dksX3_lines_1 7 rfl rfl)
theorem dX3_lines_31 : decode cX3_lines 31 = .ok (.goto 4, 3) := dk_167 0 4 (dk_at dksX3_lines_1 8 rfl rfl)
theorem dX3_lines_34 : decode cX3_lines 34 = .ok (.iconst 1, 1) := dk_4 (dk_at dksX3_lines_1 11 rfl rfl)
theorem dX3_lines_35 : decode cX3_lines 35 = .ok (.iadd, 1) := dk_96 (dk_at dksX3_lines_1 12 rfl rfl)
theorem dX3_lines_36 : decode cX3_lines 36 = .ok (.istore_n 1, 1) := dk_60 (dk_at dksX3_lines_1 13 rfl rfl)
theorem dX3_lines_37 : decode cX3_lines 37 = .ok (.iinc 3 1, 3) := dk_132 3 1 (dk_at dksX3_lines_1 14 rfl rfl)
theorem dX3_lines_40 : decode cX3_lines 40 = .ok (.goto (-26), 3) := dk_167 255 230 (dk_at dksX3_lines_1 17 rfl rfl)
theorem dX3_lines_43 : decode cX3_lines 43 = .ok (.iinc 2 1, 3) := dk_132 2 1 (dk_at dksX3_lines_1 20 rfl rfl)
theorem dX3_lines_46 : decode cX3_lines 46 = .ok (.goto (-42), 3) := dk_167 255 214 (dk_at dksX3_lines_2 0 rfl rfl)
theorem dX3_lines_49 : decode cX3_lines 49 = .ok (.iload_n 1, 1) := dk_27 (dk_at dksX3_lines_2 3 rfl rfl)
theorem dX3_lines_50 : decode cX3_lines 50 = .ok (.ireturn, 1) := dk_172 (dk_at dksX3_lines_2 4 rfl rfl)
abbrev cX3_nodes : ByteArray := prog_12_method_25_code
def yX3_nodes : MethodName := ⟨RX3, "nodes", "()I"⟩
def dkwX3_nodes_0 : List UInt8 := [42, 180, 0, 20, 3, 46, 172]
abbrev dktX3_nodes_0 : List UInt8 := dkwX3_nodes_0 ++ []
theorem dksX3_nodes_0 : cX3_nodes.data.toList.drop 0 = dktX3_nodes_0 := by decide +kernel
theorem dX3_nodes_0 : decode cX3_nodes 0 = .ok (.aload_n 0, 1) := dk_42 (dk_at dksX3_nodes_0 0 rfl rfl)
theorem dX3_nodes_1 : decode cX3_nodes 1 = .ok (.getfield 20, 3) := dk_180 0 20 (dk_at dksX3_nodes_0 1 rfl rfl)
theorem dX3_nodes_4 : decode cX3_nodes 4 = .ok (.iconst 0, 1) := dk_3 (dk_at dksX3_nodes_0 4 rfl rfl)
theorem dX3_nodes_5 : decode cX3_nodes 5 = .ok (.iaload, 1) := dk_46 (dk_at dksX3_nodes_0 5 rfl rfl)
theorem dX3_nodes_6 : decode cX3_nodes 6 = .ok (.ireturn, 1) := dk_172 (dk_at dksX3_nodes_0 6 rfl rfl)
abbrev cX3_weight : ByteArray := prog_12_method_28_code
def yX3_weight : MethodName := ⟨RX3, "weight", "(II)I"⟩
def dkwX3_weight_0 : List UInt8 := [42, 180, 0, 20, 16, 13, 16, 12, 27, 104, 96, 28, 96, 46, 172]
abbrev dktX3_weight_0 : List UInt8 := dkwX3_weight_0 ++ []
theorem dksX3_weight_0 : cX3_weight.data.toList.drop 0 = dktX3_weight_0 := by decide +kernel
theorem dX3_weight_0 : decode cX3_weight 0 = .ok (.aload_n 0, 1) := dk_42 (dk_at dksX3_weight_0 0 rfl rfl)
theorem dX3_weight_1 : decode cX3_weight 1 = .ok (.getfield 20, 3) := dk_180 0 20 (dk_at dksX3_weight_0 1 rfl rfl)
theorem dX3_weight_4 : decode cX3_weight 4 = .ok (.bipush 13, 2) := dk_16 13 (dk_at dksX3_weight_0 4 rfl rfl)
theorem dX3_weight_6 : decode cX3_weight 6 = .ok (.bipush 12, 2) := dk_16 12 (dk_at dksX3_weight_0 6 rfl rfl)
theorem dX3_weight_8 : decode cX3_weight 8 = .ok (.iload_n 1, 1) := dk_27 (dk_at dksX3_weight_0 8 rfl rfl)
theorem dX3_weight_9 : decode cX3_weight 9 = .ok (.imul, 1) := dk_104 (dk_at dksX3_weight_0 9 rfl rfl)
theorem dX3_weight_10 : decode cX3_weight 10 = .ok (.iadd, 1) := dk_96 (dk_at dksX3_weight_0 10 rfl rfl)
theorem dX3_weight_11 : decode cX3_weight 11 = .ok (.iload_n 2, 1) := dk_28 (dk_at dksX3_weight_0 11 rfl rfl)
theorem dX3_weight_12 : decode cX3_weight 12 = .ok (.iadd, 1) := dk_96 (dk_at dksX3_weight_0 12 rfl rfl)
theorem dX3_weight_13 : decode cX3_weight 13 = .ok (.iaload, 1) := dk_46 (dk_at dksX3_weight_0 13 rfl rfl)
theorem dX3_weight_14 : decode cX3_weight 14 = .ok (.ireturn, 1) := dk_172 (dk_at dksX3_weight_0 14 rfl rfl)
abbrev cX3_fault : ByteArray := prog_12_method_24_code
def yX3_fault : MethodName := ⟨RX3, "fault", "()I"⟩
def dkwX3_fault_0 : List UInt8 := [42, 3, 181, 0, 72, 42, 180, 0, 13, 172]
abbrev dktX3_fault_0 : List UInt8 := dkwX3_fault_0 ++ []
theorem dksX3_fault_0 : cX3_fault.data.toList.drop 0 = dktX3_fault_0 := by decide +kernel
theorem dX3_fault_0 : decode cX3_fault 0 = .ok (.aload_n 0, 1) := dk_42 (dk_at dksX3_fault_0 0 rfl rfl)
theorem dX3_fault_1 : decode cX3_fault 1 = .ok (.iconst 0, 1) := dk_3 (dk_at dksX3_fault_0 1 rfl rfl)
theorem dX3_fault_2 : decode cX3_fault 2 = .ok (.putfield 72, 3) := dk_181 0 72 (dk_at dksX3_fault_0 2 rfl rfl)
theorem dX3_fault_5 : decode cX3_fault 5 = .ok (.aload_n 0, 1) := dk_42 (dk_at dksX3_fault_0 5 rfl rfl)
theorem dX3_fault_6 : decode cX3_fault 6 = .ok (.getfield 13, 3) := dk_180 0 13 (dk_at dksX3_fault_0 6 rfl rfl)
theorem dX3_fault_9 : decode cX3_fault 9 = .ok (.ireturn, 1) := dk_172 (dk_at dksX3_fault_0 9 rfl rfl)
abbrev cX3_undo : ByteArray := prog_12_method_51_code
def yX3_undo : MethodName := ⟨RX3, "undo", "()I"⟩
def dkwX3_undo_2 : List UInt8 := [172]
abbrev dktX3_undo_2 : List UInt8 := dkwX3_undo_2 ++ []
def dkwX3_undo_1 : List UInt8 := [42, 180, 0, 28, 42, 180, 0, 242, 50, 42, 180, 0, 20, 184, 0, 174, 42, 182, 0, 69, 42, 180, 0, 242]
abbrev dktX3_undo_1 : List UInt8 := dkwX3_undo_1 ++ dktX3_undo_2
def dkwX3_undo_0 : List UInt8 := [42, 3, 181, 0, 72, 42, 180, 0, 242, 154, 0, 5, 2, 172, 42, 89, 180, 0, 242, 4, 100, 181, 0, 242]
abbrev dktX3_undo_0 : List UInt8 := dkwX3_undo_0 ++ dktX3_undo_1
theorem dksX3_undo_0 : cX3_undo.data.toList.drop 0 = dktX3_undo_0 := by decide +kernel
theorem dksX3_undo_1 : cX3_undo.data.toList.drop 24 = dktX3_undo_1 := dk_seg dksX3_undo_0 24 rfl rfl
theorem dksX3_undo_2 : cX3_undo.data.toList.drop 48 = dktX3_undo_2 := dk_seg dksX3_undo_1 24 rfl rfl
theorem dX3_undo_0 : decode cX3_undo 0 = .ok (.aload_n 0, 1) := dk_42 (dk_at dksX3_undo_0 0 rfl rfl)
theorem dX3_undo_1 : decode cX3_undo 1 = .ok (.iconst 0, 1) := dk_3 (dk_at dksX3_undo_0 1 rfl rfl)
theorem dX3_undo_2 : decode cX3_undo 2 = .ok (.putfield 72, 3) := dk_181 0 72 (dk_at dksX3_undo_0 2 rfl rfl)
theorem dX3_undo_5 : decode cX3_undo 5 = .ok (.aload_n 0, 1) := dk_42 (dk_at dksX3_undo_0 5 rfl rfl)
theorem dX3_undo_6 : decode cX3_undo 6 = .ok (.getfield 242, 3) := dk_180 0 242 (dk_at dksX3_undo_0 6 rfl rfl)
theorem dX3_undo_9 : decode cX3_undo 9 = .ok (.ifCond .ne 5, 3) := dk_154 0 5 (dk_at dksX3_undo_0 9 rfl rfl)
theorem dX3_undo_12 : decode cX3_undo 12 = .ok (.iconst (-1), 1) := dk_2 (dk_at dksX3_undo_0 12 rfl rfl)
theorem dX3_undo_13 : decode cX3_undo 13 = .ok (.ireturn, 1) := dk_172 (dk_at dksX3_undo_0 13 rfl rfl)
theorem dX3_undo_14 : decode cX3_undo 14 = .ok (.aload_n 0, 1) := dk_42 (dk_at dksX3_undo_0 14 rfl rfl)
theorem dX3_undo_15 : decode cX3_undo 15 = .ok (.dup, 1) := dk_89 (dk_at dksX3_undo_0 15 rfl rfl)
theorem dX3_undo_16 : decode cX3_undo 16 = .ok (.getfield 242, 3) := dk_180 0 242 (dk_at dksX3_undo_0 16 rfl rfl)
theorem dX3_undo_19 : decode cX3_undo 19 = .ok (.iconst 1, 1) := dk_4 (dk_at dksX3_undo_0 19 rfl rfl)
theorem dX3_undo_20 : decode cX3_undo 20 = .ok (.isub, 1) := dk_100 (dk_at dksX3_undo_0 20 rfl rfl)
theorem dX3_undo_21 : decode cX3_undo 21 = .ok (.putfield 242, 3) := dk_181 0 242 (dk_at dksX3_undo_0 21 rfl rfl)
theorem dX3_undo_24 : decode cX3_undo 24 = .ok (.aload_n 0, 1) := dk_42 (dk_at dksX3_undo_1 0 rfl rfl)
theorem dX3_undo_25 : decode cX3_undo 25 = .ok (.getfield 28, 3) := dk_180 0 28 (dk_at dksX3_undo_1 1 rfl rfl)
theorem dX3_undo_28 : decode cX3_undo 28 = .ok (.aload_n 0, 1) := dk_42 (dk_at dksX3_undo_1 4 rfl rfl)
theorem dX3_undo_29 : decode cX3_undo 29 = .ok (.getfield 242, 3) := dk_180 0 242 (dk_at dksX3_undo_1 5 rfl rfl)
theorem dX3_undo_32 : decode cX3_undo 32 = .ok (.aaload, 1) := dk_50 (dk_at dksX3_undo_1 8 rfl rfl)
theorem dX3_undo_33 : decode cX3_undo 33 = .ok (.aload_n 0, 1) := dk_42 (dk_at dksX3_undo_1 9 rfl rfl)
theorem dX3_undo_34 : decode cX3_undo 34 = .ok (.getfield 20, 3) := dk_180 0 20 (dk_at dksX3_undo_1 10 rfl rfl)
theorem dX3_undo_37 : decode cX3_undo 37 = .ok (.invokestatic 174, 3) := dk_184 0 174 (dk_at dksX3_undo_1 13 rfl rfl)
theorem dX3_undo_40 : decode cX3_undo 40 = .ok (.aload_n 0, 1) := dk_42 (dk_at dksX3_undo_1 16 rfl rfl)
theorem dX3_undo_41 : decode cX3_undo 41 = .ok (.invokevirtual 69, 3) := dk_182 0 69 (dk_at dksX3_undo_1 17 rfl rfl)
theorem dX3_undo_44 : decode cX3_undo 44 = .ok (.aload_n 0, 1) := dk_42 (dk_at dksX3_undo_1 20 rfl rfl)
theorem dX3_undo_45 : decode cX3_undo 45 = .ok (.getfield 242, 3) := dk_180 0 242 (dk_at dksX3_undo_1 21 rfl rfl)
theorem dX3_undo_48 : decode cX3_undo 48 = .ok (.ireturn, 1) := dk_172 (dk_at dksX3_undo_2 0 rfl rfl)
abbrev cX3_join : ByteArray := prog_12_method_53_code
def yX3_join : MethodName := ⟨RX3, "join", "(III)I"⟩
def dkwX3_join_3 : List UInt8 := [182, 0, 171, 42, 180, 0, 20, 27, 28, 29, 184, 0, 65, 42, 182, 0, 69, 42, 182, 0, 178, 172]
abbrev dktX3_join_3 : List UInt8 := dkwX3_join_3 ++ []
def dkwX3_join_2 : List UInt8 := [184, 0, 111, 154, 0, 7, 4, 167, 0, 4, 3, 5, 4, 182, 0, 159, 153, 0, 5, 3, 172, 42]
abbrev dktX3_join_2 : List UInt8 := dkwX3_join_2 ++ dktX3_join_3
def dkwX3_join_1 : List UInt8 := [167, 0, 4, 3, 4, 3, 182, 0, 159, 154, 0, 33, 42, 27, 28, 159, 0, 14, 29, 3, 17, 3, 231]
abbrev dktX3_join_1 : List UInt8 := dkwX3_join_1 ++ dktX3_join_2
def dkwX3_join_0 : List UInt8 := [42, 3, 181, 0, 72, 42, 42, 27, 182, 0, 245, 153, 0, 11, 42, 28, 182, 0, 245, 154, 0, 7, 4]
abbrev dktX3_join_0 : List UInt8 := dkwX3_join_0 ++ dktX3_join_1
theorem dksX3_join_0 : cX3_join.data.toList.drop 0 = dktX3_join_0 := by decide +kernel
theorem dksX3_join_1 : cX3_join.data.toList.drop 23 = dktX3_join_1 := dk_seg dksX3_join_0 23 rfl rfl
theorem dksX3_join_2 : cX3_join.data.toList.drop 46 = dktX3_join_2 := dk_seg dksX3_join_1 23 rfl rfl
theorem dksX3_join_3 : cX3_join.data.toList.drop 68 = dktX3_join_3 := dk_seg dksX3_join_2 22 rfl rfl
theorem dX3_join_0 : decode cX3_join 0 = .ok (.aload_n 0, 1) := dk_42 (dk_at dksX3_join_0 0 rfl rfl)
theorem dX3_join_1 : decode cX3_join 1 = .ok (.iconst 0, 1) := dk_3 (dk_at dksX3_join_0 1 rfl rfl)
theorem dX3_join_2 : decode cX3_join 2 = .ok (.putfield 72, 3) := dk_181 0 72 (dk_at dksX3_join_0 2 rfl rfl)
theorem dX3_join_5 : decode cX3_join 5 = .ok (.aload_n 0, 1) := dk_42 (dk_at dksX3_join_0 5 rfl rfl)
theorem dX3_join_6 : decode cX3_join 6 = .ok (.aload_n 0, 1) := dk_42 (dk_at dksX3_join_0 6 rfl rfl)
theorem dX3_join_7 : decode cX3_join 7 = .ok (.iload_n 1, 1) := dk_27 (dk_at dksX3_join_0 7 rfl rfl)
theorem dX3_join_8 : decode cX3_join 8 = .ok (.invokevirtual 245, 3) := dk_182 0 245 (dk_at dksX3_join_0 8 rfl rfl)
theorem dX3_join_11 : decode cX3_join 11 = .ok (.ifCond .eq 11, 3) := dk_153 0 11 (dk_at dksX3_join_0 11 rfl rfl)
theorem dX3_join_14 : decode cX3_join 14 = .ok (.aload_n 0, 1) := dk_42 (dk_at dksX3_join_0 14 rfl rfl)
theorem dX3_join_15 : decode cX3_join 15 = .ok (.iload_n 2, 1) := dk_28 (dk_at dksX3_join_0 15 rfl rfl)
theorem dX3_join_16 : decode cX3_join 16 = .ok (.invokevirtual 245, 3) := dk_182 0 245 (dk_at dksX3_join_0 16 rfl rfl)
theorem dX3_join_19 : decode cX3_join 19 = .ok (.ifCond .ne 7, 3) := dk_154 0 7 (dk_at dksX3_join_0 19 rfl rfl)
theorem dX3_join_22 : decode cX3_join 22 = .ok (.iconst 1, 1) := dk_4 (dk_at dksX3_join_0 22 rfl rfl)
theorem dX3_join_23 : decode cX3_join 23 = .ok (.goto 4, 3) := dk_167 0 4 (dk_at dksX3_join_1 0 rfl rfl)
theorem dX3_join_26 : decode cX3_join 26 = .ok (.iconst 0, 1) := dk_3 (dk_at dksX3_join_1 3 rfl rfl)
theorem dX3_join_27 : decode cX3_join 27 = .ok (.iconst 1, 1) := dk_4 (dk_at dksX3_join_1 4 rfl rfl)
theorem dX3_join_28 : decode cX3_join 28 = .ok (.iconst 0, 1) := dk_3 (dk_at dksX3_join_1 5 rfl rfl)
theorem dX3_join_29 : decode cX3_join 29 = .ok (.invokevirtual 159, 3) := dk_182 0 159 (dk_at dksX3_join_1 6 rfl rfl)
theorem dX3_join_32 : decode cX3_join 32 = .ok (.ifCond .ne 33, 3) := dk_154 0 33 (dk_at dksX3_join_1 9 rfl rfl)
theorem dX3_join_35 : decode cX3_join 35 = .ok (.aload_n 0, 1) := dk_42 (dk_at dksX3_join_1 12 rfl rfl)
theorem dX3_join_36 : decode cX3_join 36 = .ok (.iload_n 1, 1) := dk_27 (dk_at dksX3_join_1 13 rfl rfl)
theorem dX3_join_37 : decode cX3_join 37 = .ok (.iload_n 2, 1) := dk_28 (dk_at dksX3_join_1 14 rfl rfl)
theorem dX3_join_38 : decode cX3_join 38 = .ok (.if_icmp .eq 14, 3) := dk_159 0 14 (dk_at dksX3_join_1 15 rfl rfl)
theorem dX3_join_41 : decode cX3_join 41 = .ok (.iload_n 3, 1) := dk_29 (dk_at dksX3_join_1 18 rfl rfl)
theorem dX3_join_42 : decode cX3_join 42 = .ok (.iconst 0, 1) := dk_3 (dk_at dksX3_join_1 19 rfl rfl)
theorem dX3_join_43 : decode cX3_join 43 = .ok (.sipush 999, 3) := dk_17 3 231 (dk_at dksX3_join_1 20 rfl rfl)
theorem dX3_join_46 : decode cX3_join 46 = .ok (.invokestatic 111, 3) := dk_184 0 111 (dk_at dksX3_join_2 0 rfl rfl)
theorem dX3_join_49 : decode cX3_join 49 = .ok (.ifCond .ne 7, 3) := dk_154 0 7 (dk_at dksX3_join_2 3 rfl rfl)
theorem dX3_join_52 : decode cX3_join 52 = .ok (.iconst 1, 1) := dk_4 (dk_at dksX3_join_2 6 rfl rfl)
theorem dX3_join_53 : decode cX3_join 53 = .ok (.goto 4, 3) := dk_167 0 4 (dk_at dksX3_join_2 7 rfl rfl)
theorem dX3_join_56 : decode cX3_join 56 = .ok (.iconst 0, 1) := dk_3 (dk_at dksX3_join_2 10 rfl rfl)
theorem dX3_join_57 : decode cX3_join 57 = .ok (.iconst 2, 1) := dk_5 (dk_at dksX3_join_2 11 rfl rfl)
theorem dX3_join_58 : decode cX3_join 58 = .ok (.iconst 1, 1) := dk_4 (dk_at dksX3_join_2 12 rfl rfl)
theorem dX3_join_59 : decode cX3_join 59 = .ok (.invokevirtual 159, 3) := dk_182 0 159 (dk_at dksX3_join_2 13 rfl rfl)
theorem dX3_join_62 : decode cX3_join 62 = .ok (.ifCond .eq 5, 3) := dk_153 0 5 (dk_at dksX3_join_2 16 rfl rfl)
theorem dX3_join_65 : decode cX3_join 65 = .ok (.iconst 0, 1) := dk_3 (dk_at dksX3_join_2 19 rfl rfl)
theorem dX3_join_66 : decode cX3_join 66 = .ok (.ireturn, 1) := dk_172 (dk_at dksX3_join_2 20 rfl rfl)
theorem dX3_join_67 : decode cX3_join 67 = .ok (.aload_n 0, 1) := dk_42 (dk_at dksX3_join_2 21 rfl rfl)
theorem dX3_join_68 : decode cX3_join 68 = .ok (.invokevirtual 171, 3) := dk_182 0 171 (dk_at dksX3_join_3 0 rfl rfl)
theorem dX3_join_71 : decode cX3_join 71 = .ok (.aload_n 0, 1) := dk_42 (dk_at dksX3_join_3 3 rfl rfl)
theorem dX3_join_72 : decode cX3_join 72 = .ok (.getfield 20, 3) := dk_180 0 20 (dk_at dksX3_join_3 4 rfl rfl)
theorem dX3_join_75 : decode cX3_join 75 = .ok (.iload_n 1, 1) := dk_27 (dk_at dksX3_join_3 7 rfl rfl)
theorem dX3_join_76 : decode cX3_join 76 = .ok (.iload_n 2, 1) := dk_28 (dk_at dksX3_join_3 8 rfl rfl)
theorem dX3_join_77 : decode cX3_join 77 = .ok (.iload_n 3, 1) := dk_29 (dk_at dksX3_join_3 9 rfl rfl)
theorem dX3_join_78 : decode cX3_join 78 = .ok (.invokestatic 65, 3) := dk_184 0 65 (dk_at dksX3_join_3 10 rfl rfl)
theorem dX3_join_81 : decode cX3_join 81 = .ok (.aload_n 0, 1) := dk_42 (dk_at dksX3_join_3 13 rfl rfl)
theorem dX3_join_82 : decode cX3_join 82 = .ok (.invokevirtual 69, 3) := dk_182 0 69 (dk_at dksX3_join_3 14 rfl rfl)
theorem dX3_join_85 : decode cX3_join 85 = .ok (.aload_n 0, 1) := dk_42 (dk_at dksX3_join_3 17 rfl rfl)
theorem dX3_join_86 : decode cX3_join 86 = .ok (.invokevirtual 178, 3) := dk_182 0 178 (dk_at dksX3_join_3 18 rfl rfl)
theorem dX3_join_89 : decode cX3_join 89 = .ok (.ireturn, 1) := dk_172 (dk_at dksX3_join_3 21 rfl rfl)
abbrev cX3_isNode : ByteArray := prog_12_method_52_code
def yX3_isNode : MethodName := ⟨RX3, "isNode", "(I)Z"⟩
def dkwX3_isNode_0 : List UInt8 := [27, 3, 42, 182, 0, 181, 4, 100, 184, 0, 111, 172]
abbrev dktX3_isNode_0 : List UInt8 := dkwX3_isNode_0 ++ []
theorem dksX3_isNode_0 : cX3_isNode.data.toList.drop 0 = dktX3_isNode_0 := by decide +kernel
theorem dX3_isNode_0 : decode cX3_isNode 0 = .ok (.iload_n 1, 1) := dk_27 (dk_at dksX3_isNode_0 0 rfl rfl)
theorem dX3_isNode_1 : decode cX3_isNode 1 = .ok (.iconst 0, 1) := dk_3 (dk_at dksX3_isNode_0 1 rfl rfl)
theorem dX3_isNode_2 : decode cX3_isNode 2 = .ok (.aload_n 0, 1) := dk_42 (dk_at dksX3_isNode_0 2 rfl rfl)
theorem dX3_isNode_3 : decode cX3_isNode 3 = .ok (.invokevirtual 181, 3) := dk_182 0 181 (dk_at dksX3_isNode_0 3 rfl rfl)
theorem dX3_isNode_6 : decode cX3_isNode 6 = .ok (.iconst 1, 1) := dk_4 (dk_at dksX3_isNode_0 6 rfl rfl)
theorem dX3_isNode_7 : decode cX3_isNode 7 = .ok (.isub, 1) := dk_100 (dk_at dksX3_isNode_0 7 rfl rfl)
theorem dX3_isNode_8 : decode cX3_isNode 8 = .ok (.invokestatic 111, 3) := dk_184 0 111 (dk_at dksX3_isNode_0 8 rfl rfl)
theorem dX3_isNode_11 : decode cX3_isNode 11 = .ok (.ireturn, 1) := dk_172 (dk_at dksX3_isNode_0 11 rfl rfl)
abbrev cX3_cut : ByteArray := prog_12_method_55_code
def yX3_cut : MethodName := ⟨RX3, "cut", "(II)I"⟩
def dkwX3_cut_4 : List UInt8 := [182, 0, 248, 42, 180, 0, 20, 27, 28, 2, 184, 0, 65, 42, 182, 0, 69, 42, 182, 0, 178, 172]
abbrev dktX3_cut_4 : List UInt8 := dkwX3_cut_4 ++ []
def dkwX3_cut_3 : List UInt8 := [5, 182, 0, 159, 153, 0, 5, 3, 172, 42, 182, 0, 171, 42, 27, 182, 0, 206, 28, 160, 0, 8, 42, 27]
abbrev dktX3_cut_3 : List UInt8 := dkwX3_cut_3 ++ dktX3_cut_4
def dkwX3_cut_2 : List UInt8 := [4, 182, 0, 159, 154, 0, 27, 42, 42, 27, 28, 182, 0, 203, 2, 160, 0, 7, 4, 167, 0, 4, 3, 6]
abbrev dktX3_cut_2 : List UInt8 := dkwX3_cut_2 ++ dktX3_cut_3
def dkwX3_cut_1 : List UInt8 := [167, 0, 4, 3, 4, 3, 182, 0, 159, 154, 0, 46, 42, 27, 28, 160, 0, 7, 4, 167, 0, 4, 3, 5]
abbrev dktX3_cut_1 : List UInt8 := dkwX3_cut_1 ++ dktX3_cut_2
def dkwX3_cut_0 : List UInt8 := [42, 3, 181, 0, 72, 42, 42, 27, 182, 0, 245, 153, 0, 11, 42, 28, 182, 0, 245, 154, 0, 7, 4]
abbrev dktX3_cut_0 : List UInt8 := dkwX3_cut_0 ++ dktX3_cut_1
theorem dksX3_cut_0 : cX3_cut.data.toList.drop 0 = dktX3_cut_0 := by decide +kernel
theorem dksX3_cut_1 : cX3_cut.data.toList.drop 23 = dktX3_cut_1 := dk_seg dksX3_cut_0 23 rfl rfl
theorem dksX3_cut_2 : cX3_cut.data.toList.drop 47 = dktX3_cut_2 := dk_seg dksX3_cut_1 24 rfl rfl
theorem dksX3_cut_3 : cX3_cut.data.toList.drop 71 = dktX3_cut_3 := dk_seg dksX3_cut_2 24 rfl rfl
theorem dksX3_cut_4 : cX3_cut.data.toList.drop 95 = dktX3_cut_4 := dk_seg dksX3_cut_3 24 rfl rfl
theorem dX3_cut_0 : decode cX3_cut 0 = .ok (.aload_n 0, 1) := dk_42 (dk_at dksX3_cut_0 0 rfl rfl)
theorem dX3_cut_1 : decode cX3_cut 1 = .ok (.iconst 0, 1) := dk_3 (dk_at dksX3_cut_0 1 rfl rfl)
theorem dX3_cut_2 : decode cX3_cut 2 = .ok (.putfield 72, 3) := dk_181 0 72 (dk_at dksX3_cut_0 2 rfl rfl)
theorem dX3_cut_5 : decode cX3_cut 5 = .ok (.aload_n 0, 1) := dk_42 (dk_at dksX3_cut_0 5 rfl rfl)
theorem dX3_cut_6 : decode cX3_cut 6 = .ok (.aload_n 0, 1) := dk_42 (dk_at dksX3_cut_0 6 rfl rfl)
theorem dX3_cut_7 : decode cX3_cut 7 = .ok (.iload_n 1, 1) := dk_27 (dk_at dksX3_cut_0 7 rfl rfl)
theorem dX3_cut_8 : decode cX3_cut 8 = .ok (.invokevirtual 245, 3) := dk_182 0 245 (dk_at dksX3_cut_0 8 rfl rfl)
theorem dX3_cut_11 : decode cX3_cut 11 = .ok (.ifCond .eq 11, 3) := dk_153 0 11 (dk_at dksX3_cut_0 11 rfl rfl)
theorem dX3_cut_14 : decode cX3_cut 14 = .ok (.aload_n 0, 1) := dk_42 (dk_at dksX3_cut_0 14 rfl rfl)
theorem dX3_cut_15 : decode cX3_cut 15 = .ok (.iload_n 2, 1) := dk_28 (dk_at dksX3_cut_0 15 rfl rfl)
theorem dX3_cut_16 : decode cX3_cut 16 = .ok (.invokevirtual 245, 3) := dk_182 0 245 (dk_at dksX3_cut_0 16 rfl rfl)
theorem dX3_cut_19 : decode cX3_cut 19 = .ok (.ifCond .ne 7, 3) := dk_154 0 7 (dk_at dksX3_cut_0 19 rfl rfl)
theorem dX3_cut_22 : decode cX3_cut 22 = .ok (.iconst 1, 1) := dk_4 (dk_at dksX3_cut_0 22 rfl rfl)
theorem dX3_cut_23 : decode cX3_cut 23 = .ok (.goto 4, 3) := dk_167 0 4 (dk_at dksX3_cut_1 0 rfl rfl)
theorem dX3_cut_26 : decode cX3_cut 26 = .ok (.iconst 0, 1) := dk_3 (dk_at dksX3_cut_1 3 rfl rfl)
theorem dX3_cut_27 : decode cX3_cut 27 = .ok (.iconst 1, 1) := dk_4 (dk_at dksX3_cut_1 4 rfl rfl)
theorem dX3_cut_28 : decode cX3_cut 28 = .ok (.iconst 0, 1) := dk_3 (dk_at dksX3_cut_1 5 rfl rfl)
theorem dX3_cut_29 : decode cX3_cut 29 = .ok (.invokevirtual 159, 3) := dk_182 0 159 (dk_at dksX3_cut_1 6 rfl rfl)
theorem dX3_cut_32 : decode cX3_cut 32 = .ok (.ifCond .ne 46, 3) := dk_154 0 46 (dk_at dksX3_cut_1 9 rfl rfl)
theorem dX3_cut_35 : decode cX3_cut 35 = .ok (.aload_n 0, 1) := dk_42 (dk_at dksX3_cut_1 12 rfl rfl)
theorem dX3_cut_36 : decode cX3_cut 36 = .ok (.iload_n 1, 1) := dk_27 (dk_at dksX3_cut_1 13 rfl rfl)
theorem dX3_cut_37 : decode cX3_cut 37 = .ok (.iload_n 2, 1) := dk_28 (dk_at dksX3_cut_1 14 rfl rfl)
theorem dX3_cut_38 : decode cX3_cut 38 = .ok (.if_icmp .ne 7, 3) := dk_160 0 7 (dk_at dksX3_cut_1 15 rfl rfl)
theorem dX3_cut_41 : decode cX3_cut 41 = .ok (.iconst 1, 1) := dk_4 (dk_at dksX3_cut_1 18 rfl rfl)
theorem dX3_cut_42 : decode cX3_cut 42 = .ok (.goto 4, 3) := dk_167 0 4 (dk_at dksX3_cut_1 19 rfl rfl)
theorem dX3_cut_45 : decode cX3_cut 45 = .ok (.iconst 0, 1) := dk_3 (dk_at dksX3_cut_1 22 rfl rfl)
theorem dX3_cut_46 : decode cX3_cut 46 = .ok (.iconst 2, 1) := dk_5 (dk_at dksX3_cut_1 23 rfl rfl)
theorem dX3_cut_47 : decode cX3_cut 47 = .ok (.iconst 1, 1) := dk_4 (dk_at dksX3_cut_2 0 rfl rfl)
theorem dX3_cut_48 : decode cX3_cut 48 = .ok (.invokevirtual 159, 3) := dk_182 0 159 (dk_at dksX3_cut_2 1 rfl rfl)
theorem dX3_cut_51 : decode cX3_cut 51 = .ok (.ifCond .ne 27, 3) := dk_154 0 27 (dk_at dksX3_cut_2 4 rfl rfl)
theorem dX3_cut_54 : decode cX3_cut 54 = .ok (.aload_n 0, 1) := dk_42 (dk_at dksX3_cut_2 7 rfl rfl)
theorem dX3_cut_55 : decode cX3_cut 55 = .ok (.aload_n 0, 1) := dk_42 (dk_at dksX3_cut_2 8 rfl rfl)
theorem dX3_cut_56 : decode cX3_cut 56 = .ok (.iload_n 1, 1) := dk_27 (dk_at dksX3_cut_2 9 rfl rfl)
theorem dX3_cut_57 : decode cX3_cut 57 = .ok (.iload_n 2, 1) := dk_28 (dk_at dksX3_cut_2 10 rfl rfl)
theorem dX3_cut_58 : decode cX3_cut 58 = .ok (.invokevirtual 203, 3) := dk_182 0 203 (dk_at dksX3_cut_2 11 rfl rfl)
theorem dX3_cut_61 : decode cX3_cut 61 = .ok (.iconst (-1), 1) := dk_2 (dk_at dksX3_cut_2 14 rfl rfl)
theorem dX3_cut_62 : decode cX3_cut 62 = .ok (.if_icmp .ne 7, 3) := dk_160 0 7 (dk_at dksX3_cut_2 15 rfl rfl)
theorem dX3_cut_65 : decode cX3_cut 65 = .ok (.iconst 1, 1) := dk_4 (dk_at dksX3_cut_2 18 rfl rfl)
theorem dX3_cut_66 : decode cX3_cut 66 = .ok (.goto 4, 3) := dk_167 0 4 (dk_at dksX3_cut_2 19 rfl rfl)
theorem dX3_cut_69 : decode cX3_cut 69 = .ok (.iconst 0, 1) := dk_3 (dk_at dksX3_cut_2 22 rfl rfl)
theorem dX3_cut_70 : decode cX3_cut 70 = .ok (.iconst 3, 1) := dk_6 (dk_at dksX3_cut_2 23 rfl rfl)
theorem dX3_cut_71 : decode cX3_cut 71 = .ok (.iconst 2, 1) := dk_5 (dk_at dksX3_cut_3 0 rfl rfl)
theorem dX3_cut_72 : decode cX3_cut 72 = .ok (.invokevirtual 159, 3) := dk_182 0 159 (dk_at dksX3_cut_3 1 rfl rfl)
theorem dX3_cut_75 : decode cX3_cut 75 = .ok (.ifCond .eq 5, 3) := dk_153 0 5 (dk_at dksX3_cut_3 4 rfl rfl)
theorem dX3_cut_78 : decode cX3_cut 78 = .ok (.iconst 0, 1) := dk_3 (dk_at dksX3_cut_3 7 rfl rfl)
theorem dX3_cut_79 : decode cX3_cut 79 = .ok (.ireturn, 1) := dk_172 (dk_at dksX3_cut_3 8 rfl rfl)
theorem dX3_cut_80 : decode cX3_cut 80 = .ok (.aload_n 0, 1) := dk_42 (dk_at dksX3_cut_3 9 rfl rfl)
theorem dX3_cut_81 : decode cX3_cut 81 = .ok (.invokevirtual 171, 3) := dk_182 0 171 (dk_at dksX3_cut_3 10 rfl rfl)
theorem dX3_cut_84 : decode cX3_cut 84 = .ok (.aload_n 0, 1) := dk_42 (dk_at dksX3_cut_3 13 rfl rfl)
theorem dX3_cut_85 : decode cX3_cut 85 = .ok (.iload_n 1, 1) := dk_27 (dk_at dksX3_cut_3 14 rfl rfl)
theorem dX3_cut_86 : decode cX3_cut 86 = .ok (.invokevirtual 206, 3) := dk_182 0 206 (dk_at dksX3_cut_3 15 rfl rfl)
theorem dX3_cut_89 : decode cX3_cut 89 = .ok (.iload_n 2, 1) := dk_28 (dk_at dksX3_cut_3 18 rfl rfl)
theorem dX3_cut_90 : decode cX3_cut 90 = .ok (.if_icmp .ne 8, 3) := dk_160 0 8 (dk_at dksX3_cut_3 19 rfl rfl)
theorem dX3_cut_93 : decode cX3_cut 93 = .ok (.aload_n 0, 1) := dk_42 (dk_at dksX3_cut_3 22 rfl rfl)
theorem dX3_cut_94 : decode cX3_cut 94 = .ok (.iload_n 1, 1) := dk_27 (dk_at dksX3_cut_3 23 rfl rfl)
theorem dX3_cut_95 : decode cX3_cut 95 = .ok (.invokevirtual 248, 3) := dk_182 0 248 (dk_at dksX3_cut_4 0 rfl rfl)
theorem dX3_cut_98 : decode cX3_cut 98 = .ok (.aload_n 0, 1) := dk_42 (dk_at dksX3_cut_4 3 rfl rfl)
theorem dX3_cut_99 : decode cX3_cut 99 = .ok (.getfield 20, 3) := dk_180 0 20 (dk_at dksX3_cut_4 4 rfl rfl)
theorem dX3_cut_102 : decode cX3_cut 102 = .ok (.iload_n 1, 1) := dk_27 (dk_at dksX3_cut_4 7 rfl rfl)
theorem dX3_cut_103 : decode cX3_cut 103 = .ok (.iload_n 2, 1) := dk_28 (dk_at dksX3_cut_4 8 rfl rfl)
theorem dX3_cut_104 : decode cX3_cut 104 = .ok (.iconst (-1), 1) := dk_2 (dk_at dksX3_cut_4 9 rfl rfl)
theorem dX3_cut_105 : decode cX3_cut 105 = .ok (.invokestatic 65, 3) := dk_184 0 65 (dk_at dksX3_cut_4 10 rfl rfl)
theorem dX3_cut_108 : decode cX3_cut 108 = .ok (.aload_n 0, 1) := dk_42 (dk_at dksX3_cut_4 13 rfl rfl)
theorem dX3_cut_109 : decode cX3_cut 109 = .ok (.invokevirtual 69, 3) := dk_182 0 69 (dk_at dksX3_cut_4 14 rfl rfl)
theorem dX3_cut_112 : decode cX3_cut 112 = .ok (.aload_n 0, 1) := dk_42 (dk_at dksX3_cut_4 17 rfl rfl)
theorem dX3_cut_113 : decode cX3_cut 113 = .ok (.invokevirtual 178, 3) := dk_182 0 178 (dk_at dksX3_cut_4 18 rfl rfl)
theorem dX3_cut_116 : decode cX3_cut 116 = .ok (.ireturn, 1) := dk_172 (dk_at dksX3_cut_4 21 rfl rfl)
abbrev cX3_mate : ByteArray := prog_12_method_27_code
def yX3_mate : MethodName := ⟨RX3, "mate", "(I)I"⟩
def dkwX3_mate_0 : List UInt8 := [42, 180, 0, 20, 4, 27, 96, 46, 172]
abbrev dktX3_mate_0 : List UInt8 := dkwX3_mate_0 ++ []
theorem dksX3_mate_0 : cX3_mate.data.toList.drop 0 = dktX3_mate_0 := by decide +kernel
theorem dX3_mate_0 : decode cX3_mate 0 = .ok (.aload_n 0, 1) := dk_42 (dk_at dksX3_mate_0 0 rfl rfl)
theorem dX3_mate_1 : decode cX3_mate 1 = .ok (.getfield 20, 3) := dk_180 0 20 (dk_at dksX3_mate_0 1 rfl rfl)
theorem dX3_mate_4 : decode cX3_mate 4 = .ok (.iconst 1, 1) := dk_4 (dk_at dksX3_mate_0 4 rfl rfl)
theorem dX3_mate_5 : decode cX3_mate 5 = .ok (.iload_n 1, 1) := dk_27 (dk_at dksX3_mate_0 5 rfl rfl)
theorem dX3_mate_6 : decode cX3_mate 6 = .ok (.iadd, 1) := dk_96 (dk_at dksX3_mate_0 6 rfl rfl)
theorem dX3_mate_7 : decode cX3_mate 7 = .ok (.iaload, 1) := dk_46 (dk_at dksX3_mate_0 7 rfl rfl)
theorem dX3_mate_8 : decode cX3_mate 8 = .ok (.ireturn, 1) := dk_172 (dk_at dksX3_mate_0 8 rfl rfl)
abbrev cX3_parts : ByteArray := prog_12_method_54_code
def yX3_parts : MethodName := ⟨RX3, "parts", "(I)V"⟩
def dkwX3_parts_1 : List UInt8 := [177]
abbrev dktX3_parts_1 : List UInt8 := dkwX3_parts_1 ++ []
def dkwX3_parts_0 : List UInt8 := [42, 27, 182, 0, 206, 61, 42, 180, 0, 20, 4, 27, 96, 2, 79, 42, 180, 0, 20, 4, 28, 96, 2, 79]
abbrev dktX3_parts_0 : List UInt8 := dkwX3_parts_0 ++ dktX3_parts_1
theorem dksX3_parts_0 : cX3_parts.data.toList.drop 0 = dktX3_parts_0 := by decide +kernel
theorem dksX3_parts_1 : cX3_parts.data.toList.drop 24 = dktX3_parts_1 := dk_seg dksX3_parts_0 24 rfl rfl
theorem dX3_parts_0 : decode cX3_parts 0 = .ok (.aload_n 0, 1) := dk_42 (dk_at dksX3_parts_0 0 rfl rfl)
theorem dX3_parts_1 : decode cX3_parts 1 = .ok (.iload_n 1, 1) := dk_27 (dk_at dksX3_parts_0 1 rfl rfl)
theorem dX3_parts_2 : decode cX3_parts 2 = .ok (.invokevirtual 206, 3) := dk_182 0 206 (dk_at dksX3_parts_0 2 rfl rfl)
theorem dX3_parts_5 : decode cX3_parts 5 = .ok (.istore_n 2, 1) := dk_61 (dk_at dksX3_parts_0 5 rfl rfl)
theorem dX3_parts_6 : decode cX3_parts 6 = .ok (.aload_n 0, 1) := dk_42 (dk_at dksX3_parts_0 6 rfl rfl)
theorem dX3_parts_7 : decode cX3_parts 7 = .ok (.getfield 20, 3) := dk_180 0 20 (dk_at dksX3_parts_0 7 rfl rfl)
theorem dX3_parts_10 : decode cX3_parts 10 = .ok (.iconst 1, 1) := dk_4 (dk_at dksX3_parts_0 10 rfl rfl)
theorem dX3_parts_11 : decode cX3_parts 11 = .ok (.iload_n 1, 1) := dk_27 (dk_at dksX3_parts_0 11 rfl rfl)
theorem dX3_parts_12 : decode cX3_parts 12 = .ok (.iadd, 1) := dk_96 (dk_at dksX3_parts_0 12 rfl rfl)
theorem dX3_parts_13 : decode cX3_parts 13 = .ok (.iconst (-1), 1) := dk_2 (dk_at dksX3_parts_0 13 rfl rfl)
theorem dX3_parts_14 : decode cX3_parts 14 = .ok (.iastore, 1) := dk_79 (dk_at dksX3_parts_0 14 rfl rfl)
theorem dX3_parts_15 : decode cX3_parts 15 = .ok (.aload_n 0, 1) := dk_42 (dk_at dksX3_parts_0 15 rfl rfl)
theorem dX3_parts_16 : decode cX3_parts 16 = .ok (.getfield 20, 3) := dk_180 0 20 (dk_at dksX3_parts_0 16 rfl rfl)
theorem dX3_parts_19 : decode cX3_parts 19 = .ok (.iconst 1, 1) := dk_4 (dk_at dksX3_parts_0 19 rfl rfl)
theorem dX3_parts_20 : decode cX3_parts 20 = .ok (.iload_n 2, 1) := dk_28 (dk_at dksX3_parts_0 20 rfl rfl)
theorem dX3_parts_21 : decode cX3_parts 21 = .ok (.iadd, 1) := dk_96 (dk_at dksX3_parts_0 21 rfl rfl)
theorem dX3_parts_22 : decode cX3_parts 22 = .ok (.iconst (-1), 1) := dk_2 (dk_at dksX3_parts_0 22 rfl rfl)
theorem dX3_parts_23 : decode cX3_parts 23 = .ok (.iastore, 1) := dk_79 (dk_at dksX3_parts_0 23 rfl rfl)
theorem dX3_parts_24 : decode cX3_parts 24 = .ok (.return_, 1) := dk_177 (dk_at dksX3_parts_1 0 rfl rfl)
abbrev cX3_pair : ByteArray := prog_12_method_57_code
def yX3_pair : MethodName := ⟨RX3, "pair", "(II)I"⟩
def dkwX3_pair_4 : List UInt8 := [153, 0, 5, 3, 172, 42, 182, 0, 171, 42, 27, 28, 182, 0, 251, 42, 182, 0, 254, 172]
abbrev dktX3_pair_4 : List UInt8 := dkwX3_pair_4 ++ []
def dkwX3_pair_3 : List UInt8 := [160, 0, 12, 42, 28, 182, 0, 206, 2, 159, 0, 7, 4, 167, 0, 4, 3, 6, 5, 182, 0, 159]
abbrev dktX3_pair_3 : List UInt8 := dkwX3_pair_3 ++ dktX3_pair_4
def dkwX3_pair_2 : List UInt8 := [4, 182, 0, 159, 154, 0, 45, 42, 42, 27, 28, 182, 0, 203, 2, 159, 0, 21, 42, 27, 182, 0, 206, 2]
abbrev dktX3_pair_2 : List UInt8 := dkwX3_pair_2 ++ dktX3_pair_3
def dkwX3_pair_1 : List UInt8 := [167, 0, 4, 3, 4, 3, 182, 0, 159, 154, 0, 64, 42, 27, 28, 160, 0, 7, 4, 167, 0, 4, 3, 5]
abbrev dktX3_pair_1 : List UInt8 := dkwX3_pair_1 ++ dktX3_pair_2
def dkwX3_pair_0 : List UInt8 := [42, 3, 181, 0, 72, 42, 42, 27, 182, 0, 245, 153, 0, 11, 42, 28, 182, 0, 245, 154, 0, 7, 4]
abbrev dktX3_pair_0 : List UInt8 := dkwX3_pair_0 ++ dktX3_pair_1
theorem dksX3_pair_0 : cX3_pair.data.toList.drop 0 = dktX3_pair_0 := by decide +kernel
theorem dksX3_pair_1 : cX3_pair.data.toList.drop 23 = dktX3_pair_1 := dk_seg dksX3_pair_0 23 rfl rfl
theorem dksX3_pair_2 : cX3_pair.data.toList.drop 47 = dktX3_pair_2 := dk_seg dksX3_pair_1 24 rfl rfl
theorem dksX3_pair_3 : cX3_pair.data.toList.drop 71 = dktX3_pair_3 := dk_seg dksX3_pair_2 24 rfl rfl
theorem dksX3_pair_4 : cX3_pair.data.toList.drop 93 = dktX3_pair_4 := dk_seg dksX3_pair_3 22 rfl rfl
theorem dX3_pair_0 : decode cX3_pair 0 = .ok (.aload_n 0, 1) := dk_42 (dk_at dksX3_pair_0 0 rfl rfl)
theorem dX3_pair_1 : decode cX3_pair 1 = .ok (.iconst 0, 1) := dk_3 (dk_at dksX3_pair_0 1 rfl rfl)
theorem dX3_pair_2 : decode cX3_pair 2 = .ok (.putfield 72, 3) := dk_181 0 72 (dk_at dksX3_pair_0 2 rfl rfl)
theorem dX3_pair_5 : decode cX3_pair 5 = .ok (.aload_n 0, 1) := dk_42 (dk_at dksX3_pair_0 5 rfl rfl)
theorem dX3_pair_6 : decode cX3_pair 6 = .ok (.aload_n 0, 1) := dk_42 (dk_at dksX3_pair_0 6 rfl rfl)
theorem dX3_pair_7 : decode cX3_pair 7 = .ok (.iload_n 1, 1) := dk_27 (dk_at dksX3_pair_0 7 rfl rfl)
theorem dX3_pair_8 : decode cX3_pair 8 = .ok (.invokevirtual 245, 3) := dk_182 0 245 (dk_at dksX3_pair_0 8 rfl rfl)
theorem dX3_pair_11 : decode cX3_pair 11 = .ok (.ifCond .eq 11, 3) := dk_153 0 11 (dk_at dksX3_pair_0 11 rfl rfl)
theorem dX3_pair_14 : decode cX3_pair 14 = .ok (.aload_n 0, 1) := dk_42 (dk_at dksX3_pair_0 14 rfl rfl)
theorem dX3_pair_15 : decode cX3_pair 15 = .ok (.iload_n 2, 1) := dk_28 (dk_at dksX3_pair_0 15 rfl rfl)
theorem dX3_pair_16 : decode cX3_pair 16 = .ok (.invokevirtual 245, 3) := dk_182 0 245 (dk_at dksX3_pair_0 16 rfl rfl)
theorem dX3_pair_19 : decode cX3_pair 19 = .ok (.ifCond .ne 7, 3) := dk_154 0 7 (dk_at dksX3_pair_0 19 rfl rfl)
theorem dX3_pair_22 : decode cX3_pair 22 = .ok (.iconst 1, 1) := dk_4 (dk_at dksX3_pair_0 22 rfl rfl)
theorem dX3_pair_23 : decode cX3_pair 23 = .ok (.goto 4, 3) := dk_167 0 4 (dk_at dksX3_pair_1 0 rfl rfl)
theorem dX3_pair_26 : decode cX3_pair 26 = .ok (.iconst 0, 1) := dk_3 (dk_at dksX3_pair_1 3 rfl rfl)
theorem dX3_pair_27 : decode cX3_pair 27 = .ok (.iconst 1, 1) := dk_4 (dk_at dksX3_pair_1 4 rfl rfl)
theorem dX3_pair_28 : decode cX3_pair 28 = .ok (.iconst 0, 1) := dk_3 (dk_at dksX3_pair_1 5 rfl rfl)
theorem dX3_pair_29 : decode cX3_pair 29 = .ok (.invokevirtual 159, 3) := dk_182 0 159 (dk_at dksX3_pair_1 6 rfl rfl)
theorem dX3_pair_32 : decode cX3_pair 32 = .ok (.ifCond .ne 64, 3) := dk_154 0 64 (dk_at dksX3_pair_1 9 rfl rfl)
theorem dX3_pair_35 : decode cX3_pair 35 = .ok (.aload_n 0, 1) := dk_42 (dk_at dksX3_pair_1 12 rfl rfl)
theorem dX3_pair_36 : decode cX3_pair 36 = .ok (.iload_n 1, 1) := dk_27 (dk_at dksX3_pair_1 13 rfl rfl)
theorem dX3_pair_37 : decode cX3_pair 37 = .ok (.iload_n 2, 1) := dk_28 (dk_at dksX3_pair_1 14 rfl rfl)
theorem dX3_pair_38 : decode cX3_pair 38 = .ok (.if_icmp .ne 7, 3) := dk_160 0 7 (dk_at dksX3_pair_1 15 rfl rfl)
theorem dX3_pair_41 : decode cX3_pair 41 = .ok (.iconst 1, 1) := dk_4 (dk_at dksX3_pair_1 18 rfl rfl)
theorem dX3_pair_42 : decode cX3_pair 42 = .ok (.goto 4, 3) := dk_167 0 4 (dk_at dksX3_pair_1 19 rfl rfl)
theorem dX3_pair_45 : decode cX3_pair 45 = .ok (.iconst 0, 1) := dk_3 (dk_at dksX3_pair_1 22 rfl rfl)
theorem dX3_pair_46 : decode cX3_pair 46 = .ok (.iconst 2, 1) := dk_5 (dk_at dksX3_pair_1 23 rfl rfl)
theorem dX3_pair_47 : decode cX3_pair 47 = .ok (.iconst 1, 1) := dk_4 (dk_at dksX3_pair_2 0 rfl rfl)
theorem dX3_pair_48 : decode cX3_pair 48 = .ok (.invokevirtual 159, 3) := dk_182 0 159 (dk_at dksX3_pair_2 1 rfl rfl)
theorem dX3_pair_51 : decode cX3_pair 51 = .ok (.ifCond .ne 45, 3) := dk_154 0 45 (dk_at dksX3_pair_2 4 rfl rfl)
theorem dX3_pair_54 : decode cX3_pair 54 = .ok (.aload_n 0, 1) := dk_42 (dk_at dksX3_pair_2 7 rfl rfl)
theorem dX3_pair_55 : decode cX3_pair 55 = .ok (.aload_n 0, 1) := dk_42 (dk_at dksX3_pair_2 8 rfl rfl)
theorem dX3_pair_56 : decode cX3_pair 56 = .ok (.iload_n 1, 1) := dk_27 (dk_at dksX3_pair_2 9 rfl rfl)
theorem dX3_pair_57 : decode cX3_pair 57 = .ok (.iload_n 2, 1) := dk_28 (dk_at dksX3_pair_2 10 rfl rfl)
theorem dX3_pair_58 : decode cX3_pair 58 = .ok (.invokevirtual 203, 3) := dk_182 0 203 (dk_at dksX3_pair_2 11 rfl rfl)
theorem dX3_pair_61 : decode cX3_pair 61 = .ok (.iconst (-1), 1) := dk_2 (dk_at dksX3_pair_2 14 rfl rfl)
theorem dX3_pair_62 : decode cX3_pair 62 = .ok (.if_icmp .eq 21, 3) := dk_159 0 21 (dk_at dksX3_pair_2 15 rfl rfl)
theorem dX3_pair_65 : decode cX3_pair 65 = .ok (.aload_n 0, 1) := dk_42 (dk_at dksX3_pair_2 18 rfl rfl)
theorem dX3_pair_66 : decode cX3_pair 66 = .ok (.iload_n 1, 1) := dk_27 (dk_at dksX3_pair_2 19 rfl rfl)
theorem dX3_pair_67 : decode cX3_pair 67 = .ok (.invokevirtual 206, 3) := dk_182 0 206 (dk_at dksX3_pair_2 20 rfl rfl)
theorem dX3_pair_70 : decode cX3_pair 70 = .ok (.iconst (-1), 1) := dk_2 (dk_at dksX3_pair_2 23 rfl rfl)
theorem dX3_pair_71 : decode cX3_pair 71 = .ok (.if_icmp .ne 12, 3) := dk_160 0 12 (dk_at dksX3_pair_3 0 rfl rfl)
theorem dX3_pair_74 : decode cX3_pair 74 = .ok (.aload_n 0, 1) := dk_42 (dk_at dksX3_pair_3 3 rfl rfl)
theorem dX3_pair_75 : decode cX3_pair 75 = .ok (.iload_n 2, 1) := dk_28 (dk_at dksX3_pair_3 4 rfl rfl)
theorem dX3_pair_76 : decode cX3_pair 76 = .ok (.invokevirtual 206, 3) := dk_182 0 206 (dk_at dksX3_pair_3 5 rfl rfl)
theorem dX3_pair_79 : decode cX3_pair 79 = .ok (.iconst (-1), 1) := dk_2 (dk_at dksX3_pair_3 8 rfl rfl)
theorem dX3_pair_80 : decode cX3_pair 80 = .ok (.if_icmp .eq 7, 3) := dk_159 0 7 (dk_at dksX3_pair_3 9 rfl rfl)
theorem dX3_pair_83 : decode cX3_pair 83 = .ok (.iconst 1, 1) := dk_4 (dk_at dksX3_pair_3 12 rfl rfl)
theorem dX3_pair_84 : decode cX3_pair 84 = .ok (.goto 4, 3) := dk_167 0 4 (dk_at dksX3_pair_3 13 rfl rfl)
theorem dX3_pair_87 : decode cX3_pair 87 = .ok (.iconst 0, 1) := dk_3 (dk_at dksX3_pair_3 16 rfl rfl)
theorem dX3_pair_88 : decode cX3_pair 88 = .ok (.iconst 3, 1) := dk_6 (dk_at dksX3_pair_3 17 rfl rfl)
theorem dX3_pair_89 : decode cX3_pair 89 = .ok (.iconst 2, 1) := dk_5 (dk_at dksX3_pair_3 18 rfl rfl)
theorem dX3_pair_90 : decode cX3_pair 90 = .ok (.invokevirtual 159, 3) := dk_182 0 159 (dk_at dksX3_pair_3 19 rfl rfl)
theorem dX3_pair_93 : decode cX3_pair 93 = .ok (.ifCond .eq 5, 3) := dk_153 0 5 (dk_at dksX3_pair_4 0 rfl rfl)
theorem dX3_pair_96 : decode cX3_pair 96 = .ok (.iconst 0, 1) := dk_3 (dk_at dksX3_pair_4 3 rfl rfl)
theorem dX3_pair_97 : decode cX3_pair 97 = .ok (.ireturn, 1) := dk_172 (dk_at dksX3_pair_4 4 rfl rfl)
theorem dX3_pair_98 : decode cX3_pair 98 = .ok (.aload_n 0, 1) := dk_42 (dk_at dksX3_pair_4 5 rfl rfl)
theorem dX3_pair_99 : decode cX3_pair 99 = .ok (.invokevirtual 171, 3) := dk_182 0 171 (dk_at dksX3_pair_4 6 rfl rfl)
theorem dX3_pair_102 : decode cX3_pair 102 = .ok (.aload_n 0, 1) := dk_42 (dk_at dksX3_pair_4 9 rfl rfl)
theorem dX3_pair_103 : decode cX3_pair 103 = .ok (.iload_n 1, 1) := dk_27 (dk_at dksX3_pair_4 10 rfl rfl)
theorem dX3_pair_104 : decode cX3_pair 104 = .ok (.iload_n 2, 1) := dk_28 (dk_at dksX3_pair_4 11 rfl rfl)
theorem dX3_pair_105 : decode cX3_pair 105 = .ok (.invokevirtual 251, 3) := dk_182 0 251 (dk_at dksX3_pair_4 12 rfl rfl)
theorem dX3_pair_108 : decode cX3_pair 108 = .ok (.aload_n 0, 1) := dk_42 (dk_at dksX3_pair_4 15 rfl rfl)
theorem dX3_pair_109 : decode cX3_pair 109 = .ok (.invokevirtual 254, 3) := dk_182 0 254 (dk_at dksX3_pair_4 16 rfl rfl)
theorem dX3_pair_112 : decode cX3_pair 112 = .ok (.ireturn, 1) := dk_172 (dk_at dksX3_pair_4 19 rfl rfl)
abbrev cX3_mates : ByteArray := prog_12_method_56_code
def yX3_mates : MethodName := ⟨RX3, "mates", "(II)V"⟩
def dkwX3_mates_0 : List UInt8 := [42, 180, 0, 20, 4, 27, 96, 28, 79, 42, 180, 0, 20, 4, 28, 96, 27, 79, 177]
abbrev dktX3_mates_0 : List UInt8 := dkwX3_mates_0 ++ []
theorem dksX3_mates_0 : cX3_mates.data.toList.drop 0 = dktX3_mates_0 := by decide +kernel
theorem dX3_mates_0 : decode cX3_mates 0 = .ok (.aload_n 0, 1) := dk_42 (dk_at dksX3_mates_0 0 rfl rfl)
theorem dX3_mates_1 : decode cX3_mates 1 = .ok (.getfield 20, 3) := dk_180 0 20 (dk_at dksX3_mates_0 1 rfl rfl)
theorem dX3_mates_4 : decode cX3_mates 4 = .ok (.iconst 1, 1) := dk_4 (dk_at dksX3_mates_0 4 rfl rfl)
theorem dX3_mates_5 : decode cX3_mates 5 = .ok (.iload_n 1, 1) := dk_27 (dk_at dksX3_mates_0 5 rfl rfl)
theorem dX3_mates_6 : decode cX3_mates 6 = .ok (.iadd, 1) := dk_96 (dk_at dksX3_mates_0 6 rfl rfl)
theorem dX3_mates_7 : decode cX3_mates 7 = .ok (.iload_n 2, 1) := dk_28 (dk_at dksX3_mates_0 7 rfl rfl)
theorem dX3_mates_8 : decode cX3_mates 8 = .ok (.iastore, 1) := dk_79 (dk_at dksX3_mates_0 8 rfl rfl)
theorem dX3_mates_9 : decode cX3_mates 9 = .ok (.aload_n 0, 1) := dk_42 (dk_at dksX3_mates_0 9 rfl rfl)
theorem dX3_mates_10 : decode cX3_mates 10 = .ok (.getfield 20, 3) := dk_180 0 20 (dk_at dksX3_mates_0 10 rfl rfl)
theorem dX3_mates_13 : decode cX3_mates 13 = .ok (.iconst 1, 1) := dk_4 (dk_at dksX3_mates_0 13 rfl rfl)
theorem dX3_mates_14 : decode cX3_mates 14 = .ok (.iload_n 2, 1) := dk_28 (dk_at dksX3_mates_0 14 rfl rfl)
theorem dX3_mates_15 : decode cX3_mates 15 = .ok (.iadd, 1) := dk_96 (dk_at dksX3_mates_0 15 rfl rfl)
theorem dX3_mates_16 : decode cX3_mates 16 = .ok (.iload_n 1, 1) := dk_27 (dk_at dksX3_mates_0 16 rfl rfl)
theorem dX3_mates_17 : decode cX3_mates 17 = .ok (.iastore, 1) := dk_79 (dk_at dksX3_mates_0 17 rfl rfl)
theorem dX3_mates_18 : decode cX3_mates 18 = .ok (.return_, 1) := dk_177 (dk_at dksX3_mates_0 18 rfl rfl)
abbrev cX3_pairsNow : ByteArray := prog_12_method_37_code
def yX3_pairsNow : MethodName := ⟨RX3, "pairsNow", "()I"⟩
def dkwX3_pairsNow_1 : List UInt8 := [167, 0, 4, 3, 96, 60, 132, 2, 1, 167, 255, 228, 27, 172]
abbrev dktX3_pairsNow_1 : List UInt8 := dkwX3_pairsNow_1 ++ []
def dkwX3_pairsNow_0 : List UInt8 := [3, 60, 3, 61, 28, 42, 182, 0, 181, 162, 0, 26, 27, 42, 28, 182, 0, 206, 28, 164, 0, 7, 4]
abbrev dktX3_pairsNow_0 : List UInt8 := dkwX3_pairsNow_0 ++ dktX3_pairsNow_1
theorem dksX3_pairsNow_0 : cX3_pairsNow.data.toList.drop 0 = dktX3_pairsNow_0 := by decide +kernel
theorem dksX3_pairsNow_1 : cX3_pairsNow.data.toList.drop 23 = dktX3_pairsNow_1 := dk_seg dksX3_pairsNow_0 23 rfl rfl
theorem dX3_pairsNow_0 : decode cX3_pairsNow 0 = .ok (.iconst 0, 1) := dk_3 (dk_at dksX3_pairsNow_0 0 rfl rfl)
theorem dX3_pairsNow_1 : decode cX3_pairsNow 1 = .ok (.istore_n 1, 1) := dk_60 (dk_at dksX3_pairsNow_0 1 rfl rfl)
theorem dX3_pairsNow_2 : decode cX3_pairsNow 2 = .ok (.iconst 0, 1) := dk_3 (dk_at dksX3_pairsNow_0 2 rfl rfl)
theorem dX3_pairsNow_3 : decode cX3_pairsNow 3 = .ok (.istore_n 2, 1) := dk_61 (dk_at dksX3_pairsNow_0 3 rfl rfl)
theorem dX3_pairsNow_4 : decode cX3_pairsNow 4 = .ok (.iload_n 2, 1) := dk_28 (dk_at dksX3_pairsNow_0 4 rfl rfl)
theorem dX3_pairsNow_5 : decode cX3_pairsNow 5 = .ok (.aload_n 0, 1) := dk_42 (dk_at dksX3_pairsNow_0 5 rfl rfl)
theorem dX3_pairsNow_6 : decode cX3_pairsNow 6 = .ok (.invokevirtual 181, 3) := dk_182 0 181 (dk_at dksX3_pairsNow_0 6 rfl rfl)
theorem dX3_pairsNow_9 : decode cX3_pairsNow 9 = .ok (.if_icmp .ge 26, 3) := dk_162 0 26 (dk_at dksX3_pairsNow_0 9 rfl rfl)
theorem dX3_pairsNow_12 : decode cX3_pairsNow 12 = .ok (.iload_n 1, 1) := dk_27 (dk_at dksX3_pairsNow_0 12 rfl rfl)
theorem dX3_pairsNow_13 : decode cX3_pairsNow 13 = .ok (.aload_n 0, 1) := dk_42 (dk_at dksX3_pairsNow_0 13 rfl rfl)
theorem dX3_pairsNow_14 : decode cX3_pairsNow 14 = .ok (.iload_n 2, 1) := dk_28 (dk_at dksX3_pairsNow_0 14 rfl rfl)
theorem dX3_pairsNow_15 : decode cX3_pairsNow 15 = .ok (.invokevirtual 206, 3) := dk_182 0 206 (dk_at dksX3_pairsNow_0 15 rfl rfl)
theorem dX3_pairsNow_18 : decode cX3_pairsNow 18 = .ok (.iload_n 2, 1) := dk_28 (dk_at dksX3_pairsNow_0 18 rfl rfl)
theorem dX3_pairsNow_19 : decode cX3_pairsNow 19 = .ok (.if_icmp .le 7, 3) := dk_164 0 7 (dk_at dksX3_pairsNow_0 19 rfl rfl)
theorem dX3_pairsNow_22 : decode cX3_pairsNow 22 = .ok (.iconst 1, 1) := dk_4 (dk_at dksX3_pairsNow_0 22 rfl rfl)
theorem dX3_pairsNow_23 : decode cX3_pairsNow 23 = .ok (.goto 4, 3) := dk_167 0 4 (dk_at dksX3_pairsNow_1 0 rfl rfl)
theorem dX3_pairsNow_26 : decode cX3_pairsNow 26 = .ok (.iconst 0, 1) := dk_3 (dk_at dksX3_pairsNow_1 3 rfl rfl)
theorem dX3_pairsNow_27 : decode cX3_pairsNow 27 = .ok (.iadd, 1) := dk_96 (dk_at dksX3_pairsNow_1 4 rfl rfl)
theorem dX3_pairsNow_28 : decode cX3_pairsNow 28 = .ok (.istore_n 1, 1) := dk_60 (dk_at dksX3_pairsNow_1 5 rfl rfl)
theorem dX3_pairsNow_29 : decode cX3_pairsNow 29 = .ok (.iinc 2 1, 3) := dk_132 2 1 (dk_at dksX3_pairsNow_1 6 rfl rfl)
theorem dX3_pairsNow_32 : decode cX3_pairsNow 32 = .ok (.goto (-28), 3) := dk_167 255 228 (dk_at dksX3_pairsNow_1 9 rfl rfl)
theorem dX3_pairsNow_35 : decode cX3_pairsNow 35 = .ok (.iload_n 1, 1) := dk_27 (dk_at dksX3_pairsNow_1 12 rfl rfl)
theorem dX3_pairsNow_36 : decode cX3_pairsNow 36 = .ok (.ireturn, 1) := dk_172 (dk_at dksX3_pairsNow_1 13 rfl rfl)
abbrev cX3_part : ByteArray := prog_12_method_58_code
def yX3_part : MethodName := ⟨RX3, "part", "(I)I"⟩
def dkwX3_part_2 : List UInt8 := [153, 0, 5, 3, 172, 42, 182, 0, 171, 42, 27, 182, 0, 206, 61, 42, 27, 182, 0, 248, 28, 172]
abbrev dktX3_part_2 : List UInt8 := dkwX3_part_2 ++ []
def dkwX3_part_1 : List UInt8 := [154, 0, 26, 42, 42, 27, 182, 0, 206, 2, 160, 0, 7, 4, 167, 0, 4, 3, 5, 5, 182, 0, 159]
abbrev dktX3_part_1 : List UInt8 := dkwX3_part_1 ++ dktX3_part_2
def dkwX3_part_0 : List UInt8 := [42, 3, 181, 0, 72, 42, 42, 27, 182, 0, 245, 154, 0, 7, 4, 167, 0, 4, 3, 4, 3, 182, 0, 159]
abbrev dktX3_part_0 : List UInt8 := dkwX3_part_0 ++ dktX3_part_1
theorem dksX3_part_0 : cX3_part.data.toList.drop 0 = dktX3_part_0 := by decide +kernel
theorem dksX3_part_1 : cX3_part.data.toList.drop 24 = dktX3_part_1 := dk_seg dksX3_part_0 24 rfl rfl
theorem dksX3_part_2 : cX3_part.data.toList.drop 47 = dktX3_part_2 := dk_seg dksX3_part_1 23 rfl rfl
theorem dX3_part_0 : decode cX3_part 0 = .ok (.aload_n 0, 1) := dk_42 (dk_at dksX3_part_0 0 rfl rfl)
theorem dX3_part_1 : decode cX3_part 1 = .ok (.iconst 0, 1) := dk_3 (dk_at dksX3_part_0 1 rfl rfl)
theorem dX3_part_2 : decode cX3_part 2 = .ok (.putfield 72, 3) := dk_181 0 72 (dk_at dksX3_part_0 2 rfl rfl)
theorem dX3_part_5 : decode cX3_part 5 = .ok (.aload_n 0, 1) := dk_42 (dk_at dksX3_part_0 5 rfl rfl)
theorem dX3_part_6 : decode cX3_part 6 = .ok (.aload_n 0, 1) := dk_42 (dk_at dksX3_part_0 6 rfl rfl)
theorem dX3_part_7 : decode cX3_part 7 = .ok (.iload_n 1, 1) := dk_27 (dk_at dksX3_part_0 7 rfl rfl)
theorem dX3_part_8 : decode cX3_part 8 = .ok (.invokevirtual 245, 3) := dk_182 0 245 (dk_at dksX3_part_0 8 rfl rfl)
theorem dX3_part_11 : decode cX3_part 11 = .ok (.ifCond .ne 7, 3) := dk_154 0 7 (dk_at dksX3_part_0 11 rfl rfl)
theorem dX3_part_14 : decode cX3_part 14 = .ok (.iconst 1, 1) := dk_4 (dk_at dksX3_part_0 14 rfl rfl)
theorem dX3_part_15 : decode cX3_part 15 = .ok (.goto 4, 3) := dk_167 0 4 (dk_at dksX3_part_0 15 rfl rfl)
theorem dX3_part_18 : decode cX3_part 18 = .ok (.iconst 0, 1) := dk_3 (dk_at dksX3_part_0 18 rfl rfl)
theorem dX3_part_19 : decode cX3_part 19 = .ok (.iconst 1, 1) := dk_4 (dk_at dksX3_part_0 19 rfl rfl)
theorem dX3_part_20 : decode cX3_part 20 = .ok (.iconst 0, 1) := dk_3 (dk_at dksX3_part_0 20 rfl rfl)
theorem dX3_part_21 : decode cX3_part 21 = .ok (.invokevirtual 159, 3) := dk_182 0 159 (dk_at dksX3_part_0 21 rfl rfl)
theorem dX3_part_24 : decode cX3_part 24 = .ok (.ifCond .ne 26, 3) := dk_154 0 26 (dk_at dksX3_part_1 0 rfl rfl)
theorem dX3_part_27 : decode cX3_part 27 = .ok (.aload_n 0, 1) := dk_42 (dk_at dksX3_part_1 3 rfl rfl)
theorem dX3_part_28 : decode cX3_part 28 = .ok (.aload_n 0, 1) := dk_42 (dk_at dksX3_part_1 4 rfl rfl)
theorem dX3_part_29 : decode cX3_part 29 = .ok (.iload_n 1, 1) := dk_27 (dk_at dksX3_part_1 5 rfl rfl)
theorem dX3_part_30 : decode cX3_part 30 = .ok (.invokevirtual 206, 3) := dk_182 0 206 (dk_at dksX3_part_1 6 rfl rfl)
theorem dX3_part_33 : decode cX3_part 33 = .ok (.iconst (-1), 1) := dk_2 (dk_at dksX3_part_1 9 rfl rfl)
theorem dX3_part_34 : decode cX3_part 34 = .ok (.if_icmp .ne 7, 3) := dk_160 0 7 (dk_at dksX3_part_1 10 rfl rfl)
theorem dX3_part_37 : decode cX3_part 37 = .ok (.iconst 1, 1) := dk_4 (dk_at dksX3_part_1 13 rfl rfl)
theorem dX3_part_38 : decode cX3_part 38 = .ok (.goto 4, 3) := dk_167 0 4 (dk_at dksX3_part_1 14 rfl rfl)
theorem dX3_part_41 : decode cX3_part 41 = .ok (.iconst 0, 1) := dk_3 (dk_at dksX3_part_1 17 rfl rfl)
theorem dX3_part_42 : decode cX3_part 42 = .ok (.iconst 2, 1) := dk_5 (dk_at dksX3_part_1 18 rfl rfl)
theorem dX3_part_43 : decode cX3_part 43 = .ok (.iconst 2, 1) := dk_5 (dk_at dksX3_part_1 19 rfl rfl)
theorem dX3_part_44 : decode cX3_part 44 = .ok (.invokevirtual 159, 3) := dk_182 0 159 (dk_at dksX3_part_1 20 rfl rfl)
theorem dX3_part_47 : decode cX3_part 47 = .ok (.ifCond .eq 5, 3) := dk_153 0 5 (dk_at dksX3_part_2 0 rfl rfl)
theorem dX3_part_50 : decode cX3_part 50 = .ok (.iconst 0, 1) := dk_3 (dk_at dksX3_part_2 3 rfl rfl)
theorem dX3_part_51 : decode cX3_part 51 = .ok (.ireturn, 1) := dk_172 (dk_at dksX3_part_2 4 rfl rfl)
theorem dX3_part_52 : decode cX3_part 52 = .ok (.aload_n 0, 1) := dk_42 (dk_at dksX3_part_2 5 rfl rfl)
theorem dX3_part_53 : decode cX3_part 53 = .ok (.invokevirtual 171, 3) := dk_182 0 171 (dk_at dksX3_part_2 6 rfl rfl)
theorem dX3_part_56 : decode cX3_part 56 = .ok (.aload_n 0, 1) := dk_42 (dk_at dksX3_part_2 9 rfl rfl)
theorem dX3_part_57 : decode cX3_part 57 = .ok (.iload_n 1, 1) := dk_27 (dk_at dksX3_part_2 10 rfl rfl)
theorem dX3_part_58 : decode cX3_part 58 = .ok (.invokevirtual 206, 3) := dk_182 0 206 (dk_at dksX3_part_2 11 rfl rfl)
theorem dX3_part_61 : decode cX3_part 61 = .ok (.istore_n 2, 1) := dk_61 (dk_at dksX3_part_2 14 rfl rfl)
theorem dX3_part_62 : decode cX3_part 62 = .ok (.aload_n 0, 1) := dk_42 (dk_at dksX3_part_2 15 rfl rfl)
theorem dX3_part_63 : decode cX3_part 63 = .ok (.iload_n 1, 1) := dk_27 (dk_at dksX3_part_2 16 rfl rfl)
theorem dX3_part_64 : decode cX3_part 64 = .ok (.invokevirtual 248, 3) := dk_182 0 248 (dk_at dksX3_part_2 17 rfl rfl)
theorem dX3_part_67 : decode cX3_part 67 = .ok (.iload_n 2, 1) := dk_28 (dk_at dksX3_part_2 20 rfl rfl)
theorem dX3_part_68 : decode cX3_part 68 = .ok (.ireturn, 1) := dk_172 (dk_at dksX3_part_2 21 rfl rfl)
abbrev cX3_better : ByteArray := prog_12_method_59_code
def yX3_better : MethodName := ⟨RX3, "better", "(I)I"⟩
def dkwX3_better_3 : List UInt8 := [28, 46, 42, 180, 0, 55, 28, 4, 96, 46, 182, 0, 251, 132, 2, 2, 167, 255, 227, 42, 182, 0, 254, 172]
abbrev dktX3_better_3 : List UInt8 := dkwX3_better_3 ++ []
def dkwX3_better_2 : List UInt8 := [153, 0, 5, 3, 172, 42, 182, 0, 171, 3, 61, 28, 42, 180, 0, 236, 162, 0, 27, 42, 42, 180, 0, 55]
abbrev dktX3_better_2 : List UInt8 := dkwX3_better_2 ++ dktX3_better_3
def dkwX3_better_1 : List UInt8 := [154, 0, 25, 42, 42, 27, 182, 1, 1, 154, 0, 7, 4, 167, 0, 4, 3, 5, 5, 182, 0, 159]
abbrev dktX3_better_1 : List UInt8 := dkwX3_better_1 ++ dktX3_better_2
def dkwX3_better_0 : List UInt8 := [42, 3, 181, 0, 72, 42, 42, 27, 182, 0, 245, 154, 0, 7, 4, 167, 0, 4, 3, 4, 3, 182, 0, 159]
abbrev dktX3_better_0 : List UInt8 := dkwX3_better_0 ++ dktX3_better_1
theorem dksX3_better_0 : cX3_better.data.toList.drop 0 = dktX3_better_0 := by decide +kernel
theorem dksX3_better_1 : cX3_better.data.toList.drop 24 = dktX3_better_1 := dk_seg dksX3_better_0 24 rfl rfl
theorem dksX3_better_2 : cX3_better.data.toList.drop 46 = dktX3_better_2 := dk_seg dksX3_better_1 22 rfl rfl
theorem dksX3_better_3 : cX3_better.data.toList.drop 70 = dktX3_better_3 := dk_seg dksX3_better_2 24 rfl rfl
theorem dX3_better_0 : decode cX3_better 0 = .ok (.aload_n 0, 1) := dk_42 (dk_at dksX3_better_0 0 rfl rfl)
theorem dX3_better_1 : decode cX3_better 1 = .ok (.iconst 0, 1) := dk_3 (dk_at dksX3_better_0 1 rfl rfl)
theorem dX3_better_2 : decode cX3_better 2 = .ok (.putfield 72, 3) := dk_181 0 72 (dk_at dksX3_better_0 2 rfl rfl)
theorem dX3_better_5 : decode cX3_better 5 = .ok (.aload_n 0, 1) := dk_42 (dk_at dksX3_better_0 5 rfl rfl)
theorem dX3_better_6 : decode cX3_better 6 = .ok (.aload_n 0, 1) := dk_42 (dk_at dksX3_better_0 6 rfl rfl)
theorem dX3_better_7 : decode cX3_better 7 = .ok (.iload_n 1, 1) := dk_27 (dk_at dksX3_better_0 7 rfl rfl)
theorem dX3_better_8 : decode cX3_better 8 = .ok (.invokevirtual 245, 3) := dk_182 0 245 (dk_at dksX3_better_0 8 rfl rfl)
theorem dX3_better_11 : decode cX3_better 11 = .ok (.ifCond .ne 7, 3) := dk_154 0 7 (dk_at dksX3_better_0 11 rfl rfl)
theorem dX3_better_14 : decode cX3_better 14 = .ok (.iconst 1, 1) := dk_4 (dk_at dksX3_better_0 14 rfl rfl)
theorem dX3_better_15 : decode cX3_better 15 = .ok (.goto 4, 3) := dk_167 0 4 (dk_at dksX3_better_0 15 rfl rfl)
theorem dX3_better_18 : decode cX3_better 18 = .ok (.iconst 0, 1) := dk_3 (dk_at dksX3_better_0 18 rfl rfl)
theorem dX3_better_19 : decode cX3_better 19 = .ok (.iconst 1, 1) := dk_4 (dk_at dksX3_better_0 19 rfl rfl)
theorem dX3_better_20 : decode cX3_better 20 = .ok (.iconst 0, 1) := dk_3 (dk_at dksX3_better_0 20 rfl rfl)
theorem dX3_better_21 : decode cX3_better 21 = .ok (.invokevirtual 159, 3) := dk_182 0 159 (dk_at dksX3_better_0 21 rfl rfl)
theorem dX3_better_24 : decode cX3_better 24 = .ok (.ifCond .ne 25, 3) := dk_154 0 25 (dk_at dksX3_better_1 0 rfl rfl)
theorem dX3_better_27 : decode cX3_better 27 = .ok (.aload_n 0, 1) := dk_42 (dk_at dksX3_better_1 3 rfl rfl)
theorem dX3_better_28 : decode cX3_better 28 = .ok (.aload_n 0, 1) := dk_42 (dk_at dksX3_better_1 4 rfl rfl)
theorem dX3_better_29 : decode cX3_better 29 = .ok (.iload_n 1, 1) := dk_27 (dk_at dksX3_better_1 5 rfl rfl)
theorem dX3_better_30 : decode cX3_better 30 = .ok (.invokevirtual 257, 3) := dk_182 1 1 (dk_at dksX3_better_1 6 rfl rfl)
theorem dX3_better_33 : decode cX3_better 33 = .ok (.ifCond .ne 7, 3) := dk_154 0 7 (dk_at dksX3_better_1 9 rfl rfl)
theorem dX3_better_36 : decode cX3_better 36 = .ok (.iconst 1, 1) := dk_4 (dk_at dksX3_better_1 12 rfl rfl)
theorem dX3_better_37 : decode cX3_better 37 = .ok (.goto 4, 3) := dk_167 0 4 (dk_at dksX3_better_1 13 rfl rfl)
theorem dX3_better_40 : decode cX3_better 40 = .ok (.iconst 0, 1) := dk_3 (dk_at dksX3_better_1 16 rfl rfl)
theorem dX3_better_41 : decode cX3_better 41 = .ok (.iconst 2, 1) := dk_5 (dk_at dksX3_better_1 17 rfl rfl)
theorem dX3_better_42 : decode cX3_better 42 = .ok (.iconst 2, 1) := dk_5 (dk_at dksX3_better_1 18 rfl rfl)
theorem dX3_better_43 : decode cX3_better 43 = .ok (.invokevirtual 159, 3) := dk_182 0 159 (dk_at dksX3_better_1 19 rfl rfl)
theorem dX3_better_46 : decode cX3_better 46 = .ok (.ifCond .eq 5, 3) := dk_153 0 5 (dk_at dksX3_better_2 0 rfl rfl)
theorem dX3_better_49 : decode cX3_better 49 = .ok (.iconst 0, 1) := dk_3 (dk_at dksX3_better_2 3 rfl rfl)
theorem dX3_better_50 : decode cX3_better 50 = .ok (.ireturn, 1) := dk_172 (dk_at dksX3_better_2 4 rfl rfl)
theorem dX3_better_51 : decode cX3_better 51 = .ok (.aload_n 0, 1) := dk_42 (dk_at dksX3_better_2 5 rfl rfl)
theorem dX3_better_52 : decode cX3_better 52 = .ok (.invokevirtual 171, 3) := dk_182 0 171 (dk_at dksX3_better_2 6 rfl rfl)
theorem dX3_better_55 : decode cX3_better 55 = .ok (.iconst 0, 1) := dk_3 (dk_at dksX3_better_2 9 rfl rfl)
theorem dX3_better_56 : decode cX3_better 56 = .ok (.istore_n 2, 1) := dk_61 (dk_at dksX3_better_2 10 rfl rfl)
theorem dX3_better_57 : decode cX3_better 57 = .ok (.iload_n 2, 1) := dk_28 (dk_at dksX3_better_2 11 rfl rfl)
theorem dX3_better_58 : decode cX3_better 58 = .ok (.aload_n 0, 1) := dk_42 (dk_at dksX3_better_2 12 rfl rfl)
theorem dX3_better_59 : decode cX3_better 59 = .ok (.getfield 236, 3) := dk_180 0 236 (dk_at dksX3_better_2 13 rfl rfl)
theorem dX3_better_62 : decode cX3_better 62 = .ok (.if_icmp .ge 27, 3) := dk_162 0 27 (dk_at dksX3_better_2 16 rfl rfl)
theorem dX3_better_65 : decode cX3_better 65 = .ok (.aload_n 0, 1) := dk_42 (dk_at dksX3_better_2 19 rfl rfl)
theorem dX3_better_66 : decode cX3_better 66 = .ok (.aload_n 0, 1) := dk_42 (dk_at dksX3_better_2 20 rfl rfl)
theorem dX3_better_67 : decode cX3_better 67 = .ok (.getfield 55, 3) := dk_180 0 55 (dk_at dksX3_better_2 21 rfl rfl)
theorem dX3_better_70 : decode cX3_better 70 = .ok (.iload_n 2, 1) := dk_28 (dk_at dksX3_better_3 0 rfl rfl)
theorem dX3_better_71 : decode cX3_better 71 = .ok (.iaload, 1) := dk_46 (dk_at dksX3_better_3 1 rfl rfl)
theorem dX3_better_72 : decode cX3_better 72 = .ok (.aload_n 0, 1) := dk_42 (dk_at dksX3_better_3 2 rfl rfl)
theorem dX3_better_73 : decode cX3_better 73 = .ok (.getfield 55, 3) := dk_180 0 55 (dk_at dksX3_better_3 3 rfl rfl)
theorem dX3_better_76 : decode cX3_better 76 = .ok (.iload_n 2, 1) := dk_28 (dk_at dksX3_better_3 6 rfl rfl)
theorem dX3_better_77 : decode cX3_better 77 = .ok (.iconst 1, 1) := dk_4 (dk_at dksX3_better_3 7 rfl rfl)
theorem dX3_better_78 : decode cX3_better 78 = .ok (.iadd, 1) := dk_96 (dk_at dksX3_better_3 8 rfl rfl)
theorem dX3_better_79 : decode cX3_better 79 = .ok (.iaload, 1) := dk_46 (dk_at dksX3_better_3 9 rfl rfl)
theorem dX3_better_80 : decode cX3_better 80 = .ok (.invokevirtual 251, 3) := dk_182 0 251 (dk_at dksX3_better_3 10 rfl rfl)
theorem dX3_better_83 : decode cX3_better 83 = .ok (.iinc 2 2, 3) := dk_132 2 2 (dk_at dksX3_better_3 13 rfl rfl)
theorem dX3_better_86 : decode cX3_better 86 = .ok (.goto (-29), 3) := dk_167 255 227 (dk_at dksX3_better_3 16 rfl rfl)
theorem dX3_better_89 : decode cX3_better 89 = .ok (.aload_n 0, 1) := dk_42 (dk_at dksX3_better_3 19 rfl rfl)
theorem dX3_better_90 : decode cX3_better 90 = .ok (.invokevirtual 254, 3) := dk_182 0 254 (dk_at dksX3_better_3 20 rfl rfl)
theorem dX3_better_93 : decode cX3_better 93 = .ok (.ireturn, 1) := dk_172 (dk_at dksX3_better_3 23 rfl rfl)
abbrev cX3_findsPath : ByteArray := prog_12_method_47_code
def yX3_findsPath : MethodName := ⟨RX3, "findsPath", "(I)Z"⟩
def dkwX3_findsPath_2 : List UInt8 := [153, 0, 5, 4, 172, 42, 89, 180, 0, 236, 5, 96, 181, 0, 236, 167, 255, 218, 3, 172]
abbrev dktX3_findsPath_2 : List UInt8 := dkwX3_findsPath_2 ++ []
def dkwX3_findsPath_1 : List UInt8 := [180, 0, 236, 42, 182, 0, 181, 163, 0, 33, 42, 4, 42, 180, 0, 236, 4, 27, 120, 182, 0, 233]
abbrev dktX3_findsPath_1 : List UInt8 := dkwX3_findsPath_1 ++ dktX3_findsPath_2
def dkwX3_findsPath_0 : List UInt8 := [42, 180, 0, 55, 3, 27, 79, 42, 27, 182, 0, 206, 2, 159, 0, 5, 3, 172, 42, 5, 181, 0, 236, 42]
abbrev dktX3_findsPath_0 : List UInt8 := dkwX3_findsPath_0 ++ dktX3_findsPath_1
theorem dksX3_findsPath_0 : cX3_findsPath.data.toList.drop 0 = dktX3_findsPath_0 := by decide +kernel
theorem dksX3_findsPath_1 : cX3_findsPath.data.toList.drop 24 = dktX3_findsPath_1 := dk_seg dksX3_findsPath_0 24 rfl rfl
theorem dksX3_findsPath_2 : cX3_findsPath.data.toList.drop 46 = dktX3_findsPath_2 := dk_seg dksX3_findsPath_1 22 rfl rfl
theorem dX3_findsPath_0 : decode cX3_findsPath 0 = .ok (.aload_n 0, 1) := dk_42 (dk_at dksX3_findsPath_0 0 rfl rfl)
theorem dX3_findsPath_1 : decode cX3_findsPath 1 = .ok (.getfield 55, 3) := dk_180 0 55 (dk_at dksX3_findsPath_0 1 rfl rfl)
theorem dX3_findsPath_4 : decode cX3_findsPath 4 = .ok (.iconst 0, 1) := dk_3 (dk_at dksX3_findsPath_0 4 rfl rfl)
theorem dX3_findsPath_5 : decode cX3_findsPath 5 = .ok (.iload_n 1, 1) := dk_27 (dk_at dksX3_findsPath_0 5 rfl rfl)
theorem dX3_findsPath_6 : decode cX3_findsPath 6 = .ok (.iastore, 1) := dk_79 (dk_at dksX3_findsPath_0 6 rfl rfl)
theorem dX3_findsPath_7 : decode cX3_findsPath 7 = .ok (.aload_n 0, 1) := dk_42 (dk_at dksX3_findsPath_0 7 rfl rfl)
theorem dX3_findsPath_8 : decode cX3_findsPath 8 = .ok (.iload_n 1, 1) := dk_27 (dk_at dksX3_findsPath_0 8 rfl rfl)
theorem dX3_findsPath_9 : decode cX3_findsPath 9 = .ok (.invokevirtual 206, 3) := dk_182 0 206 (dk_at dksX3_findsPath_0 9 rfl rfl)
theorem dX3_findsPath_12 : decode cX3_findsPath 12 = .ok (.iconst (-1), 1) := dk_2 (dk_at dksX3_findsPath_0 12 rfl rfl)
theorem dX3_findsPath_13 : decode cX3_findsPath 13 = .ok (.if_icmp .eq 5, 3) := dk_159 0 5 (dk_at dksX3_findsPath_0 13 rfl rfl)
theorem dX3_findsPath_16 : decode cX3_findsPath 16 = .ok (.iconst 0, 1) := dk_3 (dk_at dksX3_findsPath_0 16 rfl rfl)
theorem dX3_findsPath_17 : decode cX3_findsPath 17 = .ok (.ireturn, 1) := dk_172 (dk_at dksX3_findsPath_0 17 rfl rfl)
theorem dX3_findsPath_18 : decode cX3_findsPath 18 = .ok (.aload_n 0, 1) := dk_42 (dk_at dksX3_findsPath_0 18 rfl rfl)
theorem dX3_findsPath_19 : decode cX3_findsPath 19 = .ok (.iconst 2, 1) := dk_5 (dk_at dksX3_findsPath_0 19 rfl rfl)
theorem dX3_findsPath_20 : decode cX3_findsPath 20 = .ok (.putfield 236, 3) := dk_181 0 236 (dk_at dksX3_findsPath_0 20 rfl rfl)
theorem dX3_findsPath_23 : decode cX3_findsPath 23 = .ok (.aload_n 0, 1) := dk_42 (dk_at dksX3_findsPath_0 23 rfl rfl)
theorem dX3_findsPath_24 : decode cX3_findsPath 24 = .ok (.getfield 236, 3) := dk_180 0 236 (dk_at dksX3_findsPath_1 0 rfl rfl)
theorem dX3_findsPath_27 : decode cX3_findsPath 27 = .ok (.aload_n 0, 1) := dk_42 (dk_at dksX3_findsPath_1 3 rfl rfl)
theorem dX3_findsPath_28 : decode cX3_findsPath 28 = .ok (.invokevirtual 181, 3) := dk_182 0 181 (dk_at dksX3_findsPath_1 4 rfl rfl)
theorem dX3_findsPath_31 : decode cX3_findsPath 31 = .ok (.if_icmp .gt 33, 3) := dk_163 0 33 (dk_at dksX3_findsPath_1 7 rfl rfl)
theorem dX3_findsPath_34 : decode cX3_findsPath 34 = .ok (.aload_n 0, 1) := dk_42 (dk_at dksX3_findsPath_1 10 rfl rfl)
theorem dX3_findsPath_35 : decode cX3_findsPath 35 = .ok (.iconst 1, 1) := dk_4 (dk_at dksX3_findsPath_1 11 rfl rfl)
theorem dX3_findsPath_36 : decode cX3_findsPath 36 = .ok (.aload_n 0, 1) := dk_42 (dk_at dksX3_findsPath_1 12 rfl rfl)
theorem dX3_findsPath_37 : decode cX3_findsPath 37 = .ok (.getfield 236, 3) := dk_180 0 236 (dk_at dksX3_findsPath_1 13 rfl rfl)
theorem dX3_findsPath_40 : decode cX3_findsPath 40 = .ok (.iconst 1, 1) := dk_4 (dk_at dksX3_findsPath_1 16 rfl rfl)
theorem dX3_findsPath_41 : decode cX3_findsPath 41 = .ok (.iload_n 1, 1) := dk_27 (dk_at dksX3_findsPath_1 17 rfl rfl)
theorem dX3_findsPath_42 : decode cX3_findsPath 42 = .ok (.ishl, 1) := dk_120 (dk_at dksX3_findsPath_1 18 rfl rfl)
theorem dX3_findsPath_43 : decode cX3_findsPath 43 = .ok (.invokevirtual 233, 3) := dk_182 0 233 (dk_at dksX3_findsPath_1 19 rfl rfl)
theorem dX3_findsPath_46 : decode cX3_findsPath 46 = .ok (.ifCond .eq 5, 3) := dk_153 0 5 (dk_at dksX3_findsPath_2 0 rfl rfl)
theorem dX3_findsPath_49 : decode cX3_findsPath 49 = .ok (.iconst 1, 1) := dk_4 (dk_at dksX3_findsPath_2 3 rfl rfl)
theorem dX3_findsPath_50 : decode cX3_findsPath 50 = .ok (.ireturn, 1) := dk_172 (dk_at dksX3_findsPath_2 4 rfl rfl)
theorem dX3_findsPath_51 : decode cX3_findsPath 51 = .ok (.aload_n 0, 1) := dk_42 (dk_at dksX3_findsPath_2 5 rfl rfl)
theorem dX3_findsPath_52 : decode cX3_findsPath 52 = .ok (.dup, 1) := dk_89 (dk_at dksX3_findsPath_2 6 rfl rfl)
theorem dX3_findsPath_53 : decode cX3_findsPath 53 = .ok (.getfield 236, 3) := dk_180 0 236 (dk_at dksX3_findsPath_2 7 rfl rfl)
theorem dX3_findsPath_56 : decode cX3_findsPath 56 = .ok (.iconst 2, 1) := dk_5 (dk_at dksX3_findsPath_2 10 rfl rfl)
theorem dX3_findsPath_57 : decode cX3_findsPath 57 = .ok (.iadd, 1) := dk_96 (dk_at dksX3_findsPath_2 11 rfl rfl)
theorem dX3_findsPath_58 : decode cX3_findsPath 58 = .ok (.putfield 236, 3) := dk_181 0 236 (dk_at dksX3_findsPath_2 12 rfl rfl)
theorem dX3_findsPath_61 : decode cX3_findsPath 61 = .ok (.goto (-38), 3) := dk_167 255 218 (dk_at dksX3_findsPath_2 15 rfl rfl)
theorem dX3_findsPath_64 : decode cX3_findsPath 64 = .ok (.iconst 0, 1) := dk_3 (dk_at dksX3_findsPath_2 18 rfl rfl)
theorem dX3_findsPath_65 : decode cX3_findsPath 65 = .ok (.ireturn, 1) := dk_172 (dk_at dksX3_findsPath_2 19 rfl rfl)
abbrev cX3_betters : ByteArray := prog_12_method_46_code
def yX3_betters : MethodName := ⟨RX3, "betters", "(III)Z"⟩
def dkwX3_betters_5 : List UInt8 := [128, 182, 0, 233, 153, 0, 5, 4, 172, 132, 5, 1, 167, 255, 162, 3, 172]
abbrev dktX3_betters_5 : List UInt8 := dkwX3_betters_5 ++ []
def dkwX3_betters_4 : List UInt8 := [160, 0, 6, 167, 0, 30, 42, 180, 0, 55, 27, 21, 5, 79, 42, 27, 4, 96, 28, 29, 4, 21, 5, 120]
abbrev dktX3_betters_4 : List UInt8 := dkwX3_betters_4 ++ dktX3_betters_5
def dkwX3_betters_3 : List UInt8 := [21, 5, 160, 0, 7, 4, 167, 0, 4, 3, 27, 5, 112, 4, 160, 0, 7, 4, 167, 0, 4, 3]
abbrev dktX3_betters_3 : List UInt8 := dkwX3_betters_3 ++ dktX3_betters_4
def dkwX3_betters_2 : List UInt8 := [184, 0, 183, 154, 0, 76, 42, 21, 4, 21, 5, 182, 0, 203, 2, 159, 0, 64, 42, 21, 4, 182, 0, 206]
abbrev dktX3_betters_2 : List UInt8 := dkwX3_betters_2 ++ dktX3_betters_3
def dkwX3_betters_1 : List UInt8 := [160, 0, 7, 4, 167, 0, 4, 3, 172, 3, 54, 5, 21, 5, 42, 182, 0, 181, 162, 0, 91, 29, 21, 5]
abbrev dktX3_betters_1 : List UInt8 := dkwX3_betters_1 ++ dktX3_betters_2
def dkwX3_betters_0 : List UInt8 := [42, 180, 0, 55, 27, 4, 100, 46, 54, 4, 27, 28, 160, 0, 19, 42, 21, 4, 182, 0, 206, 2]
abbrev dktX3_betters_0 : List UInt8 := dkwX3_betters_0 ++ dktX3_betters_1
theorem dksX3_betters_0 : cX3_betters.data.toList.drop 0 = dktX3_betters_0 := by decide +kernel
theorem dksX3_betters_1 : cX3_betters.data.toList.drop 22 = dktX3_betters_1 := dk_seg dksX3_betters_0 22 rfl rfl
theorem dksX3_betters_2 : cX3_betters.data.toList.drop 46 = dktX3_betters_2 := dk_seg dksX3_betters_1 24 rfl rfl
theorem dksX3_betters_3 : cX3_betters.data.toList.drop 70 = dktX3_betters_3 := dk_seg dksX3_betters_2 24 rfl rfl
theorem dksX3_betters_4 : cX3_betters.data.toList.drop 92 = dktX3_betters_4 := dk_seg dksX3_betters_3 22 rfl rfl
theorem dksX3_betters_5 : cX3_betters.data.toList.drop 116 = dktX3_betters_5 := dk_seg dksX3_betters_4 24 rfl rfl
theorem dX3_betters_0 : decode cX3_betters 0 = .ok (.aload_n 0, 1) := dk_42 (dk_at dksX3_betters_0 0 rfl rfl)
theorem dX3_betters_1 : decode cX3_betters 1 = .ok (.getfield 55, 3) := dk_180 0 55 (dk_at dksX3_betters_0 1 rfl rfl)
theorem dX3_betters_4 : decode cX3_betters 4 = .ok (.iload_n 1, 1) := dk_27 (dk_at dksX3_betters_0 4 rfl rfl)
theorem dX3_betters_5 : decode cX3_betters 5 = .ok (.iconst 1, 1) := dk_4 (dk_at dksX3_betters_0 5 rfl rfl)
theorem dX3_betters_6 : decode cX3_betters 6 = .ok (.isub, 1) := dk_100 (dk_at dksX3_betters_0 6 rfl rfl)
theorem dX3_betters_7 : decode cX3_betters 7 = .ok (.iaload, 1) := dk_46 (dk_at dksX3_betters_0 7 rfl rfl)
theorem dX3_betters_8 : decode cX3_betters 8 = .ok (.istore 4, 2) := dk_54 4 (dk_at dksX3_betters_0 8 rfl rfl)
theorem dX3_betters_10 : decode cX3_betters 10 = .ok (.iload_n 1, 1) := dk_27 (dk_at dksX3_betters_0 10 rfl rfl)
theorem dX3_betters_11 : decode cX3_betters 11 = .ok (.iload_n 2, 1) := dk_28 (dk_at dksX3_betters_0 11 rfl rfl)
theorem dX3_betters_12 : decode cX3_betters 12 = .ok (.if_icmp .ne 19, 3) := dk_160 0 19 (dk_at dksX3_betters_0 12 rfl rfl)
theorem dX3_betters_15 : decode cX3_betters 15 = .ok (.aload_n 0, 1) := dk_42 (dk_at dksX3_betters_0 15 rfl rfl)
theorem dX3_betters_16 : decode cX3_betters 16 = .ok (.iload 4, 2) := dk_21 4 (dk_at dksX3_betters_0 16 rfl rfl)
theorem dX3_betters_18 : decode cX3_betters 18 = .ok (.invokevirtual 206, 3) := dk_182 0 206 (dk_at dksX3_betters_0 18 rfl rfl)
theorem dX3_betters_21 : decode cX3_betters 21 = .ok (.iconst (-1), 1) := dk_2 (dk_at dksX3_betters_0 21 rfl rfl)
theorem dX3_betters_22 : decode cX3_betters 22 = .ok (.if_icmp .ne 7, 3) := dk_160 0 7 (dk_at dksX3_betters_1 0 rfl rfl)
theorem dX3_betters_25 : decode cX3_betters 25 = .ok (.iconst 1, 1) := dk_4 (dk_at dksX3_betters_1 3 rfl rfl)
theorem dX3_betters_26 : decode cX3_betters 26 = .ok (.goto 4, 3) := dk_167 0 4 (dk_at dksX3_betters_1 4 rfl rfl)
theorem dX3_betters_29 : decode cX3_betters 29 = .ok (.iconst 0, 1) := dk_3 (dk_at dksX3_betters_1 7 rfl rfl)
theorem dX3_betters_30 : decode cX3_betters 30 = .ok (.ireturn, 1) := dk_172 (dk_at dksX3_betters_1 8 rfl rfl)
theorem dX3_betters_31 : decode cX3_betters 31 = .ok (.iconst 0, 1) := dk_3 (dk_at dksX3_betters_1 9 rfl rfl)
theorem dX3_betters_32 : decode cX3_betters 32 = .ok (.istore 5, 2) := dk_54 5 (dk_at dksX3_betters_1 10 rfl rfl)
theorem dX3_betters_34 : decode cX3_betters 34 = .ok (.iload 5, 2) := dk_21 5 (dk_at dksX3_betters_1 12 rfl rfl)
theorem dX3_betters_36 : decode cX3_betters 36 = .ok (.aload_n 0, 1) := dk_42 (dk_at dksX3_betters_1 14 rfl rfl)
theorem dX3_betters_37 : decode cX3_betters 37 = .ok (.invokevirtual 181, 3) := dk_182 0 181 (dk_at dksX3_betters_1 15 rfl rfl)
theorem dX3_betters_40 : decode cX3_betters 40 = .ok (.if_icmp .ge 91, 3) := dk_162 0 91 (dk_at dksX3_betters_1 18 rfl rfl)
theorem dX3_betters_43 : decode cX3_betters 43 = .ok (.iload_n 3, 1) := dk_29 (dk_at dksX3_betters_1 21 rfl rfl)
theorem dX3_betters_44 : decode cX3_betters 44 = .ok (.iload 5, 2) := dk_21 5 (dk_at dksX3_betters_1 22 rfl rfl)
theorem dX3_betters_46 : decode cX3_betters 46 = .ok (.invokestatic 183, 3) := dk_184 0 183 (dk_at dksX3_betters_2 0 rfl rfl)
theorem dX3_betters_49 : decode cX3_betters 49 = .ok (.ifCond .ne 76, 3) := dk_154 0 76 (dk_at dksX3_betters_2 3 rfl rfl)
theorem dX3_betters_52 : decode cX3_betters 52 = .ok (.aload_n 0, 1) := dk_42 (dk_at dksX3_betters_2 6 rfl rfl)
theorem dX3_betters_53 : decode cX3_betters 53 = .ok (.iload 4, 2) := dk_21 4 (dk_at dksX3_betters_2 7 rfl rfl)
theorem dX3_betters_55 : decode cX3_betters 55 = .ok (.iload 5, 2) := dk_21 5 (dk_at dksX3_betters_2 9 rfl rfl)
theorem dX3_betters_57 : decode cX3_betters 57 = .ok (.invokevirtual 203, 3) := dk_182 0 203 (dk_at dksX3_betters_2 11 rfl rfl)
theorem dX3_betters_60 : decode cX3_betters 60 = .ok (.iconst (-1), 1) := dk_2 (dk_at dksX3_betters_2 14 rfl rfl)
theorem dX3_betters_61 : decode cX3_betters 61 = .ok (.if_icmp .eq 64, 3) := dk_159 0 64 (dk_at dksX3_betters_2 15 rfl rfl)
theorem dX3_betters_64 : decode cX3_betters 64 = .ok (.aload_n 0, 1) := dk_42 (dk_at dksX3_betters_2 18 rfl rfl)
theorem dX3_betters_65 : decode cX3_betters 65 = .ok (.iload 4, 2) := dk_21 4 (dk_at dksX3_betters_2 19 rfl rfl)
theorem dX3_betters_67 : decode cX3_betters 67 = .ok (.invokevirtual 206, 3) := dk_182 0 206 (dk_at dksX3_betters_2 21 rfl rfl)
theorem dX3_betters_70 : decode cX3_betters 70 = .ok (.iload 5, 2) := dk_21 5 (dk_at dksX3_betters_3 0 rfl rfl)
theorem dX3_betters_72 : decode cX3_betters 72 = .ok (.if_icmp .ne 7, 3) := dk_160 0 7 (dk_at dksX3_betters_3 2 rfl rfl)
theorem dX3_betters_75 : decode cX3_betters 75 = .ok (.iconst 1, 1) := dk_4 (dk_at dksX3_betters_3 5 rfl rfl)
theorem dX3_betters_76 : decode cX3_betters 76 = .ok (.goto 4, 3) := dk_167 0 4 (dk_at dksX3_betters_3 6 rfl rfl)
theorem dX3_betters_79 : decode cX3_betters 79 = .ok (.iconst 0, 1) := dk_3 (dk_at dksX3_betters_3 9 rfl rfl)
theorem dX3_betters_80 : decode cX3_betters 80 = .ok (.iload_n 1, 1) := dk_27 (dk_at dksX3_betters_3 10 rfl rfl)
theorem dX3_betters_81 : decode cX3_betters 81 = .ok (.iconst 2, 1) := dk_5 (dk_at dksX3_betters_3 11 rfl rfl)
theorem dX3_betters_82 : decode cX3_betters 82 = .ok (.irem, 1) := dk_112 (dk_at dksX3_betters_3 12 rfl rfl)
theorem dX3_betters_83 : decode cX3_betters 83 = .ok (.iconst 1, 1) := dk_4 (dk_at dksX3_betters_3 13 rfl rfl)
theorem dX3_betters_84 : decode cX3_betters 84 = .ok (.if_icmp .ne 7, 3) := dk_160 0 7 (dk_at dksX3_betters_3 14 rfl rfl)
theorem dX3_betters_87 : decode cX3_betters 87 = .ok (.iconst 1, 1) := dk_4 (dk_at dksX3_betters_3 17 rfl rfl)
theorem dX3_betters_88 : decode cX3_betters 88 = .ok (.goto 4, 3) := dk_167 0 4 (dk_at dksX3_betters_3 18 rfl rfl)
theorem dX3_betters_91 : decode cX3_betters 91 = .ok (.iconst 0, 1) := dk_3 (dk_at dksX3_betters_3 21 rfl rfl)
theorem dX3_betters_92 : decode cX3_betters 92 = .ok (.if_icmp .ne 6, 3) := dk_160 0 6 (dk_at dksX3_betters_4 0 rfl rfl)
theorem dX3_betters_95 : decode cX3_betters 95 = .ok (.goto 30, 3) := dk_167 0 30 (dk_at dksX3_betters_4 3 rfl rfl)
theorem dX3_betters_98 : decode cX3_betters 98 = .ok (.aload_n 0, 1) := dk_42 (dk_at dksX3_betters_4 6 rfl rfl)
theorem dX3_betters_99 : decode cX3_betters 99 = .ok (.getfield 55, 3) := dk_180 0 55 (dk_at dksX3_betters_4 7 rfl rfl)
theorem dX3_betters_102 : decode cX3_betters 102 = .ok (.iload_n 1, 1) := dk_27 (dk_at dksX3_betters_4 10 rfl rfl)
theorem dX3_betters_103 : decode cX3_betters 103 = .ok (.iload 5, 2) := dk_21 5 (dk_at dksX3_betters_4 11 rfl rfl)
theorem dX3_betters_105 : decode cX3_betters 105 = .ok (.iastore, 1) := dk_79 (dk_at dksX3_betters_4 13 rfl rfl)
theorem dX3_betters_106 : decode cX3_betters 106 = .ok (.aload_n 0, 1) := dk_42 (dk_at dksX3_betters_4 14 rfl rfl)
theorem dX3_betters_107 : decode cX3_betters 107 = .ok (.iload_n 1, 1) := dk_27 (dk_at dksX3_betters_4 15 rfl rfl)
theorem dX3_betters_108 : decode cX3_betters 108 = .ok (.iconst 1, 1) := dk_4 (dk_at dksX3_betters_4 16 rfl rfl)
theorem dX3_betters_109 : decode cX3_betters 109 = .ok (.iadd, 1) := dk_96 (dk_at dksX3_betters_4 17 rfl rfl)
theorem dX3_betters_110 : decode cX3_betters 110 = .ok (.iload_n 2, 1) := dk_28 (dk_at dksX3_betters_4 18 rfl rfl)
theorem dX3_betters_111 : decode cX3_betters 111 = .ok (.iload_n 3, 1) := dk_29 (dk_at dksX3_betters_4 19 rfl rfl)
theorem dX3_betters_112 : decode cX3_betters 112 = .ok (.iconst 1, 1) := dk_4 (dk_at dksX3_betters_4 20 rfl rfl)
theorem dX3_betters_113 : decode cX3_betters 113 = .ok (.iload 5, 2) := dk_21 5 (dk_at dksX3_betters_4 21 rfl rfl)
theorem dX3_betters_115 : decode cX3_betters 115 = .ok (.ishl, 1) := dk_120 (dk_at dksX3_betters_4 23 rfl rfl)
theorem dX3_betters_116 : decode cX3_betters 116 = .ok (.ior, 1) := dk_128 (dk_at dksX3_betters_5 0 rfl rfl)
theorem dX3_betters_117 : decode cX3_betters 117 = .ok (.invokevirtual 233, 3) := dk_182 0 233 (dk_at dksX3_betters_5 1 rfl rfl)
theorem dX3_betters_120 : decode cX3_betters 120 = .ok (.ifCond .eq 5, 3) := dk_153 0 5 (dk_at dksX3_betters_5 4 rfl rfl)
theorem dX3_betters_123 : decode cX3_betters 123 = .ok (.iconst 1, 1) := dk_4 (dk_at dksX3_betters_5 7 rfl rfl)
theorem dX3_betters_124 : decode cX3_betters 124 = .ok (.ireturn, 1) := dk_172 (dk_at dksX3_betters_5 8 rfl rfl)
theorem dX3_betters_125 : decode cX3_betters 125 = .ok (.iinc 5 1, 3) := dk_132 5 1 (dk_at dksX3_betters_5 9 rfl rfl)
theorem dX3_betters_128 : decode cX3_betters 128 = .ok (.goto (-94), 3) := dk_167 255 162 (dk_at dksX3_betters_5 12 rfl rfl)
theorem dX3_betters_131 : decode cX3_betters 131 = .ok (.iconst 0, 1) := dk_3 (dk_at dksX3_betters_5 15 rfl rfl)
theorem dX3_betters_132 : decode cX3_betters 132 = .ok (.ireturn, 1) := dk_172 (dk_at dksX3_betters_5 16 rfl rfl)
abbrev cX3_has : ByteArray := prog_12_method_29_code
def yX3_has : MethodName := ⟨RX3, "has", "(II)Z"⟩
def dkwX3_has_0 : List UInt8 := [26, 27, 122, 4, 126, 4, 160, 0, 7, 4, 167, 0, 4, 3, 172]
abbrev dktX3_has_0 : List UInt8 := dkwX3_has_0 ++ []
theorem dksX3_has_0 : cX3_has.data.toList.drop 0 = dktX3_has_0 := by decide +kernel
theorem dX3_has_0 : decode cX3_has 0 = .ok (.iload_n 0, 1) := dk_26 (dk_at dksX3_has_0 0 rfl rfl)
theorem dX3_has_1 : decode cX3_has 1 = .ok (.iload_n 1, 1) := dk_27 (dk_at dksX3_has_0 1 rfl rfl)
theorem dX3_has_2 : decode cX3_has 2 = .ok (.ishr, 1) := dk_122 (dk_at dksX3_has_0 2 rfl rfl)
theorem dX3_has_3 : decode cX3_has 3 = .ok (.iconst 1, 1) := dk_4 (dk_at dksX3_has_0 3 rfl rfl)
theorem dX3_has_4 : decode cX3_has 4 = .ok (.iand, 1) := dk_126 (dk_at dksX3_has_0 4 rfl rfl)
theorem dX3_has_5 : decode cX3_has 5 = .ok (.iconst 1, 1) := dk_4 (dk_at dksX3_has_0 5 rfl rfl)
theorem dX3_has_6 : decode cX3_has 6 = .ok (.if_icmp .ne 7, 3) := dk_160 0 7 (dk_at dksX3_has_0 6 rfl rfl)
theorem dX3_has_9 : decode cX3_has 9 = .ok (.iconst 1, 1) := dk_4 (dk_at dksX3_has_0 9 rfl rfl)
theorem dX3_has_10 : decode cX3_has 10 = .ok (.goto 4, 3) := dk_167 0 4 (dk_at dksX3_has_0 10 rfl rfl)
theorem dX3_has_13 : decode cX3_has 13 = .ok (.iconst 0, 1) := dk_3 (dk_at dksX3_has_0 13 rfl rfl)
theorem dX3_has_14 : decode cX3_has 14 = .ok (.ireturn, 1) := dk_172 (dk_at dksX3_has_0 14 rfl rfl)
abbrev cX3_finish : ByteArray := prog_12_method_60_code
def yX3_finish : MethodName := ⟨RX3, "finish", "()I"⟩
def dkwX3_finish_2 : List UInt8 := [167, 255, 231, 42, 182, 0, 254, 27, 100, 172]
abbrev dktX3_finish_2 : List UInt8 := dkwX3_finish_2 ++ []
def dkwX3_finish_1 : List UInt8 := [182, 0, 181, 162, 0, 23, 42, 180, 0, 20, 4, 28, 96, 42, 180, 0, 47, 28, 46, 79, 132, 2, 1]
abbrev dktX3_finish_1 : List UInt8 := dkwX3_finish_1 ++ dktX3_finish_2
def dkwX3_finish_0 : List UInt8 := [42, 3, 181, 0, 72, 42, 182, 0, 171, 42, 182, 1, 4, 42, 182, 0, 254, 60, 3, 61, 28, 42]
abbrev dktX3_finish_0 : List UInt8 := dkwX3_finish_0 ++ dktX3_finish_1
theorem dksX3_finish_0 : cX3_finish.data.toList.drop 0 = dktX3_finish_0 := by decide +kernel
theorem dksX3_finish_1 : cX3_finish.data.toList.drop 22 = dktX3_finish_1 := dk_seg dksX3_finish_0 22 rfl rfl
theorem dksX3_finish_2 : cX3_finish.data.toList.drop 45 = dktX3_finish_2 := dk_seg dksX3_finish_1 23 rfl rfl
theorem dX3_finish_0 : decode cX3_finish 0 = .ok (.aload_n 0, 1) := dk_42 (dk_at dksX3_finish_0 0 rfl rfl)
theorem dX3_finish_1 : decode cX3_finish 1 = .ok (.iconst 0, 1) := dk_3 (dk_at dksX3_finish_0 1 rfl rfl)
theorem dX3_finish_2 : decode cX3_finish 2 = .ok (.putfield 72, 3) := dk_181 0 72 (dk_at dksX3_finish_0 2 rfl rfl)
theorem dX3_finish_5 : decode cX3_finish 5 = .ok (.aload_n 0, 1) := dk_42 (dk_at dksX3_finish_0 5 rfl rfl)
theorem dX3_finish_6 : decode cX3_finish 6 = .ok (.invokevirtual 171, 3) := dk_182 0 171 (dk_at dksX3_finish_0 6 rfl rfl)
theorem dX3_finish_9 : decode cX3_finish 9 = .ok (.aload_n 0, 1) := dk_42 (dk_at dksX3_finish_0 9 rfl rfl)
theorem dX3_finish_10 : decode cX3_finish 10 = .ok (.invokevirtual 260, 3) := dk_182 1 4 (dk_at dksX3_finish_0 10 rfl rfl)
theorem dX3_finish_13 : decode cX3_finish 13 = .ok (.aload_n 0, 1) := dk_42 (dk_at dksX3_finish_0 13 rfl rfl)
theorem dX3_finish_14 : decode cX3_finish 14 = .ok (.invokevirtual 254, 3) := dk_182 0 254 (dk_at dksX3_finish_0 14 rfl rfl)
theorem dX3_finish_17 : decode cX3_finish 17 = .ok (.istore_n 1, 1) := dk_60 (dk_at dksX3_finish_0 17 rfl rfl)
theorem dX3_finish_18 : decode cX3_finish 18 = .ok (.iconst 0, 1) := dk_3 (dk_at dksX3_finish_0 18 rfl rfl)
theorem dX3_finish_19 : decode cX3_finish 19 = .ok (.istore_n 2, 1) := dk_61 (dk_at dksX3_finish_0 19 rfl rfl)
theorem dX3_finish_20 : decode cX3_finish 20 = .ok (.iload_n 2, 1) := dk_28 (dk_at dksX3_finish_0 20 rfl rfl)
theorem dX3_finish_21 : decode cX3_finish 21 = .ok (.aload_n 0, 1) := dk_42 (dk_at dksX3_finish_0 21 rfl rfl)
theorem dX3_finish_22 : decode cX3_finish 22 = .ok (.invokevirtual 181, 3) := dk_182 0 181 (dk_at dksX3_finish_1 0 rfl rfl)
theorem dX3_finish_25 : decode cX3_finish 25 = .ok (.if_icmp .ge 23, 3) := dk_162 0 23 (dk_at dksX3_finish_1 3 rfl rfl)
theorem dX3_finish_28 : decode cX3_finish 28 = .ok (.aload_n 0, 1) := dk_42 (dk_at dksX3_finish_1 6 rfl rfl)
theorem dX3_finish_29 : decode cX3_finish 29 = .ok (.getfield 20, 3) := dk_180 0 20 (dk_at dksX3_finish_1 7 rfl rfl)
theorem dX3_finish_32 : decode cX3_finish 32 = .ok (.iconst 1, 1) := dk_4 (dk_at dksX3_finish_1 10 rfl rfl)
theorem dX3_finish_33 : decode cX3_finish 33 = .ok (.iload_n 2, 1) := dk_28 (dk_at dksX3_finish_1 11 rfl rfl)
theorem dX3_finish_34 : decode cX3_finish 34 = .ok (.iadd, 1) := dk_96 (dk_at dksX3_finish_1 12 rfl rfl)
theorem dX3_finish_35 : decode cX3_finish 35 = .ok (.aload_n 0, 1) := dk_42 (dk_at dksX3_finish_1 13 rfl rfl)
theorem dX3_finish_36 : decode cX3_finish 36 = .ok (.getfield 47, 3) := dk_180 0 47 (dk_at dksX3_finish_1 14 rfl rfl)
theorem dX3_finish_39 : decode cX3_finish 39 = .ok (.iload_n 2, 1) := dk_28 (dk_at dksX3_finish_1 17 rfl rfl)
theorem dX3_finish_40 : decode cX3_finish 40 = .ok (.iaload, 1) := dk_46 (dk_at dksX3_finish_1 18 rfl rfl)
theorem dX3_finish_41 : decode cX3_finish 41 = .ok (.iastore, 1) := dk_79 (dk_at dksX3_finish_1 19 rfl rfl)
theorem dX3_finish_42 : decode cX3_finish 42 = .ok (.iinc 2 1, 3) := dk_132 2 1 (dk_at dksX3_finish_1 20 rfl rfl)
theorem dX3_finish_45 : decode cX3_finish 45 = .ok (.goto (-25), 3) := dk_167 255 231 (dk_at dksX3_finish_2 0 rfl rfl)
theorem dX3_finish_48 : decode cX3_finish 48 = .ok (.aload_n 0, 1) := dk_42 (dk_at dksX3_finish_2 3 rfl rfl)
theorem dX3_finish_49 : decode cX3_finish 49 = .ok (.invokevirtual 254, 3) := dk_182 0 254 (dk_at dksX3_finish_2 4 rfl rfl)
theorem dX3_finish_52 : decode cX3_finish 52 = .ok (.iload_n 1, 1) := dk_27 (dk_at dksX3_finish_2 7 rfl rfl)
theorem dX3_finish_53 : decode cX3_finish 53 = .ok (.isub, 1) := dk_100 (dk_at dksX3_finish_2 8 rfl rfl)
theorem dX3_finish_54 : decode cX3_finish 54 = .ok (.ireturn, 1) := dk_172 (dk_at dksX3_finish_2 9 rfl rfl)
abbrev cX3_laysFirst : ByteArray := prog_12_method_38_code
def yX3_laysFirst : MethodName := ⟨RX3, "laysFirst", "()V"⟩
def dkwX3_laysFirst_6 : List UInt8 := [21, 4, 120, 2, 130, 126, 60, 132, 2, 255, 132, 4, 1, 167, 255, 164, 132, 3, 1, 167, 255, 119, 177]
abbrev dktX3_laysFirst_6 : List UInt8 := dkwX3_laysFirst_6 ++ []
def dkwX3_laysFirst_5 : List UInt8 := [159, 0, 6, 167, 0, 31, 42, 180, 0, 47, 29, 21, 4, 79, 42, 180, 0, 47, 21, 4, 29, 79, 27, 4]
abbrev dktX3_laysFirst_5 : List UInt8 := dkwX3_laysFirst_5 ++ dktX3_laysFirst_6
def dkwX3_laysFirst_4 : List UInt8 := [182, 0, 203, 2, 159, 0, 53, 42, 180, 0, 34, 27, 4, 21, 4, 120, 2, 130, 126, 46, 4, 96, 28]
abbrev dktX3_laysFirst_4 : List UInt8 := dkwX3_laysFirst_4 ++ dktX3_laysFirst_5
def dkwX3_laysFirst_3 : List UInt8 := [180, 0, 47, 29, 46, 2, 160, 0, 79, 27, 21, 4, 184, 0, 183, 153, 0, 64, 42, 29, 21, 4]
abbrev dktX3_laysFirst_3 : List UInt8 := dkwX3_laysFirst_3 ++ dktX3_laysFirst_4
def dkwX3_laysFirst_2 : List UInt8 := [60, 42, 180, 0, 47, 29, 2, 79, 29, 4, 96, 54, 4, 21, 4, 42, 182, 0, 181, 162, 0, 89, 42]
abbrev dktX3_laysFirst_2 : List UInt8 := dkwX3_laysFirst_2 ++ dktX3_laysFirst_3
def dkwX3_laysFirst_1 : List UInt8 := [182, 0, 181, 162, 0, 135, 27, 29, 184, 0, 183, 154, 0, 6, 167, 0, 118, 27, 4, 29, 120, 2, 130, 126]
abbrev dktX3_laysFirst_1 : List UInt8 := dkwX3_laysFirst_1 ++ dktX3_laysFirst_2
def dkwX3_laysFirst_0 : List UInt8 := [42, 182, 0, 209, 42, 182, 0, 194, 60, 42, 180, 0, 34, 42, 182, 0, 194, 46, 61, 3, 62, 29, 42]
abbrev dktX3_laysFirst_0 : List UInt8 := dkwX3_laysFirst_0 ++ dktX3_laysFirst_1
theorem dksX3_laysFirst_0 : cX3_laysFirst.data.toList.drop 0 = dktX3_laysFirst_0 := by decide +kernel
theorem dksX3_laysFirst_1 : cX3_laysFirst.data.toList.drop 23 = dktX3_laysFirst_1 := dk_seg dksX3_laysFirst_0 23 rfl rfl
theorem dksX3_laysFirst_2 : cX3_laysFirst.data.toList.drop 47 = dktX3_laysFirst_2 := dk_seg dksX3_laysFirst_1 24 rfl rfl
theorem dksX3_laysFirst_3 : cX3_laysFirst.data.toList.drop 70 = dktX3_laysFirst_3 := dk_seg dksX3_laysFirst_2 23 rfl rfl
theorem dksX3_laysFirst_4 : cX3_laysFirst.data.toList.drop 92 = dktX3_laysFirst_4 := dk_seg dksX3_laysFirst_3 22 rfl rfl
theorem dksX3_laysFirst_5 : cX3_laysFirst.data.toList.drop 115 = dktX3_laysFirst_5 := dk_seg dksX3_laysFirst_4 23 rfl rfl
theorem dksX3_laysFirst_6 : cX3_laysFirst.data.toList.drop 139 = dktX3_laysFirst_6 := dk_seg dksX3_laysFirst_5 24 rfl rfl
theorem dX3_laysFirst_0 : decode cX3_laysFirst 0 = .ok (.aload_n 0, 1) := dk_42 (dk_at dksX3_laysFirst_0 0 rfl rfl)
theorem dX3_laysFirst_1 : decode cX3_laysFirst 1 = .ok (.invokevirtual 209, 3) := dk_182 0 209 (dk_at dksX3_laysFirst_0 1 rfl rfl)
theorem dX3_laysFirst_4 : decode cX3_laysFirst 4 = .ok (.aload_n 0, 1) := dk_42 (dk_at dksX3_laysFirst_0 4 rfl rfl)
theorem dX3_laysFirst_5 : decode cX3_laysFirst 5 = .ok (.invokevirtual 194, 3) := dk_182 0 194 (dk_at dksX3_laysFirst_0 5 rfl rfl)
theorem dX3_laysFirst_8 : decode cX3_laysFirst 8 = .ok (.istore_n 1, 1) := dk_60 (dk_at dksX3_laysFirst_0 8 rfl rfl)
theorem dX3_laysFirst_9 : decode cX3_laysFirst 9 = .ok (.aload_n 0, 1) := dk_42 (dk_at dksX3_laysFirst_0 9 rfl rfl)
theorem dX3_laysFirst_10 : decode cX3_laysFirst 10 = .ok (.getfield 34, 3) := dk_180 0 34 (dk_at dksX3_laysFirst_0 10 rfl rfl)
theorem dX3_laysFirst_13 : decode cX3_laysFirst 13 = .ok (.aload_n 0, 1) := dk_42 (dk_at dksX3_laysFirst_0 13 rfl rfl)
theorem dX3_laysFirst_14 : decode cX3_laysFirst 14 = .ok (.invokevirtual 194, 3) := dk_182 0 194 (dk_at dksX3_laysFirst_0 14 rfl rfl)
theorem dX3_laysFirst_17 : decode cX3_laysFirst 17 = .ok (.iaload, 1) := dk_46 (dk_at dksX3_laysFirst_0 17 rfl rfl)
theorem dX3_laysFirst_18 : decode cX3_laysFirst 18 = .ok (.istore_n 2, 1) := dk_61 (dk_at dksX3_laysFirst_0 18 rfl rfl)
theorem dX3_laysFirst_19 : decode cX3_laysFirst 19 = .ok (.iconst 0, 1) := dk_3 (dk_at dksX3_laysFirst_0 19 rfl rfl)
theorem dX3_laysFirst_20 : decode cX3_laysFirst 20 = .ok (.istore_n 3, 1) := dk_62 (dk_at dksX3_laysFirst_0 20 rfl rfl)
theorem dX3_laysFirst_21 : decode cX3_laysFirst 21 = .ok (.iload_n 3, 1) := dk_29 (dk_at dksX3_laysFirst_0 21 rfl rfl)
theorem dX3_laysFirst_22 : decode cX3_laysFirst 22 = .ok (.aload_n 0, 1) := dk_42 (dk_at dksX3_laysFirst_0 22 rfl rfl)
theorem dX3_laysFirst_23 : decode cX3_laysFirst 23 = .ok (.invokevirtual 181, 3) := dk_182 0 181 (dk_at dksX3_laysFirst_1 0 rfl rfl)
theorem dX3_laysFirst_26 : decode cX3_laysFirst 26 = .ok (.if_icmp .ge 135, 3) := dk_162 0 135 (dk_at dksX3_laysFirst_1 3 rfl rfl)
theorem dX3_laysFirst_29 : decode cX3_laysFirst 29 = .ok (.iload_n 1, 1) := dk_27 (dk_at dksX3_laysFirst_1 6 rfl rfl)
theorem dX3_laysFirst_30 : decode cX3_laysFirst 30 = .ok (.iload_n 3, 1) := dk_29 (dk_at dksX3_laysFirst_1 7 rfl rfl)
theorem dX3_laysFirst_31 : decode cX3_laysFirst 31 = .ok (.invokestatic 183, 3) := dk_184 0 183 (dk_at dksX3_laysFirst_1 8 rfl rfl)
theorem dX3_laysFirst_34 : decode cX3_laysFirst 34 = .ok (.ifCond .ne 6, 3) := dk_154 0 6 (dk_at dksX3_laysFirst_1 11 rfl rfl)
theorem dX3_laysFirst_37 : decode cX3_laysFirst 37 = .ok (.goto 118, 3) := dk_167 0 118 (dk_at dksX3_laysFirst_1 14 rfl rfl)
theorem dX3_laysFirst_40 : decode cX3_laysFirst 40 = .ok (.iload_n 1, 1) := dk_27 (dk_at dksX3_laysFirst_1 17 rfl rfl)
theorem dX3_laysFirst_41 : decode cX3_laysFirst 41 = .ok (.iconst 1, 1) := dk_4 (dk_at dksX3_laysFirst_1 18 rfl rfl)
theorem dX3_laysFirst_42 : decode cX3_laysFirst 42 = .ok (.iload_n 3, 1) := dk_29 (dk_at dksX3_laysFirst_1 19 rfl rfl)
theorem dX3_laysFirst_43 : decode cX3_laysFirst 43 = .ok (.ishl, 1) := dk_120 (dk_at dksX3_laysFirst_1 20 rfl rfl)
theorem dX3_laysFirst_44 : decode cX3_laysFirst 44 = .ok (.iconst (-1), 1) := dk_2 (dk_at dksX3_laysFirst_1 21 rfl rfl)
theorem dX3_laysFirst_45 : decode cX3_laysFirst 45 = .ok (.ixor, 1) := dk_130 (dk_at dksX3_laysFirst_1 22 rfl rfl)
theorem dX3_laysFirst_46 : decode cX3_laysFirst 46 = .ok (.iand, 1) := dk_126 (dk_at dksX3_laysFirst_1 23 rfl rfl)
theorem dX3_laysFirst_47 : decode cX3_laysFirst 47 = .ok (.istore_n 1, 1) := dk_60 (dk_at dksX3_laysFirst_2 0 rfl rfl)
theorem dX3_laysFirst_48 : decode cX3_laysFirst 48 = .ok (.aload_n 0, 1) := dk_42 (dk_at dksX3_laysFirst_2 1 rfl rfl)
theorem dX3_laysFirst_49 : decode cX3_laysFirst 49 = .ok (.getfield 47, 3) := dk_180 0 47 (dk_at dksX3_laysFirst_2 2 rfl rfl)
theorem dX3_laysFirst_52 : decode cX3_laysFirst 52 = .ok (.iload_n 3, 1) := dk_29 (dk_at dksX3_laysFirst_2 5 rfl rfl)
theorem dX3_laysFirst_53 : decode cX3_laysFirst 53 = .ok (.iconst (-1), 1) := dk_2 (dk_at dksX3_laysFirst_2 6 rfl rfl)
theorem dX3_laysFirst_54 : decode cX3_laysFirst 54 = .ok (.iastore, 1) := dk_79 (dk_at dksX3_laysFirst_2 7 rfl rfl)
theorem dX3_laysFirst_55 : decode cX3_laysFirst 55 = .ok (.iload_n 3, 1) := dk_29 (dk_at dksX3_laysFirst_2 8 rfl rfl)
theorem dX3_laysFirst_56 : decode cX3_laysFirst 56 = .ok (.iconst 1, 1) := dk_4 (dk_at dksX3_laysFirst_2 9 rfl rfl)
theorem dX3_laysFirst_57 : decode cX3_laysFirst 57 = .ok (.iadd, 1) := dk_96 (dk_at dksX3_laysFirst_2 10 rfl rfl)
theorem dX3_laysFirst_58 : decode cX3_laysFirst 58 = .ok (.istore 4, 2) := dk_54 4 (dk_at dksX3_laysFirst_2 11 rfl rfl)
theorem dX3_laysFirst_60 : decode cX3_laysFirst 60 = .ok (.iload 4, 2) := dk_21 4 (dk_at dksX3_laysFirst_2 13 rfl rfl)
theorem dX3_laysFirst_62 : decode cX3_laysFirst 62 = .ok (.aload_n 0, 1) := dk_42 (dk_at dksX3_laysFirst_2 15 rfl rfl)
theorem dX3_laysFirst_63 : decode cX3_laysFirst 63 = .ok (.invokevirtual 181, 3) := dk_182 0 181 (dk_at dksX3_laysFirst_2 16 rfl rfl)
theorem dX3_laysFirst_66 : decode cX3_laysFirst 66 = .ok (.if_icmp .ge 89, 3) := dk_162 0 89 (dk_at dksX3_laysFirst_2 19 rfl rfl)
theorem dX3_laysFirst_69 : decode cX3_laysFirst 69 = .ok (.aload_n 0, 1) := dk_42 (dk_at dksX3_laysFirst_2 22 rfl rfl)
theorem dX3_laysFirst_70 : decode cX3_laysFirst 70 = .ok (.getfield 47, 3) := dk_180 0 47 (dk_at dksX3_laysFirst_3 0 rfl rfl)
theorem dX3_laysFirst_73 : decode cX3_laysFirst 73 = .ok (.iload_n 3, 1) := dk_29 (dk_at dksX3_laysFirst_3 3 rfl rfl)
theorem dX3_laysFirst_74 : decode cX3_laysFirst 74 = .ok (.iaload, 1) := dk_46 (dk_at dksX3_laysFirst_3 4 rfl rfl)
theorem dX3_laysFirst_75 : decode cX3_laysFirst 75 = .ok (.iconst (-1), 1) := dk_2 (dk_at dksX3_laysFirst_3 5 rfl rfl)
theorem dX3_laysFirst_76 : decode cX3_laysFirst 76 = .ok (.if_icmp .ne 79, 3) := dk_160 0 79 (dk_at dksX3_laysFirst_3 6 rfl rfl)
theorem dX3_laysFirst_79 : decode cX3_laysFirst 79 = .ok (.iload_n 1, 1) := dk_27 (dk_at dksX3_laysFirst_3 9 rfl rfl)
theorem dX3_laysFirst_80 : decode cX3_laysFirst 80 = .ok (.iload 4, 2) := dk_21 4 (dk_at dksX3_laysFirst_3 10 rfl rfl)
theorem dX3_laysFirst_82 : decode cX3_laysFirst 82 = .ok (.invokestatic 183, 3) := dk_184 0 183 (dk_at dksX3_laysFirst_3 12 rfl rfl)
theorem dX3_laysFirst_85 : decode cX3_laysFirst 85 = .ok (.ifCond .eq 64, 3) := dk_153 0 64 (dk_at dksX3_laysFirst_3 15 rfl rfl)
theorem dX3_laysFirst_88 : decode cX3_laysFirst 88 = .ok (.aload_n 0, 1) := dk_42 (dk_at dksX3_laysFirst_3 18 rfl rfl)
theorem dX3_laysFirst_89 : decode cX3_laysFirst 89 = .ok (.iload_n 3, 1) := dk_29 (dk_at dksX3_laysFirst_3 19 rfl rfl)
theorem dX3_laysFirst_90 : decode cX3_laysFirst 90 = .ok (.iload 4, 2) := dk_21 4 (dk_at dksX3_laysFirst_3 20 rfl rfl)
theorem dX3_laysFirst_92 : decode cX3_laysFirst 92 = .ok (.invokevirtual 203, 3) := dk_182 0 203 (dk_at dksX3_laysFirst_4 0 rfl rfl)
theorem dX3_laysFirst_95 : decode cX3_laysFirst 95 = .ok (.iconst (-1), 1) := dk_2 (dk_at dksX3_laysFirst_4 3 rfl rfl)
theorem dX3_laysFirst_96 : decode cX3_laysFirst 96 = .ok (.if_icmp .eq 53, 3) := dk_159 0 53 (dk_at dksX3_laysFirst_4 4 rfl rfl)
theorem dX3_laysFirst_99 : decode cX3_laysFirst 99 = .ok (.aload_n 0, 1) := dk_42 (dk_at dksX3_laysFirst_4 7 rfl rfl)
theorem dX3_laysFirst_100 : decode cX3_laysFirst 100 = .ok (.getfield 34, 3) := dk_180 0 34 (dk_at dksX3_laysFirst_4 8 rfl rfl)
theorem dX3_laysFirst_103 : decode cX3_laysFirst 103 = .ok (.iload_n 1, 1) := dk_27 (dk_at dksX3_laysFirst_4 11 rfl rfl)
theorem dX3_laysFirst_104 : decode cX3_laysFirst 104 = .ok (.iconst 1, 1) := dk_4 (dk_at dksX3_laysFirst_4 12 rfl rfl)
theorem dX3_laysFirst_105 : decode cX3_laysFirst 105 = .ok (.iload 4, 2) := dk_21 4 (dk_at dksX3_laysFirst_4 13 rfl rfl)
theorem dX3_laysFirst_107 : decode cX3_laysFirst 107 = .ok (.ishl, 1) := dk_120 (dk_at dksX3_laysFirst_4 15 rfl rfl)
theorem dX3_laysFirst_108 : decode cX3_laysFirst 108 = .ok (.iconst (-1), 1) := dk_2 (dk_at dksX3_laysFirst_4 16 rfl rfl)
theorem dX3_laysFirst_109 : decode cX3_laysFirst 109 = .ok (.ixor, 1) := dk_130 (dk_at dksX3_laysFirst_4 17 rfl rfl)
theorem dX3_laysFirst_110 : decode cX3_laysFirst 110 = .ok (.iand, 1) := dk_126 (dk_at dksX3_laysFirst_4 18 rfl rfl)
theorem dX3_laysFirst_111 : decode cX3_laysFirst 111 = .ok (.iaload, 1) := dk_46 (dk_at dksX3_laysFirst_4 19 rfl rfl)
theorem dX3_laysFirst_112 : decode cX3_laysFirst 112 = .ok (.iconst 1, 1) := dk_4 (dk_at dksX3_laysFirst_4 20 rfl rfl)
theorem dX3_laysFirst_113 : decode cX3_laysFirst 113 = .ok (.iadd, 1) := dk_96 (dk_at dksX3_laysFirst_4 21 rfl rfl)
theorem dX3_laysFirst_114 : decode cX3_laysFirst 114 = .ok (.iload_n 2, 1) := dk_28 (dk_at dksX3_laysFirst_4 22 rfl rfl)
theorem dX3_laysFirst_115 : decode cX3_laysFirst 115 = .ok (.if_icmp .eq 6, 3) := dk_159 0 6 (dk_at dksX3_laysFirst_5 0 rfl rfl)
theorem dX3_laysFirst_118 : decode cX3_laysFirst 118 = .ok (.goto 31, 3) := dk_167 0 31 (dk_at dksX3_laysFirst_5 3 rfl rfl)
theorem dX3_laysFirst_121 : decode cX3_laysFirst 121 = .ok (.aload_n 0, 1) := dk_42 (dk_at dksX3_laysFirst_5 6 rfl rfl)
theorem dX3_laysFirst_122 : decode cX3_laysFirst 122 = .ok (.getfield 47, 3) := dk_180 0 47 (dk_at dksX3_laysFirst_5 7 rfl rfl)
theorem dX3_laysFirst_125 : decode cX3_laysFirst 125 = .ok (.iload_n 3, 1) := dk_29 (dk_at dksX3_laysFirst_5 10 rfl rfl)
theorem dX3_laysFirst_126 : decode cX3_laysFirst 126 = .ok (.iload 4, 2) := dk_21 4 (dk_at dksX3_laysFirst_5 11 rfl rfl)
theorem dX3_laysFirst_128 : decode cX3_laysFirst 128 = .ok (.iastore, 1) := dk_79 (dk_at dksX3_laysFirst_5 13 rfl rfl)
theorem dX3_laysFirst_129 : decode cX3_laysFirst 129 = .ok (.aload_n 0, 1) := dk_42 (dk_at dksX3_laysFirst_5 14 rfl rfl)
theorem dX3_laysFirst_130 : decode cX3_laysFirst 130 = .ok (.getfield 47, 3) := dk_180 0 47 (dk_at dksX3_laysFirst_5 15 rfl rfl)
theorem dX3_laysFirst_133 : decode cX3_laysFirst 133 = .ok (.iload 4, 2) := dk_21 4 (dk_at dksX3_laysFirst_5 18 rfl rfl)
theorem dX3_laysFirst_135 : decode cX3_laysFirst 135 = .ok (.iload_n 3, 1) := dk_29 (dk_at dksX3_laysFirst_5 20 rfl rfl)
theorem dX3_laysFirst_136 : decode cX3_laysFirst 136 = .ok (.iastore, 1) := dk_79 (dk_at dksX3_laysFirst_5 21 rfl rfl)
theorem dX3_laysFirst_137 : decode cX3_laysFirst 137 = .ok (.iload_n 1, 1) := dk_27 (dk_at dksX3_laysFirst_5 22 rfl rfl)
theorem dX3_laysFirst_138 : decode cX3_laysFirst 138 = .ok (.iconst 1, 1) := dk_4 (dk_at dksX3_laysFirst_5 23 rfl rfl)
theorem dX3_laysFirst_139 : decode cX3_laysFirst 139 = .ok (.iload 4, 2) := dk_21 4 (dk_at dksX3_laysFirst_6 0 rfl rfl)
theorem dX3_laysFirst_141 : decode cX3_laysFirst 141 = .ok (.ishl, 1) := dk_120 (dk_at dksX3_laysFirst_6 2 rfl rfl)
theorem dX3_laysFirst_142 : decode cX3_laysFirst 142 = .ok (.iconst (-1), 1) := dk_2 (dk_at dksX3_laysFirst_6 3 rfl rfl)
theorem dX3_laysFirst_143 : decode cX3_laysFirst 143 = .ok (.ixor, 1) := dk_130 (dk_at dksX3_laysFirst_6 4 rfl rfl)
theorem dX3_laysFirst_144 : decode cX3_laysFirst 144 = .ok (.iand, 1) := dk_126 (dk_at dksX3_laysFirst_6 5 rfl rfl)
theorem dX3_laysFirst_145 : decode cX3_laysFirst 145 = .ok (.istore_n 1, 1) := dk_60 (dk_at dksX3_laysFirst_6 6 rfl rfl)
theorem dX3_laysFirst_146 : decode cX3_laysFirst 146 = .ok (.iinc 2 (-1), 3) := dk_132 2 255 (dk_at dksX3_laysFirst_6 7 rfl rfl)
theorem dX3_laysFirst_149 : decode cX3_laysFirst 149 = .ok (.iinc 4 1, 3) := dk_132 4 1 (dk_at dksX3_laysFirst_6 10 rfl rfl)
theorem dX3_laysFirst_152 : decode cX3_laysFirst 152 = .ok (.goto (-92), 3) := dk_167 255 164 (dk_at dksX3_laysFirst_6 13 rfl rfl)
theorem dX3_laysFirst_155 : decode cX3_laysFirst 155 = .ok (.iinc 3 1, 3) := dk_132 3 1 (dk_at dksX3_laysFirst_6 16 rfl rfl)
theorem dX3_laysFirst_158 : decode cX3_laysFirst 158 = .ok (.goto (-137), 3) := dk_167 255 119 (dk_at dksX3_laysFirst_6 19 rfl rfl)
theorem dX3_laysFirst_161 : decode cX3_laysFirst 161 = .ok (.return_, 1) := dk_177 (dk_at dksX3_laysFirst_6 22 rfl rfl)
abbrev cX3_lays : ByteArray := prog_12_method_34_code
def yX3_lays : MethodName := ⟨RX3, "lays", "()V"⟩
def dkwX3_lays_6 : List UInt8 := [167, 255, 156, 177]
abbrev dktX3_lays_6 : List UInt8 := dkwX3_lays_6 ++ []
def dkwX3_lays_5 : List UInt8 := [2, 130, 126, 4, 42, 28, 21, 4, 182, 0, 203, 182, 0, 199, 132, 4, 1, 167, 255, 203, 132, 1, 1]
abbrev dktX3_lays_5 : List UInt8 := dkwX3_lays_5 ++ dktX3_lays_6
def dkwX3_lays_4 : List UInt8 := [184, 0, 183, 153, 0, 35, 42, 28, 21, 4, 182, 0, 203, 2, 159, 0, 24, 42, 27, 29, 4, 21, 4, 120]
abbrev dktX3_lays_4 : List UInt8 := dkwX3_lays_4 ++ dktX3_lays_5
def dkwX3_lays_3 : List UInt8 := [27, 29, 3, 3, 182, 0, 199, 28, 4, 96, 54, 4, 21, 4, 42, 182, 0, 181, 162, 0, 50, 29, 21, 4]
abbrev dktX3_lays_3 : List UInt8 := dkwX3_lays_3 ++ dktX3_lays_4
def dkwX3_lays_2 : List UInt8 := [163, 0, 98, 27, 184, 0, 196, 61, 27, 4, 28, 120, 2, 130, 126, 62, 42, 180, 0, 34, 27, 2, 79, 42]
abbrev dktX3_lays_2 : List UInt8 := dkwX3_lays_2 ++ dktX3_lays_3
def dkwX3_lays_1 : List UInt8 := [3, 3, 79, 42, 180, 0, 37, 3, 3, 79, 42, 180, 0, 40, 3, 3, 79, 4, 60, 27, 42, 182, 0, 194]
abbrev dktX3_lays_1 : List UInt8 := dkwX3_lays_1 ++ dktX3_lays_2
def dkwX3_lays_0 : List UInt8 := [42, 180, 0, 187, 153, 0, 4, 177, 42, 4, 181, 0, 187, 42, 180, 0, 43, 3, 10, 80, 42, 180, 0, 34]
abbrev dktX3_lays_0 : List UInt8 := dkwX3_lays_0 ++ dktX3_lays_1
theorem dksX3_lays_0 : cX3_lays.data.toList.drop 0 = dktX3_lays_0 := by decide +kernel
theorem dksX3_lays_1 : cX3_lays.data.toList.drop 24 = dktX3_lays_1 := dk_seg dksX3_lays_0 24 rfl rfl
theorem dksX3_lays_2 : cX3_lays.data.toList.drop 48 = dktX3_lays_2 := dk_seg dksX3_lays_1 24 rfl rfl
theorem dksX3_lays_3 : cX3_lays.data.toList.drop 72 = dktX3_lays_3 := dk_seg dksX3_lays_2 24 rfl rfl
theorem dksX3_lays_4 : cX3_lays.data.toList.drop 96 = dktX3_lays_4 := dk_seg dksX3_lays_3 24 rfl rfl
theorem dksX3_lays_5 : cX3_lays.data.toList.drop 120 = dktX3_lays_5 := dk_seg dksX3_lays_4 24 rfl rfl
theorem dksX3_lays_6 : cX3_lays.data.toList.drop 143 = dktX3_lays_6 := dk_seg dksX3_lays_5 23 rfl rfl
theorem dX3_lays_0 : decode cX3_lays 0 = .ok (.aload_n 0, 1) := dk_42 (dk_at dksX3_lays_0 0 rfl rfl)
theorem dX3_lays_1 : decode cX3_lays 1 = .ok (.getfield 187, 3) := dk_180 0 187 (dk_at dksX3_lays_0 1 rfl rfl)
theorem dX3_lays_4 : decode cX3_lays 4 = .ok (.ifCond .eq 4, 3) := dk_153 0 4 (dk_at dksX3_lays_0 4 rfl rfl)
theorem dX3_lays_7 : decode cX3_lays 7 = .ok (.return_, 1) := dk_177 (dk_at dksX3_lays_0 7 rfl rfl)
theorem dX3_lays_8 : decode cX3_lays 8 = .ok (.aload_n 0, 1) := dk_42 (dk_at dksX3_lays_0 8 rfl rfl)
theorem dX3_lays_9 : decode cX3_lays 9 = .ok (.iconst 1, 1) := dk_4 (dk_at dksX3_lays_0 9 rfl rfl)
theorem dX3_lays_10 : decode cX3_lays 10 = .ok (.putfield 187, 3) := dk_181 0 187 (dk_at dksX3_lays_0 10 rfl rfl)
theorem dX3_lays_13 : decode cX3_lays 13 = .ok (.aload_n 0, 1) := dk_42 (dk_at dksX3_lays_0 13 rfl rfl)
theorem dX3_lays_14 : decode cX3_lays 14 = .ok (.getfield 43, 3) := dk_180 0 43 (dk_at dksX3_lays_0 14 rfl rfl)
theorem dX3_lays_17 : decode cX3_lays 17 = .ok (.iconst 0, 1) := dk_3 (dk_at dksX3_lays_0 17 rfl rfl)
theorem dX3_lays_18 : decode cX3_lays 18 = .ok (.lconst 1, 1) := dk_10 (dk_at dksX3_lays_0 18 rfl rfl)
theorem dX3_lays_19 : decode cX3_lays 19 = .ok (.lastore, 1) := dk_80 (dk_at dksX3_lays_0 19 rfl rfl)
theorem dX3_lays_20 : decode cX3_lays 20 = .ok (.aload_n 0, 1) := dk_42 (dk_at dksX3_lays_0 20 rfl rfl)
theorem dX3_lays_21 : decode cX3_lays 21 = .ok (.getfield 34, 3) := dk_180 0 34 (dk_at dksX3_lays_0 21 rfl rfl)
theorem dX3_lays_24 : decode cX3_lays 24 = .ok (.iconst 0, 1) := dk_3 (dk_at dksX3_lays_1 0 rfl rfl)
theorem dX3_lays_25 : decode cX3_lays 25 = .ok (.iconst 0, 1) := dk_3 (dk_at dksX3_lays_1 1 rfl rfl)
theorem dX3_lays_26 : decode cX3_lays 26 = .ok (.iastore, 1) := dk_79 (dk_at dksX3_lays_1 2 rfl rfl)
theorem dX3_lays_27 : decode cX3_lays 27 = .ok (.aload_n 0, 1) := dk_42 (dk_at dksX3_lays_1 3 rfl rfl)
theorem dX3_lays_28 : decode cX3_lays 28 = .ok (.getfield 37, 3) := dk_180 0 37 (dk_at dksX3_lays_1 4 rfl rfl)
theorem dX3_lays_31 : decode cX3_lays 31 = .ok (.iconst 0, 1) := dk_3 (dk_at dksX3_lays_1 7 rfl rfl)
theorem dX3_lays_32 : decode cX3_lays 32 = .ok (.iconst 0, 1) := dk_3 (dk_at dksX3_lays_1 8 rfl rfl)
theorem dX3_lays_33 : decode cX3_lays 33 = .ok (.iastore, 1) := dk_79 (dk_at dksX3_lays_1 9 rfl rfl)
theorem dX3_lays_34 : decode cX3_lays 34 = .ok (.aload_n 0, 1) := dk_42 (dk_at dksX3_lays_1 10 rfl rfl)
theorem dX3_lays_35 : decode cX3_lays 35 = .ok (.getfield 40, 3) := dk_180 0 40 (dk_at dksX3_lays_1 11 rfl rfl)
theorem dX3_lays_38 : decode cX3_lays 38 = .ok (.iconst 0, 1) := dk_3 (dk_at dksX3_lays_1 14 rfl rfl)
theorem dX3_lays_39 : decode cX3_lays 39 = .ok (.iconst 0, 1) := dk_3 (dk_at dksX3_lays_1 15 rfl rfl)
theorem dX3_lays_40 : decode cX3_lays 40 = .ok (.iastore, 1) := dk_79 (dk_at dksX3_lays_1 16 rfl rfl)
theorem dX3_lays_41 : decode cX3_lays 41 = .ok (.iconst 1, 1) := dk_4 (dk_at dksX3_lays_1 17 rfl rfl)
theorem dX3_lays_42 : decode cX3_lays 42 = .ok (.istore_n 1, 1) := dk_60 (dk_at dksX3_lays_1 18 rfl rfl)
theorem dX3_lays_43 : decode cX3_lays 43 = .ok (.iload_n 1, 1) := dk_27 (dk_at dksX3_lays_1 19 rfl rfl)
theorem dX3_lays_44 : decode cX3_lays 44 = .ok (.aload_n 0, 1) := dk_42 (dk_at dksX3_lays_1 20 rfl rfl)
theorem dX3_lays_45 : decode cX3_lays 45 = .ok (.invokevirtual 194, 3) := dk_182 0 194 (dk_at dksX3_lays_1 21 rfl rfl)
theorem dX3_lays_48 : decode cX3_lays 48 = .ok (.if_icmp .gt 98, 3) := dk_163 0 98 (dk_at dksX3_lays_2 0 rfl rfl)
theorem dX3_lays_51 : decode cX3_lays 51 = .ok (.iload_n 1, 1) := dk_27 (dk_at dksX3_lays_2 3 rfl rfl)
theorem dX3_lays_52 : decode cX3_lays 52 = .ok (.invokestatic 196, 3) := dk_184 0 196 (dk_at dksX3_lays_2 4 rfl rfl)
theorem dX3_lays_55 : decode cX3_lays 55 = .ok (.istore_n 2, 1) := dk_61 (dk_at dksX3_lays_2 7 rfl rfl)
theorem dX3_lays_56 : decode cX3_lays 56 = .ok (.iload_n 1, 1) := dk_27 (dk_at dksX3_lays_2 8 rfl rfl)
theorem dX3_lays_57 : decode cX3_lays 57 = .ok (.iconst 1, 1) := dk_4 (dk_at dksX3_lays_2 9 rfl rfl)
theorem dX3_lays_58 : decode cX3_lays 58 = .ok (.iload_n 2, 1) := dk_28 (dk_at dksX3_lays_2 10 rfl rfl)
theorem dX3_lays_59 : decode cX3_lays 59 = .ok (.ishl, 1) := dk_120 (dk_at dksX3_lays_2 11 rfl rfl)
theorem dX3_lays_60 : decode cX3_lays 60 = .ok (.iconst (-1), 1) := dk_2 (dk_at dksX3_lays_2 12 rfl rfl)
theorem dX3_lays_61 : decode cX3_lays 61 = .ok (.ixor, 1) := dk_130 (dk_at dksX3_lays_2 13 rfl rfl)
theorem dX3_lays_62 : decode cX3_lays 62 = .ok (.iand, 1) := dk_126 (dk_at dksX3_lays_2 14 rfl rfl)
theorem dX3_lays_63 : decode cX3_lays 63 = .ok (.istore_n 3, 1) := dk_62 (dk_at dksX3_lays_2 15 rfl rfl)
theorem dX3_lays_64 : decode cX3_lays 64 = .ok (.aload_n 0, 1) := dk_42 (dk_at dksX3_lays_2 16 rfl rfl)
theorem dX3_lays_65 : decode cX3_lays 65 = .ok (.getfield 34, 3) := dk_180 0 34 (dk_at dksX3_lays_2 17 rfl rfl)
theorem dX3_lays_68 : decode cX3_lays 68 = .ok (.iload_n 1, 1) := dk_27 (dk_at dksX3_lays_2 20 rfl rfl)
theorem dX3_lays_69 : decode cX3_lays 69 = .ok (.iconst (-1), 1) := dk_2 (dk_at dksX3_lays_2 21 rfl rfl)
theorem dX3_lays_70 : decode cX3_lays 70 = .ok (.iastore, 1) := dk_79 (dk_at dksX3_lays_2 22 rfl rfl)
theorem dX3_lays_71 : decode cX3_lays 71 = .ok (.aload_n 0, 1) := dk_42 (dk_at dksX3_lays_2 23 rfl rfl)
theorem dX3_lays_72 : decode cX3_lays 72 = .ok (.iload_n 1, 1) := dk_27 (dk_at dksX3_lays_3 0 rfl rfl)
theorem dX3_lays_73 : decode cX3_lays 73 = .ok (.iload_n 3, 1) := dk_29 (dk_at dksX3_lays_3 1 rfl rfl)
theorem dX3_lays_74 : decode cX3_lays 74 = .ok (.iconst 0, 1) := dk_3 (dk_at dksX3_lays_3 2 rfl rfl)
theorem dX3_lays_75 : decode cX3_lays 75 = .ok (.iconst 0, 1) := dk_3 (dk_at dksX3_lays_3 3 rfl rfl)
theorem dX3_lays_76 : decode cX3_lays 76 = .ok (.invokevirtual 199, 3) := dk_182 0 199 (dk_at dksX3_lays_3 4 rfl rfl)
theorem dX3_lays_79 : decode cX3_lays 79 = .ok (.iload_n 2, 1) := dk_28 (dk_at dksX3_lays_3 7 rfl rfl)
theorem dX3_lays_80 : decode cX3_lays 80 = .ok (.iconst 1, 1) := dk_4 (dk_at dksX3_lays_3 8 rfl rfl)
theorem dX3_lays_81 : decode cX3_lays 81 = .ok (.iadd, 1) := dk_96 (dk_at dksX3_lays_3 9 rfl rfl)
theorem dX3_lays_82 : decode cX3_lays 82 = .ok (.istore 4, 2) := dk_54 4 (dk_at dksX3_lays_3 10 rfl rfl)
theorem dX3_lays_84 : decode cX3_lays 84 = .ok (.iload 4, 2) := dk_21 4 (dk_at dksX3_lays_3 12 rfl rfl)
theorem dX3_lays_86 : decode cX3_lays 86 = .ok (.aload_n 0, 1) := dk_42 (dk_at dksX3_lays_3 14 rfl rfl)
theorem dX3_lays_87 : decode cX3_lays 87 = .ok (.invokevirtual 181, 3) := dk_182 0 181 (dk_at dksX3_lays_3 15 rfl rfl)
theorem dX3_lays_90 : decode cX3_lays 90 = .ok (.if_icmp .ge 50, 3) := dk_162 0 50 (dk_at dksX3_lays_3 18 rfl rfl)
theorem dX3_lays_93 : decode cX3_lays 93 = .ok (.iload_n 3, 1) := dk_29 (dk_at dksX3_lays_3 21 rfl rfl)
theorem dX3_lays_94 : decode cX3_lays 94 = .ok (.iload 4, 2) := dk_21 4 (dk_at dksX3_lays_3 22 rfl rfl)
theorem dX3_lays_96 : decode cX3_lays 96 = .ok (.invokestatic 183, 3) := dk_184 0 183 (dk_at dksX3_lays_4 0 rfl rfl)
theorem dX3_lays_99 : decode cX3_lays 99 = .ok (.ifCond .eq 35, 3) := dk_153 0 35 (dk_at dksX3_lays_4 3 rfl rfl)
theorem dX3_lays_102 : decode cX3_lays 102 = .ok (.aload_n 0, 1) := dk_42 (dk_at dksX3_lays_4 6 rfl rfl)
theorem dX3_lays_103 : decode cX3_lays 103 = .ok (.iload_n 2, 1) := dk_28 (dk_at dksX3_lays_4 7 rfl rfl)
theorem dX3_lays_104 : decode cX3_lays 104 = .ok (.iload 4, 2) := dk_21 4 (dk_at dksX3_lays_4 8 rfl rfl)
theorem dX3_lays_106 : decode cX3_lays 106 = .ok (.invokevirtual 203, 3) := dk_182 0 203 (dk_at dksX3_lays_4 10 rfl rfl)
theorem dX3_lays_109 : decode cX3_lays 109 = .ok (.iconst (-1), 1) := dk_2 (dk_at dksX3_lays_4 13 rfl rfl)
theorem dX3_lays_110 : decode cX3_lays 110 = .ok (.if_icmp .eq 24, 3) := dk_159 0 24 (dk_at dksX3_lays_4 14 rfl rfl)
theorem dX3_lays_113 : decode cX3_lays 113 = .ok (.aload_n 0, 1) := dk_42 (dk_at dksX3_lays_4 17 rfl rfl)
theorem dX3_lays_114 : decode cX3_lays 114 = .ok (.iload_n 1, 1) := dk_27 (dk_at dksX3_lays_4 18 rfl rfl)
theorem dX3_lays_115 : decode cX3_lays 115 = .ok (.iload_n 3, 1) := dk_29 (dk_at dksX3_lays_4 19 rfl rfl)
theorem dX3_lays_116 : decode cX3_lays 116 = .ok (.iconst 1, 1) := dk_4 (dk_at dksX3_lays_4 20 rfl rfl)
theorem dX3_lays_117 : decode cX3_lays 117 = .ok (.iload 4, 2) := dk_21 4 (dk_at dksX3_lays_4 21 rfl rfl)
theorem dX3_lays_119 : decode cX3_lays 119 = .ok (.ishl, 1) := dk_120 (dk_at dksX3_lays_4 23 rfl rfl)
theorem dX3_lays_120 : decode cX3_lays 120 = .ok (.iconst (-1), 1) := dk_2 (dk_at dksX3_lays_5 0 rfl rfl)
theorem dX3_lays_121 : decode cX3_lays 121 = .ok (.ixor, 1) := dk_130 (dk_at dksX3_lays_5 1 rfl rfl)
theorem dX3_lays_122 : decode cX3_lays 122 = .ok (.iand, 1) := dk_126 (dk_at dksX3_lays_5 2 rfl rfl)
theorem dX3_lays_123 : decode cX3_lays 123 = .ok (.iconst 1, 1) := dk_4 (dk_at dksX3_lays_5 3 rfl rfl)
theorem dX3_lays_124 : decode cX3_lays 124 = .ok (.aload_n 0, 1) := dk_42 (dk_at dksX3_lays_5 4 rfl rfl)
theorem dX3_lays_125 : decode cX3_lays 125 = .ok (.iload_n 2, 1) := dk_28 (dk_at dksX3_lays_5 5 rfl rfl)
theorem dX3_lays_126 : decode cX3_lays 126 = .ok (.iload 4, 2) := dk_21 4 (dk_at dksX3_lays_5 6 rfl rfl)
theorem dX3_lays_128 : decode cX3_lays 128 = .ok (.invokevirtual 203, 3) := dk_182 0 203 (dk_at dksX3_lays_5 8 rfl rfl)
theorem dX3_lays_131 : decode cX3_lays 131 = .ok (.invokevirtual 199, 3) := dk_182 0 199 (dk_at dksX3_lays_5 11 rfl rfl)
theorem dX3_lays_134 : decode cX3_lays 134 = .ok (.iinc 4 1, 3) := dk_132 4 1 (dk_at dksX3_lays_5 14 rfl rfl)
theorem dX3_lays_137 : decode cX3_lays 137 = .ok (.goto (-53), 3) := dk_167 255 203 (dk_at dksX3_lays_5 17 rfl rfl)
theorem dX3_lays_140 : decode cX3_lays 140 = .ok (.iinc 1 1, 3) := dk_132 1 1 (dk_at dksX3_lays_5 20 rfl rfl)
theorem dX3_lays_143 : decode cX3_lays 143 = .ok (.goto (-100), 3) := dk_167 255 156 (dk_at dksX3_lays_6 0 rfl rfl)
theorem dX3_lays_146 : decode cX3_lays 146 = .ok (.return_, 1) := dk_177 (dk_at dksX3_lays_6 3 rfl rfl)
abbrev cX3_all : ByteArray := prog_12_method_26_code
def yX3_all : MethodName := ⟨RX3, "all", "()I"⟩
def dkwX3_all_0 : List UInt8 := [4, 42, 182, 0, 181, 120, 4, 100, 172]
abbrev dktX3_all_0 : List UInt8 := dkwX3_all_0 ++ []
theorem dksX3_all_0 : cX3_all.data.toList.drop 0 = dktX3_all_0 := by decide +kernel
theorem dX3_all_0 : decode cX3_all 0 = .ok (.iconst 1, 1) := dk_4 (dk_at dksX3_all_0 0 rfl rfl)
theorem dX3_all_1 : decode cX3_all 1 = .ok (.aload_n 0, 1) := dk_42 (dk_at dksX3_all_0 1 rfl rfl)
theorem dX3_all_2 : decode cX3_all 2 = .ok (.invokevirtual 181, 3) := dk_182 0 181 (dk_at dksX3_all_0 2 rfl rfl)
theorem dX3_all_5 : decode cX3_all 5 = .ok (.ishl, 1) := dk_120 (dk_at dksX3_all_0 5 rfl rfl)
theorem dX3_all_6 : decode cX3_all 6 = .ok (.iconst 1, 1) := dk_4 (dk_at dksX3_all_0 6 rfl rfl)
theorem dX3_all_7 : decode cX3_all 7 = .ok (.isub, 1) := dk_100 (dk_at dksX3_all_0 7 rfl rfl)
theorem dX3_all_8 : decode cX3_all 8 = .ok (.ireturn, 1) := dk_172 (dk_at dksX3_all_0 8 rfl rfl)
abbrev cX3_first : ByteArray := prog_12_method_31_code
def yX3_first : MethodName := ⟨RX3, "first", "(I)I"⟩
def dkwX3_first_0 : List UInt8 := [3, 60, 26, 27, 184, 0, 183, 154, 0, 9, 132, 1, 1, 167, 255, 245, 27, 172]
abbrev dktX3_first_0 : List UInt8 := dkwX3_first_0 ++ []
theorem dksX3_first_0 : cX3_first.data.toList.drop 0 = dktX3_first_0 := by decide +kernel
theorem dX3_first_0 : decode cX3_first 0 = .ok (.iconst 0, 1) := dk_3 (dk_at dksX3_first_0 0 rfl rfl)
theorem dX3_first_1 : decode cX3_first 1 = .ok (.istore_n 1, 1) := dk_60 (dk_at dksX3_first_0 1 rfl rfl)
theorem dX3_first_2 : decode cX3_first 2 = .ok (.iload_n 0, 1) := dk_26 (dk_at dksX3_first_0 2 rfl rfl)
theorem dX3_first_3 : decode cX3_first 3 = .ok (.iload_n 1, 1) := dk_27 (dk_at dksX3_first_0 3 rfl rfl)
theorem dX3_first_4 : decode cX3_first 4 = .ok (.invokestatic 183, 3) := dk_184 0 183 (dk_at dksX3_first_0 4 rfl rfl)
theorem dX3_first_7 : decode cX3_first 7 = .ok (.ifCond .ne 9, 3) := dk_154 0 9 (dk_at dksX3_first_0 7 rfl rfl)
theorem dX3_first_10 : decode cX3_first 10 = .ok (.iinc 1 1, 3) := dk_132 1 1 (dk_at dksX3_first_0 10 rfl rfl)
theorem dX3_first_13 : decode cX3_first 13 = .ok (.goto (-11), 3) := dk_167 255 245 (dk_at dksX3_first_0 13 rfl rfl)
theorem dX3_first_16 : decode cX3_first 16 = .ok (.iload_n 1, 1) := dk_27 (dk_at dksX3_first_0 16 rfl rfl)
theorem dX3_first_17 : decode cX3_first 17 = .ok (.ireturn, 1) := dk_172 (dk_at dksX3_first_0 17 rfl rfl)
abbrev cX3_adds : ByteArray := prog_12_method_33_code
def yX3_adds : MethodName := ⟨RX3, "adds", "(IIII)V"⟩
def dkwX3_adds_6 : List UInt8 := [79, 177]
abbrev dktX3_adds_6 : List UInt8 := dkwX3_adds_6 ++ []
def dkwX3_adds_5 : List UInt8 := [79, 42, 180, 0, 40, 27, 42, 180, 0, 40, 27, 46, 42, 180, 0, 40, 28, 46, 21, 4, 96, 184, 0, 124]
abbrev dktX3_adds_5 : List UInt8 := dkwX3_adds_5 ++ dktX3_adds_6
def dkwX3_adds_4 : List UInt8 := [21, 4, 96, 164, 0, 12, 42, 180, 0, 37, 27, 46, 167, 0, 12, 42, 180, 0, 37, 28, 46, 21, 4, 96]
abbrev dktX3_adds_4 : List UInt8 := dkwX3_adds_4 ++ dktX3_adds_5
def dkwX3_adds_3 : List UInt8 := [180, 0, 43, 28, 47, 97, 80, 42, 180, 0, 37, 27, 42, 180, 0, 37, 27, 46, 42, 180, 0, 37, 28, 46]
abbrev dktX3_adds_3 : List UInt8 := dkwX3_adds_3 ++ dktX3_adds_4
def dkwX3_adds_2 : List UInt8 := [180, 0, 40, 27, 18, 193, 79, 42, 180, 0, 34, 27, 21, 5, 79, 42, 180, 0, 43, 27, 92, 47, 42]
abbrev dktX3_adds_2 : List UInt8 := dkwX3_adds_2 ++ dktX3_adds_3
def dkwX3_adds_1 : List UInt8 := [42, 180, 0, 34, 27, 46, 164, 0, 25, 42, 180, 0, 43, 27, 9, 80, 42, 180, 0, 37, 27, 2, 79, 42]
abbrev dktX3_adds_1 : List UInt8 := dkwX3_adds_1 ++ dktX3_adds_2
def dkwX3_adds_0 : List UInt8 := [42, 180, 0, 34, 28, 46, 29, 96, 54, 5, 21, 5, 42, 180, 0, 34, 27, 46, 162, 0, 4, 177, 21, 5]
abbrev dktX3_adds_0 : List UInt8 := dkwX3_adds_0 ++ dktX3_adds_1
theorem dksX3_adds_0 : cX3_adds.data.toList.drop 0 = dktX3_adds_0 := by decide +kernel
theorem dksX3_adds_1 : cX3_adds.data.toList.drop 24 = dktX3_adds_1 := dk_seg dksX3_adds_0 24 rfl rfl
theorem dksX3_adds_2 : cX3_adds.data.toList.drop 48 = dktX3_adds_2 := dk_seg dksX3_adds_1 24 rfl rfl
theorem dksX3_adds_3 : cX3_adds.data.toList.drop 71 = dktX3_adds_3 := dk_seg dksX3_adds_2 23 rfl rfl
theorem dksX3_adds_4 : cX3_adds.data.toList.drop 95 = dktX3_adds_4 := dk_seg dksX3_adds_3 24 rfl rfl
theorem dksX3_adds_5 : cX3_adds.data.toList.drop 119 = dktX3_adds_5 := dk_seg dksX3_adds_4 24 rfl rfl
theorem dksX3_adds_6 : cX3_adds.data.toList.drop 143 = dktX3_adds_6 := dk_seg dksX3_adds_5 24 rfl rfl
theorem dX3_adds_0 : decode cX3_adds 0 = .ok (.aload_n 0, 1) := dk_42 (dk_at dksX3_adds_0 0 rfl rfl)
theorem dX3_adds_1 : decode cX3_adds 1 = .ok (.getfield 34, 3) := dk_180 0 34 (dk_at dksX3_adds_0 1 rfl rfl)
theorem dX3_adds_4 : decode cX3_adds 4 = .ok (.iload_n 2, 1) := dk_28 (dk_at dksX3_adds_0 4 rfl rfl)
theorem dX3_adds_5 : decode cX3_adds 5 = .ok (.iaload, 1) := dk_46 (dk_at dksX3_adds_0 5 rfl rfl)
theorem dX3_adds_6 : decode cX3_adds 6 = .ok (.iload_n 3, 1) := dk_29 (dk_at dksX3_adds_0 6 rfl rfl)
theorem dX3_adds_7 : decode cX3_adds 7 = .ok (.iadd, 1) := dk_96 (dk_at dksX3_adds_0 7 rfl rfl)
theorem dX3_adds_8 : decode cX3_adds 8 = .ok (.istore 5, 2) := dk_54 5 (dk_at dksX3_adds_0 8 rfl rfl)
theorem dX3_adds_10 : decode cX3_adds 10 = .ok (.iload 5, 2) := dk_21 5 (dk_at dksX3_adds_0 10 rfl rfl)
theorem dX3_adds_12 : decode cX3_adds 12 = .ok (.aload_n 0, 1) := dk_42 (dk_at dksX3_adds_0 12 rfl rfl)
theorem dX3_adds_13 : decode cX3_adds 13 = .ok (.getfield 34, 3) := dk_180 0 34 (dk_at dksX3_adds_0 13 rfl rfl)
theorem dX3_adds_16 : decode cX3_adds 16 = .ok (.iload_n 1, 1) := dk_27 (dk_at dksX3_adds_0 16 rfl rfl)
theorem dX3_adds_17 : decode cX3_adds 17 = .ok (.iaload, 1) := dk_46 (dk_at dksX3_adds_0 17 rfl rfl)
theorem dX3_adds_18 : decode cX3_adds 18 = .ok (.if_icmp .ge 4, 3) := dk_162 0 4 (dk_at dksX3_adds_0 18 rfl rfl)
theorem dX3_adds_21 : decode cX3_adds 21 = .ok (.return_, 1) := dk_177 (dk_at dksX3_adds_0 21 rfl rfl)
theorem dX3_adds_22 : decode cX3_adds 22 = .ok (.iload 5, 2) := dk_21 5 (dk_at dksX3_adds_0 22 rfl rfl)
theorem dX3_adds_24 : decode cX3_adds 24 = .ok (.aload_n 0, 1) := dk_42 (dk_at dksX3_adds_1 0 rfl rfl)
theorem dX3_adds_25 : decode cX3_adds 25 = .ok (.getfield 34, 3) := dk_180 0 34 (dk_at dksX3_adds_1 1 rfl rfl)
theorem dX3_adds_28 : decode cX3_adds 28 = .ok (.iload_n 1, 1) := dk_27 (dk_at dksX3_adds_1 4 rfl rfl)
theorem dX3_adds_29 : decode cX3_adds 29 = .ok (.iaload, 1) := dk_46 (dk_at dksX3_adds_1 5 rfl rfl)
theorem dX3_adds_30 : decode cX3_adds 30 = .ok (.if_icmp .le 25, 3) := dk_164 0 25 (dk_at dksX3_adds_1 6 rfl rfl)
theorem dX3_adds_33 : decode cX3_adds 33 = .ok (.aload_n 0, 1) := dk_42 (dk_at dksX3_adds_1 9 rfl rfl)
theorem dX3_adds_34 : decode cX3_adds 34 = .ok (.getfield 43, 3) := dk_180 0 43 (dk_at dksX3_adds_1 10 rfl rfl)
theorem dX3_adds_37 : decode cX3_adds 37 = .ok (.iload_n 1, 1) := dk_27 (dk_at dksX3_adds_1 13 rfl rfl)
theorem dX3_adds_38 : decode cX3_adds 38 = .ok (.lconst 0, 1) := dk_9 (dk_at dksX3_adds_1 14 rfl rfl)
theorem dX3_adds_39 : decode cX3_adds 39 = .ok (.lastore, 1) := dk_80 (dk_at dksX3_adds_1 15 rfl rfl)
theorem dX3_adds_40 : decode cX3_adds 40 = .ok (.aload_n 0, 1) := dk_42 (dk_at dksX3_adds_1 16 rfl rfl)
theorem dX3_adds_41 : decode cX3_adds 41 = .ok (.getfield 37, 3) := dk_180 0 37 (dk_at dksX3_adds_1 17 rfl rfl)
theorem dX3_adds_44 : decode cX3_adds 44 = .ok (.iload_n 1, 1) := dk_27 (dk_at dksX3_adds_1 20 rfl rfl)
theorem dX3_adds_45 : decode cX3_adds 45 = .ok (.iconst (-1), 1) := dk_2 (dk_at dksX3_adds_1 21 rfl rfl)
theorem dX3_adds_46 : decode cX3_adds 46 = .ok (.iastore, 1) := dk_79 (dk_at dksX3_adds_1 22 rfl rfl)
theorem dX3_adds_47 : decode cX3_adds 47 = .ok (.aload_n 0, 1) := dk_42 (dk_at dksX3_adds_1 23 rfl rfl)
theorem dX3_adds_48 : decode cX3_adds 48 = .ok (.getfield 40, 3) := dk_180 0 40 (dk_at dksX3_adds_2 0 rfl rfl)
theorem dX3_adds_51 : decode cX3_adds 51 = .ok (.iload_n 1, 1) := dk_27 (dk_at dksX3_adds_2 3 rfl rfl)
theorem dX3_adds_52 : decode cX3_adds 52 = .ok (.ldc 193, 2) := dk_18 193 (dk_at dksX3_adds_2 4 rfl rfl)
theorem dX3_adds_54 : decode cX3_adds 54 = .ok (.iastore, 1) := dk_79 (dk_at dksX3_adds_2 6 rfl rfl)
theorem dX3_adds_55 : decode cX3_adds 55 = .ok (.aload_n 0, 1) := dk_42 (dk_at dksX3_adds_2 7 rfl rfl)
theorem dX3_adds_56 : decode cX3_adds 56 = .ok (.getfield 34, 3) := dk_180 0 34 (dk_at dksX3_adds_2 8 rfl rfl)
theorem dX3_adds_59 : decode cX3_adds 59 = .ok (.iload_n 1, 1) := dk_27 (dk_at dksX3_adds_2 11 rfl rfl)
theorem dX3_adds_60 : decode cX3_adds 60 = .ok (.iload 5, 2) := dk_21 5 (dk_at dksX3_adds_2 12 rfl rfl)
theorem dX3_adds_62 : decode cX3_adds 62 = .ok (.iastore, 1) := dk_79 (dk_at dksX3_adds_2 14 rfl rfl)
theorem dX3_adds_63 : decode cX3_adds 63 = .ok (.aload_n 0, 1) := dk_42 (dk_at dksX3_adds_2 15 rfl rfl)
theorem dX3_adds_64 : decode cX3_adds 64 = .ok (.getfield 43, 3) := dk_180 0 43 (dk_at dksX3_adds_2 16 rfl rfl)
theorem dX3_adds_67 : decode cX3_adds 67 = .ok (.iload_n 1, 1) := dk_27 (dk_at dksX3_adds_2 19 rfl rfl)
theorem dX3_adds_68 : decode cX3_adds 68 = .ok (.dup2, 1) := dk_92 (dk_at dksX3_adds_2 20 rfl rfl)
theorem dX3_adds_69 : decode cX3_adds 69 = .ok (.laload, 1) := dk_47 (dk_at dksX3_adds_2 21 rfl rfl)
theorem dX3_adds_70 : decode cX3_adds 70 = .ok (.aload_n 0, 1) := dk_42 (dk_at dksX3_adds_2 22 rfl rfl)
theorem dX3_adds_71 : decode cX3_adds 71 = .ok (.getfield 43, 3) := dk_180 0 43 (dk_at dksX3_adds_3 0 rfl rfl)
theorem dX3_adds_74 : decode cX3_adds 74 = .ok (.iload_n 2, 1) := dk_28 (dk_at dksX3_adds_3 3 rfl rfl)
theorem dX3_adds_75 : decode cX3_adds 75 = .ok (.laload, 1) := dk_47 (dk_at dksX3_adds_3 4 rfl rfl)
theorem dX3_adds_76 : decode cX3_adds 76 = .ok (.ladd, 1) := dk_97 (dk_at dksX3_adds_3 5 rfl rfl)
theorem dX3_adds_77 : decode cX3_adds 77 = .ok (.lastore, 1) := dk_80 (dk_at dksX3_adds_3 6 rfl rfl)
theorem dX3_adds_78 : decode cX3_adds 78 = .ok (.aload_n 0, 1) := dk_42 (dk_at dksX3_adds_3 7 rfl rfl)
theorem dX3_adds_79 : decode cX3_adds 79 = .ok (.getfield 37, 3) := dk_180 0 37 (dk_at dksX3_adds_3 8 rfl rfl)
theorem dX3_adds_82 : decode cX3_adds 82 = .ok (.iload_n 1, 1) := dk_27 (dk_at dksX3_adds_3 11 rfl rfl)
theorem dX3_adds_83 : decode cX3_adds 83 = .ok (.aload_n 0, 1) := dk_42 (dk_at dksX3_adds_3 12 rfl rfl)
theorem dX3_adds_84 : decode cX3_adds 84 = .ok (.getfield 37, 3) := dk_180 0 37 (dk_at dksX3_adds_3 13 rfl rfl)
theorem dX3_adds_87 : decode cX3_adds 87 = .ok (.iload_n 1, 1) := dk_27 (dk_at dksX3_adds_3 16 rfl rfl)
theorem dX3_adds_88 : decode cX3_adds 88 = .ok (.iaload, 1) := dk_46 (dk_at dksX3_adds_3 17 rfl rfl)
theorem dX3_adds_89 : decode cX3_adds 89 = .ok (.aload_n 0, 1) := dk_42 (dk_at dksX3_adds_3 18 rfl rfl)
theorem dX3_adds_90 : decode cX3_adds 90 = .ok (.getfield 37, 3) := dk_180 0 37 (dk_at dksX3_adds_3 19 rfl rfl)
theorem dX3_adds_93 : decode cX3_adds 93 = .ok (.iload_n 2, 1) := dk_28 (dk_at dksX3_adds_3 22 rfl rfl)
theorem dX3_adds_94 : decode cX3_adds 94 = .ok (.iaload, 1) := dk_46 (dk_at dksX3_adds_3 23 rfl rfl)
theorem dX3_adds_95 : decode cX3_adds 95 = .ok (.iload 4, 2) := dk_21 4 (dk_at dksX3_adds_4 0 rfl rfl)
theorem dX3_adds_97 : decode cX3_adds 97 = .ok (.iadd, 1) := dk_96 (dk_at dksX3_adds_4 2 rfl rfl)
theorem dX3_adds_98 : decode cX3_adds 98 = .ok (.if_icmp .le 12, 3) := dk_164 0 12 (dk_at dksX3_adds_4 3 rfl rfl)
theorem dX3_adds_101 : decode cX3_adds 101 = .ok (.aload_n 0, 1) := dk_42 (dk_at dksX3_adds_4 6 rfl rfl)
theorem dX3_adds_102 : decode cX3_adds 102 = .ok (.getfield 37, 3) := dk_180 0 37 (dk_at dksX3_adds_4 7 rfl rfl)
theorem dX3_adds_105 : decode cX3_adds 105 = .ok (.iload_n 1, 1) := dk_27 (dk_at dksX3_adds_4 10 rfl rfl)
theorem dX3_adds_106 : decode cX3_adds 106 = .ok (.iaload, 1) := dk_46 (dk_at dksX3_adds_4 11 rfl rfl)
theorem dX3_adds_107 : decode cX3_adds 107 = .ok (.goto 12, 3) := dk_167 0 12 (dk_at dksX3_adds_4 12 rfl rfl)
theorem dX3_adds_110 : decode cX3_adds 110 = .ok (.aload_n 0, 1) := dk_42 (dk_at dksX3_adds_4 15 rfl rfl)
theorem dX3_adds_111 : decode cX3_adds 111 = .ok (.getfield 37, 3) := dk_180 0 37 (dk_at dksX3_adds_4 16 rfl rfl)
theorem dX3_adds_114 : decode cX3_adds 114 = .ok (.iload_n 2, 1) := dk_28 (dk_at dksX3_adds_4 19 rfl rfl)
theorem dX3_adds_115 : decode cX3_adds 115 = .ok (.iaload, 1) := dk_46 (dk_at dksX3_adds_4 20 rfl rfl)
theorem dX3_adds_116 : decode cX3_adds 116 = .ok (.iload 4, 2) := dk_21 4 (dk_at dksX3_adds_4 21 rfl rfl)
theorem dX3_adds_118 : decode cX3_adds 118 = .ok (.iadd, 1) := dk_96 (dk_at dksX3_adds_4 23 rfl rfl)
theorem dX3_adds_119 : decode cX3_adds 119 = .ok (.iastore, 1) := dk_79 (dk_at dksX3_adds_5 0 rfl rfl)
theorem dX3_adds_120 : decode cX3_adds 120 = .ok (.aload_n 0, 1) := dk_42 (dk_at dksX3_adds_5 1 rfl rfl)
theorem dX3_adds_121 : decode cX3_adds 121 = .ok (.getfield 40, 3) := dk_180 0 40 (dk_at dksX3_adds_5 2 rfl rfl)
theorem dX3_adds_124 : decode cX3_adds 124 = .ok (.iload_n 1, 1) := dk_27 (dk_at dksX3_adds_5 5 rfl rfl)
theorem dX3_adds_125 : decode cX3_adds 125 = .ok (.aload_n 0, 1) := dk_42 (dk_at dksX3_adds_5 6 rfl rfl)
theorem dX3_adds_126 : decode cX3_adds 126 = .ok (.getfield 40, 3) := dk_180 0 40 (dk_at dksX3_adds_5 7 rfl rfl)
theorem dX3_adds_129 : decode cX3_adds 129 = .ok (.iload_n 1, 1) := dk_27 (dk_at dksX3_adds_5 10 rfl rfl)
theorem dX3_adds_130 : decode cX3_adds 130 = .ok (.iaload, 1) := dk_46 (dk_at dksX3_adds_5 11 rfl rfl)
theorem dX3_adds_131 : decode cX3_adds 131 = .ok (.aload_n 0, 1) := dk_42 (dk_at dksX3_adds_5 12 rfl rfl)
theorem dX3_adds_132 : decode cX3_adds 132 = .ok (.getfield 40, 3) := dk_180 0 40 (dk_at dksX3_adds_5 13 rfl rfl)
theorem dX3_adds_135 : decode cX3_adds 135 = .ok (.iload_n 2, 1) := dk_28 (dk_at dksX3_adds_5 16 rfl rfl)
theorem dX3_adds_136 : decode cX3_adds 136 = .ok (.iaload, 1) := dk_46 (dk_at dksX3_adds_5 17 rfl rfl)
theorem dX3_adds_137 : decode cX3_adds 137 = .ok (.iload 4, 2) := dk_21 4 (dk_at dksX3_adds_5 18 rfl rfl)
theorem dX3_adds_139 : decode cX3_adds 139 = .ok (.iadd, 1) := dk_96 (dk_at dksX3_adds_5 20 rfl rfl)
theorem dX3_adds_140 : decode cX3_adds 140 = .ok (.invokestatic 124, 3) := dk_184 0 124 (dk_at dksX3_adds_5 21 rfl rfl)
theorem dX3_adds_143 : decode cX3_adds 143 = .ok (.iastore, 1) := dk_79 (dk_at dksX3_adds_6 0 rfl rfl)
theorem dX3_adds_144 : decode cX3_adds 144 = .ok (.return_, 1) := dk_177 (dk_at dksX3_adds_6 1 rfl rfl)
abbrev cX3_shrink : ByteArray := prog_12_method_61_code
def yX3_shrink : MethodName := ⟨RX3, "shrink", "(I)I"⟩
def dkwX3_shrink_17 : List UInt8 := [29, 172]
abbrev dktX3_shrink_17 : List UInt8 := dkwX3_shrink_17 ++ []
def dkwX3_shrink_16 : List UInt8 := [96, 21, 5, 96, 46, 184, 0, 65, 132, 5, 1, 167, 255, 200, 132, 4, 1, 167, 255, 123, 42, 182, 0, 69]
abbrev dktX3_shrink_16 : List UInt8 := dkwX3_shrink_16 ++ dktX3_shrink_17
def dkwX3_shrink_15 : List UInt8 := [180, 0, 58, 21, 4, 46, 42, 180, 0, 58, 21, 5, 46, 42, 180, 0, 23, 16, 13, 16, 12, 21, 4, 104]
abbrev dktX3_shrink_15 : List UInt8 := dkwX3_shrink_15 ++ dktX3_shrink_16
def dkwX3_shrink_14 : List UInt8 := [3, 54, 5, 21, 5, 21, 4, 162, 0, 55, 28, 21, 5, 184, 0, 183, 154, 0, 40, 42, 180, 0, 20, 42]
abbrev dktX3_shrink_14 : List UInt8 := dkwX3_shrink_14 ++ dktX3_shrink_15
def dkwX3_shrink_13 : List UInt8 := [46, 2, 160, 0, 7, 2, 167, 0, 17, 42, 180, 0, 58, 42, 180, 0, 23, 4, 21, 4, 96, 46, 46, 79]
abbrev dktX3_shrink_13 : List UInt8 := dkwX3_shrink_13 ++ dktX3_shrink_14
def dkwX3_shrink_12 : List UInt8 := [167, 0, 110, 42, 180, 0, 20, 4, 42, 180, 0, 58, 21, 4, 46, 96, 42, 180, 0, 23, 4, 21, 4, 96]
abbrev dktX3_shrink_12 : List UInt8 := dkwX3_shrink_12 ++ dktX3_shrink_13
def dkwX3_shrink_11 : List UInt8 := [3, 54, 4, 21, 4, 42, 180, 0, 23, 3, 46, 162, 0, 128, 28, 21, 4, 184, 0, 183, 153, 0, 6]
abbrev dktX3_shrink_11 : List UInt8 := dkwX3_shrink_11 ++ dktX3_shrink_12
def dkwX3_shrink_10 : List UInt8 := [180, 0, 20, 42, 180, 0, 23, 184, 0, 174, 42, 180, 0, 20, 184, 0, 61, 42, 180, 0, 20, 3, 29, 79]
abbrev dktX3_shrink_10 : List UInt8 := dkwX3_shrink_10 ++ dktX3_shrink_11
def dkwX3_shrink_9 : List UInt8 := [28, 21, 4, 184, 0, 183, 153, 0, 7, 3, 167, 0, 4, 4, 96, 62, 132, 4, 1, 167, 255, 219, 42]
abbrev dktX3_shrink_9 : List UInt8 := dkwX3_shrink_9 ++ dktX3_shrink_10
def dkwX3_shrink_8 : List UInt8 := [167, 255, 162, 3, 54, 4, 21, 4, 42, 182, 0, 181, 162, 0, 34, 42, 180, 0, 58, 21, 4, 29, 79, 29]
abbrev dktX3_shrink_8 : List UInt8 := dkwX3_shrink_8 ++ dktX3_shrink_9
def dkwX3_shrink_7 : List UInt8 := [180, 0, 55, 21, 5, 46, 21, 4, 182, 0, 203, 184, 0, 65, 132, 5, 1, 167, 255, 198, 132, 4, 1]
abbrev dktX3_shrink_7 : List UInt8 := dkwX3_shrink_7 ++ dktX3_shrink_8
def dkwX3_shrink_6 : List UInt8 := [21, 4, 182, 0, 203, 42, 27, 21, 4, 182, 0, 203, 164, 0, 26, 42, 180, 0, 20, 27, 21, 4, 42, 42]
abbrev dktX3_shrink_6 : List UInt8 := dkwX3_shrink_6 ++ dktX3_shrink_7
def dkwX3_shrink_5 : List UInt8 := [167, 0, 67, 4, 54, 5, 21, 5, 42, 180, 0, 236, 162, 0, 55, 42, 42, 180, 0, 55, 21, 5, 46]
abbrev dktX3_shrink_5 : List UInt8 := dkwX3_shrink_5 ++ dktX3_shrink_6
def dkwX3_shrink_4 : List UInt8 := [21, 4, 42, 182, 0, 181, 162, 0, 91, 21, 4, 27, 159, 0, 79, 28, 21, 4, 184, 0, 183, 153, 0, 6]
abbrev dktX3_shrink_4 : List UInt8 := dkwX3_shrink_4 ++ dktX3_shrink_5
def dkwX3_shrink_3 : List UInt8 := [162, 0, 21, 28, 4, 42, 180, 0, 55, 21, 4, 46, 120, 128, 61, 132, 4, 1, 167, 255, 232, 3, 54, 4]
abbrev dktX3_shrink_3 : List UInt8 := dkwX3_shrink_3 ++ dktX3_shrink_4
def dkwX3_shrink_2 : List UInt8 := [153, 0, 5, 3, 172, 42, 182, 0, 171, 3, 61, 3, 62, 4, 54, 4, 21, 4, 42, 180, 0, 236]
abbrev dktX3_shrink_2 : List UInt8 := dkwX3_shrink_2 ++ dktX3_shrink_3
def dkwX3_shrink_1 : List UInt8 := [154, 0, 25, 42, 42, 27, 182, 1, 7, 154, 0, 7, 4, 167, 0, 4, 3, 5, 5, 182, 0, 159]
abbrev dktX3_shrink_1 : List UInt8 := dkwX3_shrink_1 ++ dktX3_shrink_2
def dkwX3_shrink_0 : List UInt8 := [42, 3, 181, 0, 72, 42, 42, 27, 182, 0, 245, 154, 0, 7, 4, 167, 0, 4, 3, 4, 3, 182, 0, 159]
abbrev dktX3_shrink_0 : List UInt8 := dkwX3_shrink_0 ++ dktX3_shrink_1
theorem dksX3_shrink_0 : cX3_shrink.data.toList.drop 0 = dktX3_shrink_0 := by decide +kernel
theorem dksX3_shrink_1 : cX3_shrink.data.toList.drop 24 = dktX3_shrink_1 := dk_seg dksX3_shrink_0 24 rfl rfl
theorem dksX3_shrink_2 : cX3_shrink.data.toList.drop 46 = dktX3_shrink_2 := dk_seg dksX3_shrink_1 22 rfl rfl
theorem dksX3_shrink_3 : cX3_shrink.data.toList.drop 68 = dktX3_shrink_3 := dk_seg dksX3_shrink_2 22 rfl rfl
theorem dksX3_shrink_4 : cX3_shrink.data.toList.drop 92 = dktX3_shrink_4 := dk_seg dksX3_shrink_3 24 rfl rfl
theorem dksX3_shrink_5 : cX3_shrink.data.toList.drop 116 = dktX3_shrink_5 := dk_seg dksX3_shrink_4 24 rfl rfl
theorem dksX3_shrink_6 : cX3_shrink.data.toList.drop 139 = dktX3_shrink_6 := dk_seg dksX3_shrink_5 23 rfl rfl
theorem dksX3_shrink_7 : cX3_shrink.data.toList.drop 163 = dktX3_shrink_7 := dk_seg dksX3_shrink_6 24 rfl rfl
theorem dksX3_shrink_8 : cX3_shrink.data.toList.drop 186 = dktX3_shrink_8 := dk_seg dksX3_shrink_7 23 rfl rfl
theorem dksX3_shrink_9 : cX3_shrink.data.toList.drop 210 = dktX3_shrink_9 := dk_seg dksX3_shrink_8 24 rfl rfl
theorem dksX3_shrink_10 : cX3_shrink.data.toList.drop 233 = dktX3_shrink_10 := dk_seg dksX3_shrink_9 23 rfl rfl
theorem dksX3_shrink_11 : cX3_shrink.data.toList.drop 257 = dktX3_shrink_11 := dk_seg dksX3_shrink_10 24 rfl rfl
theorem dksX3_shrink_12 : cX3_shrink.data.toList.drop 280 = dktX3_shrink_12 := dk_seg dksX3_shrink_11 23 rfl rfl
theorem dksX3_shrink_13 : cX3_shrink.data.toList.drop 304 = dktX3_shrink_13 := dk_seg dksX3_shrink_12 24 rfl rfl
theorem dksX3_shrink_14 : cX3_shrink.data.toList.drop 328 = dktX3_shrink_14 := dk_seg dksX3_shrink_13 24 rfl rfl
theorem dksX3_shrink_15 : cX3_shrink.data.toList.drop 352 = dktX3_shrink_15 := dk_seg dksX3_shrink_14 24 rfl rfl
theorem dksX3_shrink_16 : cX3_shrink.data.toList.drop 376 = dktX3_shrink_16 := dk_seg dksX3_shrink_15 24 rfl rfl
theorem dksX3_shrink_17 : cX3_shrink.data.toList.drop 400 = dktX3_shrink_17 := dk_seg dksX3_shrink_16 24 rfl rfl
theorem dX3_shrink_0 : decode cX3_shrink 0 = .ok (.aload_n 0, 1) := dk_42 (dk_at dksX3_shrink_0 0 rfl rfl)
theorem dX3_shrink_1 : decode cX3_shrink 1 = .ok (.iconst 0, 1) := dk_3 (dk_at dksX3_shrink_0 1 rfl rfl)
theorem dX3_shrink_2 : decode cX3_shrink 2 = .ok (.putfield 72, 3) := dk_181 0 72 (dk_at dksX3_shrink_0 2 rfl rfl)
theorem dX3_shrink_5 : decode cX3_shrink 5 = .ok (.aload_n 0, 1) := dk_42 (dk_at dksX3_shrink_0 5 rfl rfl)
theorem dX3_shrink_6 : decode cX3_shrink 6 = .ok (.aload_n 0, 1) := dk_42 (dk_at dksX3_shrink_0 6 rfl rfl)
theorem dX3_shrink_7 : decode cX3_shrink 7 = .ok (.iload_n 1, 1) := dk_27 (dk_at dksX3_shrink_0 7 rfl rfl)
theorem dX3_shrink_8 : decode cX3_shrink 8 = .ok (.invokevirtual 245, 3) := dk_182 0 245 (dk_at dksX3_shrink_0 8 rfl rfl)
theorem dX3_shrink_11 : decode cX3_shrink 11 = .ok (.ifCond .ne 7, 3) := dk_154 0 7 (dk_at dksX3_shrink_0 11 rfl rfl)
theorem dX3_shrink_14 : decode cX3_shrink 14 = .ok (.iconst 1, 1) := dk_4 (dk_at dksX3_shrink_0 14 rfl rfl)
theorem dX3_shrink_15 : decode cX3_shrink 15 = .ok (.goto 4, 3) := dk_167 0 4 (dk_at dksX3_shrink_0 15 rfl rfl)
theorem dX3_shrink_18 : decode cX3_shrink 18 = .ok (.iconst 0, 1) := dk_3 (dk_at dksX3_shrink_0 18 rfl rfl)
theorem dX3_shrink_19 : decode cX3_shrink 19 = .ok (.iconst 1, 1) := dk_4 (dk_at dksX3_shrink_0 19 rfl rfl)
theorem dX3_shrink_20 : decode cX3_shrink 20 = .ok (.iconst 0, 1) := dk_3 (dk_at dksX3_shrink_0 20 rfl rfl)
theorem dX3_shrink_21 : decode cX3_shrink 21 = .ok (.invokevirtual 159, 3) := dk_182 0 159 (dk_at dksX3_shrink_0 21 rfl rfl)
theorem dX3_shrink_24 : decode cX3_shrink 24 = .ok (.ifCond .ne 25, 3) := dk_154 0 25 (dk_at dksX3_shrink_1 0 rfl rfl)
theorem dX3_shrink_27 : decode cX3_shrink 27 = .ok (.aload_n 0, 1) := dk_42 (dk_at dksX3_shrink_1 3 rfl rfl)
theorem dX3_shrink_28 : decode cX3_shrink 28 = .ok (.aload_n 0, 1) := dk_42 (dk_at dksX3_shrink_1 4 rfl rfl)
theorem dX3_shrink_29 : decode cX3_shrink 29 = .ok (.iload_n 1, 1) := dk_27 (dk_at dksX3_shrink_1 5 rfl rfl)
theorem dX3_shrink_30 : decode cX3_shrink 30 = .ok (.invokevirtual 263, 3) := dk_182 1 7 (dk_at dksX3_shrink_1 6 rfl rfl)
theorem dX3_shrink_33 : decode cX3_shrink 33 = .ok (.ifCond .ne 7, 3) := dk_154 0 7 (dk_at dksX3_shrink_1 9 rfl rfl)
theorem dX3_shrink_36 : decode cX3_shrink 36 = .ok (.iconst 1, 1) := dk_4 (dk_at dksX3_shrink_1 12 rfl rfl)
theorem dX3_shrink_37 : decode cX3_shrink 37 = .ok (.goto 4, 3) := dk_167 0 4 (dk_at dksX3_shrink_1 13 rfl rfl)
theorem dX3_shrink_40 : decode cX3_shrink 40 = .ok (.iconst 0, 1) := dk_3 (dk_at dksX3_shrink_1 16 rfl rfl)
theorem dX3_shrink_41 : decode cX3_shrink 41 = .ok (.iconst 2, 1) := dk_5 (dk_at dksX3_shrink_1 17 rfl rfl)
theorem dX3_shrink_42 : decode cX3_shrink 42 = .ok (.iconst 2, 1) := dk_5 (dk_at dksX3_shrink_1 18 rfl rfl)
theorem dX3_shrink_43 : decode cX3_shrink 43 = .ok (.invokevirtual 159, 3) := dk_182 0 159 (dk_at dksX3_shrink_1 19 rfl rfl)
theorem dX3_shrink_46 : decode cX3_shrink 46 = .ok (.ifCond .eq 5, 3) := dk_153 0 5 (dk_at dksX3_shrink_2 0 rfl rfl)
theorem dX3_shrink_49 : decode cX3_shrink 49 = .ok (.iconst 0, 1) := dk_3 (dk_at dksX3_shrink_2 3 rfl rfl)
theorem dX3_shrink_50 : decode cX3_shrink 50 = .ok (.ireturn, 1) := dk_172 (dk_at dksX3_shrink_2 4 rfl rfl)
theorem dX3_shrink_51 : decode cX3_shrink 51 = .ok (.aload_n 0, 1) := dk_42 (dk_at dksX3_shrink_2 5 rfl rfl)
theorem dX3_shrink_52 : decode cX3_shrink 52 = .ok (.invokevirtual 171, 3) := dk_182 0 171 (dk_at dksX3_shrink_2 6 rfl rfl)
theorem dX3_shrink_55 : decode cX3_shrink 55 = .ok (.iconst 0, 1) := dk_3 (dk_at dksX3_shrink_2 9 rfl rfl)
theorem dX3_shrink_56 : decode cX3_shrink 56 = .ok (.istore_n 2, 1) := dk_61 (dk_at dksX3_shrink_2 10 rfl rfl)
theorem dX3_shrink_57 : decode cX3_shrink 57 = .ok (.iconst 0, 1) := dk_3 (dk_at dksX3_shrink_2 11 rfl rfl)
theorem dX3_shrink_58 : decode cX3_shrink 58 = .ok (.istore_n 3, 1) := dk_62 (dk_at dksX3_shrink_2 12 rfl rfl)
theorem dX3_shrink_59 : decode cX3_shrink 59 = .ok (.iconst 1, 1) := dk_4 (dk_at dksX3_shrink_2 13 rfl rfl)
theorem dX3_shrink_60 : decode cX3_shrink 60 = .ok (.istore 4, 2) := dk_54 4 (dk_at dksX3_shrink_2 14 rfl rfl)
theorem dX3_shrink_62 : decode cX3_shrink 62 = .ok (.iload 4, 2) := dk_21 4 (dk_at dksX3_shrink_2 16 rfl rfl)
theorem dX3_shrink_64 : decode cX3_shrink 64 = .ok (.aload_n 0, 1) := dk_42 (dk_at dksX3_shrink_2 18 rfl rfl)
theorem dX3_shrink_65 : decode cX3_shrink 65 = .ok (.getfield 236, 3) := dk_180 0 236 (dk_at dksX3_shrink_2 19 rfl rfl)
theorem dX3_shrink_68 : decode cX3_shrink 68 = .ok (.if_icmp .ge 21, 3) := dk_162 0 21 (dk_at dksX3_shrink_3 0 rfl rfl)
theorem dX3_shrink_71 : decode cX3_shrink 71 = .ok (.iload_n 2, 1) := dk_28 (dk_at dksX3_shrink_3 3 rfl rfl)
theorem dX3_shrink_72 : decode cX3_shrink 72 = .ok (.iconst 1, 1) := dk_4 (dk_at dksX3_shrink_3 4 rfl rfl)
theorem dX3_shrink_73 : decode cX3_shrink 73 = .ok (.aload_n 0, 1) := dk_42 (dk_at dksX3_shrink_3 5 rfl rfl)
theorem dX3_shrink_74 : decode cX3_shrink 74 = .ok (.getfield 55, 3) := dk_180 0 55 (dk_at dksX3_shrink_3 6 rfl rfl)
theorem dX3_shrink_77 : decode cX3_shrink 77 = .ok (.iload 4, 2) := dk_21 4 (dk_at dksX3_shrink_3 9 rfl rfl)
theorem dX3_shrink_79 : decode cX3_shrink 79 = .ok (.iaload, 1) := dk_46 (dk_at dksX3_shrink_3 11 rfl rfl)
theorem dX3_shrink_80 : decode cX3_shrink 80 = .ok (.ishl, 1) := dk_120 (dk_at dksX3_shrink_3 12 rfl rfl)
theorem dX3_shrink_81 : decode cX3_shrink 81 = .ok (.ior, 1) := dk_128 (dk_at dksX3_shrink_3 13 rfl rfl)
theorem dX3_shrink_82 : decode cX3_shrink 82 = .ok (.istore_n 2, 1) := dk_61 (dk_at dksX3_shrink_3 14 rfl rfl)
theorem dX3_shrink_83 : decode cX3_shrink 83 = .ok (.iinc 4 1, 3) := dk_132 4 1 (dk_at dksX3_shrink_3 15 rfl rfl)
theorem dX3_shrink_86 : decode cX3_shrink 86 = .ok (.goto (-24), 3) := dk_167 255 232 (dk_at dksX3_shrink_3 18 rfl rfl)
theorem dX3_shrink_89 : decode cX3_shrink 89 = .ok (.iconst 0, 1) := dk_3 (dk_at dksX3_shrink_3 21 rfl rfl)
theorem dX3_shrink_90 : decode cX3_shrink 90 = .ok (.istore 4, 2) := dk_54 4 (dk_at dksX3_shrink_3 22 rfl rfl)
theorem dX3_shrink_92 : decode cX3_shrink 92 = .ok (.iload 4, 2) := dk_21 4 (dk_at dksX3_shrink_4 0 rfl rfl)
theorem dX3_shrink_94 : decode cX3_shrink 94 = .ok (.aload_n 0, 1) := dk_42 (dk_at dksX3_shrink_4 2 rfl rfl)
theorem dX3_shrink_95 : decode cX3_shrink 95 = .ok (.invokevirtual 181, 3) := dk_182 0 181 (dk_at dksX3_shrink_4 3 rfl rfl)
theorem dX3_shrink_98 : decode cX3_shrink 98 = .ok (.if_icmp .ge 91, 3) := dk_162 0 91 (dk_at dksX3_shrink_4 6 rfl rfl)
theorem dX3_shrink_101 : decode cX3_shrink 101 = .ok (.iload 4, 2) := dk_21 4 (dk_at dksX3_shrink_4 9 rfl rfl)
theorem dX3_shrink_103 : decode cX3_shrink 103 = .ok (.iload_n 1, 1) := dk_27 (dk_at dksX3_shrink_4 11 rfl rfl)
theorem dX3_shrink_104 : decode cX3_shrink 104 = .ok (.if_icmp .eq 79, 3) := dk_159 0 79 (dk_at dksX3_shrink_4 12 rfl rfl)
theorem dX3_shrink_107 : decode cX3_shrink 107 = .ok (.iload_n 2, 1) := dk_28 (dk_at dksX3_shrink_4 15 rfl rfl)
theorem dX3_shrink_108 : decode cX3_shrink 108 = .ok (.iload 4, 2) := dk_21 4 (dk_at dksX3_shrink_4 16 rfl rfl)
theorem dX3_shrink_110 : decode cX3_shrink 110 = .ok (.invokestatic 183, 3) := dk_184 0 183 (dk_at dksX3_shrink_4 18 rfl rfl)
theorem dX3_shrink_113 : decode cX3_shrink 113 = .ok (.ifCond .eq 6, 3) := dk_153 0 6 (dk_at dksX3_shrink_4 21 rfl rfl)
theorem dX3_shrink_116 : decode cX3_shrink 116 = .ok (.goto 67, 3) := dk_167 0 67 (dk_at dksX3_shrink_5 0 rfl rfl)
theorem dX3_shrink_119 : decode cX3_shrink 119 = .ok (.iconst 1, 1) := dk_4 (dk_at dksX3_shrink_5 3 rfl rfl)
theorem dX3_shrink_120 : decode cX3_shrink 120 = .ok (.istore 5, 2) := dk_54 5 (dk_at dksX3_shrink_5 4 rfl rfl)
theorem dX3_shrink_122 : decode cX3_shrink 122 = .ok (.iload 5, 2) := dk_21 5 (dk_at dksX3_shrink_5 6 rfl rfl)
theorem dX3_shrink_124 : decode cX3_shrink 124 = .ok (.aload_n 0, 1) := dk_42 (dk_at dksX3_shrink_5 8 rfl rfl)
theorem dX3_shrink_125 : decode cX3_shrink 125 = .ok (.getfield 236, 3) := dk_180 0 236 (dk_at dksX3_shrink_5 9 rfl rfl)
theorem dX3_shrink_128 : decode cX3_shrink 128 = .ok (.if_icmp .ge 55, 3) := dk_162 0 55 (dk_at dksX3_shrink_5 12 rfl rfl)
theorem dX3_shrink_131 : decode cX3_shrink 131 = .ok (.aload_n 0, 1) := dk_42 (dk_at dksX3_shrink_5 15 rfl rfl)
theorem dX3_shrink_132 : decode cX3_shrink 132 = .ok (.aload_n 0, 1) := dk_42 (dk_at dksX3_shrink_5 16 rfl rfl)
theorem dX3_shrink_133 : decode cX3_shrink 133 = .ok (.getfield 55, 3) := dk_180 0 55 (dk_at dksX3_shrink_5 17 rfl rfl)
theorem dX3_shrink_136 : decode cX3_shrink 136 = .ok (.iload 5, 2) := dk_21 5 (dk_at dksX3_shrink_5 20 rfl rfl)
theorem dX3_shrink_138 : decode cX3_shrink 138 = .ok (.iaload, 1) := dk_46 (dk_at dksX3_shrink_5 22 rfl rfl)
theorem dX3_shrink_139 : decode cX3_shrink 139 = .ok (.iload 4, 2) := dk_21 4 (dk_at dksX3_shrink_6 0 rfl rfl)
theorem dX3_shrink_141 : decode cX3_shrink 141 = .ok (.invokevirtual 203, 3) := dk_182 0 203 (dk_at dksX3_shrink_6 2 rfl rfl)
theorem dX3_shrink_144 : decode cX3_shrink 144 = .ok (.aload_n 0, 1) := dk_42 (dk_at dksX3_shrink_6 5 rfl rfl)
theorem dX3_shrink_145 : decode cX3_shrink 145 = .ok (.iload_n 1, 1) := dk_27 (dk_at dksX3_shrink_6 6 rfl rfl)
theorem dX3_shrink_146 : decode cX3_shrink 146 = .ok (.iload 4, 2) := dk_21 4 (dk_at dksX3_shrink_6 7 rfl rfl)
theorem dX3_shrink_148 : decode cX3_shrink 148 = .ok (.invokevirtual 203, 3) := dk_182 0 203 (dk_at dksX3_shrink_6 9 rfl rfl)
theorem dX3_shrink_151 : decode cX3_shrink 151 = .ok (.if_icmp .le 26, 3) := dk_164 0 26 (dk_at dksX3_shrink_6 12 rfl rfl)
theorem dX3_shrink_154 : decode cX3_shrink 154 = .ok (.aload_n 0, 1) := dk_42 (dk_at dksX3_shrink_6 15 rfl rfl)
theorem dX3_shrink_155 : decode cX3_shrink 155 = .ok (.getfield 20, 3) := dk_180 0 20 (dk_at dksX3_shrink_6 16 rfl rfl)
theorem dX3_shrink_158 : decode cX3_shrink 158 = .ok (.iload_n 1, 1) := dk_27 (dk_at dksX3_shrink_6 19 rfl rfl)
theorem dX3_shrink_159 : decode cX3_shrink 159 = .ok (.iload 4, 2) := dk_21 4 (dk_at dksX3_shrink_6 20 rfl rfl)
theorem dX3_shrink_161 : decode cX3_shrink 161 = .ok (.aload_n 0, 1) := dk_42 (dk_at dksX3_shrink_6 22 rfl rfl)
theorem dX3_shrink_162 : decode cX3_shrink 162 = .ok (.aload_n 0, 1) := dk_42 (dk_at dksX3_shrink_6 23 rfl rfl)
theorem dX3_shrink_163 : decode cX3_shrink 163 = .ok (.getfield 55, 3) := dk_180 0 55 (dk_at dksX3_shrink_7 0 rfl rfl)
theorem dX3_shrink_166 : decode cX3_shrink 166 = .ok (.iload 5, 2) := dk_21 5 (dk_at dksX3_shrink_7 3 rfl rfl)
theorem dX3_shrink_168 : decode cX3_shrink 168 = .ok (.iaload, 1) := dk_46 (dk_at dksX3_shrink_7 5 rfl rfl)
theorem dX3_shrink_169 : decode cX3_shrink 169 = .ok (.iload 4, 2) := dk_21 4 (dk_at dksX3_shrink_7 6 rfl rfl)
theorem dX3_shrink_171 : decode cX3_shrink 171 = .ok (.invokevirtual 203, 3) := dk_182 0 203 (dk_at dksX3_shrink_7 8 rfl rfl)
theorem dX3_shrink_174 : decode cX3_shrink 174 = .ok (.invokestatic 65, 3) := dk_184 0 65 (dk_at dksX3_shrink_7 11 rfl rfl)
theorem dX3_shrink_177 : decode cX3_shrink 177 = .ok (.iinc 5 1, 3) := dk_132 5 1 (dk_at dksX3_shrink_7 14 rfl rfl)
theorem dX3_shrink_180 : decode cX3_shrink 180 = .ok (.goto (-58), 3) := dk_167 255 198 (dk_at dksX3_shrink_7 17 rfl rfl)
theorem dX3_shrink_183 : decode cX3_shrink 183 = .ok (.iinc 4 1, 3) := dk_132 4 1 (dk_at dksX3_shrink_7 20 rfl rfl)
theorem dX3_shrink_186 : decode cX3_shrink 186 = .ok (.goto (-94), 3) := dk_167 255 162 (dk_at dksX3_shrink_8 0 rfl rfl)
theorem dX3_shrink_189 : decode cX3_shrink 189 = .ok (.iconst 0, 1) := dk_3 (dk_at dksX3_shrink_8 3 rfl rfl)
theorem dX3_shrink_190 : decode cX3_shrink 190 = .ok (.istore 4, 2) := dk_54 4 (dk_at dksX3_shrink_8 4 rfl rfl)
theorem dX3_shrink_192 : decode cX3_shrink 192 = .ok (.iload 4, 2) := dk_21 4 (dk_at dksX3_shrink_8 6 rfl rfl)
theorem dX3_shrink_194 : decode cX3_shrink 194 = .ok (.aload_n 0, 1) := dk_42 (dk_at dksX3_shrink_8 8 rfl rfl)
theorem dX3_shrink_195 : decode cX3_shrink 195 = .ok (.invokevirtual 181, 3) := dk_182 0 181 (dk_at dksX3_shrink_8 9 rfl rfl)
theorem dX3_shrink_198 : decode cX3_shrink 198 = .ok (.if_icmp .ge 34, 3) := dk_162 0 34 (dk_at dksX3_shrink_8 12 rfl rfl)
theorem dX3_shrink_201 : decode cX3_shrink 201 = .ok (.aload_n 0, 1) := dk_42 (dk_at dksX3_shrink_8 15 rfl rfl)
theorem dX3_shrink_202 : decode cX3_shrink 202 = .ok (.getfield 58, 3) := dk_180 0 58 (dk_at dksX3_shrink_8 16 rfl rfl)
theorem dX3_shrink_205 : decode cX3_shrink 205 = .ok (.iload 4, 2) := dk_21 4 (dk_at dksX3_shrink_8 19 rfl rfl)
theorem dX3_shrink_207 : decode cX3_shrink 207 = .ok (.iload_n 3, 1) := dk_29 (dk_at dksX3_shrink_8 21 rfl rfl)
theorem dX3_shrink_208 : decode cX3_shrink 208 = .ok (.iastore, 1) := dk_79 (dk_at dksX3_shrink_8 22 rfl rfl)
theorem dX3_shrink_209 : decode cX3_shrink 209 = .ok (.iload_n 3, 1) := dk_29 (dk_at dksX3_shrink_8 23 rfl rfl)
theorem dX3_shrink_210 : decode cX3_shrink 210 = .ok (.iload_n 2, 1) := dk_28 (dk_at dksX3_shrink_9 0 rfl rfl)
theorem dX3_shrink_211 : decode cX3_shrink 211 = .ok (.iload 4, 2) := dk_21 4 (dk_at dksX3_shrink_9 1 rfl rfl)
theorem dX3_shrink_213 : decode cX3_shrink 213 = .ok (.invokestatic 183, 3) := dk_184 0 183 (dk_at dksX3_shrink_9 3 rfl rfl)
theorem dX3_shrink_216 : decode cX3_shrink 216 = .ok (.ifCond .eq 7, 3) := dk_153 0 7 (dk_at dksX3_shrink_9 6 rfl rfl)
theorem dX3_shrink_219 : decode cX3_shrink 219 = .ok (.iconst 0, 1) := dk_3 (dk_at dksX3_shrink_9 9 rfl rfl)
theorem dX3_shrink_220 : decode cX3_shrink 220 = .ok (.goto 4, 3) := dk_167 0 4 (dk_at dksX3_shrink_9 10 rfl rfl)
theorem dX3_shrink_223 : decode cX3_shrink 223 = .ok (.iconst 1, 1) := dk_4 (dk_at dksX3_shrink_9 13 rfl rfl)
theorem dX3_shrink_224 : decode cX3_shrink 224 = .ok (.iadd, 1) := dk_96 (dk_at dksX3_shrink_9 14 rfl rfl)
theorem dX3_shrink_225 : decode cX3_shrink 225 = .ok (.istore_n 3, 1) := dk_62 (dk_at dksX3_shrink_9 15 rfl rfl)
theorem dX3_shrink_226 : decode cX3_shrink 226 = .ok (.iinc 4 1, 3) := dk_132 4 1 (dk_at dksX3_shrink_9 16 rfl rfl)
theorem dX3_shrink_229 : decode cX3_shrink 229 = .ok (.goto (-37), 3) := dk_167 255 219 (dk_at dksX3_shrink_9 19 rfl rfl)
theorem dX3_shrink_232 : decode cX3_shrink 232 = .ok (.aload_n 0, 1) := dk_42 (dk_at dksX3_shrink_9 22 rfl rfl)
theorem dX3_shrink_233 : decode cX3_shrink 233 = .ok (.getfield 20, 3) := dk_180 0 20 (dk_at dksX3_shrink_10 0 rfl rfl)
theorem dX3_shrink_236 : decode cX3_shrink 236 = .ok (.aload_n 0, 1) := dk_42 (dk_at dksX3_shrink_10 3 rfl rfl)
theorem dX3_shrink_237 : decode cX3_shrink 237 = .ok (.getfield 23, 3) := dk_180 0 23 (dk_at dksX3_shrink_10 4 rfl rfl)
theorem dX3_shrink_240 : decode cX3_shrink 240 = .ok (.invokestatic 174, 3) := dk_184 0 174 (dk_at dksX3_shrink_10 7 rfl rfl)
theorem dX3_shrink_243 : decode cX3_shrink 243 = .ok (.aload_n 0, 1) := dk_42 (dk_at dksX3_shrink_10 10 rfl rfl)
theorem dX3_shrink_244 : decode cX3_shrink 244 = .ok (.getfield 20, 3) := dk_180 0 20 (dk_at dksX3_shrink_10 11 rfl rfl)
theorem dX3_shrink_247 : decode cX3_shrink 247 = .ok (.invokestatic 61, 3) := dk_184 0 61 (dk_at dksX3_shrink_10 14 rfl rfl)
theorem dX3_shrink_250 : decode cX3_shrink 250 = .ok (.aload_n 0, 1) := dk_42 (dk_at dksX3_shrink_10 17 rfl rfl)
theorem dX3_shrink_251 : decode cX3_shrink 251 = .ok (.getfield 20, 3) := dk_180 0 20 (dk_at dksX3_shrink_10 18 rfl rfl)
theorem dX3_shrink_254 : decode cX3_shrink 254 = .ok (.iconst 0, 1) := dk_3 (dk_at dksX3_shrink_10 21 rfl rfl)
theorem dX3_shrink_255 : decode cX3_shrink 255 = .ok (.iload_n 3, 1) := dk_29 (dk_at dksX3_shrink_10 22 rfl rfl)
theorem dX3_shrink_256 : decode cX3_shrink 256 = .ok (.iastore, 1) := dk_79 (dk_at dksX3_shrink_10 23 rfl rfl)
theorem dX3_shrink_257 : decode cX3_shrink 257 = .ok (.iconst 0, 1) := dk_3 (dk_at dksX3_shrink_11 0 rfl rfl)
theorem dX3_shrink_258 : decode cX3_shrink 258 = .ok (.istore 4, 2) := dk_54 4 (dk_at dksX3_shrink_11 1 rfl rfl)
theorem dX3_shrink_260 : decode cX3_shrink 260 = .ok (.iload 4, 2) := dk_21 4 (dk_at dksX3_shrink_11 3 rfl rfl)
theorem dX3_shrink_262 : decode cX3_shrink 262 = .ok (.aload_n 0, 1) := dk_42 (dk_at dksX3_shrink_11 5 rfl rfl)
theorem dX3_shrink_263 : decode cX3_shrink 263 = .ok (.getfield 23, 3) := dk_180 0 23 (dk_at dksX3_shrink_11 6 rfl rfl)
theorem dX3_shrink_266 : decode cX3_shrink 266 = .ok (.iconst 0, 1) := dk_3 (dk_at dksX3_shrink_11 9 rfl rfl)
theorem dX3_shrink_267 : decode cX3_shrink 267 = .ok (.iaload, 1) := dk_46 (dk_at dksX3_shrink_11 10 rfl rfl)
theorem dX3_shrink_268 : decode cX3_shrink 268 = .ok (.if_icmp .ge 128, 3) := dk_162 0 128 (dk_at dksX3_shrink_11 11 rfl rfl)
theorem dX3_shrink_271 : decode cX3_shrink 271 = .ok (.iload_n 2, 1) := dk_28 (dk_at dksX3_shrink_11 14 rfl rfl)
theorem dX3_shrink_272 : decode cX3_shrink 272 = .ok (.iload 4, 2) := dk_21 4 (dk_at dksX3_shrink_11 15 rfl rfl)
theorem dX3_shrink_274 : decode cX3_shrink 274 = .ok (.invokestatic 183, 3) := dk_184 0 183 (dk_at dksX3_shrink_11 17 rfl rfl)
theorem dX3_shrink_277 : decode cX3_shrink 277 = .ok (.ifCond .eq 6, 3) := dk_153 0 6 (dk_at dksX3_shrink_11 20 rfl rfl)
theorem dX3_shrink_280 : decode cX3_shrink 280 = .ok (.goto 110, 3) := dk_167 0 110 (dk_at dksX3_shrink_12 0 rfl rfl)
theorem dX3_shrink_283 : decode cX3_shrink 283 = .ok (.aload_n 0, 1) := dk_42 (dk_at dksX3_shrink_12 3 rfl rfl)
theorem dX3_shrink_284 : decode cX3_shrink 284 = .ok (.getfield 20, 3) := dk_180 0 20 (dk_at dksX3_shrink_12 4 rfl rfl)
theorem dX3_shrink_287 : decode cX3_shrink 287 = .ok (.iconst 1, 1) := dk_4 (dk_at dksX3_shrink_12 7 rfl rfl)
theorem dX3_shrink_288 : decode cX3_shrink 288 = .ok (.aload_n 0, 1) := dk_42 (dk_at dksX3_shrink_12 8 rfl rfl)
theorem dX3_shrink_289 : decode cX3_shrink 289 = .ok (.getfield 58, 3) := dk_180 0 58 (dk_at dksX3_shrink_12 9 rfl rfl)
theorem dX3_shrink_292 : decode cX3_shrink 292 = .ok (.iload 4, 2) := dk_21 4 (dk_at dksX3_shrink_12 12 rfl rfl)
theorem dX3_shrink_294 : decode cX3_shrink 294 = .ok (.iaload, 1) := dk_46 (dk_at dksX3_shrink_12 14 rfl rfl)
theorem dX3_shrink_295 : decode cX3_shrink 295 = .ok (.iadd, 1) := dk_96 (dk_at dksX3_shrink_12 15 rfl rfl)
theorem dX3_shrink_296 : decode cX3_shrink 296 = .ok (.aload_n 0, 1) := dk_42 (dk_at dksX3_shrink_12 16 rfl rfl)
theorem dX3_shrink_297 : decode cX3_shrink 297 = .ok (.getfield 23, 3) := dk_180 0 23 (dk_at dksX3_shrink_12 17 rfl rfl)
theorem dX3_shrink_300 : decode cX3_shrink 300 = .ok (.iconst 1, 1) := dk_4 (dk_at dksX3_shrink_12 20 rfl rfl)
theorem dX3_shrink_301 : decode cX3_shrink 301 = .ok (.iload 4, 2) := dk_21 4 (dk_at dksX3_shrink_12 21 rfl rfl)
theorem dX3_shrink_303 : decode cX3_shrink 303 = .ok (.iadd, 1) := dk_96 (dk_at dksX3_shrink_12 23 rfl rfl)
theorem dX3_shrink_304 : decode cX3_shrink 304 = .ok (.iaload, 1) := dk_46 (dk_at dksX3_shrink_13 0 rfl rfl)
theorem dX3_shrink_305 : decode cX3_shrink 305 = .ok (.iconst (-1), 1) := dk_2 (dk_at dksX3_shrink_13 1 rfl rfl)
theorem dX3_shrink_306 : decode cX3_shrink 306 = .ok (.if_icmp .ne 7, 3) := dk_160 0 7 (dk_at dksX3_shrink_13 2 rfl rfl)
theorem dX3_shrink_309 : decode cX3_shrink 309 = .ok (.iconst (-1), 1) := dk_2 (dk_at dksX3_shrink_13 5 rfl rfl)
theorem dX3_shrink_310 : decode cX3_shrink 310 = .ok (.goto 17, 3) := dk_167 0 17 (dk_at dksX3_shrink_13 6 rfl rfl)
theorem dX3_shrink_313 : decode cX3_shrink 313 = .ok (.aload_n 0, 1) := dk_42 (dk_at dksX3_shrink_13 9 rfl rfl)
theorem dX3_shrink_314 : decode cX3_shrink 314 = .ok (.getfield 58, 3) := dk_180 0 58 (dk_at dksX3_shrink_13 10 rfl rfl)
theorem dX3_shrink_317 : decode cX3_shrink 317 = .ok (.aload_n 0, 1) := dk_42 (dk_at dksX3_shrink_13 13 rfl rfl)
theorem dX3_shrink_318 : decode cX3_shrink 318 = .ok (.getfield 23, 3) := dk_180 0 23 (dk_at dksX3_shrink_13 14 rfl rfl)
theorem dX3_shrink_321 : decode cX3_shrink 321 = .ok (.iconst 1, 1) := dk_4 (dk_at dksX3_shrink_13 17 rfl rfl)
theorem dX3_shrink_322 : decode cX3_shrink 322 = .ok (.iload 4, 2) := dk_21 4 (dk_at dksX3_shrink_13 18 rfl rfl)
theorem dX3_shrink_324 : decode cX3_shrink 324 = .ok (.iadd, 1) := dk_96 (dk_at dksX3_shrink_13 20 rfl rfl)
theorem dX3_shrink_325 : decode cX3_shrink 325 = .ok (.iaload, 1) := dk_46 (dk_at dksX3_shrink_13 21 rfl rfl)
theorem dX3_shrink_326 : decode cX3_shrink 326 = .ok (.iaload, 1) := dk_46 (dk_at dksX3_shrink_13 22 rfl rfl)
theorem dX3_shrink_327 : decode cX3_shrink 327 = .ok (.iastore, 1) := dk_79 (dk_at dksX3_shrink_13 23 rfl rfl)
theorem dX3_shrink_328 : decode cX3_shrink 328 = .ok (.iconst 0, 1) := dk_3 (dk_at dksX3_shrink_14 0 rfl rfl)
theorem dX3_shrink_329 : decode cX3_shrink 329 = .ok (.istore 5, 2) := dk_54 5 (dk_at dksX3_shrink_14 1 rfl rfl)
theorem dX3_shrink_331 : decode cX3_shrink 331 = .ok (.iload 5, 2) := dk_21 5 (dk_at dksX3_shrink_14 3 rfl rfl)
theorem dX3_shrink_333 : decode cX3_shrink 333 = .ok (.iload 4, 2) := dk_21 4 (dk_at dksX3_shrink_14 5 rfl rfl)
theorem dX3_shrink_335 : decode cX3_shrink 335 = .ok (.if_icmp .ge 55, 3) := dk_162 0 55 (dk_at dksX3_shrink_14 7 rfl rfl)
theorem dX3_shrink_338 : decode cX3_shrink 338 = .ok (.iload_n 2, 1) := dk_28 (dk_at dksX3_shrink_14 10 rfl rfl)
theorem dX3_shrink_339 : decode cX3_shrink 339 = .ok (.iload 5, 2) := dk_21 5 (dk_at dksX3_shrink_14 11 rfl rfl)
theorem dX3_shrink_341 : decode cX3_shrink 341 = .ok (.invokestatic 183, 3) := dk_184 0 183 (dk_at dksX3_shrink_14 13 rfl rfl)
theorem dX3_shrink_344 : decode cX3_shrink 344 = .ok (.ifCond .ne 40, 3) := dk_154 0 40 (dk_at dksX3_shrink_14 16 rfl rfl)
theorem dX3_shrink_347 : decode cX3_shrink 347 = .ok (.aload_n 0, 1) := dk_42 (dk_at dksX3_shrink_14 19 rfl rfl)
theorem dX3_shrink_348 : decode cX3_shrink 348 = .ok (.getfield 20, 3) := dk_180 0 20 (dk_at dksX3_shrink_14 20 rfl rfl)
theorem dX3_shrink_351 : decode cX3_shrink 351 = .ok (.aload_n 0, 1) := dk_42 (dk_at dksX3_shrink_14 23 rfl rfl)
theorem dX3_shrink_352 : decode cX3_shrink 352 = .ok (.getfield 58, 3) := dk_180 0 58 (dk_at dksX3_shrink_15 0 rfl rfl)
theorem dX3_shrink_355 : decode cX3_shrink 355 = .ok (.iload 4, 2) := dk_21 4 (dk_at dksX3_shrink_15 3 rfl rfl)
theorem dX3_shrink_357 : decode cX3_shrink 357 = .ok (.iaload, 1) := dk_46 (dk_at dksX3_shrink_15 5 rfl rfl)
theorem dX3_shrink_358 : decode cX3_shrink 358 = .ok (.aload_n 0, 1) := dk_42 (dk_at dksX3_shrink_15 6 rfl rfl)
theorem dX3_shrink_359 : decode cX3_shrink 359 = .ok (.getfield 58, 3) := dk_180 0 58 (dk_at dksX3_shrink_15 7 rfl rfl)
theorem dX3_shrink_362 : decode cX3_shrink 362 = .ok (.iload 5, 2) := dk_21 5 (dk_at dksX3_shrink_15 10 rfl rfl)
theorem dX3_shrink_364 : decode cX3_shrink 364 = .ok (.iaload, 1) := dk_46 (dk_at dksX3_shrink_15 12 rfl rfl)
theorem dX3_shrink_365 : decode cX3_shrink 365 = .ok (.aload_n 0, 1) := dk_42 (dk_at dksX3_shrink_15 13 rfl rfl)
theorem dX3_shrink_366 : decode cX3_shrink 366 = .ok (.getfield 23, 3) := dk_180 0 23 (dk_at dksX3_shrink_15 14 rfl rfl)
theorem dX3_shrink_369 : decode cX3_shrink 369 = .ok (.bipush 13, 2) := dk_16 13 (dk_at dksX3_shrink_15 17 rfl rfl)
theorem dX3_shrink_371 : decode cX3_shrink 371 = .ok (.bipush 12, 2) := dk_16 12 (dk_at dksX3_shrink_15 19 rfl rfl)
theorem dX3_shrink_373 : decode cX3_shrink 373 = .ok (.iload 4, 2) := dk_21 4 (dk_at dksX3_shrink_15 21 rfl rfl)
theorem dX3_shrink_375 : decode cX3_shrink 375 = .ok (.imul, 1) := dk_104 (dk_at dksX3_shrink_15 23 rfl rfl)
theorem dX3_shrink_376 : decode cX3_shrink 376 = .ok (.iadd, 1) := dk_96 (dk_at dksX3_shrink_16 0 rfl rfl)
theorem dX3_shrink_377 : decode cX3_shrink 377 = .ok (.iload 5, 2) := dk_21 5 (dk_at dksX3_shrink_16 1 rfl rfl)
theorem dX3_shrink_379 : decode cX3_shrink 379 = .ok (.iadd, 1) := dk_96 (dk_at dksX3_shrink_16 3 rfl rfl)
theorem dX3_shrink_380 : decode cX3_shrink 380 = .ok (.iaload, 1) := dk_46 (dk_at dksX3_shrink_16 4 rfl rfl)
theorem dX3_shrink_381 : decode cX3_shrink 381 = .ok (.invokestatic 65, 3) := dk_184 0 65 (dk_at dksX3_shrink_16 5 rfl rfl)
theorem dX3_shrink_384 : decode cX3_shrink 384 = .ok (.iinc 5 1, 3) := dk_132 5 1 (dk_at dksX3_shrink_16 8 rfl rfl)
theorem dX3_shrink_387 : decode cX3_shrink 387 = .ok (.goto (-56), 3) := dk_167 255 200 (dk_at dksX3_shrink_16 11 rfl rfl)
theorem dX3_shrink_390 : decode cX3_shrink 390 = .ok (.iinc 4 1, 3) := dk_132 4 1 (dk_at dksX3_shrink_16 14 rfl rfl)
theorem dX3_shrink_393 : decode cX3_shrink 393 = .ok (.goto (-133), 3) := dk_167 255 123 (dk_at dksX3_shrink_16 17 rfl rfl)
theorem dX3_shrink_396 : decode cX3_shrink 396 = .ok (.aload_n 0, 1) := dk_42 (dk_at dksX3_shrink_16 20 rfl rfl)
theorem dX3_shrink_397 : decode cX3_shrink 397 = .ok (.invokevirtual 69, 3) := dk_182 0 69 (dk_at dksX3_shrink_16 21 rfl rfl)
theorem dX3_shrink_400 : decode cX3_shrink 400 = .ok (.iload_n 3, 1) := dk_29 (dk_at dksX3_shrink_17 0 rfl rfl)
theorem dX3_shrink_401 : decode cX3_shrink 401 = .ok (.ireturn, 1) := dk_172 (dk_at dksX3_shrink_17 1 rfl rfl)
abbrev cX3_findsFlower : ByteArray := prog_12_method_49_code
def yX3_findsFlower : MethodName := ⟨RX3, "findsFlower", "(I)Z"⟩
def dkwX3_findsFlower_2 : List UInt8 := [181, 0, 236, 167, 255, 218, 3, 172]
abbrev dktX3_findsFlower_2 : List UInt8 := dkwX3_findsFlower_2 ++ []
def dkwX3_findsFlower_1 : List UInt8 := [4, 42, 180, 0, 236, 4, 27, 120, 182, 0, 239, 153, 0, 5, 4, 172, 42, 89, 180, 0, 236, 5, 96]
abbrev dktX3_findsFlower_1 : List UInt8 := dkwX3_findsFlower_1 ++ dktX3_findsFlower_2
def dkwX3_findsFlower_0 : List UInt8 := [42, 180, 0, 55, 3, 27, 79, 42, 6, 181, 0, 236, 42, 180, 0, 236, 42, 182, 0, 181, 163, 0, 33, 42]
abbrev dktX3_findsFlower_0 : List UInt8 := dkwX3_findsFlower_0 ++ dktX3_findsFlower_1
theorem dksX3_findsFlower_0 : cX3_findsFlower.data.toList.drop 0 = dktX3_findsFlower_0 := by decide +kernel
theorem dksX3_findsFlower_1 : cX3_findsFlower.data.toList.drop 24 = dktX3_findsFlower_1 := dk_seg dksX3_findsFlower_0 24 rfl rfl
theorem dksX3_findsFlower_2 : cX3_findsFlower.data.toList.drop 47 = dktX3_findsFlower_2 := dk_seg dksX3_findsFlower_1 23 rfl rfl
theorem dX3_findsFlower_0 : decode cX3_findsFlower 0 = .ok (.aload_n 0, 1) := dk_42 (dk_at dksX3_findsFlower_0 0 rfl rfl)
theorem dX3_findsFlower_1 : decode cX3_findsFlower 1 = .ok (.getfield 55, 3) := dk_180 0 55 (dk_at dksX3_findsFlower_0 1 rfl rfl)
theorem dX3_findsFlower_4 : decode cX3_findsFlower 4 = .ok (.iconst 0, 1) := dk_3 (dk_at dksX3_findsFlower_0 4 rfl rfl)
theorem dX3_findsFlower_5 : decode cX3_findsFlower 5 = .ok (.iload_n 1, 1) := dk_27 (dk_at dksX3_findsFlower_0 5 rfl rfl)
theorem dX3_findsFlower_6 : decode cX3_findsFlower 6 = .ok (.iastore, 1) := dk_79 (dk_at dksX3_findsFlower_0 6 rfl rfl)
theorem dX3_findsFlower_7 : decode cX3_findsFlower 7 = .ok (.aload_n 0, 1) := dk_42 (dk_at dksX3_findsFlower_0 7 rfl rfl)
theorem dX3_findsFlower_8 : decode cX3_findsFlower 8 = .ok (.iconst 3, 1) := dk_6 (dk_at dksX3_findsFlower_0 8 rfl rfl)
theorem dX3_findsFlower_9 : decode cX3_findsFlower 9 = .ok (.putfield 236, 3) := dk_181 0 236 (dk_at dksX3_findsFlower_0 9 rfl rfl)
theorem dX3_findsFlower_12 : decode cX3_findsFlower 12 = .ok (.aload_n 0, 1) := dk_42 (dk_at dksX3_findsFlower_0 12 rfl rfl)
theorem dX3_findsFlower_13 : decode cX3_findsFlower 13 = .ok (.getfield 236, 3) := dk_180 0 236 (dk_at dksX3_findsFlower_0 13 rfl rfl)
theorem dX3_findsFlower_16 : decode cX3_findsFlower 16 = .ok (.aload_n 0, 1) := dk_42 (dk_at dksX3_findsFlower_0 16 rfl rfl)
theorem dX3_findsFlower_17 : decode cX3_findsFlower 17 = .ok (.invokevirtual 181, 3) := dk_182 0 181 (dk_at dksX3_findsFlower_0 17 rfl rfl)
theorem dX3_findsFlower_20 : decode cX3_findsFlower 20 = .ok (.if_icmp .gt 33, 3) := dk_163 0 33 (dk_at dksX3_findsFlower_0 20 rfl rfl)
theorem dX3_findsFlower_23 : decode cX3_findsFlower 23 = .ok (.aload_n 0, 1) := dk_42 (dk_at dksX3_findsFlower_0 23 rfl rfl)
theorem dX3_findsFlower_24 : decode cX3_findsFlower 24 = .ok (.iconst 1, 1) := dk_4 (dk_at dksX3_findsFlower_1 0 rfl rfl)
theorem dX3_findsFlower_25 : decode cX3_findsFlower 25 = .ok (.aload_n 0, 1) := dk_42 (dk_at dksX3_findsFlower_1 1 rfl rfl)
theorem dX3_findsFlower_26 : decode cX3_findsFlower 26 = .ok (.getfield 236, 3) := dk_180 0 236 (dk_at dksX3_findsFlower_1 2 rfl rfl)
theorem dX3_findsFlower_29 : decode cX3_findsFlower 29 = .ok (.iconst 1, 1) := dk_4 (dk_at dksX3_findsFlower_1 5 rfl rfl)
theorem dX3_findsFlower_30 : decode cX3_findsFlower 30 = .ok (.iload_n 1, 1) := dk_27 (dk_at dksX3_findsFlower_1 6 rfl rfl)
theorem dX3_findsFlower_31 : decode cX3_findsFlower 31 = .ok (.ishl, 1) := dk_120 (dk_at dksX3_findsFlower_1 7 rfl rfl)
theorem dX3_findsFlower_32 : decode cX3_findsFlower 32 = .ok (.invokevirtual 239, 3) := dk_182 0 239 (dk_at dksX3_findsFlower_1 8 rfl rfl)
theorem dX3_findsFlower_35 : decode cX3_findsFlower 35 = .ok (.ifCond .eq 5, 3) := dk_153 0 5 (dk_at dksX3_findsFlower_1 11 rfl rfl)
theorem dX3_findsFlower_38 : decode cX3_findsFlower 38 = .ok (.iconst 1, 1) := dk_4 (dk_at dksX3_findsFlower_1 14 rfl rfl)
theorem dX3_findsFlower_39 : decode cX3_findsFlower 39 = .ok (.ireturn, 1) := dk_172 (dk_at dksX3_findsFlower_1 15 rfl rfl)
theorem dX3_findsFlower_40 : decode cX3_findsFlower 40 = .ok (.aload_n 0, 1) := dk_42 (dk_at dksX3_findsFlower_1 16 rfl rfl)
theorem dX3_findsFlower_41 : decode cX3_findsFlower 41 = .ok (.dup, 1) := dk_89 (dk_at dksX3_findsFlower_1 17 rfl rfl)
theorem dX3_findsFlower_42 : decode cX3_findsFlower 42 = .ok (.getfield 236, 3) := dk_180 0 236 (dk_at dksX3_findsFlower_1 18 rfl rfl)
theorem dX3_findsFlower_45 : decode cX3_findsFlower 45 = .ok (.iconst 2, 1) := dk_5 (dk_at dksX3_findsFlower_1 21 rfl rfl)
theorem dX3_findsFlower_46 : decode cX3_findsFlower 46 = .ok (.iadd, 1) := dk_96 (dk_at dksX3_findsFlower_1 22 rfl rfl)
theorem dX3_findsFlower_47 : decode cX3_findsFlower 47 = .ok (.putfield 236, 3) := dk_181 0 236 (dk_at dksX3_findsFlower_2 0 rfl rfl)
theorem dX3_findsFlower_50 : decode cX3_findsFlower 50 = .ok (.goto (-38), 3) := dk_167 255 218 (dk_at dksX3_findsFlower_2 3 rfl rfl)
theorem dX3_findsFlower_53 : decode cX3_findsFlower 53 = .ok (.iconst 0, 1) := dk_3 (dk_at dksX3_findsFlower_2 6 rfl rfl)
theorem dX3_findsFlower_54 : decode cX3_findsFlower 54 = .ok (.ireturn, 1) := dk_172 (dk_at dksX3_findsFlower_2 7 rfl rfl)
abbrev cX3_rings : ByteArray := prog_12_method_48_code
def yX3_rings : MethodName := ⟨RX3, "rings", "(III)Z"⟩
def dkwX3_rings_6 : List UInt8 := [153, 0, 5, 4, 172, 132, 5, 1, 167, 255, 147, 3, 172]
abbrev dktX3_rings_6 : List UInt8 := dkwX3_rings_6 ++ []
def dkwX3_rings_5 : List UInt8 := [79, 42, 27, 5, 96, 28, 29, 4, 21, 5, 120, 128, 4, 42, 21, 5, 182, 0, 206, 120, 128, 182, 0, 239]
abbrev dktX3_rings_5 : List UInt8 := dkwX3_rings_5 ++ dktX3_rings_6
def dkwX3_rings_4 : List UInt8 := [167, 0, 53, 42, 180, 0, 55, 27, 21, 5, 79, 42, 180, 0, 55, 27, 4, 96, 42, 21, 5, 182, 0, 206]
abbrev dktX3_rings_4 : List UInt8 := dkwX3_rings_4 ++ dktX3_rings_5
def dkwX3_rings_3 : List UInt8 := [42, 21, 5, 182, 0, 206, 2, 159, 0, 69, 29, 42, 21, 5, 182, 0, 206, 184, 0, 183, 153, 0, 6]
abbrev dktX3_rings_3 : List UInt8 := dkwX3_rings_3 ++ dktX3_rings_4
def dkwX3_rings_2 : List UInt8 := [162, 0, 106, 29, 21, 5, 184, 0, 183, 154, 0, 91, 42, 21, 4, 21, 5, 182, 0, 203, 2, 159, 0, 79]
abbrev dktX3_rings_2 : List UInt8 := dkwX3_rings_2 ++ dktX3_rings_3
def dkwX3_rings_1 : List UInt8 := [182, 0, 203, 2, 159, 0, 7, 4, 167, 0, 4, 3, 172, 3, 54, 5, 21, 5, 42, 182, 0, 181]
abbrev dktX3_rings_1 : List UInt8 := dkwX3_rings_1 ++ dktX3_rings_2
def dkwX3_rings_0 : List UInt8 := [42, 180, 0, 55, 27, 4, 100, 46, 54, 4, 27, 28, 160, 0, 25, 42, 21, 4, 42, 180, 0, 55, 3, 46]
abbrev dktX3_rings_0 : List UInt8 := dkwX3_rings_0 ++ dktX3_rings_1
theorem dksX3_rings_0 : cX3_rings.data.toList.drop 0 = dktX3_rings_0 := by decide +kernel
theorem dksX3_rings_1 : cX3_rings.data.toList.drop 24 = dktX3_rings_1 := dk_seg dksX3_rings_0 24 rfl rfl
theorem dksX3_rings_2 : cX3_rings.data.toList.drop 46 = dktX3_rings_2 := dk_seg dksX3_rings_1 22 rfl rfl
theorem dksX3_rings_3 : cX3_rings.data.toList.drop 70 = dktX3_rings_3 := dk_seg dksX3_rings_2 24 rfl rfl
theorem dksX3_rings_4 : cX3_rings.data.toList.drop 93 = dktX3_rings_4 := dk_seg dksX3_rings_3 23 rfl rfl
theorem dksX3_rings_5 : cX3_rings.data.toList.drop 117 = dktX3_rings_5 := dk_seg dksX3_rings_4 24 rfl rfl
theorem dksX3_rings_6 : cX3_rings.data.toList.drop 141 = dktX3_rings_6 := dk_seg dksX3_rings_5 24 rfl rfl
theorem dX3_rings_0 : decode cX3_rings 0 = .ok (.aload_n 0, 1) := dk_42 (dk_at dksX3_rings_0 0 rfl rfl)
theorem dX3_rings_1 : decode cX3_rings 1 = .ok (.getfield 55, 3) := dk_180 0 55 (dk_at dksX3_rings_0 1 rfl rfl)
theorem dX3_rings_4 : decode cX3_rings 4 = .ok (.iload_n 1, 1) := dk_27 (dk_at dksX3_rings_0 4 rfl rfl)
theorem dX3_rings_5 : decode cX3_rings 5 = .ok (.iconst 1, 1) := dk_4 (dk_at dksX3_rings_0 5 rfl rfl)
theorem dX3_rings_6 : decode cX3_rings 6 = .ok (.isub, 1) := dk_100 (dk_at dksX3_rings_0 6 rfl rfl)
theorem dX3_rings_7 : decode cX3_rings 7 = .ok (.iaload, 1) := dk_46 (dk_at dksX3_rings_0 7 rfl rfl)
theorem dX3_rings_8 : decode cX3_rings 8 = .ok (.istore 4, 2) := dk_54 4 (dk_at dksX3_rings_0 8 rfl rfl)
theorem dX3_rings_10 : decode cX3_rings 10 = .ok (.iload_n 1, 1) := dk_27 (dk_at dksX3_rings_0 10 rfl rfl)
theorem dX3_rings_11 : decode cX3_rings 11 = .ok (.iload_n 2, 1) := dk_28 (dk_at dksX3_rings_0 11 rfl rfl)
theorem dX3_rings_12 : decode cX3_rings 12 = .ok (.if_icmp .ne 25, 3) := dk_160 0 25 (dk_at dksX3_rings_0 12 rfl rfl)
theorem dX3_rings_15 : decode cX3_rings 15 = .ok (.aload_n 0, 1) := dk_42 (dk_at dksX3_rings_0 15 rfl rfl)
theorem dX3_rings_16 : decode cX3_rings 16 = .ok (.iload 4, 2) := dk_21 4 (dk_at dksX3_rings_0 16 rfl rfl)
theorem dX3_rings_18 : decode cX3_rings 18 = .ok (.aload_n 0, 1) := dk_42 (dk_at dksX3_rings_0 18 rfl rfl)
theorem dX3_rings_19 : decode cX3_rings 19 = .ok (.getfield 55, 3) := dk_180 0 55 (dk_at dksX3_rings_0 19 rfl rfl)
theorem dX3_rings_22 : decode cX3_rings 22 = .ok (.iconst 0, 1) := dk_3 (dk_at dksX3_rings_0 22 rfl rfl)
theorem dX3_rings_23 : decode cX3_rings 23 = .ok (.iaload, 1) := dk_46 (dk_at dksX3_rings_0 23 rfl rfl)
theorem dX3_rings_24 : decode cX3_rings 24 = .ok (.invokevirtual 203, 3) := dk_182 0 203 (dk_at dksX3_rings_1 0 rfl rfl)
theorem dX3_rings_27 : decode cX3_rings 27 = .ok (.iconst (-1), 1) := dk_2 (dk_at dksX3_rings_1 3 rfl rfl)
theorem dX3_rings_28 : decode cX3_rings 28 = .ok (.if_icmp .eq 7, 3) := dk_159 0 7 (dk_at dksX3_rings_1 4 rfl rfl)
theorem dX3_rings_31 : decode cX3_rings 31 = .ok (.iconst 1, 1) := dk_4 (dk_at dksX3_rings_1 7 rfl rfl)
theorem dX3_rings_32 : decode cX3_rings 32 = .ok (.goto 4, 3) := dk_167 0 4 (dk_at dksX3_rings_1 8 rfl rfl)
theorem dX3_rings_35 : decode cX3_rings 35 = .ok (.iconst 0, 1) := dk_3 (dk_at dksX3_rings_1 11 rfl rfl)
theorem dX3_rings_36 : decode cX3_rings 36 = .ok (.ireturn, 1) := dk_172 (dk_at dksX3_rings_1 12 rfl rfl)
theorem dX3_rings_37 : decode cX3_rings 37 = .ok (.iconst 0, 1) := dk_3 (dk_at dksX3_rings_1 13 rfl rfl)
theorem dX3_rings_38 : decode cX3_rings 38 = .ok (.istore 5, 2) := dk_54 5 (dk_at dksX3_rings_1 14 rfl rfl)
theorem dX3_rings_40 : decode cX3_rings 40 = .ok (.iload 5, 2) := dk_21 5 (dk_at dksX3_rings_1 16 rfl rfl)
theorem dX3_rings_42 : decode cX3_rings 42 = .ok (.aload_n 0, 1) := dk_42 (dk_at dksX3_rings_1 18 rfl rfl)
theorem dX3_rings_43 : decode cX3_rings 43 = .ok (.invokevirtual 181, 3) := dk_182 0 181 (dk_at dksX3_rings_1 19 rfl rfl)
theorem dX3_rings_46 : decode cX3_rings 46 = .ok (.if_icmp .ge 106, 3) := dk_162 0 106 (dk_at dksX3_rings_2 0 rfl rfl)
theorem dX3_rings_49 : decode cX3_rings 49 = .ok (.iload_n 3, 1) := dk_29 (dk_at dksX3_rings_2 3 rfl rfl)
theorem dX3_rings_50 : decode cX3_rings 50 = .ok (.iload 5, 2) := dk_21 5 (dk_at dksX3_rings_2 4 rfl rfl)
theorem dX3_rings_52 : decode cX3_rings 52 = .ok (.invokestatic 183, 3) := dk_184 0 183 (dk_at dksX3_rings_2 6 rfl rfl)
theorem dX3_rings_55 : decode cX3_rings 55 = .ok (.ifCond .ne 91, 3) := dk_154 0 91 (dk_at dksX3_rings_2 9 rfl rfl)
theorem dX3_rings_58 : decode cX3_rings 58 = .ok (.aload_n 0, 1) := dk_42 (dk_at dksX3_rings_2 12 rfl rfl)
theorem dX3_rings_59 : decode cX3_rings 59 = .ok (.iload 4, 2) := dk_21 4 (dk_at dksX3_rings_2 13 rfl rfl)
theorem dX3_rings_61 : decode cX3_rings 61 = .ok (.iload 5, 2) := dk_21 5 (dk_at dksX3_rings_2 15 rfl rfl)
theorem dX3_rings_63 : decode cX3_rings 63 = .ok (.invokevirtual 203, 3) := dk_182 0 203 (dk_at dksX3_rings_2 17 rfl rfl)
theorem dX3_rings_66 : decode cX3_rings 66 = .ok (.iconst (-1), 1) := dk_2 (dk_at dksX3_rings_2 20 rfl rfl)
theorem dX3_rings_67 : decode cX3_rings 67 = .ok (.if_icmp .eq 79, 3) := dk_159 0 79 (dk_at dksX3_rings_2 21 rfl rfl)
theorem dX3_rings_70 : decode cX3_rings 70 = .ok (.aload_n 0, 1) := dk_42 (dk_at dksX3_rings_3 0 rfl rfl)
theorem dX3_rings_71 : decode cX3_rings 71 = .ok (.iload 5, 2) := dk_21 5 (dk_at dksX3_rings_3 1 rfl rfl)
theorem dX3_rings_73 : decode cX3_rings 73 = .ok (.invokevirtual 206, 3) := dk_182 0 206 (dk_at dksX3_rings_3 3 rfl rfl)
theorem dX3_rings_76 : decode cX3_rings 76 = .ok (.iconst (-1), 1) := dk_2 (dk_at dksX3_rings_3 6 rfl rfl)
theorem dX3_rings_77 : decode cX3_rings 77 = .ok (.if_icmp .eq 69, 3) := dk_159 0 69 (dk_at dksX3_rings_3 7 rfl rfl)
theorem dX3_rings_80 : decode cX3_rings 80 = .ok (.iload_n 3, 1) := dk_29 (dk_at dksX3_rings_3 10 rfl rfl)
theorem dX3_rings_81 : decode cX3_rings 81 = .ok (.aload_n 0, 1) := dk_42 (dk_at dksX3_rings_3 11 rfl rfl)
theorem dX3_rings_82 : decode cX3_rings 82 = .ok (.iload 5, 2) := dk_21 5 (dk_at dksX3_rings_3 12 rfl rfl)
theorem dX3_rings_84 : decode cX3_rings 84 = .ok (.invokevirtual 206, 3) := dk_182 0 206 (dk_at dksX3_rings_3 14 rfl rfl)
theorem dX3_rings_87 : decode cX3_rings 87 = .ok (.invokestatic 183, 3) := dk_184 0 183 (dk_at dksX3_rings_3 17 rfl rfl)
theorem dX3_rings_90 : decode cX3_rings 90 = .ok (.ifCond .eq 6, 3) := dk_153 0 6 (dk_at dksX3_rings_3 20 rfl rfl)
theorem dX3_rings_93 : decode cX3_rings 93 = .ok (.goto 53, 3) := dk_167 0 53 (dk_at dksX3_rings_4 0 rfl rfl)
theorem dX3_rings_96 : decode cX3_rings 96 = .ok (.aload_n 0, 1) := dk_42 (dk_at dksX3_rings_4 3 rfl rfl)
theorem dX3_rings_97 : decode cX3_rings 97 = .ok (.getfield 55, 3) := dk_180 0 55 (dk_at dksX3_rings_4 4 rfl rfl)
theorem dX3_rings_100 : decode cX3_rings 100 = .ok (.iload_n 1, 1) := dk_27 (dk_at dksX3_rings_4 7 rfl rfl)
theorem dX3_rings_101 : decode cX3_rings 101 = .ok (.iload 5, 2) := dk_21 5 (dk_at dksX3_rings_4 8 rfl rfl)
theorem dX3_rings_103 : decode cX3_rings 103 = .ok (.iastore, 1) := dk_79 (dk_at dksX3_rings_4 10 rfl rfl)
theorem dX3_rings_104 : decode cX3_rings 104 = .ok (.aload_n 0, 1) := dk_42 (dk_at dksX3_rings_4 11 rfl rfl)
theorem dX3_rings_105 : decode cX3_rings 105 = .ok (.getfield 55, 3) := dk_180 0 55 (dk_at dksX3_rings_4 12 rfl rfl)
theorem dX3_rings_108 : decode cX3_rings 108 = .ok (.iload_n 1, 1) := dk_27 (dk_at dksX3_rings_4 15 rfl rfl)
theorem dX3_rings_109 : decode cX3_rings 109 = .ok (.iconst 1, 1) := dk_4 (dk_at dksX3_rings_4 16 rfl rfl)
theorem dX3_rings_110 : decode cX3_rings 110 = .ok (.iadd, 1) := dk_96 (dk_at dksX3_rings_4 17 rfl rfl)
theorem dX3_rings_111 : decode cX3_rings 111 = .ok (.aload_n 0, 1) := dk_42 (dk_at dksX3_rings_4 18 rfl rfl)
theorem dX3_rings_112 : decode cX3_rings 112 = .ok (.iload 5, 2) := dk_21 5 (dk_at dksX3_rings_4 19 rfl rfl)
theorem dX3_rings_114 : decode cX3_rings 114 = .ok (.invokevirtual 206, 3) := dk_182 0 206 (dk_at dksX3_rings_4 21 rfl rfl)
theorem dX3_rings_117 : decode cX3_rings 117 = .ok (.iastore, 1) := dk_79 (dk_at dksX3_rings_5 0 rfl rfl)
theorem dX3_rings_118 : decode cX3_rings 118 = .ok (.aload_n 0, 1) := dk_42 (dk_at dksX3_rings_5 1 rfl rfl)
theorem dX3_rings_119 : decode cX3_rings 119 = .ok (.iload_n 1, 1) := dk_27 (dk_at dksX3_rings_5 2 rfl rfl)
theorem dX3_rings_120 : decode cX3_rings 120 = .ok (.iconst 2, 1) := dk_5 (dk_at dksX3_rings_5 3 rfl rfl)
theorem dX3_rings_121 : decode cX3_rings 121 = .ok (.iadd, 1) := dk_96 (dk_at dksX3_rings_5 4 rfl rfl)
theorem dX3_rings_122 : decode cX3_rings 122 = .ok (.iload_n 2, 1) := dk_28 (dk_at dksX3_rings_5 5 rfl rfl)
theorem dX3_rings_123 : decode cX3_rings 123 = .ok (.iload_n 3, 1) := dk_29 (dk_at dksX3_rings_5 6 rfl rfl)
theorem dX3_rings_124 : decode cX3_rings 124 = .ok (.iconst 1, 1) := dk_4 (dk_at dksX3_rings_5 7 rfl rfl)
theorem dX3_rings_125 : decode cX3_rings 125 = .ok (.iload 5, 2) := dk_21 5 (dk_at dksX3_rings_5 8 rfl rfl)
theorem dX3_rings_127 : decode cX3_rings 127 = .ok (.ishl, 1) := dk_120 (dk_at dksX3_rings_5 10 rfl rfl)
theorem dX3_rings_128 : decode cX3_rings 128 = .ok (.ior, 1) := dk_128 (dk_at dksX3_rings_5 11 rfl rfl)
theorem dX3_rings_129 : decode cX3_rings 129 = .ok (.iconst 1, 1) := dk_4 (dk_at dksX3_rings_5 12 rfl rfl)
theorem dX3_rings_130 : decode cX3_rings 130 = .ok (.aload_n 0, 1) := dk_42 (dk_at dksX3_rings_5 13 rfl rfl)
theorem dX3_rings_131 : decode cX3_rings 131 = .ok (.iload 5, 2) := dk_21 5 (dk_at dksX3_rings_5 14 rfl rfl)
theorem dX3_rings_133 : decode cX3_rings 133 = .ok (.invokevirtual 206, 3) := dk_182 0 206 (dk_at dksX3_rings_5 16 rfl rfl)
theorem dX3_rings_136 : decode cX3_rings 136 = .ok (.ishl, 1) := dk_120 (dk_at dksX3_rings_5 19 rfl rfl)
theorem dX3_rings_137 : decode cX3_rings 137 = .ok (.ior, 1) := dk_128 (dk_at dksX3_rings_5 20 rfl rfl)
theorem dX3_rings_138 : decode cX3_rings 138 = .ok (.invokevirtual 239, 3) := dk_182 0 239 (dk_at dksX3_rings_5 21 rfl rfl)
theorem dX3_rings_141 : decode cX3_rings 141 = .ok (.ifCond .eq 5, 3) := dk_153 0 5 (dk_at dksX3_rings_6 0 rfl rfl)
theorem dX3_rings_144 : decode cX3_rings 144 = .ok (.iconst 1, 1) := dk_4 (dk_at dksX3_rings_6 3 rfl rfl)
theorem dX3_rings_145 : decode cX3_rings 145 = .ok (.ireturn, 1) := dk_172 (dk_at dksX3_rings_6 4 rfl rfl)
theorem dX3_rings_146 : decode cX3_rings 146 = .ok (.iinc 5 1, 3) := dk_132 5 1 (dk_at dksX3_rings_6 5 rfl rfl)
theorem dX3_rings_149 : decode cX3_rings 149 = .ok (.goto (-109), 3) := dk_167 255 147 (dk_at dksX3_rings_6 8 rfl rfl)
theorem dX3_rings_152 : decode cX3_rings 152 = .ok (.iconst 0, 1) := dk_3 (dk_at dksX3_rings_6 11 rfl rfl)
theorem dX3_rings_153 : decode cX3_rings 153 = .ok (.ireturn, 1) := dk_172 (dk_at dksX3_rings_6 12 rfl rfl)
abbrev cX3_told : ByteArray := prog_12_method_62_code
def yX3_told : MethodName := ⟨RX3, "told", "(I)I"⟩
def dkwX3_told_6 : List UInt8 := [172, 42, 182, 1, 10, 172, 28, 172, 42, 180, 0, 75, 172, 42, 180, 0, 242, 172]
abbrev dktX3_told_6 : List UInt8 := dkwX3_told_6 ++ []
def dkwX3_told_5 : List UInt8 := [42, 182, 0, 181, 172, 42, 182, 0, 178, 172, 42, 182, 0, 254, 172, 42, 180, 0, 34, 42, 182, 0, 194, 46]
abbrev dktX3_told_5 : List UInt8 := dkwX3_told_5 ++ dktX3_told_6
def dkwX3_told_4 : List UInt8 := [170, 0, 0, 0, 0, 0, 0, 81, 0, 0, 0, 0, 0, 0, 0, 6, 0, 0, 0, 44, 0, 0, 0, 49, 0, 0, 0, 54, 0, 0, 0, 59, 0, 0, 0, 69, 0, 0, 0, 74, 0, 0, 0, 76]
abbrev dktX3_told_4 : List UInt8 := dkwX3_told_4 ++ dktX3_told_5
def dkwX3_told_3 : List UInt8 := [96, 61, 132, 3, 1, 167, 255, 219, 27]
abbrev dktX3_told_3 : List UInt8 := dkwX3_told_3 ++ dktX3_told_4
def dkwX3_told_2 : List UInt8 := [28, 42, 29, 182, 0, 206, 29, 164, 0, 16, 42, 29, 42, 29, 182, 0, 206, 182, 0, 203, 167, 0, 4, 3]
abbrev dktX3_told_2 : List UInt8 := dkwX3_told_2 ++ dktX3_told_3
def dkwX3_told_1 : List UInt8 := [182, 0, 159, 153, 0, 5, 3, 172, 42, 182, 0, 209, 3, 61, 3, 62, 29, 42, 182, 0, 181, 162, 0, 35]
abbrev dktX3_told_1 : List UInt8 := dkwX3_told_1 ++ dktX3_told_2
def dkwX3_told_0 : List UInt8 := [42, 3, 181, 0, 72, 42, 27, 3, 16, 7, 184, 0, 111, 154, 0, 7, 4, 167, 0, 4, 3, 4, 4]
abbrev dktX3_told_0 : List UInt8 := dkwX3_told_0 ++ dktX3_told_1
theorem dksX3_told_0 : cX3_told.data.toList.drop 0 = dktX3_told_0 := by decide +kernel
theorem dksX3_told_1 : cX3_told.data.toList.drop 23 = dktX3_told_1 := dk_seg dksX3_told_0 23 rfl rfl
theorem dksX3_told_2 : cX3_told.data.toList.drop 47 = dktX3_told_2 := dk_seg dksX3_told_1 24 rfl rfl
theorem dksX3_told_3 : cX3_told.data.toList.drop 71 = dktX3_told_3 := dk_seg dksX3_told_2 24 rfl rfl
theorem dksX3_told_4 : cX3_told.data.toList.drop 80 = dktX3_told_4 := dk_seg dksX3_told_3 9 rfl rfl
theorem dksX3_told_5 : cX3_told.data.toList.drop 124 = dktX3_told_5 := dk_seg dksX3_told_4 44 rfl rfl
theorem dksX3_told_6 : cX3_told.data.toList.drop 148 = dktX3_told_6 := dk_seg dksX3_told_5 24 rfl rfl
theorem dX3_told_0 : decode cX3_told 0 = .ok (.aload_n 0, 1) := dk_42 (dk_at dksX3_told_0 0 rfl rfl)
theorem dX3_told_1 : decode cX3_told 1 = .ok (.iconst 0, 1) := dk_3 (dk_at dksX3_told_0 1 rfl rfl)
theorem dX3_told_2 : decode cX3_told 2 = .ok (.putfield 72, 3) := dk_181 0 72 (dk_at dksX3_told_0 2 rfl rfl)
theorem dX3_told_5 : decode cX3_told 5 = .ok (.aload_n 0, 1) := dk_42 (dk_at dksX3_told_0 5 rfl rfl)
theorem dX3_told_6 : decode cX3_told 6 = .ok (.iload_n 1, 1) := dk_27 (dk_at dksX3_told_0 6 rfl rfl)
theorem dX3_told_7 : decode cX3_told 7 = .ok (.iconst 0, 1) := dk_3 (dk_at dksX3_told_0 7 rfl rfl)
theorem dX3_told_8 : decode cX3_told 8 = .ok (.bipush 7, 2) := dk_16 7 (dk_at dksX3_told_0 8 rfl rfl)
theorem dX3_told_10 : decode cX3_told 10 = .ok (.invokestatic 111, 3) := dk_184 0 111 (dk_at dksX3_told_0 10 rfl rfl)
theorem dX3_told_13 : decode cX3_told 13 = .ok (.ifCond .ne 7, 3) := dk_154 0 7 (dk_at dksX3_told_0 13 rfl rfl)
theorem dX3_told_16 : decode cX3_told 16 = .ok (.iconst 1, 1) := dk_4 (dk_at dksX3_told_0 16 rfl rfl)
theorem dX3_told_17 : decode cX3_told 17 = .ok (.goto 4, 3) := dk_167 0 4 (dk_at dksX3_told_0 17 rfl rfl)
theorem dX3_told_20 : decode cX3_told 20 = .ok (.iconst 0, 1) := dk_3 (dk_at dksX3_told_0 20 rfl rfl)
theorem dX3_told_21 : decode cX3_told 21 = .ok (.iconst 1, 1) := dk_4 (dk_at dksX3_told_0 21 rfl rfl)
theorem dX3_told_22 : decode cX3_told 22 = .ok (.iconst 1, 1) := dk_4 (dk_at dksX3_told_0 22 rfl rfl)
theorem dX3_told_23 : decode cX3_told 23 = .ok (.invokevirtual 159, 3) := dk_182 0 159 (dk_at dksX3_told_1 0 rfl rfl)
theorem dX3_told_26 : decode cX3_told 26 = .ok (.ifCond .eq 5, 3) := dk_153 0 5 (dk_at dksX3_told_1 3 rfl rfl)
theorem dX3_told_29 : decode cX3_told 29 = .ok (.iconst 0, 1) := dk_3 (dk_at dksX3_told_1 6 rfl rfl)
theorem dX3_told_30 : decode cX3_told 30 = .ok (.ireturn, 1) := dk_172 (dk_at dksX3_told_1 7 rfl rfl)
theorem dX3_told_31 : decode cX3_told 31 = .ok (.aload_n 0, 1) := dk_42 (dk_at dksX3_told_1 8 rfl rfl)
theorem dX3_told_32 : decode cX3_told 32 = .ok (.invokevirtual 209, 3) := dk_182 0 209 (dk_at dksX3_told_1 9 rfl rfl)
theorem dX3_told_35 : decode cX3_told 35 = .ok (.iconst 0, 1) := dk_3 (dk_at dksX3_told_1 12 rfl rfl)
theorem dX3_told_36 : decode cX3_told 36 = .ok (.istore_n 2, 1) := dk_61 (dk_at dksX3_told_1 13 rfl rfl)
theorem dX3_told_37 : decode cX3_told 37 = .ok (.iconst 0, 1) := dk_3 (dk_at dksX3_told_1 14 rfl rfl)
theorem dX3_told_38 : decode cX3_told 38 = .ok (.istore_n 3, 1) := dk_62 (dk_at dksX3_told_1 15 rfl rfl)
theorem dX3_told_39 : decode cX3_told 39 = .ok (.iload_n 3, 1) := dk_29 (dk_at dksX3_told_1 16 rfl rfl)
theorem dX3_told_40 : decode cX3_told 40 = .ok (.aload_n 0, 1) := dk_42 (dk_at dksX3_told_1 17 rfl rfl)
theorem dX3_told_41 : decode cX3_told 41 = .ok (.invokevirtual 181, 3) := dk_182 0 181 (dk_at dksX3_told_1 18 rfl rfl)
theorem dX3_told_44 : decode cX3_told 44 = .ok (.if_icmp .ge 35, 3) := dk_162 0 35 (dk_at dksX3_told_1 21 rfl rfl)
theorem dX3_told_47 : decode cX3_told 47 = .ok (.iload_n 2, 1) := dk_28 (dk_at dksX3_told_2 0 rfl rfl)
theorem dX3_told_48 : decode cX3_told 48 = .ok (.aload_n 0, 1) := dk_42 (dk_at dksX3_told_2 1 rfl rfl)
theorem dX3_told_49 : decode cX3_told 49 = .ok (.iload_n 3, 1) := dk_29 (dk_at dksX3_told_2 2 rfl rfl)
theorem dX3_told_50 : decode cX3_told 50 = .ok (.invokevirtual 206, 3) := dk_182 0 206 (dk_at dksX3_told_2 3 rfl rfl)
theorem dX3_told_53 : decode cX3_told 53 = .ok (.iload_n 3, 1) := dk_29 (dk_at dksX3_told_2 6 rfl rfl)
theorem dX3_told_54 : decode cX3_told 54 = .ok (.if_icmp .le 16, 3) := dk_164 0 16 (dk_at dksX3_told_2 7 rfl rfl)
theorem dX3_told_57 : decode cX3_told 57 = .ok (.aload_n 0, 1) := dk_42 (dk_at dksX3_told_2 10 rfl rfl)
theorem dX3_told_58 : decode cX3_told 58 = .ok (.iload_n 3, 1) := dk_29 (dk_at dksX3_told_2 11 rfl rfl)
theorem dX3_told_59 : decode cX3_told 59 = .ok (.aload_n 0, 1) := dk_42 (dk_at dksX3_told_2 12 rfl rfl)
theorem dX3_told_60 : decode cX3_told 60 = .ok (.iload_n 3, 1) := dk_29 (dk_at dksX3_told_2 13 rfl rfl)
theorem dX3_told_61 : decode cX3_told 61 = .ok (.invokevirtual 206, 3) := dk_182 0 206 (dk_at dksX3_told_2 14 rfl rfl)
theorem dX3_told_64 : decode cX3_told 64 = .ok (.invokevirtual 203, 3) := dk_182 0 203 (dk_at dksX3_told_2 17 rfl rfl)
theorem dX3_told_67 : decode cX3_told 67 = .ok (.goto 4, 3) := dk_167 0 4 (dk_at dksX3_told_2 20 rfl rfl)
theorem dX3_told_70 : decode cX3_told 70 = .ok (.iconst 0, 1) := dk_3 (dk_at dksX3_told_2 23 rfl rfl)
theorem dX3_told_71 : decode cX3_told 71 = .ok (.iadd, 1) := dk_96 (dk_at dksX3_told_3 0 rfl rfl)
theorem dX3_told_72 : decode cX3_told 72 = .ok (.istore_n 2, 1) := dk_61 (dk_at dksX3_told_3 1 rfl rfl)
theorem dX3_told_73 : decode cX3_told 73 = .ok (.iinc 3 1, 3) := dk_132 3 1 (dk_at dksX3_told_3 2 rfl rfl)
theorem dX3_told_76 : decode cX3_told 76 = .ok (.goto (-37), 3) := dk_167 255 219 (dk_at dksX3_told_3 5 rfl rfl)
theorem dX3_told_79 : decode cX3_told 79 = .ok (.iload_n 1, 1) := dk_27 (dk_at dksX3_told_3 8 rfl rfl)
theorem dX3_told_80 : decode cX3_told 80 = .ok (.tableswitch 81 0 6 #[44, 49, 54, 59, 69, 74, 76], 44) := by decide +kernel
theorem dX3_told_124 : decode cX3_told 124 = .ok (.aload_n 0, 1) := dk_42 (dk_at dksX3_told_5 0 rfl rfl)
theorem dX3_told_125 : decode cX3_told 125 = .ok (.invokevirtual 181, 3) := dk_182 0 181 (dk_at dksX3_told_5 1 rfl rfl)
theorem dX3_told_128 : decode cX3_told 128 = .ok (.ireturn, 1) := dk_172 (dk_at dksX3_told_5 4 rfl rfl)
theorem dX3_told_129 : decode cX3_told 129 = .ok (.aload_n 0, 1) := dk_42 (dk_at dksX3_told_5 5 rfl rfl)
theorem dX3_told_130 : decode cX3_told 130 = .ok (.invokevirtual 178, 3) := dk_182 0 178 (dk_at dksX3_told_5 6 rfl rfl)
theorem dX3_told_133 : decode cX3_told 133 = .ok (.ireturn, 1) := dk_172 (dk_at dksX3_told_5 9 rfl rfl)
theorem dX3_told_134 : decode cX3_told 134 = .ok (.aload_n 0, 1) := dk_42 (dk_at dksX3_told_5 10 rfl rfl)
theorem dX3_told_135 : decode cX3_told 135 = .ok (.invokevirtual 254, 3) := dk_182 0 254 (dk_at dksX3_told_5 11 rfl rfl)
theorem dX3_told_138 : decode cX3_told 138 = .ok (.ireturn, 1) := dk_172 (dk_at dksX3_told_5 14 rfl rfl)
theorem dX3_told_139 : decode cX3_told 139 = .ok (.aload_n 0, 1) := dk_42 (dk_at dksX3_told_5 15 rfl rfl)
theorem dX3_told_140 : decode cX3_told 140 = .ok (.getfield 34, 3) := dk_180 0 34 (dk_at dksX3_told_5 16 rfl rfl)
theorem dX3_told_143 : decode cX3_told 143 = .ok (.aload_n 0, 1) := dk_42 (dk_at dksX3_told_5 19 rfl rfl)
theorem dX3_told_144 : decode cX3_told 144 = .ok (.invokevirtual 194, 3) := dk_182 0 194 (dk_at dksX3_told_5 20 rfl rfl)
theorem dX3_told_147 : decode cX3_told 147 = .ok (.iaload, 1) := dk_46 (dk_at dksX3_told_5 23 rfl rfl)
theorem dX3_told_148 : decode cX3_told 148 = .ok (.ireturn, 1) := dk_172 (dk_at dksX3_told_6 0 rfl rfl)
theorem dX3_told_149 : decode cX3_told 149 = .ok (.aload_n 0, 1) := dk_42 (dk_at dksX3_told_6 1 rfl rfl)
theorem dX3_told_150 : decode cX3_told 150 = .ok (.invokevirtual 266, 3) := dk_182 1 10 (dk_at dksX3_told_6 2 rfl rfl)
theorem dX3_told_153 : decode cX3_told 153 = .ok (.ireturn, 1) := dk_172 (dk_at dksX3_told_6 5 rfl rfl)
theorem dX3_told_154 : decode cX3_told 154 = .ok (.iload_n 2, 1) := dk_28 (dk_at dksX3_told_6 6 rfl rfl)
theorem dX3_told_155 : decode cX3_told 155 = .ok (.ireturn, 1) := dk_172 (dk_at dksX3_told_6 7 rfl rfl)
theorem dX3_told_156 : decode cX3_told 156 = .ok (.aload_n 0, 1) := dk_42 (dk_at dksX3_told_6 8 rfl rfl)
theorem dX3_told_157 : decode cX3_told 157 = .ok (.getfield 75, 3) := dk_180 0 75 (dk_at dksX3_told_6 9 rfl rfl)
theorem dX3_told_160 : decode cX3_told 160 = .ok (.ireturn, 1) := dk_172 (dk_at dksX3_told_6 12 rfl rfl)
theorem dX3_told_161 : decode cX3_told 161 = .ok (.aload_n 0, 1) := dk_42 (dk_at dksX3_told_6 13 rfl rfl)
theorem dX3_told_162 : decode cX3_told 162 = .ok (.getfield 242, 3) := dk_180 0 242 (dk_at dksX3_told_6 14 rfl rfl)
theorem dX3_told_165 : decode cX3_told 165 = .ok (.ireturn, 1) := dk_172 (dk_at dksX3_told_6 17 rfl rfl)
abbrev cX3_missing : ByteArray := prog_12_method_35_code
def yX3_missing : MethodName := ⟨RX3, "missing", "()I"⟩
def dkwX3_missing_0 : List UInt8 := [42, 182, 0, 181, 5, 42, 180, 0, 34, 42, 182, 0, 194, 46, 104, 100, 172]
abbrev dktX3_missing_0 : List UInt8 := dkwX3_missing_0 ++ []
theorem dksX3_missing_0 : cX3_missing.data.toList.drop 0 = dktX3_missing_0 := by decide +kernel
theorem dX3_missing_0 : decode cX3_missing 0 = .ok (.aload_n 0, 1) := dk_42 (dk_at dksX3_missing_0 0 rfl rfl)
theorem dX3_missing_1 : decode cX3_missing 1 = .ok (.invokevirtual 181, 3) := dk_182 0 181 (dk_at dksX3_missing_0 1 rfl rfl)
theorem dX3_missing_4 : decode cX3_missing 4 = .ok (.iconst 2, 1) := dk_5 (dk_at dksX3_missing_0 4 rfl rfl)
theorem dX3_missing_5 : decode cX3_missing 5 = .ok (.aload_n 0, 1) := dk_42 (dk_at dksX3_missing_0 5 rfl rfl)
theorem dX3_missing_6 : decode cX3_missing 6 = .ok (.getfield 34, 3) := dk_180 0 34 (dk_at dksX3_missing_0 6 rfl rfl)
theorem dX3_missing_9 : decode cX3_missing 9 = .ok (.aload_n 0, 1) := dk_42 (dk_at dksX3_missing_0 9 rfl rfl)
theorem dX3_missing_10 : decode cX3_missing 10 = .ok (.invokevirtual 194, 3) := dk_182 0 194 (dk_at dksX3_missing_0 10 rfl rfl)
theorem dX3_missing_13 : decode cX3_missing 13 = .ok (.iaload, 1) := dk_46 (dk_at dksX3_missing_0 13 rfl rfl)
theorem dX3_missing_14 : decode cX3_missing 14 = .ok (.imul, 1) := dk_104 (dk_at dksX3_missing_0 14 rfl rfl)
theorem dX3_missing_15 : decode cX3_missing 15 = .ok (.isub, 1) := dk_100 (dk_at dksX3_missing_0 15 rfl rfl)
theorem dX3_missing_16 : decode cX3_missing 16 = .ok (.ireturn, 1) := dk_172 (dk_at dksX3_missing_0 16 rfl rfl)
abbrev cX3_line : ByteArray := prog_12_method_63_code
def yX3_line : MethodName := ⟨RX3, "line", "(III)I"⟩
def dkwX3_line_10 : List UInt8 := [167, 0, 4, 3, 172]
abbrev dktX3_line_10 : List UInt8 := dkwX3_line_10 ++ []
def dkwX3_line_9 : List UInt8 := [153, 0, 27, 42, 180, 0, 43, 21, 5, 47, 42, 180, 0, 43, 42, 182, 0, 194, 47, 148, 154, 0, 7, 4]
abbrev dktX3_line_9 : List UInt8 := dkwX3_line_9 ++ dktX3_line_10
def dkwX3_line_8 : List UInt8 := [160, 0, 7, 4, 167, 0, 4, 3, 172, 21, 6, 153, 0, 7, 4, 167, 0, 4, 3, 172, 21, 6]
abbrev dktX3_line_8 : List UInt8 := dkwX3_line_8 ++ dktX3_line_9
def dkwX3_line_7 : List UInt8 := [21, 4, 153, 0, 7, 4, 167, 0, 4, 3, 172, 42, 27, 28, 182, 0, 203, 172, 42, 27, 182, 0, 206, 28]
abbrev dktX3_line_7 : List UInt8 := dkwX3_line_7 ++ dktX3_line_8
def dkwX3_line_6 : List UInt8 := [170, 0, 0, 0, 0, 74, 0, 0, 0, 0, 0, 0, 0, 3, 0, 0, 0, 30, 0, 0, 0, 41, 0, 0, 0, 48, 0, 0, 0, 63]
abbrev dktX3_line_6 : List UInt8 := dkwX3_line_6 ++ dktX3_line_7
def dkwX3_line_5 : List UInt8 := [180, 0, 34, 42, 182, 0, 194, 46, 160, 0, 7, 4, 167, 0, 4, 3, 54, 6, 29]
abbrev dktX3_line_5 : List UInt8 := dkwX3_line_5 ++ dktX3_line_6
def dkwX3_line_4 : List UInt8 := [126, 4, 28, 120, 2, 130, 126, 54, 5, 21, 4, 153, 0, 28, 42, 180, 0, 34, 21, 5, 46, 4, 96, 42]
abbrev dktX3_line_4 : List UInt8 := dkwX3_line_4 ++ dktX3_line_5
def dkwX3_line_3 : List UInt8 := [28, 182, 0, 203, 2, 159, 0, 7, 4, 167, 0, 4, 3, 54, 4, 42, 182, 0, 194, 4, 27, 120, 2, 130]
abbrev dktX3_line_3 : List UInt8 := dkwX3_line_3 ++ dktX3_line_4
def dkwX3_line_2 : List UInt8 := [154, 0, 7, 4, 167, 0, 4, 3, 5, 4, 182, 0, 159, 153, 0, 5, 3, 172, 42, 182, 0, 209, 42, 27]
abbrev dktX3_line_2 : List UInt8 := dkwX3_line_2 ++ dktX3_line_3
def dkwX3_line_1 : List UInt8 := [167, 0, 4, 3, 4, 3, 182, 0, 159, 154, 0, 31, 42, 27, 28, 159, 0, 12, 29, 3, 7, 184, 0, 111]
abbrev dktX3_line_1 : List UInt8 := dkwX3_line_1 ++ dktX3_line_2
def dkwX3_line_0 : List UInt8 := [42, 3, 181, 0, 72, 42, 42, 27, 182, 0, 245, 153, 0, 11, 42, 28, 182, 0, 245, 154, 0, 7, 4]
abbrev dktX3_line_0 : List UInt8 := dkwX3_line_0 ++ dktX3_line_1
theorem dksX3_line_0 : cX3_line.data.toList.drop 0 = dktX3_line_0 := by decide +kernel
theorem dksX3_line_1 : cX3_line.data.toList.drop 23 = dktX3_line_1 := dk_seg dksX3_line_0 23 rfl rfl
theorem dksX3_line_2 : cX3_line.data.toList.drop 47 = dktX3_line_2 := dk_seg dksX3_line_1 24 rfl rfl
theorem dksX3_line_3 : cX3_line.data.toList.drop 71 = dktX3_line_3 := dk_seg dksX3_line_2 24 rfl rfl
theorem dksX3_line_4 : cX3_line.data.toList.drop 95 = dktX3_line_4 := dk_seg dksX3_line_3 24 rfl rfl
theorem dksX3_line_5 : cX3_line.data.toList.drop 119 = dktX3_line_5 := dk_seg dksX3_line_4 24 rfl rfl
theorem dksX3_line_6 : cX3_line.data.toList.drop 138 = dktX3_line_6 := dk_seg dksX3_line_5 19 rfl rfl
theorem dksX3_line_7 : cX3_line.data.toList.drop 168 = dktX3_line_7 := dk_seg dksX3_line_6 30 rfl rfl
theorem dksX3_line_8 : cX3_line.data.toList.drop 192 = dktX3_line_8 := dk_seg dksX3_line_7 24 rfl rfl
theorem dksX3_line_9 : cX3_line.data.toList.drop 214 = dktX3_line_9 := dk_seg dksX3_line_8 22 rfl rfl
theorem dksX3_line_10 : cX3_line.data.toList.drop 238 = dktX3_line_10 := dk_seg dksX3_line_9 24 rfl rfl
theorem dX3_line_0 : decode cX3_line 0 = .ok (.aload_n 0, 1) := dk_42 (dk_at dksX3_line_0 0 rfl rfl)
theorem dX3_line_1 : decode cX3_line 1 = .ok (.iconst 0, 1) := dk_3 (dk_at dksX3_line_0 1 rfl rfl)
theorem dX3_line_2 : decode cX3_line 2 = .ok (.putfield 72, 3) := dk_181 0 72 (dk_at dksX3_line_0 2 rfl rfl)
theorem dX3_line_5 : decode cX3_line 5 = .ok (.aload_n 0, 1) := dk_42 (dk_at dksX3_line_0 5 rfl rfl)
theorem dX3_line_6 : decode cX3_line 6 = .ok (.aload_n 0, 1) := dk_42 (dk_at dksX3_line_0 6 rfl rfl)
theorem dX3_line_7 : decode cX3_line 7 = .ok (.iload_n 1, 1) := dk_27 (dk_at dksX3_line_0 7 rfl rfl)
theorem dX3_line_8 : decode cX3_line 8 = .ok (.invokevirtual 245, 3) := dk_182 0 245 (dk_at dksX3_line_0 8 rfl rfl)
theorem dX3_line_11 : decode cX3_line 11 = .ok (.ifCond .eq 11, 3) := dk_153 0 11 (dk_at dksX3_line_0 11 rfl rfl)
theorem dX3_line_14 : decode cX3_line 14 = .ok (.aload_n 0, 1) := dk_42 (dk_at dksX3_line_0 14 rfl rfl)
theorem dX3_line_15 : decode cX3_line 15 = .ok (.iload_n 2, 1) := dk_28 (dk_at dksX3_line_0 15 rfl rfl)
theorem dX3_line_16 : decode cX3_line 16 = .ok (.invokevirtual 245, 3) := dk_182 0 245 (dk_at dksX3_line_0 16 rfl rfl)
theorem dX3_line_19 : decode cX3_line 19 = .ok (.ifCond .ne 7, 3) := dk_154 0 7 (dk_at dksX3_line_0 19 rfl rfl)
theorem dX3_line_22 : decode cX3_line 22 = .ok (.iconst 1, 1) := dk_4 (dk_at dksX3_line_0 22 rfl rfl)
theorem dX3_line_23 : decode cX3_line 23 = .ok (.goto 4, 3) := dk_167 0 4 (dk_at dksX3_line_1 0 rfl rfl)
theorem dX3_line_26 : decode cX3_line 26 = .ok (.iconst 0, 1) := dk_3 (dk_at dksX3_line_1 3 rfl rfl)
theorem dX3_line_27 : decode cX3_line 27 = .ok (.iconst 1, 1) := dk_4 (dk_at dksX3_line_1 4 rfl rfl)
theorem dX3_line_28 : decode cX3_line 28 = .ok (.iconst 0, 1) := dk_3 (dk_at dksX3_line_1 5 rfl rfl)
theorem dX3_line_29 : decode cX3_line 29 = .ok (.invokevirtual 159, 3) := dk_182 0 159 (dk_at dksX3_line_1 6 rfl rfl)
theorem dX3_line_32 : decode cX3_line 32 = .ok (.ifCond .ne 31, 3) := dk_154 0 31 (dk_at dksX3_line_1 9 rfl rfl)
theorem dX3_line_35 : decode cX3_line 35 = .ok (.aload_n 0, 1) := dk_42 (dk_at dksX3_line_1 12 rfl rfl)
theorem dX3_line_36 : decode cX3_line 36 = .ok (.iload_n 1, 1) := dk_27 (dk_at dksX3_line_1 13 rfl rfl)
theorem dX3_line_37 : decode cX3_line 37 = .ok (.iload_n 2, 1) := dk_28 (dk_at dksX3_line_1 14 rfl rfl)
theorem dX3_line_38 : decode cX3_line 38 = .ok (.if_icmp .eq 12, 3) := dk_159 0 12 (dk_at dksX3_line_1 15 rfl rfl)
theorem dX3_line_41 : decode cX3_line 41 = .ok (.iload_n 3, 1) := dk_29 (dk_at dksX3_line_1 18 rfl rfl)
theorem dX3_line_42 : decode cX3_line 42 = .ok (.iconst 0, 1) := dk_3 (dk_at dksX3_line_1 19 rfl rfl)
theorem dX3_line_43 : decode cX3_line 43 = .ok (.iconst 4, 1) := dk_7 (dk_at dksX3_line_1 20 rfl rfl)
theorem dX3_line_44 : decode cX3_line 44 = .ok (.invokestatic 111, 3) := dk_184 0 111 (dk_at dksX3_line_1 21 rfl rfl)
theorem dX3_line_47 : decode cX3_line 47 = .ok (.ifCond .ne 7, 3) := dk_154 0 7 (dk_at dksX3_line_2 0 rfl rfl)
theorem dX3_line_50 : decode cX3_line 50 = .ok (.iconst 1, 1) := dk_4 (dk_at dksX3_line_2 3 rfl rfl)
theorem dX3_line_51 : decode cX3_line 51 = .ok (.goto 4, 3) := dk_167 0 4 (dk_at dksX3_line_2 4 rfl rfl)
theorem dX3_line_54 : decode cX3_line 54 = .ok (.iconst 0, 1) := dk_3 (dk_at dksX3_line_2 7 rfl rfl)
theorem dX3_line_55 : decode cX3_line 55 = .ok (.iconst 2, 1) := dk_5 (dk_at dksX3_line_2 8 rfl rfl)
theorem dX3_line_56 : decode cX3_line 56 = .ok (.iconst 1, 1) := dk_4 (dk_at dksX3_line_2 9 rfl rfl)
theorem dX3_line_57 : decode cX3_line 57 = .ok (.invokevirtual 159, 3) := dk_182 0 159 (dk_at dksX3_line_2 10 rfl rfl)
theorem dX3_line_60 : decode cX3_line 60 = .ok (.ifCond .eq 5, 3) := dk_153 0 5 (dk_at dksX3_line_2 13 rfl rfl)
theorem dX3_line_63 : decode cX3_line 63 = .ok (.iconst 0, 1) := dk_3 (dk_at dksX3_line_2 16 rfl rfl)
theorem dX3_line_64 : decode cX3_line 64 = .ok (.ireturn, 1) := dk_172 (dk_at dksX3_line_2 17 rfl rfl)
theorem dX3_line_65 : decode cX3_line 65 = .ok (.aload_n 0, 1) := dk_42 (dk_at dksX3_line_2 18 rfl rfl)
theorem dX3_line_66 : decode cX3_line 66 = .ok (.invokevirtual 209, 3) := dk_182 0 209 (dk_at dksX3_line_2 19 rfl rfl)
theorem dX3_line_69 : decode cX3_line 69 = .ok (.aload_n 0, 1) := dk_42 (dk_at dksX3_line_2 22 rfl rfl)
theorem dX3_line_70 : decode cX3_line 70 = .ok (.iload_n 1, 1) := dk_27 (dk_at dksX3_line_2 23 rfl rfl)
theorem dX3_line_71 : decode cX3_line 71 = .ok (.iload_n 2, 1) := dk_28 (dk_at dksX3_line_3 0 rfl rfl)
theorem dX3_line_72 : decode cX3_line 72 = .ok (.invokevirtual 203, 3) := dk_182 0 203 (dk_at dksX3_line_3 1 rfl rfl)
theorem dX3_line_75 : decode cX3_line 75 = .ok (.iconst (-1), 1) := dk_2 (dk_at dksX3_line_3 4 rfl rfl)
theorem dX3_line_76 : decode cX3_line 76 = .ok (.if_icmp .eq 7, 3) := dk_159 0 7 (dk_at dksX3_line_3 5 rfl rfl)
theorem dX3_line_79 : decode cX3_line 79 = .ok (.iconst 1, 1) := dk_4 (dk_at dksX3_line_3 8 rfl rfl)
theorem dX3_line_80 : decode cX3_line 80 = .ok (.goto 4, 3) := dk_167 0 4 (dk_at dksX3_line_3 9 rfl rfl)
theorem dX3_line_83 : decode cX3_line 83 = .ok (.iconst 0, 1) := dk_3 (dk_at dksX3_line_3 12 rfl rfl)
theorem dX3_line_84 : decode cX3_line 84 = .ok (.istore 4, 2) := dk_54 4 (dk_at dksX3_line_3 13 rfl rfl)
theorem dX3_line_86 : decode cX3_line 86 = .ok (.aload_n 0, 1) := dk_42 (dk_at dksX3_line_3 15 rfl rfl)
theorem dX3_line_87 : decode cX3_line 87 = .ok (.invokevirtual 194, 3) := dk_182 0 194 (dk_at dksX3_line_3 16 rfl rfl)
theorem dX3_line_90 : decode cX3_line 90 = .ok (.iconst 1, 1) := dk_4 (dk_at dksX3_line_3 19 rfl rfl)
theorem dX3_line_91 : decode cX3_line 91 = .ok (.iload_n 1, 1) := dk_27 (dk_at dksX3_line_3 20 rfl rfl)
theorem dX3_line_92 : decode cX3_line 92 = .ok (.ishl, 1) := dk_120 (dk_at dksX3_line_3 21 rfl rfl)
theorem dX3_line_93 : decode cX3_line 93 = .ok (.iconst (-1), 1) := dk_2 (dk_at dksX3_line_3 22 rfl rfl)
theorem dX3_line_94 : decode cX3_line 94 = .ok (.ixor, 1) := dk_130 (dk_at dksX3_line_3 23 rfl rfl)
theorem dX3_line_95 : decode cX3_line 95 = .ok (.iand, 1) := dk_126 (dk_at dksX3_line_4 0 rfl rfl)
theorem dX3_line_96 : decode cX3_line 96 = .ok (.iconst 1, 1) := dk_4 (dk_at dksX3_line_4 1 rfl rfl)
theorem dX3_line_97 : decode cX3_line 97 = .ok (.iload_n 2, 1) := dk_28 (dk_at dksX3_line_4 2 rfl rfl)
theorem dX3_line_98 : decode cX3_line 98 = .ok (.ishl, 1) := dk_120 (dk_at dksX3_line_4 3 rfl rfl)
theorem dX3_line_99 : decode cX3_line 99 = .ok (.iconst (-1), 1) := dk_2 (dk_at dksX3_line_4 4 rfl rfl)
theorem dX3_line_100 : decode cX3_line 100 = .ok (.ixor, 1) := dk_130 (dk_at dksX3_line_4 5 rfl rfl)
theorem dX3_line_101 : decode cX3_line 101 = .ok (.iand, 1) := dk_126 (dk_at dksX3_line_4 6 rfl rfl)
theorem dX3_line_102 : decode cX3_line 102 = .ok (.istore 5, 2) := dk_54 5 (dk_at dksX3_line_4 7 rfl rfl)
theorem dX3_line_104 : decode cX3_line 104 = .ok (.iload 4, 2) := dk_21 4 (dk_at dksX3_line_4 9 rfl rfl)
theorem dX3_line_106 : decode cX3_line 106 = .ok (.ifCond .eq 28, 3) := dk_153 0 28 (dk_at dksX3_line_4 11 rfl rfl)
theorem dX3_line_109 : decode cX3_line 109 = .ok (.aload_n 0, 1) := dk_42 (dk_at dksX3_line_4 14 rfl rfl)
theorem dX3_line_110 : decode cX3_line 110 = .ok (.getfield 34, 3) := dk_180 0 34 (dk_at dksX3_line_4 15 rfl rfl)
theorem dX3_line_113 : decode cX3_line 113 = .ok (.iload 5, 2) := dk_21 5 (dk_at dksX3_line_4 18 rfl rfl)
theorem dX3_line_115 : decode cX3_line 115 = .ok (.iaload, 1) := dk_46 (dk_at dksX3_line_4 20 rfl rfl)
theorem dX3_line_116 : decode cX3_line 116 = .ok (.iconst 1, 1) := dk_4 (dk_at dksX3_line_4 21 rfl rfl)
theorem dX3_line_117 : decode cX3_line 117 = .ok (.iadd, 1) := dk_96 (dk_at dksX3_line_4 22 rfl rfl)
theorem dX3_line_118 : decode cX3_line 118 = .ok (.aload_n 0, 1) := dk_42 (dk_at dksX3_line_4 23 rfl rfl)
theorem dX3_line_119 : decode cX3_line 119 = .ok (.getfield 34, 3) := dk_180 0 34 (dk_at dksX3_line_5 0 rfl rfl)
theorem dX3_line_122 : decode cX3_line 122 = .ok (.aload_n 0, 1) := dk_42 (dk_at dksX3_line_5 3 rfl rfl)
theorem dX3_line_123 : decode cX3_line 123 = .ok (.invokevirtual 194, 3) := dk_182 0 194 (dk_at dksX3_line_5 4 rfl rfl)
theorem dX3_line_126 : decode cX3_line 126 = .ok (.iaload, 1) := dk_46 (dk_at dksX3_line_5 7 rfl rfl)
theorem dX3_line_127 : decode cX3_line 127 = .ok (.if_icmp .ne 7, 3) := dk_160 0 7 (dk_at dksX3_line_5 8 rfl rfl)
theorem dX3_line_130 : decode cX3_line 130 = .ok (.iconst 1, 1) := dk_4 (dk_at dksX3_line_5 11 rfl rfl)
theorem dX3_line_131 : decode cX3_line 131 = .ok (.goto 4, 3) := dk_167 0 4 (dk_at dksX3_line_5 12 rfl rfl)
theorem dX3_line_134 : decode cX3_line 134 = .ok (.iconst 0, 1) := dk_3 (dk_at dksX3_line_5 15 rfl rfl)
theorem dX3_line_135 : decode cX3_line 135 = .ok (.istore 6, 2) := dk_54 6 (dk_at dksX3_line_5 16 rfl rfl)
theorem dX3_line_137 : decode cX3_line 137 = .ok (.iload_n 3, 1) := dk_29 (dk_at dksX3_line_5 18 rfl rfl)
theorem dX3_line_138 : decode cX3_line 138 = .ok (.tableswitch 74 0 3 #[30, 41, 48, 63], 30) := by decide +kernel
theorem dX3_line_168 : decode cX3_line 168 = .ok (.iload 4, 2) := dk_21 4 (dk_at dksX3_line_7 0 rfl rfl)
theorem dX3_line_170 : decode cX3_line 170 = .ok (.ifCond .eq 7, 3) := dk_153 0 7 (dk_at dksX3_line_7 2 rfl rfl)
theorem dX3_line_173 : decode cX3_line 173 = .ok (.iconst 1, 1) := dk_4 (dk_at dksX3_line_7 5 rfl rfl)
theorem dX3_line_174 : decode cX3_line 174 = .ok (.goto 4, 3) := dk_167 0 4 (dk_at dksX3_line_7 6 rfl rfl)
theorem dX3_line_177 : decode cX3_line 177 = .ok (.iconst 0, 1) := dk_3 (dk_at dksX3_line_7 9 rfl rfl)
theorem dX3_line_178 : decode cX3_line 178 = .ok (.ireturn, 1) := dk_172 (dk_at dksX3_line_7 10 rfl rfl)
theorem dX3_line_179 : decode cX3_line 179 = .ok (.aload_n 0, 1) := dk_42 (dk_at dksX3_line_7 11 rfl rfl)
theorem dX3_line_180 : decode cX3_line 180 = .ok (.iload_n 1, 1) := dk_27 (dk_at dksX3_line_7 12 rfl rfl)
theorem dX3_line_181 : decode cX3_line 181 = .ok (.iload_n 2, 1) := dk_28 (dk_at dksX3_line_7 13 rfl rfl)
theorem dX3_line_182 : decode cX3_line 182 = .ok (.invokevirtual 203, 3) := dk_182 0 203 (dk_at dksX3_line_7 14 rfl rfl)
theorem dX3_line_185 : decode cX3_line 185 = .ok (.ireturn, 1) := dk_172 (dk_at dksX3_line_7 17 rfl rfl)
theorem dX3_line_186 : decode cX3_line 186 = .ok (.aload_n 0, 1) := dk_42 (dk_at dksX3_line_7 18 rfl rfl)
theorem dX3_line_187 : decode cX3_line 187 = .ok (.iload_n 1, 1) := dk_27 (dk_at dksX3_line_7 19 rfl rfl)
theorem dX3_line_188 : decode cX3_line 188 = .ok (.invokevirtual 206, 3) := dk_182 0 206 (dk_at dksX3_line_7 20 rfl rfl)
theorem dX3_line_191 : decode cX3_line 191 = .ok (.iload_n 2, 1) := dk_28 (dk_at dksX3_line_7 23 rfl rfl)
theorem dX3_line_192 : decode cX3_line 192 = .ok (.if_icmp .ne 7, 3) := dk_160 0 7 (dk_at dksX3_line_8 0 rfl rfl)
theorem dX3_line_195 : decode cX3_line 195 = .ok (.iconst 1, 1) := dk_4 (dk_at dksX3_line_8 3 rfl rfl)
theorem dX3_line_196 : decode cX3_line 196 = .ok (.goto 4, 3) := dk_167 0 4 (dk_at dksX3_line_8 4 rfl rfl)
theorem dX3_line_199 : decode cX3_line 199 = .ok (.iconst 0, 1) := dk_3 (dk_at dksX3_line_8 7 rfl rfl)
theorem dX3_line_200 : decode cX3_line 200 = .ok (.ireturn, 1) := dk_172 (dk_at dksX3_line_8 8 rfl rfl)
theorem dX3_line_201 : decode cX3_line 201 = .ok (.iload 6, 2) := dk_21 6 (dk_at dksX3_line_8 9 rfl rfl)
theorem dX3_line_203 : decode cX3_line 203 = .ok (.ifCond .eq 7, 3) := dk_153 0 7 (dk_at dksX3_line_8 11 rfl rfl)
theorem dX3_line_206 : decode cX3_line 206 = .ok (.iconst 1, 1) := dk_4 (dk_at dksX3_line_8 14 rfl rfl)
theorem dX3_line_207 : decode cX3_line 207 = .ok (.goto 4, 3) := dk_167 0 4 (dk_at dksX3_line_8 15 rfl rfl)
theorem dX3_line_210 : decode cX3_line 210 = .ok (.iconst 0, 1) := dk_3 (dk_at dksX3_line_8 18 rfl rfl)
theorem dX3_line_211 : decode cX3_line 211 = .ok (.ireturn, 1) := dk_172 (dk_at dksX3_line_8 19 rfl rfl)
theorem dX3_line_212 : decode cX3_line 212 = .ok (.iload 6, 2) := dk_21 6 (dk_at dksX3_line_8 20 rfl rfl)
theorem dX3_line_214 : decode cX3_line 214 = .ok (.ifCond .eq 27, 3) := dk_153 0 27 (dk_at dksX3_line_9 0 rfl rfl)
theorem dX3_line_217 : decode cX3_line 217 = .ok (.aload_n 0, 1) := dk_42 (dk_at dksX3_line_9 3 rfl rfl)
theorem dX3_line_218 : decode cX3_line 218 = .ok (.getfield 43, 3) := dk_180 0 43 (dk_at dksX3_line_9 4 rfl rfl)
theorem dX3_line_221 : decode cX3_line 221 = .ok (.iload 5, 2) := dk_21 5 (dk_at dksX3_line_9 7 rfl rfl)
theorem dX3_line_223 : decode cX3_line 223 = .ok (.laload, 1) := dk_47 (dk_at dksX3_line_9 9 rfl rfl)
theorem dX3_line_224 : decode cX3_line 224 = .ok (.aload_n 0, 1) := dk_42 (dk_at dksX3_line_9 10 rfl rfl)
theorem dX3_line_225 : decode cX3_line 225 = .ok (.getfield 43, 3) := dk_180 0 43 (dk_at dksX3_line_9 11 rfl rfl)
theorem dX3_line_228 : decode cX3_line 228 = .ok (.aload_n 0, 1) := dk_42 (dk_at dksX3_line_9 14 rfl rfl)
theorem dX3_line_229 : decode cX3_line 229 = .ok (.invokevirtual 194, 3) := dk_182 0 194 (dk_at dksX3_line_9 15 rfl rfl)
theorem dX3_line_232 : decode cX3_line 232 = .ok (.laload, 1) := dk_47 (dk_at dksX3_line_9 18 rfl rfl)
theorem dX3_line_233 : decode cX3_line 233 = .ok (.lcmp, 1) := dk_148 (dk_at dksX3_line_9 19 rfl rfl)
theorem dX3_line_234 : decode cX3_line 234 = .ok (.ifCond .ne 7, 3) := dk_154 0 7 (dk_at dksX3_line_9 20 rfl rfl)
theorem dX3_line_237 : decode cX3_line 237 = .ok (.iconst 1, 1) := dk_4 (dk_at dksX3_line_9 23 rfl rfl)
theorem dX3_line_238 : decode cX3_line 238 = .ok (.goto 4, 3) := dk_167 0 4 (dk_at dksX3_line_10 0 rfl rfl)
theorem dX3_line_241 : decode cX3_line 241 = .ok (.iconst 0, 1) := dk_3 (dk_at dksX3_line_10 3 rfl rfl)
theorem dX3_line_242 : decode cX3_line 242 = .ok (.ireturn, 1) := dk_172 (dk_at dksX3_line_10 4 rfl rfl)
abbrev cX3_node : ByteArray := prog_12_method_64_code
def yX3_node : MethodName := ⟨RX3, "node", "(II)I"⟩
def dkwX3_node_9 : List UInt8 := [153, 0, 7, 4, 167, 0, 4, 5, 172, 42, 182, 1, 4, 42, 180, 0, 47, 27, 46, 172]
abbrev dktX3_node_9 : List UInt8 := dkwX3_node_9 ++ []
def dkwX3_node_8 : List UInt8 := [182, 1, 16, 27, 184, 0, 183, 153, 0, 7, 3, 167, 0, 20, 42, 4, 182, 1, 16, 27, 184, 0, 183]
abbrev dktX3_node_8 : List UInt8 := dkwX3_node_8 ++ dktX3_node_9
def dkwX3_node_7 : List UInt8 := [167, 0, 19, 42, 180, 0, 227, 27, 184, 0, 183, 153, 0, 7, 4, 167, 0, 4, 5, 172, 42, 3]
abbrev dktX3_node_7 : List UInt8 := dkwX3_node_7 ++ dktX3_node_8
def dkwX3_node_6 : List UInt8 := [29, 172, 42, 27, 182, 0, 206, 172, 42, 182, 1, 13, 42, 180, 0, 224, 27, 184, 0, 183, 153, 0, 7, 3]
abbrev dktX3_node_6 : List UInt8 := dkwX3_node_6 ++ dktX3_node_7
def dkwX3_node_5 : List UInt8 := [170, 0, 0, 0, 0, 108, 0, 0, 0, 0, 0, 0, 0, 3, 0, 0, 0, 30, 0, 0, 0, 32, 0, 0, 0, 38, 0, 0, 0, 74]
abbrev dktX3_node_5 : List UInt8 := dkwX3_node_5 ++ dktX3_node_6
def dkwX3_node_4 : List UInt8 := [167, 255, 219, 28]
abbrev dktX3_node_4 : List UInt8 := dkwX3_node_4 ++ dktX3_node_5
def dkwX3_node_3 : List UInt8 := [159, 0, 18, 42, 27, 21, 4, 182, 0, 203, 2, 159, 0, 7, 4, 167, 0, 4, 3, 96, 62, 132, 4, 1]
abbrev dktX3_node_3 : List UInt8 := dkwX3_node_3 ++ dktX3_node_4
def dkwX3_node_2 : List UInt8 := [153, 0, 5, 3, 172, 3, 62, 3, 54, 4, 21, 4, 42, 182, 0, 181, 162, 0, 34, 29, 21, 4, 27]
abbrev dktX3_node_2 : List UInt8 := dkwX3_node_2 ++ dktX3_node_3
def dkwX3_node_1 : List UInt8 := [154, 0, 26, 42, 28, 3, 7, 184, 0, 111, 154, 0, 7, 4, 167, 0, 4, 3, 5, 4, 182, 0, 159]
abbrev dktX3_node_1 : List UInt8 := dkwX3_node_1 ++ dktX3_node_2
def dkwX3_node_0 : List UInt8 := [42, 3, 181, 0, 72, 42, 42, 27, 182, 0, 245, 154, 0, 7, 4, 167, 0, 4, 3, 4, 3, 182, 0, 159]
abbrev dktX3_node_0 : List UInt8 := dkwX3_node_0 ++ dktX3_node_1
theorem dksX3_node_0 : cX3_node.data.toList.drop 0 = dktX3_node_0 := by decide +kernel
theorem dksX3_node_1 : cX3_node.data.toList.drop 24 = dktX3_node_1 := dk_seg dksX3_node_0 24 rfl rfl
theorem dksX3_node_2 : cX3_node.data.toList.drop 47 = dktX3_node_2 := dk_seg dksX3_node_1 23 rfl rfl
theorem dksX3_node_3 : cX3_node.data.toList.drop 70 = dktX3_node_3 := dk_seg dksX3_node_2 23 rfl rfl
theorem dksX3_node_4 : cX3_node.data.toList.drop 94 = dktX3_node_4 := dk_seg dksX3_node_3 24 rfl rfl
theorem dksX3_node_5 : cX3_node.data.toList.drop 98 = dktX3_node_5 := dk_seg dksX3_node_4 4 rfl rfl
theorem dksX3_node_6 : cX3_node.data.toList.drop 128 = dktX3_node_6 := dk_seg dksX3_node_5 30 rfl rfl
theorem dksX3_node_7 : cX3_node.data.toList.drop 152 = dktX3_node_7 := dk_seg dksX3_node_6 24 rfl rfl
theorem dksX3_node_8 : cX3_node.data.toList.drop 174 = dktX3_node_8 := dk_seg dksX3_node_7 22 rfl rfl
theorem dksX3_node_9 : cX3_node.data.toList.drop 197 = dktX3_node_9 := dk_seg dksX3_node_8 23 rfl rfl
theorem dX3_node_0 : decode cX3_node 0 = .ok (.aload_n 0, 1) := dk_42 (dk_at dksX3_node_0 0 rfl rfl)
theorem dX3_node_1 : decode cX3_node 1 = .ok (.iconst 0, 1) := dk_3 (dk_at dksX3_node_0 1 rfl rfl)
theorem dX3_node_2 : decode cX3_node 2 = .ok (.putfield 72, 3) := dk_181 0 72 (dk_at dksX3_node_0 2 rfl rfl)
theorem dX3_node_5 : decode cX3_node 5 = .ok (.aload_n 0, 1) := dk_42 (dk_at dksX3_node_0 5 rfl rfl)
theorem dX3_node_6 : decode cX3_node 6 = .ok (.aload_n 0, 1) := dk_42 (dk_at dksX3_node_0 6 rfl rfl)
theorem dX3_node_7 : decode cX3_node 7 = .ok (.iload_n 1, 1) := dk_27 (dk_at dksX3_node_0 7 rfl rfl)
theorem dX3_node_8 : decode cX3_node 8 = .ok (.invokevirtual 245, 3) := dk_182 0 245 (dk_at dksX3_node_0 8 rfl rfl)
theorem dX3_node_11 : decode cX3_node 11 = .ok (.ifCond .ne 7, 3) := dk_154 0 7 (dk_at dksX3_node_0 11 rfl rfl)
theorem dX3_node_14 : decode cX3_node 14 = .ok (.iconst 1, 1) := dk_4 (dk_at dksX3_node_0 14 rfl rfl)
theorem dX3_node_15 : decode cX3_node 15 = .ok (.goto 4, 3) := dk_167 0 4 (dk_at dksX3_node_0 15 rfl rfl)
theorem dX3_node_18 : decode cX3_node 18 = .ok (.iconst 0, 1) := dk_3 (dk_at dksX3_node_0 18 rfl rfl)
theorem dX3_node_19 : decode cX3_node 19 = .ok (.iconst 1, 1) := dk_4 (dk_at dksX3_node_0 19 rfl rfl)
theorem dX3_node_20 : decode cX3_node 20 = .ok (.iconst 0, 1) := dk_3 (dk_at dksX3_node_0 20 rfl rfl)
theorem dX3_node_21 : decode cX3_node 21 = .ok (.invokevirtual 159, 3) := dk_182 0 159 (dk_at dksX3_node_0 21 rfl rfl)
theorem dX3_node_24 : decode cX3_node 24 = .ok (.ifCond .ne 26, 3) := dk_154 0 26 (dk_at dksX3_node_1 0 rfl rfl)
theorem dX3_node_27 : decode cX3_node 27 = .ok (.aload_n 0, 1) := dk_42 (dk_at dksX3_node_1 3 rfl rfl)
theorem dX3_node_28 : decode cX3_node 28 = .ok (.iload_n 2, 1) := dk_28 (dk_at dksX3_node_1 4 rfl rfl)
theorem dX3_node_29 : decode cX3_node 29 = .ok (.iconst 0, 1) := dk_3 (dk_at dksX3_node_1 5 rfl rfl)
theorem dX3_node_30 : decode cX3_node 30 = .ok (.iconst 4, 1) := dk_7 (dk_at dksX3_node_1 6 rfl rfl)
theorem dX3_node_31 : decode cX3_node 31 = .ok (.invokestatic 111, 3) := dk_184 0 111 (dk_at dksX3_node_1 7 rfl rfl)
theorem dX3_node_34 : decode cX3_node 34 = .ok (.ifCond .ne 7, 3) := dk_154 0 7 (dk_at dksX3_node_1 10 rfl rfl)
theorem dX3_node_37 : decode cX3_node 37 = .ok (.iconst 1, 1) := dk_4 (dk_at dksX3_node_1 13 rfl rfl)
theorem dX3_node_38 : decode cX3_node 38 = .ok (.goto 4, 3) := dk_167 0 4 (dk_at dksX3_node_1 14 rfl rfl)
theorem dX3_node_41 : decode cX3_node 41 = .ok (.iconst 0, 1) := dk_3 (dk_at dksX3_node_1 17 rfl rfl)
theorem dX3_node_42 : decode cX3_node 42 = .ok (.iconst 2, 1) := dk_5 (dk_at dksX3_node_1 18 rfl rfl)
theorem dX3_node_43 : decode cX3_node 43 = .ok (.iconst 1, 1) := dk_4 (dk_at dksX3_node_1 19 rfl rfl)
theorem dX3_node_44 : decode cX3_node 44 = .ok (.invokevirtual 159, 3) := dk_182 0 159 (dk_at dksX3_node_1 20 rfl rfl)
theorem dX3_node_47 : decode cX3_node 47 = .ok (.ifCond .eq 5, 3) := dk_153 0 5 (dk_at dksX3_node_2 0 rfl rfl)
theorem dX3_node_50 : decode cX3_node 50 = .ok (.iconst 0, 1) := dk_3 (dk_at dksX3_node_2 3 rfl rfl)
theorem dX3_node_51 : decode cX3_node 51 = .ok (.ireturn, 1) := dk_172 (dk_at dksX3_node_2 4 rfl rfl)
theorem dX3_node_52 : decode cX3_node 52 = .ok (.iconst 0, 1) := dk_3 (dk_at dksX3_node_2 5 rfl rfl)
theorem dX3_node_53 : decode cX3_node 53 = .ok (.istore_n 3, 1) := dk_62 (dk_at dksX3_node_2 6 rfl rfl)
theorem dX3_node_54 : decode cX3_node 54 = .ok (.iconst 0, 1) := dk_3 (dk_at dksX3_node_2 7 rfl rfl)
theorem dX3_node_55 : decode cX3_node 55 = .ok (.istore 4, 2) := dk_54 4 (dk_at dksX3_node_2 8 rfl rfl)
theorem dX3_node_57 : decode cX3_node 57 = .ok (.iload 4, 2) := dk_21 4 (dk_at dksX3_node_2 10 rfl rfl)
theorem dX3_node_59 : decode cX3_node 59 = .ok (.aload_n 0, 1) := dk_42 (dk_at dksX3_node_2 12 rfl rfl)
theorem dX3_node_60 : decode cX3_node 60 = .ok (.invokevirtual 181, 3) := dk_182 0 181 (dk_at dksX3_node_2 13 rfl rfl)
theorem dX3_node_63 : decode cX3_node 63 = .ok (.if_icmp .ge 34, 3) := dk_162 0 34 (dk_at dksX3_node_2 16 rfl rfl)
theorem dX3_node_66 : decode cX3_node 66 = .ok (.iload_n 3, 1) := dk_29 (dk_at dksX3_node_2 19 rfl rfl)
theorem dX3_node_67 : decode cX3_node 67 = .ok (.iload 4, 2) := dk_21 4 (dk_at dksX3_node_2 20 rfl rfl)
theorem dX3_node_69 : decode cX3_node 69 = .ok (.iload_n 1, 1) := dk_27 (dk_at dksX3_node_2 22 rfl rfl)
theorem dX3_node_70 : decode cX3_node 70 = .ok (.if_icmp .eq 18, 3) := dk_159 0 18 (dk_at dksX3_node_3 0 rfl rfl)
theorem dX3_node_73 : decode cX3_node 73 = .ok (.aload_n 0, 1) := dk_42 (dk_at dksX3_node_3 3 rfl rfl)
theorem dX3_node_74 : decode cX3_node 74 = .ok (.iload_n 1, 1) := dk_27 (dk_at dksX3_node_3 4 rfl rfl)
theorem dX3_node_75 : decode cX3_node 75 = .ok (.iload 4, 2) := dk_21 4 (dk_at dksX3_node_3 5 rfl rfl)
theorem dX3_node_77 : decode cX3_node 77 = .ok (.invokevirtual 203, 3) := dk_182 0 203 (dk_at dksX3_node_3 7 rfl rfl)
theorem dX3_node_80 : decode cX3_node 80 = .ok (.iconst (-1), 1) := dk_2 (dk_at dksX3_node_3 10 rfl rfl)
theorem dX3_node_81 : decode cX3_node 81 = .ok (.if_icmp .eq 7, 3) := dk_159 0 7 (dk_at dksX3_node_3 11 rfl rfl)
theorem dX3_node_84 : decode cX3_node 84 = .ok (.iconst 1, 1) := dk_4 (dk_at dksX3_node_3 14 rfl rfl)
theorem dX3_node_85 : decode cX3_node 85 = .ok (.goto 4, 3) := dk_167 0 4 (dk_at dksX3_node_3 15 rfl rfl)
theorem dX3_node_88 : decode cX3_node 88 = .ok (.iconst 0, 1) := dk_3 (dk_at dksX3_node_3 18 rfl rfl)
theorem dX3_node_89 : decode cX3_node 89 = .ok (.iadd, 1) := dk_96 (dk_at dksX3_node_3 19 rfl rfl)
theorem dX3_node_90 : decode cX3_node 90 = .ok (.istore_n 3, 1) := dk_62 (dk_at dksX3_node_3 20 rfl rfl)
theorem dX3_node_91 : decode cX3_node 91 = .ok (.iinc 4 1, 3) := dk_132 4 1 (dk_at dksX3_node_3 21 rfl rfl)
theorem dX3_node_94 : decode cX3_node 94 = .ok (.goto (-37), 3) := dk_167 255 219 (dk_at dksX3_node_4 0 rfl rfl)
theorem dX3_node_97 : decode cX3_node 97 = .ok (.iload_n 2, 1) := dk_28 (dk_at dksX3_node_4 3 rfl rfl)
theorem dX3_node_98 : decode cX3_node 98 = .ok (.tableswitch 108 0 3 #[30, 32, 38, 74], 30) := by decide +kernel
theorem dX3_node_128 : decode cX3_node 128 = .ok (.iload_n 3, 1) := dk_29 (dk_at dksX3_node_6 0 rfl rfl)
theorem dX3_node_129 : decode cX3_node 129 = .ok (.ireturn, 1) := dk_172 (dk_at dksX3_node_6 1 rfl rfl)
theorem dX3_node_130 : decode cX3_node 130 = .ok (.aload_n 0, 1) := dk_42 (dk_at dksX3_node_6 2 rfl rfl)
theorem dX3_node_131 : decode cX3_node 131 = .ok (.iload_n 1, 1) := dk_27 (dk_at dksX3_node_6 3 rfl rfl)
theorem dX3_node_132 : decode cX3_node 132 = .ok (.invokevirtual 206, 3) := dk_182 0 206 (dk_at dksX3_node_6 4 rfl rfl)
theorem dX3_node_135 : decode cX3_node 135 = .ok (.ireturn, 1) := dk_172 (dk_at dksX3_node_6 7 rfl rfl)
theorem dX3_node_136 : decode cX3_node 136 = .ok (.aload_n 0, 1) := dk_42 (dk_at dksX3_node_6 8 rfl rfl)
theorem dX3_node_137 : decode cX3_node 137 = .ok (.invokevirtual 269, 3) := dk_182 1 13 (dk_at dksX3_node_6 9 rfl rfl)
theorem dX3_node_140 : decode cX3_node 140 = .ok (.aload_n 0, 1) := dk_42 (dk_at dksX3_node_6 12 rfl rfl)
theorem dX3_node_141 : decode cX3_node 141 = .ok (.getfield 224, 3) := dk_180 0 224 (dk_at dksX3_node_6 13 rfl rfl)
theorem dX3_node_144 : decode cX3_node 144 = .ok (.iload_n 1, 1) := dk_27 (dk_at dksX3_node_6 16 rfl rfl)
theorem dX3_node_145 : decode cX3_node 145 = .ok (.invokestatic 183, 3) := dk_184 0 183 (dk_at dksX3_node_6 17 rfl rfl)
theorem dX3_node_148 : decode cX3_node 148 = .ok (.ifCond .eq 7, 3) := dk_153 0 7 (dk_at dksX3_node_6 20 rfl rfl)
theorem dX3_node_151 : decode cX3_node 151 = .ok (.iconst 0, 1) := dk_3 (dk_at dksX3_node_6 23 rfl rfl)
theorem dX3_node_152 : decode cX3_node 152 = .ok (.goto 19, 3) := dk_167 0 19 (dk_at dksX3_node_7 0 rfl rfl)
theorem dX3_node_155 : decode cX3_node 155 = .ok (.aload_n 0, 1) := dk_42 (dk_at dksX3_node_7 3 rfl rfl)
theorem dX3_node_156 : decode cX3_node 156 = .ok (.getfield 227, 3) := dk_180 0 227 (dk_at dksX3_node_7 4 rfl rfl)
theorem dX3_node_159 : decode cX3_node 159 = .ok (.iload_n 1, 1) := dk_27 (dk_at dksX3_node_7 7 rfl rfl)
theorem dX3_node_160 : decode cX3_node 160 = .ok (.invokestatic 183, 3) := dk_184 0 183 (dk_at dksX3_node_7 8 rfl rfl)
theorem dX3_node_163 : decode cX3_node 163 = .ok (.ifCond .eq 7, 3) := dk_153 0 7 (dk_at dksX3_node_7 11 rfl rfl)
theorem dX3_node_166 : decode cX3_node 166 = .ok (.iconst 1, 1) := dk_4 (dk_at dksX3_node_7 14 rfl rfl)
theorem dX3_node_167 : decode cX3_node 167 = .ok (.goto 4, 3) := dk_167 0 4 (dk_at dksX3_node_7 15 rfl rfl)
theorem dX3_node_170 : decode cX3_node 170 = .ok (.iconst 2, 1) := dk_5 (dk_at dksX3_node_7 18 rfl rfl)
theorem dX3_node_171 : decode cX3_node 171 = .ok (.ireturn, 1) := dk_172 (dk_at dksX3_node_7 19 rfl rfl)
theorem dX3_node_172 : decode cX3_node 172 = .ok (.aload_n 0, 1) := dk_42 (dk_at dksX3_node_7 20 rfl rfl)
theorem dX3_node_173 : decode cX3_node 173 = .ok (.iconst 0, 1) := dk_3 (dk_at dksX3_node_7 21 rfl rfl)
theorem dX3_node_174 : decode cX3_node 174 = .ok (.invokevirtual 272, 3) := dk_182 1 16 (dk_at dksX3_node_8 0 rfl rfl)
theorem dX3_node_177 : decode cX3_node 177 = .ok (.iload_n 1, 1) := dk_27 (dk_at dksX3_node_8 3 rfl rfl)
theorem dX3_node_178 : decode cX3_node 178 = .ok (.invokestatic 183, 3) := dk_184 0 183 (dk_at dksX3_node_8 4 rfl rfl)
theorem dX3_node_181 : decode cX3_node 181 = .ok (.ifCond .eq 7, 3) := dk_153 0 7 (dk_at dksX3_node_8 7 rfl rfl)
theorem dX3_node_184 : decode cX3_node 184 = .ok (.iconst 0, 1) := dk_3 (dk_at dksX3_node_8 10 rfl rfl)
theorem dX3_node_185 : decode cX3_node 185 = .ok (.goto 20, 3) := dk_167 0 20 (dk_at dksX3_node_8 11 rfl rfl)
theorem dX3_node_188 : decode cX3_node 188 = .ok (.aload_n 0, 1) := dk_42 (dk_at dksX3_node_8 14 rfl rfl)
theorem dX3_node_189 : decode cX3_node 189 = .ok (.iconst 1, 1) := dk_4 (dk_at dksX3_node_8 15 rfl rfl)
theorem dX3_node_190 : decode cX3_node 190 = .ok (.invokevirtual 272, 3) := dk_182 1 16 (dk_at dksX3_node_8 16 rfl rfl)
theorem dX3_node_193 : decode cX3_node 193 = .ok (.iload_n 1, 1) := dk_27 (dk_at dksX3_node_8 19 rfl rfl)
theorem dX3_node_194 : decode cX3_node 194 = .ok (.invokestatic 183, 3) := dk_184 0 183 (dk_at dksX3_node_8 20 rfl rfl)
theorem dX3_node_197 : decode cX3_node 197 = .ok (.ifCond .eq 7, 3) := dk_153 0 7 (dk_at dksX3_node_9 0 rfl rfl)
theorem dX3_node_200 : decode cX3_node 200 = .ok (.iconst 1, 1) := dk_4 (dk_at dksX3_node_9 3 rfl rfl)
theorem dX3_node_201 : decode cX3_node 201 = .ok (.goto 4, 3) := dk_167 0 4 (dk_at dksX3_node_9 4 rfl rfl)
theorem dX3_node_204 : decode cX3_node 204 = .ok (.iconst 2, 1) := dk_5 (dk_at dksX3_node_9 7 rfl rfl)
theorem dX3_node_205 : decode cX3_node 205 = .ok (.ireturn, 1) := dk_172 (dk_at dksX3_node_9 8 rfl rfl)
theorem dX3_node_206 : decode cX3_node 206 = .ok (.aload_n 0, 1) := dk_42 (dk_at dksX3_node_9 9 rfl rfl)
theorem dX3_node_207 : decode cX3_node 207 = .ok (.invokevirtual 260, 3) := dk_182 1 4 (dk_at dksX3_node_9 10 rfl rfl)
theorem dX3_node_210 : decode cX3_node 210 = .ok (.aload_n 0, 1) := dk_42 (dk_at dksX3_node_9 13 rfl rfl)
theorem dX3_node_211 : decode cX3_node 211 = .ok (.getfield 47, 3) := dk_180 0 47 (dk_at dksX3_node_9 14 rfl rfl)
theorem dX3_node_214 : decode cX3_node 214 = .ok (.iload_n 1, 1) := dk_27 (dk_at dksX3_node_9 17 rfl rfl)
theorem dX3_node_215 : decode cX3_node 215 = .ok (.iaload, 1) := dk_46 (dk_at dksX3_node_9 18 rfl rfl)
theorem dX3_node_216 : decode cX3_node 216 = .ok (.ireturn, 1) := dk_172 (dk_at dksX3_node_9 19 rfl rfl)
abbrev cX3_labels : ByteArray := prog_12_method_45_code
def yX3_labels : MethodName := ⟨RX3, "labels", "()V"⟩
def dkwX3_labels_3 : List UInt8 := [180, 0, 227, 42, 180, 0, 224, 2, 130, 126, 181, 0, 227, 177]
abbrev dktX3_labels_3 : List UInt8 := dkwX3_labels_3 ++ []
def dkwX3_labels_2 : List UInt8 := [182, 0, 206, 2, 160, 0, 11, 42, 4, 27, 120, 27, 182, 0, 230, 132, 1, 1, 167, 255, 228, 42, 89]
abbrev dktX3_labels_2 : List UInt8 := dkwX3_labels_2 ++ dktX3_labels_3
def dkwX3_labels_1 : List UInt8 := [42, 3, 181, 0, 224, 42, 3, 181, 0, 227, 3, 60, 27, 42, 182, 0, 181, 162, 0, 26, 42, 27]
abbrev dktX3_labels_1 : List UInt8 := dkwX3_labels_1 ++ dktX3_labels_2
def dkwX3_labels_0 : List UInt8 := [3, 60, 27, 42, 180, 0, 51, 190, 162, 0, 16, 42, 180, 0, 51, 27, 3, 84, 132, 1, 1, 167, 255, 237]
abbrev dktX3_labels_0 : List UInt8 := dkwX3_labels_0 ++ dktX3_labels_1
theorem dksX3_labels_0 : cX3_labels.data.toList.drop 0 = dktX3_labels_0 := by decide +kernel
theorem dksX3_labels_1 : cX3_labels.data.toList.drop 24 = dktX3_labels_1 := dk_seg dksX3_labels_0 24 rfl rfl
theorem dksX3_labels_2 : cX3_labels.data.toList.drop 46 = dktX3_labels_2 := dk_seg dksX3_labels_1 22 rfl rfl
theorem dksX3_labels_3 : cX3_labels.data.toList.drop 69 = dktX3_labels_3 := dk_seg dksX3_labels_2 23 rfl rfl
theorem dX3_labels_0 : decode cX3_labels 0 = .ok (.iconst 0, 1) := dk_3 (dk_at dksX3_labels_0 0 rfl rfl)
theorem dX3_labels_1 : decode cX3_labels 1 = .ok (.istore_n 1, 1) := dk_60 (dk_at dksX3_labels_0 1 rfl rfl)
theorem dX3_labels_2 : decode cX3_labels 2 = .ok (.iload_n 1, 1) := dk_27 (dk_at dksX3_labels_0 2 rfl rfl)
theorem dX3_labels_3 : decode cX3_labels 3 = .ok (.aload_n 0, 1) := dk_42 (dk_at dksX3_labels_0 3 rfl rfl)
theorem dX3_labels_4 : decode cX3_labels 4 = .ok (.getfield 51, 3) := dk_180 0 51 (dk_at dksX3_labels_0 4 rfl rfl)
theorem dX3_labels_7 : decode cX3_labels 7 = .ok (.arraylength, 1) := dk_190 (dk_at dksX3_labels_0 7 rfl rfl)
theorem dX3_labels_8 : decode cX3_labels 8 = .ok (.if_icmp .ge 16, 3) := dk_162 0 16 (dk_at dksX3_labels_0 8 rfl rfl)
theorem dX3_labels_11 : decode cX3_labels 11 = .ok (.aload_n 0, 1) := dk_42 (dk_at dksX3_labels_0 11 rfl rfl)
theorem dX3_labels_12 : decode cX3_labels 12 = .ok (.getfield 51, 3) := dk_180 0 51 (dk_at dksX3_labels_0 12 rfl rfl)
theorem dX3_labels_15 : decode cX3_labels 15 = .ok (.iload_n 1, 1) := dk_27 (dk_at dksX3_labels_0 15 rfl rfl)
theorem dX3_labels_16 : decode cX3_labels 16 = .ok (.iconst 0, 1) := dk_3 (dk_at dksX3_labels_0 16 rfl rfl)
theorem dX3_labels_17 : decode cX3_labels 17 = .ok (.bastore, 1) := dk_84 (dk_at dksX3_labels_0 17 rfl rfl)
theorem dX3_labels_18 : decode cX3_labels 18 = .ok (.iinc 1 1, 3) := dk_132 1 1 (dk_at dksX3_labels_0 18 rfl rfl)
theorem dX3_labels_21 : decode cX3_labels 21 = .ok (.goto (-19), 3) := dk_167 255 237 (dk_at dksX3_labels_0 21 rfl rfl)
theorem dX3_labels_24 : decode cX3_labels 24 = .ok (.aload_n 0, 1) := dk_42 (dk_at dksX3_labels_1 0 rfl rfl)
theorem dX3_labels_25 : decode cX3_labels 25 = .ok (.iconst 0, 1) := dk_3 (dk_at dksX3_labels_1 1 rfl rfl)
theorem dX3_labels_26 : decode cX3_labels 26 = .ok (.putfield 224, 3) := dk_181 0 224 (dk_at dksX3_labels_1 2 rfl rfl)
theorem dX3_labels_29 : decode cX3_labels 29 = .ok (.aload_n 0, 1) := dk_42 (dk_at dksX3_labels_1 5 rfl rfl)
theorem dX3_labels_30 : decode cX3_labels 30 = .ok (.iconst 0, 1) := dk_3 (dk_at dksX3_labels_1 6 rfl rfl)
theorem dX3_labels_31 : decode cX3_labels 31 = .ok (.putfield 227, 3) := dk_181 0 227 (dk_at dksX3_labels_1 7 rfl rfl)
theorem dX3_labels_34 : decode cX3_labels 34 = .ok (.iconst 0, 1) := dk_3 (dk_at dksX3_labels_1 10 rfl rfl)
theorem dX3_labels_35 : decode cX3_labels 35 = .ok (.istore_n 1, 1) := dk_60 (dk_at dksX3_labels_1 11 rfl rfl)
theorem dX3_labels_36 : decode cX3_labels 36 = .ok (.iload_n 1, 1) := dk_27 (dk_at dksX3_labels_1 12 rfl rfl)
theorem dX3_labels_37 : decode cX3_labels 37 = .ok (.aload_n 0, 1) := dk_42 (dk_at dksX3_labels_1 13 rfl rfl)
theorem dX3_labels_38 : decode cX3_labels 38 = .ok (.invokevirtual 181, 3) := dk_182 0 181 (dk_at dksX3_labels_1 14 rfl rfl)
theorem dX3_labels_41 : decode cX3_labels 41 = .ok (.if_icmp .ge 26, 3) := dk_162 0 26 (dk_at dksX3_labels_1 17 rfl rfl)
theorem dX3_labels_44 : decode cX3_labels 44 = .ok (.aload_n 0, 1) := dk_42 (dk_at dksX3_labels_1 20 rfl rfl)
theorem dX3_labels_45 : decode cX3_labels 45 = .ok (.iload_n 1, 1) := dk_27 (dk_at dksX3_labels_1 21 rfl rfl)
theorem dX3_labels_46 : decode cX3_labels 46 = .ok (.invokevirtual 206, 3) := dk_182 0 206 (dk_at dksX3_labels_2 0 rfl rfl)
theorem dX3_labels_49 : decode cX3_labels 49 = .ok (.iconst (-1), 1) := dk_2 (dk_at dksX3_labels_2 3 rfl rfl)
theorem dX3_labels_50 : decode cX3_labels 50 = .ok (.if_icmp .ne 11, 3) := dk_160 0 11 (dk_at dksX3_labels_2 4 rfl rfl)
theorem dX3_labels_53 : decode cX3_labels 53 = .ok (.aload_n 0, 1) := dk_42 (dk_at dksX3_labels_2 7 rfl rfl)
theorem dX3_labels_54 : decode cX3_labels 54 = .ok (.iconst 1, 1) := dk_4 (dk_at dksX3_labels_2 8 rfl rfl)
theorem dX3_labels_55 : decode cX3_labels 55 = .ok (.iload_n 1, 1) := dk_27 (dk_at dksX3_labels_2 9 rfl rfl)
theorem dX3_labels_56 : decode cX3_labels 56 = .ok (.ishl, 1) := dk_120 (dk_at dksX3_labels_2 10 rfl rfl)
theorem dX3_labels_57 : decode cX3_labels 57 = .ok (.iload_n 1, 1) := dk_27 (dk_at dksX3_labels_2 11 rfl rfl)
theorem dX3_labels_58 : decode cX3_labels 58 = .ok (.invokevirtual 230, 3) := dk_182 0 230 (dk_at dksX3_labels_2 12 rfl rfl)
theorem dX3_labels_61 : decode cX3_labels 61 = .ok (.iinc 1 1, 3) := dk_132 1 1 (dk_at dksX3_labels_2 15 rfl rfl)
theorem dX3_labels_64 : decode cX3_labels 64 = .ok (.goto (-28), 3) := dk_167 255 228 (dk_at dksX3_labels_2 18 rfl rfl)
theorem dX3_labels_67 : decode cX3_labels 67 = .ok (.aload_n 0, 1) := dk_42 (dk_at dksX3_labels_2 21 rfl rfl)
theorem dX3_labels_68 : decode cX3_labels 68 = .ok (.dup, 1) := dk_89 (dk_at dksX3_labels_2 22 rfl rfl)
theorem dX3_labels_69 : decode cX3_labels 69 = .ok (.getfield 227, 3) := dk_180 0 227 (dk_at dksX3_labels_3 0 rfl rfl)
theorem dX3_labels_72 : decode cX3_labels 72 = .ok (.aload_n 0, 1) := dk_42 (dk_at dksX3_labels_3 3 rfl rfl)
theorem dX3_labels_73 : decode cX3_labels 73 = .ok (.getfield 224, 3) := dk_180 0 224 (dk_at dksX3_labels_3 4 rfl rfl)
theorem dX3_labels_76 : decode cX3_labels 76 = .ok (.iconst (-1), 1) := dk_2 (dk_at dksX3_labels_3 7 rfl rfl)
theorem dX3_labels_77 : decode cX3_labels 77 = .ok (.ixor, 1) := dk_130 (dk_at dksX3_labels_3 8 rfl rfl)
theorem dX3_labels_78 : decode cX3_labels 78 = .ok (.iand, 1) := dk_126 (dk_at dksX3_labels_3 9 rfl rfl)
theorem dX3_labels_79 : decode cX3_labels 79 = .ok (.putfield 227, 3) := dk_181 0 227 (dk_at dksX3_labels_3 10 rfl rfl)
theorem dX3_labels_82 : decode cX3_labels 82 = .ok (.return_, 1) := dk_177 (dk_at dksX3_labels_3 13 rfl rfl)
abbrev cX3_goes : ByteArray := prog_12_method_44_code
def yX3_goes : MethodName := ⟨RX3, "goes", "(II)V"⟩
def dkwX3_goes_6 : List UInt8 := [132, 4, 1, 167, 255, 190, 177]
abbrev dktX3_goes_6 : List UInt8 := dkwX3_goes_6 ++ []
def dkwX3_goes_5 : List UInt8 := [167, 0, 4, 3, 29, 160, 0, 6, 167, 0, 15, 42, 27, 4, 21, 4, 120, 128, 21, 4, 182, 0, 230]
abbrev dktX3_goes_5 : List UInt8 := dkwX3_goes_5 ++ dktX3_goes_6
def dkwX3_goes_4 : List UInt8 := [42, 28, 21, 4, 182, 0, 203, 2, 159, 0, 37, 42, 28, 182, 0, 206, 21, 4, 160, 0, 7, 4]
abbrev dktX3_goes_4 : List UInt8 := dkwX3_goes_4 ++ dktX3_goes_5
def dkwX3_goes_3 : List UInt8 := [181, 0, 227, 3, 54, 4, 21, 4, 42, 182, 0, 181, 162, 0, 63, 27, 21, 4, 184, 0, 183, 154, 0, 48]
abbrev dktX3_goes_3 : List UInt8 := dkwX3_goes_3 ++ dktX3_goes_4
def dkwX3_goes_2 : List UInt8 := [89, 180, 0, 224, 4, 28, 120, 128, 181, 0, 224, 167, 0, 15, 42, 89, 180, 0, 227, 4, 28, 120, 128]
abbrev dktX3_goes_2 : List UInt8 := dkwX3_goes_2 ++ dktX3_goes_3
def dkwX3_goes_1 : List UInt8 := [96, 4, 84, 27, 184, 0, 221, 5, 112, 4, 160, 0, 7, 4, 167, 0, 4, 3, 62, 29, 153, 0, 18, 42]
abbrev dktX3_goes_1 : List UInt8 := dkwX3_goes_1 ++ dktX3_goes_2
def dkwX3_goes_0 : List UInt8 := [42, 180, 0, 51, 16, 12, 27, 104, 28, 96, 51, 153, 0, 4, 177, 42, 180, 0, 51, 16, 12, 27, 104, 28]
abbrev dktX3_goes_0 : List UInt8 := dkwX3_goes_0 ++ dktX3_goes_1
theorem dksX3_goes_0 : cX3_goes.data.toList.drop 0 = dktX3_goes_0 := by decide +kernel
theorem dksX3_goes_1 : cX3_goes.data.toList.drop 24 = dktX3_goes_1 := dk_seg dksX3_goes_0 24 rfl rfl
theorem dksX3_goes_2 : cX3_goes.data.toList.drop 48 = dktX3_goes_2 := dk_seg dksX3_goes_1 24 rfl rfl
theorem dksX3_goes_3 : cX3_goes.data.toList.drop 71 = dktX3_goes_3 := dk_seg dksX3_goes_2 23 rfl rfl
theorem dksX3_goes_4 : cX3_goes.data.toList.drop 95 = dktX3_goes_4 := dk_seg dksX3_goes_3 24 rfl rfl
theorem dksX3_goes_5 : cX3_goes.data.toList.drop 117 = dktX3_goes_5 := dk_seg dksX3_goes_4 22 rfl rfl
theorem dksX3_goes_6 : cX3_goes.data.toList.drop 140 = dktX3_goes_6 := dk_seg dksX3_goes_5 23 rfl rfl
theorem dX3_goes_0 : decode cX3_goes 0 = .ok (.aload_n 0, 1) := dk_42 (dk_at dksX3_goes_0 0 rfl rfl)
theorem dX3_goes_1 : decode cX3_goes 1 = .ok (.getfield 51, 3) := dk_180 0 51 (dk_at dksX3_goes_0 1 rfl rfl)
theorem dX3_goes_4 : decode cX3_goes 4 = .ok (.bipush 12, 2) := dk_16 12 (dk_at dksX3_goes_0 4 rfl rfl)
theorem dX3_goes_6 : decode cX3_goes 6 = .ok (.iload_n 1, 1) := dk_27 (dk_at dksX3_goes_0 6 rfl rfl)
theorem dX3_goes_7 : decode cX3_goes 7 = .ok (.imul, 1) := dk_104 (dk_at dksX3_goes_0 7 rfl rfl)
theorem dX3_goes_8 : decode cX3_goes 8 = .ok (.iload_n 2, 1) := dk_28 (dk_at dksX3_goes_0 8 rfl rfl)
theorem dX3_goes_9 : decode cX3_goes 9 = .ok (.iadd, 1) := dk_96 (dk_at dksX3_goes_0 9 rfl rfl)
theorem dX3_goes_10 : decode cX3_goes 10 = .ok (.baload, 1) := dk_51 (dk_at dksX3_goes_0 10 rfl rfl)
theorem dX3_goes_11 : decode cX3_goes 11 = .ok (.ifCond .eq 4, 3) := dk_153 0 4 (dk_at dksX3_goes_0 11 rfl rfl)
theorem dX3_goes_14 : decode cX3_goes 14 = .ok (.return_, 1) := dk_177 (dk_at dksX3_goes_0 14 rfl rfl)
theorem dX3_goes_15 : decode cX3_goes 15 = .ok (.aload_n 0, 1) := dk_42 (dk_at dksX3_goes_0 15 rfl rfl)
theorem dX3_goes_16 : decode cX3_goes 16 = .ok (.getfield 51, 3) := dk_180 0 51 (dk_at dksX3_goes_0 16 rfl rfl)
theorem dX3_goes_19 : decode cX3_goes 19 = .ok (.bipush 12, 2) := dk_16 12 (dk_at dksX3_goes_0 19 rfl rfl)
theorem dX3_goes_21 : decode cX3_goes 21 = .ok (.iload_n 1, 1) := dk_27 (dk_at dksX3_goes_0 21 rfl rfl)
theorem dX3_goes_22 : decode cX3_goes 22 = .ok (.imul, 1) := dk_104 (dk_at dksX3_goes_0 22 rfl rfl)
theorem dX3_goes_23 : decode cX3_goes 23 = .ok (.iload_n 2, 1) := dk_28 (dk_at dksX3_goes_0 23 rfl rfl)
theorem dX3_goes_24 : decode cX3_goes 24 = .ok (.iadd, 1) := dk_96 (dk_at dksX3_goes_1 0 rfl rfl)
theorem dX3_goes_25 : decode cX3_goes 25 = .ok (.iconst 1, 1) := dk_4 (dk_at dksX3_goes_1 1 rfl rfl)
theorem dX3_goes_26 : decode cX3_goes 26 = .ok (.bastore, 1) := dk_84 (dk_at dksX3_goes_1 2 rfl rfl)
theorem dX3_goes_27 : decode cX3_goes 27 = .ok (.iload_n 1, 1) := dk_27 (dk_at dksX3_goes_1 3 rfl rfl)
theorem dX3_goes_28 : decode cX3_goes 28 = .ok (.invokestatic 221, 3) := dk_184 0 221 (dk_at dksX3_goes_1 4 rfl rfl)
theorem dX3_goes_31 : decode cX3_goes 31 = .ok (.iconst 2, 1) := dk_5 (dk_at dksX3_goes_1 7 rfl rfl)
theorem dX3_goes_32 : decode cX3_goes 32 = .ok (.irem, 1) := dk_112 (dk_at dksX3_goes_1 8 rfl rfl)
theorem dX3_goes_33 : decode cX3_goes 33 = .ok (.iconst 1, 1) := dk_4 (dk_at dksX3_goes_1 9 rfl rfl)
theorem dX3_goes_34 : decode cX3_goes 34 = .ok (.if_icmp .ne 7, 3) := dk_160 0 7 (dk_at dksX3_goes_1 10 rfl rfl)
theorem dX3_goes_37 : decode cX3_goes 37 = .ok (.iconst 1, 1) := dk_4 (dk_at dksX3_goes_1 13 rfl rfl)
theorem dX3_goes_38 : decode cX3_goes 38 = .ok (.goto 4, 3) := dk_167 0 4 (dk_at dksX3_goes_1 14 rfl rfl)
theorem dX3_goes_41 : decode cX3_goes 41 = .ok (.iconst 0, 1) := dk_3 (dk_at dksX3_goes_1 17 rfl rfl)
theorem dX3_goes_42 : decode cX3_goes 42 = .ok (.istore_n 3, 1) := dk_62 (dk_at dksX3_goes_1 18 rfl rfl)
theorem dX3_goes_43 : decode cX3_goes 43 = .ok (.iload_n 3, 1) := dk_29 (dk_at dksX3_goes_1 19 rfl rfl)
theorem dX3_goes_44 : decode cX3_goes 44 = .ok (.ifCond .eq 18, 3) := dk_153 0 18 (dk_at dksX3_goes_1 20 rfl rfl)
theorem dX3_goes_47 : decode cX3_goes 47 = .ok (.aload_n 0, 1) := dk_42 (dk_at dksX3_goes_1 23 rfl rfl)
theorem dX3_goes_48 : decode cX3_goes 48 = .ok (.dup, 1) := dk_89 (dk_at dksX3_goes_2 0 rfl rfl)
theorem dX3_goes_49 : decode cX3_goes 49 = .ok (.getfield 224, 3) := dk_180 0 224 (dk_at dksX3_goes_2 1 rfl rfl)
theorem dX3_goes_52 : decode cX3_goes 52 = .ok (.iconst 1, 1) := dk_4 (dk_at dksX3_goes_2 4 rfl rfl)
theorem dX3_goes_53 : decode cX3_goes 53 = .ok (.iload_n 2, 1) := dk_28 (dk_at dksX3_goes_2 5 rfl rfl)
theorem dX3_goes_54 : decode cX3_goes 54 = .ok (.ishl, 1) := dk_120 (dk_at dksX3_goes_2 6 rfl rfl)
theorem dX3_goes_55 : decode cX3_goes 55 = .ok (.ior, 1) := dk_128 (dk_at dksX3_goes_2 7 rfl rfl)
theorem dX3_goes_56 : decode cX3_goes 56 = .ok (.putfield 224, 3) := dk_181 0 224 (dk_at dksX3_goes_2 8 rfl rfl)
theorem dX3_goes_59 : decode cX3_goes 59 = .ok (.goto 15, 3) := dk_167 0 15 (dk_at dksX3_goes_2 11 rfl rfl)
theorem dX3_goes_62 : decode cX3_goes 62 = .ok (.aload_n 0, 1) := dk_42 (dk_at dksX3_goes_2 14 rfl rfl)
theorem dX3_goes_63 : decode cX3_goes 63 = .ok (.dup, 1) := dk_89 (dk_at dksX3_goes_2 15 rfl rfl)
theorem dX3_goes_64 : decode cX3_goes 64 = .ok (.getfield 227, 3) := dk_180 0 227 (dk_at dksX3_goes_2 16 rfl rfl)
theorem dX3_goes_67 : decode cX3_goes 67 = .ok (.iconst 1, 1) := dk_4 (dk_at dksX3_goes_2 19 rfl rfl)
theorem dX3_goes_68 : decode cX3_goes 68 = .ok (.iload_n 2, 1) := dk_28 (dk_at dksX3_goes_2 20 rfl rfl)
theorem dX3_goes_69 : decode cX3_goes 69 = .ok (.ishl, 1) := dk_120 (dk_at dksX3_goes_2 21 rfl rfl)
theorem dX3_goes_70 : decode cX3_goes 70 = .ok (.ior, 1) := dk_128 (dk_at dksX3_goes_2 22 rfl rfl)
theorem dX3_goes_71 : decode cX3_goes 71 = .ok (.putfield 227, 3) := dk_181 0 227 (dk_at dksX3_goes_3 0 rfl rfl)
theorem dX3_goes_74 : decode cX3_goes 74 = .ok (.iconst 0, 1) := dk_3 (dk_at dksX3_goes_3 3 rfl rfl)
theorem dX3_goes_75 : decode cX3_goes 75 = .ok (.istore 4, 2) := dk_54 4 (dk_at dksX3_goes_3 4 rfl rfl)
theorem dX3_goes_77 : decode cX3_goes 77 = .ok (.iload 4, 2) := dk_21 4 (dk_at dksX3_goes_3 6 rfl rfl)
theorem dX3_goes_79 : decode cX3_goes 79 = .ok (.aload_n 0, 1) := dk_42 (dk_at dksX3_goes_3 8 rfl rfl)
theorem dX3_goes_80 : decode cX3_goes 80 = .ok (.invokevirtual 181, 3) := dk_182 0 181 (dk_at dksX3_goes_3 9 rfl rfl)
theorem dX3_goes_83 : decode cX3_goes 83 = .ok (.if_icmp .ge 63, 3) := dk_162 0 63 (dk_at dksX3_goes_3 12 rfl rfl)
theorem dX3_goes_86 : decode cX3_goes 86 = .ok (.iload_n 1, 1) := dk_27 (dk_at dksX3_goes_3 15 rfl rfl)
theorem dX3_goes_87 : decode cX3_goes 87 = .ok (.iload 4, 2) := dk_21 4 (dk_at dksX3_goes_3 16 rfl rfl)
theorem dX3_goes_89 : decode cX3_goes 89 = .ok (.invokestatic 183, 3) := dk_184 0 183 (dk_at dksX3_goes_3 18 rfl rfl)
theorem dX3_goes_92 : decode cX3_goes 92 = .ok (.ifCond .ne 48, 3) := dk_154 0 48 (dk_at dksX3_goes_3 21 rfl rfl)
theorem dX3_goes_95 : decode cX3_goes 95 = .ok (.aload_n 0, 1) := dk_42 (dk_at dksX3_goes_4 0 rfl rfl)
theorem dX3_goes_96 : decode cX3_goes 96 = .ok (.iload_n 2, 1) := dk_28 (dk_at dksX3_goes_4 1 rfl rfl)
theorem dX3_goes_97 : decode cX3_goes 97 = .ok (.iload 4, 2) := dk_21 4 (dk_at dksX3_goes_4 2 rfl rfl)
theorem dX3_goes_99 : decode cX3_goes 99 = .ok (.invokevirtual 203, 3) := dk_182 0 203 (dk_at dksX3_goes_4 4 rfl rfl)
theorem dX3_goes_102 : decode cX3_goes 102 = .ok (.iconst (-1), 1) := dk_2 (dk_at dksX3_goes_4 7 rfl rfl)
theorem dX3_goes_103 : decode cX3_goes 103 = .ok (.if_icmp .eq 37, 3) := dk_159 0 37 (dk_at dksX3_goes_4 8 rfl rfl)
theorem dX3_goes_106 : decode cX3_goes 106 = .ok (.aload_n 0, 1) := dk_42 (dk_at dksX3_goes_4 11 rfl rfl)
theorem dX3_goes_107 : decode cX3_goes 107 = .ok (.iload_n 2, 1) := dk_28 (dk_at dksX3_goes_4 12 rfl rfl)
theorem dX3_goes_108 : decode cX3_goes 108 = .ok (.invokevirtual 206, 3) := dk_182 0 206 (dk_at dksX3_goes_4 13 rfl rfl)
theorem dX3_goes_111 : decode cX3_goes 111 = .ok (.iload 4, 2) := dk_21 4 (dk_at dksX3_goes_4 16 rfl rfl)
theorem dX3_goes_113 : decode cX3_goes 113 = .ok (.if_icmp .ne 7, 3) := dk_160 0 7 (dk_at dksX3_goes_4 18 rfl rfl)
theorem dX3_goes_116 : decode cX3_goes 116 = .ok (.iconst 1, 1) := dk_4 (dk_at dksX3_goes_4 21 rfl rfl)
theorem dX3_goes_117 : decode cX3_goes 117 = .ok (.goto 4, 3) := dk_167 0 4 (dk_at dksX3_goes_5 0 rfl rfl)
theorem dX3_goes_120 : decode cX3_goes 120 = .ok (.iconst 0, 1) := dk_3 (dk_at dksX3_goes_5 3 rfl rfl)
theorem dX3_goes_121 : decode cX3_goes 121 = .ok (.iload_n 3, 1) := dk_29 (dk_at dksX3_goes_5 4 rfl rfl)
theorem dX3_goes_122 : decode cX3_goes 122 = .ok (.if_icmp .ne 6, 3) := dk_160 0 6 (dk_at dksX3_goes_5 5 rfl rfl)
theorem dX3_goes_125 : decode cX3_goes 125 = .ok (.goto 15, 3) := dk_167 0 15 (dk_at dksX3_goes_5 8 rfl rfl)
theorem dX3_goes_128 : decode cX3_goes 128 = .ok (.aload_n 0, 1) := dk_42 (dk_at dksX3_goes_5 11 rfl rfl)
theorem dX3_goes_129 : decode cX3_goes 129 = .ok (.iload_n 1, 1) := dk_27 (dk_at dksX3_goes_5 12 rfl rfl)
theorem dX3_goes_130 : decode cX3_goes 130 = .ok (.iconst 1, 1) := dk_4 (dk_at dksX3_goes_5 13 rfl rfl)
theorem dX3_goes_131 : decode cX3_goes 131 = .ok (.iload 4, 2) := dk_21 4 (dk_at dksX3_goes_5 14 rfl rfl)
theorem dX3_goes_133 : decode cX3_goes 133 = .ok (.ishl, 1) := dk_120 (dk_at dksX3_goes_5 16 rfl rfl)
theorem dX3_goes_134 : decode cX3_goes 134 = .ok (.ior, 1) := dk_128 (dk_at dksX3_goes_5 17 rfl rfl)
theorem dX3_goes_135 : decode cX3_goes 135 = .ok (.iload 4, 2) := dk_21 4 (dk_at dksX3_goes_5 18 rfl rfl)
theorem dX3_goes_137 : decode cX3_goes 137 = .ok (.invokevirtual 230, 3) := dk_182 0 230 (dk_at dksX3_goes_5 20 rfl rfl)
theorem dX3_goes_140 : decode cX3_goes 140 = .ok (.iinc 4 1, 3) := dk_132 4 1 (dk_at dksX3_goes_6 0 rfl rfl)
theorem dX3_goes_143 : decode cX3_goes 143 = .ok (.goto (-66), 3) := dk_167 255 190 (dk_at dksX3_goes_6 3 rfl rfl)
theorem dX3_goes_146 : decode cX3_goes 146 = .ok (.return_, 1) := dk_177 (dk_at dksX3_goes_6 6 rfl rfl)
abbrev cX3_bits : ByteArray := prog_12_method_30_code
def yX3_bits : MethodName := ⟨RX3, "bits", "(I)I"⟩
def dkwX3_bits_0 : List UInt8 := [3, 60, 26, 61, 28, 153, 0, 15, 132, 1, 1, 28, 28, 4, 100, 126, 61, 167, 255, 243, 27, 172]
abbrev dktX3_bits_0 : List UInt8 := dkwX3_bits_0 ++ []
theorem dksX3_bits_0 : cX3_bits.data.toList.drop 0 = dktX3_bits_0 := by decide +kernel
theorem dX3_bits_0 : decode cX3_bits 0 = .ok (.iconst 0, 1) := dk_3 (dk_at dksX3_bits_0 0 rfl rfl)
theorem dX3_bits_1 : decode cX3_bits 1 = .ok (.istore_n 1, 1) := dk_60 (dk_at dksX3_bits_0 1 rfl rfl)
theorem dX3_bits_2 : decode cX3_bits 2 = .ok (.iload_n 0, 1) := dk_26 (dk_at dksX3_bits_0 2 rfl rfl)
theorem dX3_bits_3 : decode cX3_bits 3 = .ok (.istore_n 2, 1) := dk_61 (dk_at dksX3_bits_0 3 rfl rfl)
theorem dX3_bits_4 : decode cX3_bits 4 = .ok (.iload_n 2, 1) := dk_28 (dk_at dksX3_bits_0 4 rfl rfl)
theorem dX3_bits_5 : decode cX3_bits 5 = .ok (.ifCond .eq 15, 3) := dk_153 0 15 (dk_at dksX3_bits_0 5 rfl rfl)
theorem dX3_bits_8 : decode cX3_bits 8 = .ok (.iinc 1 1, 3) := dk_132 1 1 (dk_at dksX3_bits_0 8 rfl rfl)
theorem dX3_bits_11 : decode cX3_bits 11 = .ok (.iload_n 2, 1) := dk_28 (dk_at dksX3_bits_0 11 rfl rfl)
theorem dX3_bits_12 : decode cX3_bits 12 = .ok (.iload_n 2, 1) := dk_28 (dk_at dksX3_bits_0 12 rfl rfl)
theorem dX3_bits_13 : decode cX3_bits 13 = .ok (.iconst 1, 1) := dk_4 (dk_at dksX3_bits_0 13 rfl rfl)
theorem dX3_bits_14 : decode cX3_bits 14 = .ok (.isub, 1) := dk_100 (dk_at dksX3_bits_0 14 rfl rfl)
theorem dX3_bits_15 : decode cX3_bits 15 = .ok (.iand, 1) := dk_126 (dk_at dksX3_bits_0 15 rfl rfl)
theorem dX3_bits_16 : decode cX3_bits 16 = .ok (.istore_n 2, 1) := dk_61 (dk_at dksX3_bits_0 16 rfl rfl)
theorem dX3_bits_17 : decode cX3_bits 17 = .ok (.goto (-13), 3) := dk_167 255 243 (dk_at dksX3_bits_0 17 rfl rfl)
theorem dX3_bits_20 : decode cX3_bits 20 = .ok (.iload_n 1, 1) := dk_27 (dk_at dksX3_bits_0 20 rfl rfl)
theorem dX3_bits_21 : decode cX3_bits 21 = .ok (.ireturn, 1) := dk_172 (dk_at dksX3_bits_0 21 rfl rfl)
abbrev cX3_setOf : ByteArray := prog_12_method_41_code
def yX3_setOf : MethodName := ⟨RX3, "setOf", "(I)I"⟩
def dkwX3_setOf_1 : List UInt8 := [29, 167, 0, 15, 42, 182, 0, 194, 28, 2, 130, 126, 29, 2, 130, 126, 172]
abbrev dktX3_setOf_1 : List UInt8 := dkwX3_setOf_1 ++ []
def dkwX3_setOf_0 : List UInt8 := [42, 182, 0, 212, 61, 42, 28, 182, 0, 215, 62, 27, 154, 0, 7, 28, 167, 0, 24, 27, 4, 160, 0, 7]
abbrev dktX3_setOf_0 : List UInt8 := dkwX3_setOf_0 ++ dktX3_setOf_1
theorem dksX3_setOf_0 : cX3_setOf.data.toList.drop 0 = dktX3_setOf_0 := by decide +kernel
theorem dksX3_setOf_1 : cX3_setOf.data.toList.drop 24 = dktX3_setOf_1 := dk_seg dksX3_setOf_0 24 rfl rfl
theorem dX3_setOf_0 : decode cX3_setOf 0 = .ok (.aload_n 0, 1) := dk_42 (dk_at dksX3_setOf_0 0 rfl rfl)
theorem dX3_setOf_1 : decode cX3_setOf 1 = .ok (.invokevirtual 212, 3) := dk_182 0 212 (dk_at dksX3_setOf_0 1 rfl rfl)
theorem dX3_setOf_4 : decode cX3_setOf 4 = .ok (.istore_n 2, 1) := dk_61 (dk_at dksX3_setOf_0 4 rfl rfl)
theorem dX3_setOf_5 : decode cX3_setOf 5 = .ok (.aload_n 0, 1) := dk_42 (dk_at dksX3_setOf_0 5 rfl rfl)
theorem dX3_setOf_6 : decode cX3_setOf 6 = .ok (.iload_n 2, 1) := dk_28 (dk_at dksX3_setOf_0 6 rfl rfl)
theorem dX3_setOf_7 : decode cX3_setOf 7 = .ok (.invokevirtual 215, 3) := dk_182 0 215 (dk_at dksX3_setOf_0 7 rfl rfl)
theorem dX3_setOf_10 : decode cX3_setOf 10 = .ok (.istore_n 3, 1) := dk_62 (dk_at dksX3_setOf_0 10 rfl rfl)
theorem dX3_setOf_11 : decode cX3_setOf 11 = .ok (.iload_n 1, 1) := dk_27 (dk_at dksX3_setOf_0 11 rfl rfl)
theorem dX3_setOf_12 : decode cX3_setOf 12 = .ok (.ifCond .ne 7, 3) := dk_154 0 7 (dk_at dksX3_setOf_0 12 rfl rfl)
theorem dX3_setOf_15 : decode cX3_setOf 15 = .ok (.iload_n 2, 1) := dk_28 (dk_at dksX3_setOf_0 15 rfl rfl)
theorem dX3_setOf_16 : decode cX3_setOf 16 = .ok (.goto 24, 3) := dk_167 0 24 (dk_at dksX3_setOf_0 16 rfl rfl)
theorem dX3_setOf_19 : decode cX3_setOf 19 = .ok (.iload_n 1, 1) := dk_27 (dk_at dksX3_setOf_0 19 rfl rfl)
theorem dX3_setOf_20 : decode cX3_setOf 20 = .ok (.iconst 1, 1) := dk_4 (dk_at dksX3_setOf_0 20 rfl rfl)
theorem dX3_setOf_21 : decode cX3_setOf 21 = .ok (.if_icmp .ne 7, 3) := dk_160 0 7 (dk_at dksX3_setOf_0 21 rfl rfl)
theorem dX3_setOf_24 : decode cX3_setOf 24 = .ok (.iload_n 3, 1) := dk_29 (dk_at dksX3_setOf_1 0 rfl rfl)
theorem dX3_setOf_25 : decode cX3_setOf 25 = .ok (.goto 15, 3) := dk_167 0 15 (dk_at dksX3_setOf_1 1 rfl rfl)
theorem dX3_setOf_28 : decode cX3_setOf 28 = .ok (.aload_n 0, 1) := dk_42 (dk_at dksX3_setOf_1 4 rfl rfl)
theorem dX3_setOf_29 : decode cX3_setOf 29 = .ok (.invokevirtual 194, 3) := dk_182 0 194 (dk_at dksX3_setOf_1 5 rfl rfl)
theorem dX3_setOf_32 : decode cX3_setOf 32 = .ok (.iload_n 2, 1) := dk_28 (dk_at dksX3_setOf_1 8 rfl rfl)
theorem dX3_setOf_33 : decode cX3_setOf 33 = .ok (.iconst (-1), 1) := dk_2 (dk_at dksX3_setOf_1 9 rfl rfl)
theorem dX3_setOf_34 : decode cX3_setOf 34 = .ok (.ixor, 1) := dk_130 (dk_at dksX3_setOf_1 10 rfl rfl)
theorem dX3_setOf_35 : decode cX3_setOf 35 = .ok (.iand, 1) := dk_126 (dk_at dksX3_setOf_1 11 rfl rfl)
theorem dX3_setOf_36 : decode cX3_setOf 36 = .ok (.iload_n 3, 1) := dk_29 (dk_at dksX3_setOf_1 12 rfl rfl)
theorem dX3_setOf_37 : decode cX3_setOf 37 = .ok (.iconst (-1), 1) := dk_2 (dk_at dksX3_setOf_1 13 rfl rfl)
theorem dX3_setOf_38 : decode cX3_setOf 38 = .ok (.ixor, 1) := dk_130 (dk_at dksX3_setOf_1 14 rfl rfl)
theorem dX3_setOf_39 : decode cX3_setOf 39 = .ok (.iand, 1) := dk_126 (dk_at dksX3_setOf_1 15 rfl rfl)
theorem dX3_setOf_40 : decode cX3_setOf 40 = .ok (.ireturn, 1) := dk_172 (dk_at dksX3_setOf_1 16 rfl rfl)
abbrev cX3_missed : ByteArray := prog_12_method_39_code
def yX3_missed : MethodName := ⟨RX3, "missed", "()I"⟩
def dkwX3_missed_2 : List UInt8 := [120, 167, 0, 4, 3, 128, 60, 132, 2, 1, 167, 255, 208, 27, 172]
abbrev dktX3_missed_2 : List UInt8 := dkwX3_missed_2 ++ []
def dkwX3_missed_1 : List UInt8 := [182, 0, 194, 4, 28, 120, 2, 130, 126, 46, 42, 180, 0, 34, 42, 182, 0, 194, 46, 160, 0, 9, 4, 28]
abbrev dktX3_missed_1 : List UInt8 := dkwX3_missed_1 ++ dktX3_missed_2
def dkwX3_missed_0 : List UInt8 := [42, 182, 0, 209, 3, 60, 3, 61, 28, 42, 182, 0, 181, 162, 0, 46, 27, 42, 180, 0, 34, 42]
abbrev dktX3_missed_0 : List UInt8 := dkwX3_missed_0 ++ dktX3_missed_1
theorem dksX3_missed_0 : cX3_missed.data.toList.drop 0 = dktX3_missed_0 := by decide +kernel
theorem dksX3_missed_1 : cX3_missed.data.toList.drop 22 = dktX3_missed_1 := dk_seg dksX3_missed_0 22 rfl rfl
theorem dksX3_missed_2 : cX3_missed.data.toList.drop 46 = dktX3_missed_2 := dk_seg dksX3_missed_1 24 rfl rfl
theorem dX3_missed_0 : decode cX3_missed 0 = .ok (.aload_n 0, 1) := dk_42 (dk_at dksX3_missed_0 0 rfl rfl)
theorem dX3_missed_1 : decode cX3_missed 1 = .ok (.invokevirtual 209, 3) := dk_182 0 209 (dk_at dksX3_missed_0 1 rfl rfl)
theorem dX3_missed_4 : decode cX3_missed 4 = .ok (.iconst 0, 1) := dk_3 (dk_at dksX3_missed_0 4 rfl rfl)
theorem dX3_missed_5 : decode cX3_missed 5 = .ok (.istore_n 1, 1) := dk_60 (dk_at dksX3_missed_0 5 rfl rfl)
theorem dX3_missed_6 : decode cX3_missed 6 = .ok (.iconst 0, 1) := dk_3 (dk_at dksX3_missed_0 6 rfl rfl)
theorem dX3_missed_7 : decode cX3_missed 7 = .ok (.istore_n 2, 1) := dk_61 (dk_at dksX3_missed_0 7 rfl rfl)
theorem dX3_missed_8 : decode cX3_missed 8 = .ok (.iload_n 2, 1) := dk_28 (dk_at dksX3_missed_0 8 rfl rfl)
theorem dX3_missed_9 : decode cX3_missed 9 = .ok (.aload_n 0, 1) := dk_42 (dk_at dksX3_missed_0 9 rfl rfl)
theorem dX3_missed_10 : decode cX3_missed 10 = .ok (.invokevirtual 181, 3) := dk_182 0 181 (dk_at dksX3_missed_0 10 rfl rfl)
theorem dX3_missed_13 : decode cX3_missed 13 = .ok (.if_icmp .ge 46, 3) := dk_162 0 46 (dk_at dksX3_missed_0 13 rfl rfl)
theorem dX3_missed_16 : decode cX3_missed 16 = .ok (.iload_n 1, 1) := dk_27 (dk_at dksX3_missed_0 16 rfl rfl)
theorem dX3_missed_17 : decode cX3_missed 17 = .ok (.aload_n 0, 1) := dk_42 (dk_at dksX3_missed_0 17 rfl rfl)
theorem dX3_missed_18 : decode cX3_missed 18 = .ok (.getfield 34, 3) := dk_180 0 34 (dk_at dksX3_missed_0 18 rfl rfl)
theorem dX3_missed_21 : decode cX3_missed 21 = .ok (.aload_n 0, 1) := dk_42 (dk_at dksX3_missed_0 21 rfl rfl)
theorem dX3_missed_22 : decode cX3_missed 22 = .ok (.invokevirtual 194, 3) := dk_182 0 194 (dk_at dksX3_missed_1 0 rfl rfl)
theorem dX3_missed_25 : decode cX3_missed 25 = .ok (.iconst 1, 1) := dk_4 (dk_at dksX3_missed_1 3 rfl rfl)
theorem dX3_missed_26 : decode cX3_missed 26 = .ok (.iload_n 2, 1) := dk_28 (dk_at dksX3_missed_1 4 rfl rfl)
theorem dX3_missed_27 : decode cX3_missed 27 = .ok (.ishl, 1) := dk_120 (dk_at dksX3_missed_1 5 rfl rfl)
theorem dX3_missed_28 : decode cX3_missed 28 = .ok (.iconst (-1), 1) := dk_2 (dk_at dksX3_missed_1 6 rfl rfl)
theorem dX3_missed_29 : decode cX3_missed 29 = .ok (.ixor, 1) := dk_130 (dk_at dksX3_missed_1 7 rfl rfl)
theorem dX3_missed_30 : decode cX3_missed 30 = .ok (.iand, 1) := dk_126 (dk_at dksX3_missed_1 8 rfl rfl)
theorem dX3_missed_31 : decode cX3_missed 31 = .ok (.iaload, 1) := dk_46 (dk_at dksX3_missed_1 9 rfl rfl)
theorem dX3_missed_32 : decode cX3_missed 32 = .ok (.aload_n 0, 1) := dk_42 (dk_at dksX3_missed_1 10 rfl rfl)
theorem dX3_missed_33 : decode cX3_missed 33 = .ok (.getfield 34, 3) := dk_180 0 34 (dk_at dksX3_missed_1 11 rfl rfl)
theorem dX3_missed_36 : decode cX3_missed 36 = .ok (.aload_n 0, 1) := dk_42 (dk_at dksX3_missed_1 14 rfl rfl)
theorem dX3_missed_37 : decode cX3_missed 37 = .ok (.invokevirtual 194, 3) := dk_182 0 194 (dk_at dksX3_missed_1 15 rfl rfl)
theorem dX3_missed_40 : decode cX3_missed 40 = .ok (.iaload, 1) := dk_46 (dk_at dksX3_missed_1 18 rfl rfl)
theorem dX3_missed_41 : decode cX3_missed 41 = .ok (.if_icmp .ne 9, 3) := dk_160 0 9 (dk_at dksX3_missed_1 19 rfl rfl)
theorem dX3_missed_44 : decode cX3_missed 44 = .ok (.iconst 1, 1) := dk_4 (dk_at dksX3_missed_1 22 rfl rfl)
theorem dX3_missed_45 : decode cX3_missed 45 = .ok (.iload_n 2, 1) := dk_28 (dk_at dksX3_missed_1 23 rfl rfl)
theorem dX3_missed_46 : decode cX3_missed 46 = .ok (.ishl, 1) := dk_120 (dk_at dksX3_missed_2 0 rfl rfl)
theorem dX3_missed_47 : decode cX3_missed 47 = .ok (.goto 4, 3) := dk_167 0 4 (dk_at dksX3_missed_2 1 rfl rfl)
theorem dX3_missed_50 : decode cX3_missed 50 = .ok (.iconst 0, 1) := dk_3 (dk_at dksX3_missed_2 4 rfl rfl)
theorem dX3_missed_51 : decode cX3_missed 51 = .ok (.ior, 1) := dk_128 (dk_at dksX3_missed_2 5 rfl rfl)
theorem dX3_missed_52 : decode cX3_missed 52 = .ok (.istore_n 1, 1) := dk_60 (dk_at dksX3_missed_2 6 rfl rfl)
theorem dX3_missed_53 : decode cX3_missed 53 = .ok (.iinc 2 1, 3) := dk_132 2 1 (dk_at dksX3_missed_2 7 rfl rfl)
theorem dX3_missed_56 : decode cX3_missed 56 = .ok (.goto (-48), 3) := dk_167 255 208 (dk_at dksX3_missed_2 10 rfl rfl)
theorem dX3_missed_59 : decode cX3_missed 59 = .ok (.iload_n 1, 1) := dk_27 (dk_at dksX3_missed_2 13 rfl rfl)
theorem dX3_missed_60 : decode cX3_missed 60 = .ok (.ireturn, 1) := dk_172 (dk_at dksX3_missed_2 14 rfl rfl)
abbrev cX3_beside : ByteArray := prog_12_method_40_code
def yX3_beside : MethodName := ⟨RX3, "beside", "(I)I"⟩
def dkwX3_beside_2 : List UInt8 := [2, 159, 0, 9, 28, 4, 29, 120, 128, 61, 132, 4, 1, 167, 255, 210, 132, 3, 1, 167, 255, 193, 28, 172]
abbrev dktX3_beside_2 : List UInt8 := dkwX3_beside_2 ++ []
def dkwX3_beside_1 : List UInt8 := [27, 29, 184, 0, 183, 154, 0, 29, 27, 21, 4, 184, 0, 183, 153, 0, 20, 42, 29, 21, 4, 182, 0, 203]
abbrev dktX3_beside_1 : List UInt8 := dkwX3_beside_1 ++ dktX3_beside_2
def dkwX3_beside_0 : List UInt8 := [3, 61, 3, 62, 29, 42, 182, 0, 181, 162, 0, 61, 3, 54, 4, 21, 4, 42, 182, 0, 181, 162, 0, 43]
abbrev dktX3_beside_0 : List UInt8 := dkwX3_beside_0 ++ dktX3_beside_1
theorem dksX3_beside_0 : cX3_beside.data.toList.drop 0 = dktX3_beside_0 := by decide +kernel
theorem dksX3_beside_1 : cX3_beside.data.toList.drop 24 = dktX3_beside_1 := dk_seg dksX3_beside_0 24 rfl rfl
theorem dksX3_beside_2 : cX3_beside.data.toList.drop 48 = dktX3_beside_2 := dk_seg dksX3_beside_1 24 rfl rfl
theorem dX3_beside_0 : decode cX3_beside 0 = .ok (.iconst 0, 1) := dk_3 (dk_at dksX3_beside_0 0 rfl rfl)
theorem dX3_beside_1 : decode cX3_beside 1 = .ok (.istore_n 2, 1) := dk_61 (dk_at dksX3_beside_0 1 rfl rfl)
theorem dX3_beside_2 : decode cX3_beside 2 = .ok (.iconst 0, 1) := dk_3 (dk_at dksX3_beside_0 2 rfl rfl)
theorem dX3_beside_3 : decode cX3_beside 3 = .ok (.istore_n 3, 1) := dk_62 (dk_at dksX3_beside_0 3 rfl rfl)
theorem dX3_beside_4 : decode cX3_beside 4 = .ok (.iload_n 3, 1) := dk_29 (dk_at dksX3_beside_0 4 rfl rfl)
theorem dX3_beside_5 : decode cX3_beside 5 = .ok (.aload_n 0, 1) := dk_42 (dk_at dksX3_beside_0 5 rfl rfl)
theorem dX3_beside_6 : decode cX3_beside 6 = .ok (.invokevirtual 181, 3) := dk_182 0 181 (dk_at dksX3_beside_0 6 rfl rfl)
theorem dX3_beside_9 : decode cX3_beside 9 = .ok (.if_icmp .ge 61, 3) := dk_162 0 61 (dk_at dksX3_beside_0 9 rfl rfl)
theorem dX3_beside_12 : decode cX3_beside 12 = .ok (.iconst 0, 1) := dk_3 (dk_at dksX3_beside_0 12 rfl rfl)
theorem dX3_beside_13 : decode cX3_beside 13 = .ok (.istore 4, 2) := dk_54 4 (dk_at dksX3_beside_0 13 rfl rfl)
theorem dX3_beside_15 : decode cX3_beside 15 = .ok (.iload 4, 2) := dk_21 4 (dk_at dksX3_beside_0 15 rfl rfl)
theorem dX3_beside_17 : decode cX3_beside 17 = .ok (.aload_n 0, 1) := dk_42 (dk_at dksX3_beside_0 17 rfl rfl)
theorem dX3_beside_18 : decode cX3_beside 18 = .ok (.invokevirtual 181, 3) := dk_182 0 181 (dk_at dksX3_beside_0 18 rfl rfl)
theorem dX3_beside_21 : decode cX3_beside 21 = .ok (.if_icmp .ge 43, 3) := dk_162 0 43 (dk_at dksX3_beside_0 21 rfl rfl)
theorem dX3_beside_24 : decode cX3_beside 24 = .ok (.iload_n 1, 1) := dk_27 (dk_at dksX3_beside_1 0 rfl rfl)
theorem dX3_beside_25 : decode cX3_beside 25 = .ok (.iload_n 3, 1) := dk_29 (dk_at dksX3_beside_1 1 rfl rfl)
theorem dX3_beside_26 : decode cX3_beside 26 = .ok (.invokestatic 183, 3) := dk_184 0 183 (dk_at dksX3_beside_1 2 rfl rfl)
theorem dX3_beside_29 : decode cX3_beside 29 = .ok (.ifCond .ne 29, 3) := dk_154 0 29 (dk_at dksX3_beside_1 5 rfl rfl)
theorem dX3_beside_32 : decode cX3_beside 32 = .ok (.iload_n 1, 1) := dk_27 (dk_at dksX3_beside_1 8 rfl rfl)
theorem dX3_beside_33 : decode cX3_beside 33 = .ok (.iload 4, 2) := dk_21 4 (dk_at dksX3_beside_1 9 rfl rfl)
theorem dX3_beside_35 : decode cX3_beside 35 = .ok (.invokestatic 183, 3) := dk_184 0 183 (dk_at dksX3_beside_1 11 rfl rfl)
theorem dX3_beside_38 : decode cX3_beside 38 = .ok (.ifCond .eq 20, 3) := dk_153 0 20 (dk_at dksX3_beside_1 14 rfl rfl)
theorem dX3_beside_41 : decode cX3_beside 41 = .ok (.aload_n 0, 1) := dk_42 (dk_at dksX3_beside_1 17 rfl rfl)
theorem dX3_beside_42 : decode cX3_beside 42 = .ok (.iload_n 3, 1) := dk_29 (dk_at dksX3_beside_1 18 rfl rfl)
theorem dX3_beside_43 : decode cX3_beside 43 = .ok (.iload 4, 2) := dk_21 4 (dk_at dksX3_beside_1 19 rfl rfl)
theorem dX3_beside_45 : decode cX3_beside 45 = .ok (.invokevirtual 203, 3) := dk_182 0 203 (dk_at dksX3_beside_1 21 rfl rfl)
theorem dX3_beside_48 : decode cX3_beside 48 = .ok (.iconst (-1), 1) := dk_2 (dk_at dksX3_beside_2 0 rfl rfl)
theorem dX3_beside_49 : decode cX3_beside 49 = .ok (.if_icmp .eq 9, 3) := dk_159 0 9 (dk_at dksX3_beside_2 1 rfl rfl)
theorem dX3_beside_52 : decode cX3_beside 52 = .ok (.iload_n 2, 1) := dk_28 (dk_at dksX3_beside_2 4 rfl rfl)
theorem dX3_beside_53 : decode cX3_beside 53 = .ok (.iconst 1, 1) := dk_4 (dk_at dksX3_beside_2 5 rfl rfl)
theorem dX3_beside_54 : decode cX3_beside 54 = .ok (.iload_n 3, 1) := dk_29 (dk_at dksX3_beside_2 6 rfl rfl)
theorem dX3_beside_55 : decode cX3_beside 55 = .ok (.ishl, 1) := dk_120 (dk_at dksX3_beside_2 7 rfl rfl)
theorem dX3_beside_56 : decode cX3_beside 56 = .ok (.ior, 1) := dk_128 (dk_at dksX3_beside_2 8 rfl rfl)
theorem dX3_beside_57 : decode cX3_beside 57 = .ok (.istore_n 2, 1) := dk_61 (dk_at dksX3_beside_2 9 rfl rfl)
theorem dX3_beside_58 : decode cX3_beside 58 = .ok (.iinc 4 1, 3) := dk_132 4 1 (dk_at dksX3_beside_2 10 rfl rfl)
theorem dX3_beside_61 : decode cX3_beside 61 = .ok (.goto (-46), 3) := dk_167 255 210 (dk_at dksX3_beside_2 13 rfl rfl)
theorem dX3_beside_64 : decode cX3_beside 64 = .ok (.iinc 3 1, 3) := dk_132 3 1 (dk_at dksX3_beside_2 16 rfl rfl)
theorem dX3_beside_67 : decode cX3_beside 67 = .ok (.goto (-63), 3) := dk_167 255 193 (dk_at dksX3_beside_2 19 rfl rfl)
theorem dX3_beside_70 : decode cX3_beside 70 = .ok (.iload_n 2, 1) := dk_28 (dk_at dksX3_beside_2 22 rfl rfl)
theorem dX3_beside_71 : decode cX3_beside 71 = .ok (.ireturn, 1) := dk_172 (dk_at dksX3_beside_2 23 rfl rfl)
abbrev cX3_sets : ByteArray := prog_12_method_65_code
def yX3_sets : MethodName := ⟨RX3, "sets", "(I)I"⟩
def dkwX3_sets_3 : List UInt8 := [182, 0, 194, 42, 180, 0, 224, 2, 130, 126, 42, 180, 0, 227, 2, 130, 126, 172]
abbrev dktX3_sets_3 : List UInt8 := dkwX3_sets_3 ++ []
def dkwX3_sets_2 : List UInt8 := [6, 160, 0, 10, 42, 180, 0, 224, 167, 0, 33, 27, 7, 160, 0, 10, 42, 180, 0, 227, 167, 0, 21, 42]
abbrev dktX3_sets_2 : List UInt8 := dkwX3_sets_2 ++ dktX3_sets_3
def dkwX3_sets_1 : List UInt8 := [182, 0, 159, 153, 0, 5, 3, 172, 27, 6, 162, 0, 9, 42, 27, 182, 1, 16, 172, 42, 182, 1, 13, 27]
abbrev dktX3_sets_1 : List UInt8 := dkwX3_sets_1 ++ dktX3_sets_2
def dkwX3_sets_0 : List UInt8 := [42, 3, 181, 0, 72, 42, 27, 3, 8, 184, 0, 111, 154, 0, 7, 4, 167, 0, 4, 3, 4, 4]
abbrev dktX3_sets_0 : List UInt8 := dkwX3_sets_0 ++ dktX3_sets_1
theorem dksX3_sets_0 : cX3_sets.data.toList.drop 0 = dktX3_sets_0 := by decide +kernel
theorem dksX3_sets_1 : cX3_sets.data.toList.drop 22 = dktX3_sets_1 := dk_seg dksX3_sets_0 22 rfl rfl
theorem dksX3_sets_2 : cX3_sets.data.toList.drop 46 = dktX3_sets_2 := dk_seg dksX3_sets_1 24 rfl rfl
theorem dksX3_sets_3 : cX3_sets.data.toList.drop 70 = dktX3_sets_3 := dk_seg dksX3_sets_2 24 rfl rfl
theorem dX3_sets_0 : decode cX3_sets 0 = .ok (.aload_n 0, 1) := dk_42 (dk_at dksX3_sets_0 0 rfl rfl)
theorem dX3_sets_1 : decode cX3_sets 1 = .ok (.iconst 0, 1) := dk_3 (dk_at dksX3_sets_0 1 rfl rfl)
theorem dX3_sets_2 : decode cX3_sets 2 = .ok (.putfield 72, 3) := dk_181 0 72 (dk_at dksX3_sets_0 2 rfl rfl)
theorem dX3_sets_5 : decode cX3_sets 5 = .ok (.aload_n 0, 1) := dk_42 (dk_at dksX3_sets_0 5 rfl rfl)
theorem dX3_sets_6 : decode cX3_sets 6 = .ok (.iload_n 1, 1) := dk_27 (dk_at dksX3_sets_0 6 rfl rfl)
theorem dX3_sets_7 : decode cX3_sets 7 = .ok (.iconst 0, 1) := dk_3 (dk_at dksX3_sets_0 7 rfl rfl)
theorem dX3_sets_8 : decode cX3_sets 8 = .ok (.iconst 5, 1) := dk_8 (dk_at dksX3_sets_0 8 rfl rfl)
theorem dX3_sets_9 : decode cX3_sets 9 = .ok (.invokestatic 111, 3) := dk_184 0 111 (dk_at dksX3_sets_0 9 rfl rfl)
theorem dX3_sets_12 : decode cX3_sets 12 = .ok (.ifCond .ne 7, 3) := dk_154 0 7 (dk_at dksX3_sets_0 12 rfl rfl)
theorem dX3_sets_15 : decode cX3_sets 15 = .ok (.iconst 1, 1) := dk_4 (dk_at dksX3_sets_0 15 rfl rfl)
theorem dX3_sets_16 : decode cX3_sets 16 = .ok (.goto 4, 3) := dk_167 0 4 (dk_at dksX3_sets_0 16 rfl rfl)
theorem dX3_sets_19 : decode cX3_sets 19 = .ok (.iconst 0, 1) := dk_3 (dk_at dksX3_sets_0 19 rfl rfl)
theorem dX3_sets_20 : decode cX3_sets 20 = .ok (.iconst 1, 1) := dk_4 (dk_at dksX3_sets_0 20 rfl rfl)
theorem dX3_sets_21 : decode cX3_sets 21 = .ok (.iconst 1, 1) := dk_4 (dk_at dksX3_sets_0 21 rfl rfl)
theorem dX3_sets_22 : decode cX3_sets 22 = .ok (.invokevirtual 159, 3) := dk_182 0 159 (dk_at dksX3_sets_1 0 rfl rfl)
theorem dX3_sets_25 : decode cX3_sets 25 = .ok (.ifCond .eq 5, 3) := dk_153 0 5 (dk_at dksX3_sets_1 3 rfl rfl)
theorem dX3_sets_28 : decode cX3_sets 28 = .ok (.iconst 0, 1) := dk_3 (dk_at dksX3_sets_1 6 rfl rfl)
theorem dX3_sets_29 : decode cX3_sets 29 = .ok (.ireturn, 1) := dk_172 (dk_at dksX3_sets_1 7 rfl rfl)
theorem dX3_sets_30 : decode cX3_sets 30 = .ok (.iload_n 1, 1) := dk_27 (dk_at dksX3_sets_1 8 rfl rfl)
theorem dX3_sets_31 : decode cX3_sets 31 = .ok (.iconst 3, 1) := dk_6 (dk_at dksX3_sets_1 9 rfl rfl)
theorem dX3_sets_32 : decode cX3_sets 32 = .ok (.if_icmp .ge 9, 3) := dk_162 0 9 (dk_at dksX3_sets_1 10 rfl rfl)
theorem dX3_sets_35 : decode cX3_sets 35 = .ok (.aload_n 0, 1) := dk_42 (dk_at dksX3_sets_1 13 rfl rfl)
theorem dX3_sets_36 : decode cX3_sets 36 = .ok (.iload_n 1, 1) := dk_27 (dk_at dksX3_sets_1 14 rfl rfl)
theorem dX3_sets_37 : decode cX3_sets 37 = .ok (.invokevirtual 272, 3) := dk_182 1 16 (dk_at dksX3_sets_1 15 rfl rfl)
theorem dX3_sets_40 : decode cX3_sets 40 = .ok (.ireturn, 1) := dk_172 (dk_at dksX3_sets_1 18 rfl rfl)
theorem dX3_sets_41 : decode cX3_sets 41 = .ok (.aload_n 0, 1) := dk_42 (dk_at dksX3_sets_1 19 rfl rfl)
theorem dX3_sets_42 : decode cX3_sets 42 = .ok (.invokevirtual 269, 3) := dk_182 1 13 (dk_at dksX3_sets_1 20 rfl rfl)
theorem dX3_sets_45 : decode cX3_sets 45 = .ok (.iload_n 1, 1) := dk_27 (dk_at dksX3_sets_1 23 rfl rfl)
theorem dX3_sets_46 : decode cX3_sets 46 = .ok (.iconst 3, 1) := dk_6 (dk_at dksX3_sets_2 0 rfl rfl)
theorem dX3_sets_47 : decode cX3_sets 47 = .ok (.if_icmp .ne 10, 3) := dk_160 0 10 (dk_at dksX3_sets_2 1 rfl rfl)
theorem dX3_sets_50 : decode cX3_sets 50 = .ok (.aload_n 0, 1) := dk_42 (dk_at dksX3_sets_2 4 rfl rfl)
theorem dX3_sets_51 : decode cX3_sets 51 = .ok (.getfield 224, 3) := dk_180 0 224 (dk_at dksX3_sets_2 5 rfl rfl)
theorem dX3_sets_54 : decode cX3_sets 54 = .ok (.goto 33, 3) := dk_167 0 33 (dk_at dksX3_sets_2 8 rfl rfl)
theorem dX3_sets_57 : decode cX3_sets 57 = .ok (.iload_n 1, 1) := dk_27 (dk_at dksX3_sets_2 11 rfl rfl)
theorem dX3_sets_58 : decode cX3_sets 58 = .ok (.iconst 4, 1) := dk_7 (dk_at dksX3_sets_2 12 rfl rfl)
theorem dX3_sets_59 : decode cX3_sets 59 = .ok (.if_icmp .ne 10, 3) := dk_160 0 10 (dk_at dksX3_sets_2 13 rfl rfl)
theorem dX3_sets_62 : decode cX3_sets 62 = .ok (.aload_n 0, 1) := dk_42 (dk_at dksX3_sets_2 16 rfl rfl)
theorem dX3_sets_63 : decode cX3_sets 63 = .ok (.getfield 227, 3) := dk_180 0 227 (dk_at dksX3_sets_2 17 rfl rfl)
theorem dX3_sets_66 : decode cX3_sets 66 = .ok (.goto 21, 3) := dk_167 0 21 (dk_at dksX3_sets_2 20 rfl rfl)
theorem dX3_sets_69 : decode cX3_sets 69 = .ok (.aload_n 0, 1) := dk_42 (dk_at dksX3_sets_2 23 rfl rfl)
theorem dX3_sets_70 : decode cX3_sets 70 = .ok (.invokevirtual 194, 3) := dk_182 0 194 (dk_at dksX3_sets_3 0 rfl rfl)
theorem dX3_sets_73 : decode cX3_sets 73 = .ok (.aload_n 0, 1) := dk_42 (dk_at dksX3_sets_3 3 rfl rfl)
theorem dX3_sets_74 : decode cX3_sets 74 = .ok (.getfield 224, 3) := dk_180 0 224 (dk_at dksX3_sets_3 4 rfl rfl)
theorem dX3_sets_77 : decode cX3_sets 77 = .ok (.iconst (-1), 1) := dk_2 (dk_at dksX3_sets_3 7 rfl rfl)
theorem dX3_sets_78 : decode cX3_sets 78 = .ok (.ixor, 1) := dk_130 (dk_at dksX3_sets_3 8 rfl rfl)
theorem dX3_sets_79 : decode cX3_sets 79 = .ok (.iand, 1) := dk_126 (dk_at dksX3_sets_3 9 rfl rfl)
theorem dX3_sets_80 : decode cX3_sets 80 = .ok (.aload_n 0, 1) := dk_42 (dk_at dksX3_sets_3 10 rfl rfl)
theorem dX3_sets_81 : decode cX3_sets 81 = .ok (.getfield 227, 3) := dk_180 0 227 (dk_at dksX3_sets_3 11 rfl rfl)
theorem dX3_sets_84 : decode cX3_sets 84 = .ok (.iconst (-1), 1) := dk_2 (dk_at dksX3_sets_3 14 rfl rfl)
theorem dX3_sets_85 : decode cX3_sets 85 = .ok (.ixor, 1) := dk_130 (dk_at dksX3_sets_3 15 rfl rfl)
theorem dX3_sets_86 : decode cX3_sets 86 = .ok (.iand, 1) := dk_126 (dk_at dksX3_sets_3 16 rfl rfl)
theorem dX3_sets_87 : decode cX3_sets 87 = .ok (.ireturn, 1) := dk_172 (dk_at dksX3_sets_3 17 rfl rfl)
abbrev cX3_odd : ByteArray := prog_12_method_66_code
def yX3_odd : MethodName := ⟨RX3, "odd", "(I)I"⟩
def dkwX3_odd_1 : List UInt8 := [4, 182, 0, 159, 153, 0, 7, 3, 167, 0, 8, 42, 27, 182, 1, 19, 172]
abbrev dktX3_odd_1 : List UInt8 := dkwX3_odd_1 ++ []
def dkwX3_odd_0 : List UInt8 := [42, 3, 181, 0, 72, 42, 27, 3, 42, 182, 0, 194, 184, 0, 111, 154, 0, 7, 4, 167, 0, 4, 3, 4]
abbrev dktX3_odd_0 : List UInt8 := dkwX3_odd_0 ++ dktX3_odd_1
theorem dksX3_odd_0 : cX3_odd.data.toList.drop 0 = dktX3_odd_0 := by decide +kernel
theorem dksX3_odd_1 : cX3_odd.data.toList.drop 24 = dktX3_odd_1 := dk_seg dksX3_odd_0 24 rfl rfl
theorem dX3_odd_0 : decode cX3_odd 0 = .ok (.aload_n 0, 1) := dk_42 (dk_at dksX3_odd_0 0 rfl rfl)
theorem dX3_odd_1 : decode cX3_odd 1 = .ok (.iconst 0, 1) := dk_3 (dk_at dksX3_odd_0 1 rfl rfl)
theorem dX3_odd_2 : decode cX3_odd 2 = .ok (.putfield 72, 3) := dk_181 0 72 (dk_at dksX3_odd_0 2 rfl rfl)
theorem dX3_odd_5 : decode cX3_odd 5 = .ok (.aload_n 0, 1) := dk_42 (dk_at dksX3_odd_0 5 rfl rfl)
theorem dX3_odd_6 : decode cX3_odd 6 = .ok (.iload_n 1, 1) := dk_27 (dk_at dksX3_odd_0 6 rfl rfl)
theorem dX3_odd_7 : decode cX3_odd 7 = .ok (.iconst 0, 1) := dk_3 (dk_at dksX3_odd_0 7 rfl rfl)
theorem dX3_odd_8 : decode cX3_odd 8 = .ok (.aload_n 0, 1) := dk_42 (dk_at dksX3_odd_0 8 rfl rfl)
theorem dX3_odd_9 : decode cX3_odd 9 = .ok (.invokevirtual 194, 3) := dk_182 0 194 (dk_at dksX3_odd_0 9 rfl rfl)
theorem dX3_odd_12 : decode cX3_odd 12 = .ok (.invokestatic 111, 3) := dk_184 0 111 (dk_at dksX3_odd_0 12 rfl rfl)
theorem dX3_odd_15 : decode cX3_odd 15 = .ok (.ifCond .ne 7, 3) := dk_154 0 7 (dk_at dksX3_odd_0 15 rfl rfl)
theorem dX3_odd_18 : decode cX3_odd 18 = .ok (.iconst 1, 1) := dk_4 (dk_at dksX3_odd_0 18 rfl rfl)
theorem dX3_odd_19 : decode cX3_odd 19 = .ok (.goto 4, 3) := dk_167 0 4 (dk_at dksX3_odd_0 19 rfl rfl)
theorem dX3_odd_22 : decode cX3_odd 22 = .ok (.iconst 0, 1) := dk_3 (dk_at dksX3_odd_0 22 rfl rfl)
theorem dX3_odd_23 : decode cX3_odd 23 = .ok (.iconst 1, 1) := dk_4 (dk_at dksX3_odd_0 23 rfl rfl)
theorem dX3_odd_24 : decode cX3_odd 24 = .ok (.iconst 1, 1) := dk_4 (dk_at dksX3_odd_1 0 rfl rfl)
theorem dX3_odd_25 : decode cX3_odd 25 = .ok (.invokevirtual 159, 3) := dk_182 0 159 (dk_at dksX3_odd_1 1 rfl rfl)
theorem dX3_odd_28 : decode cX3_odd 28 = .ok (.ifCond .eq 7, 3) := dk_153 0 7 (dk_at dksX3_odd_1 4 rfl rfl)
theorem dX3_odd_31 : decode cX3_odd 31 = .ok (.iconst 0, 1) := dk_3 (dk_at dksX3_odd_1 7 rfl rfl)
theorem dX3_odd_32 : decode cX3_odd 32 = .ok (.goto 8, 3) := dk_167 0 8 (dk_at dksX3_odd_1 8 rfl rfl)
theorem dX3_odd_35 : decode cX3_odd 35 = .ok (.aload_n 0, 1) := dk_42 (dk_at dksX3_odd_1 11 rfl rfl)
theorem dX3_odd_36 : decode cX3_odd 36 = .ok (.iload_n 1, 1) := dk_27 (dk_at dksX3_odd_1 12 rfl rfl)
theorem dX3_odd_37 : decode cX3_odd 37 = .ok (.invokevirtual 275, 3) := dk_182 1 19 (dk_at dksX3_odd_1 13 rfl rfl)
theorem dX3_odd_40 : decode cX3_odd 40 = .ok (.ireturn, 1) := dk_172 (dk_at dksX3_odd_1 16 rfl rfl)
abbrev cX3_oddOf : ByteArray := prog_12_method_43_code
def yX3_oddOf : MethodName := ⟨RX3, "oddOf", "(I)I"⟩
def dkwX3_oddOf_1 : List UInt8 := [54, 4, 29, 21, 4, 184, 0, 221, 5, 112, 96, 62, 28, 21, 4, 2, 130, 126, 61, 167, 255, 224, 29, 172]
abbrev dktX3_oddOf_1 : List UInt8 := dkwX3_oddOf_1 ++ []
def dkwX3_oddOf_0 : List UInt8 := [42, 182, 0, 194, 27, 2, 130, 126, 61, 3, 62, 28, 153, 0, 34, 42, 28, 184, 0, 196, 28, 182, 0, 218]
abbrev dktX3_oddOf_0 : List UInt8 := dkwX3_oddOf_0 ++ dktX3_oddOf_1
theorem dksX3_oddOf_0 : cX3_oddOf.data.toList.drop 0 = dktX3_oddOf_0 := by decide +kernel
theorem dksX3_oddOf_1 : cX3_oddOf.data.toList.drop 24 = dktX3_oddOf_1 := dk_seg dksX3_oddOf_0 24 rfl rfl
theorem dX3_oddOf_0 : decode cX3_oddOf 0 = .ok (.aload_n 0, 1) := dk_42 (dk_at dksX3_oddOf_0 0 rfl rfl)
theorem dX3_oddOf_1 : decode cX3_oddOf 1 = .ok (.invokevirtual 194, 3) := dk_182 0 194 (dk_at dksX3_oddOf_0 1 rfl rfl)
theorem dX3_oddOf_4 : decode cX3_oddOf 4 = .ok (.iload_n 1, 1) := dk_27 (dk_at dksX3_oddOf_0 4 rfl rfl)
theorem dX3_oddOf_5 : decode cX3_oddOf 5 = .ok (.iconst (-1), 1) := dk_2 (dk_at dksX3_oddOf_0 5 rfl rfl)
theorem dX3_oddOf_6 : decode cX3_oddOf 6 = .ok (.ixor, 1) := dk_130 (dk_at dksX3_oddOf_0 6 rfl rfl)
theorem dX3_oddOf_7 : decode cX3_oddOf 7 = .ok (.iand, 1) := dk_126 (dk_at dksX3_oddOf_0 7 rfl rfl)
theorem dX3_oddOf_8 : decode cX3_oddOf 8 = .ok (.istore_n 2, 1) := dk_61 (dk_at dksX3_oddOf_0 8 rfl rfl)
theorem dX3_oddOf_9 : decode cX3_oddOf 9 = .ok (.iconst 0, 1) := dk_3 (dk_at dksX3_oddOf_0 9 rfl rfl)
theorem dX3_oddOf_10 : decode cX3_oddOf 10 = .ok (.istore_n 3, 1) := dk_62 (dk_at dksX3_oddOf_0 10 rfl rfl)
theorem dX3_oddOf_11 : decode cX3_oddOf 11 = .ok (.iload_n 2, 1) := dk_28 (dk_at dksX3_oddOf_0 11 rfl rfl)
theorem dX3_oddOf_12 : decode cX3_oddOf 12 = .ok (.ifCond .eq 34, 3) := dk_153 0 34 (dk_at dksX3_oddOf_0 12 rfl rfl)
theorem dX3_oddOf_15 : decode cX3_oddOf 15 = .ok (.aload_n 0, 1) := dk_42 (dk_at dksX3_oddOf_0 15 rfl rfl)
theorem dX3_oddOf_16 : decode cX3_oddOf 16 = .ok (.iload_n 2, 1) := dk_28 (dk_at dksX3_oddOf_0 16 rfl rfl)
theorem dX3_oddOf_17 : decode cX3_oddOf 17 = .ok (.invokestatic 196, 3) := dk_184 0 196 (dk_at dksX3_oddOf_0 17 rfl rfl)
theorem dX3_oddOf_20 : decode cX3_oddOf 20 = .ok (.iload_n 2, 1) := dk_28 (dk_at dksX3_oddOf_0 20 rfl rfl)
theorem dX3_oddOf_21 : decode cX3_oddOf 21 = .ok (.invokevirtual 218, 3) := dk_182 0 218 (dk_at dksX3_oddOf_0 21 rfl rfl)
theorem dX3_oddOf_24 : decode cX3_oddOf 24 = .ok (.istore 4, 2) := dk_54 4 (dk_at dksX3_oddOf_1 0 rfl rfl)
theorem dX3_oddOf_26 : decode cX3_oddOf 26 = .ok (.iload_n 3, 1) := dk_29 (dk_at dksX3_oddOf_1 2 rfl rfl)
theorem dX3_oddOf_27 : decode cX3_oddOf 27 = .ok (.iload 4, 2) := dk_21 4 (dk_at dksX3_oddOf_1 3 rfl rfl)
theorem dX3_oddOf_29 : decode cX3_oddOf 29 = .ok (.invokestatic 221, 3) := dk_184 0 221 (dk_at dksX3_oddOf_1 5 rfl rfl)
theorem dX3_oddOf_32 : decode cX3_oddOf 32 = .ok (.iconst 2, 1) := dk_5 (dk_at dksX3_oddOf_1 8 rfl rfl)
theorem dX3_oddOf_33 : decode cX3_oddOf 33 = .ok (.irem, 1) := dk_112 (dk_at dksX3_oddOf_1 9 rfl rfl)
theorem dX3_oddOf_34 : decode cX3_oddOf 34 = .ok (.iadd, 1) := dk_96 (dk_at dksX3_oddOf_1 10 rfl rfl)
theorem dX3_oddOf_35 : decode cX3_oddOf 35 = .ok (.istore_n 3, 1) := dk_62 (dk_at dksX3_oddOf_1 11 rfl rfl)
theorem dX3_oddOf_36 : decode cX3_oddOf 36 = .ok (.iload_n 2, 1) := dk_28 (dk_at dksX3_oddOf_1 12 rfl rfl)
theorem dX3_oddOf_37 : decode cX3_oddOf 37 = .ok (.iload 4, 2) := dk_21 4 (dk_at dksX3_oddOf_1 13 rfl rfl)
theorem dX3_oddOf_39 : decode cX3_oddOf 39 = .ok (.iconst (-1), 1) := dk_2 (dk_at dksX3_oddOf_1 15 rfl rfl)
theorem dX3_oddOf_40 : decode cX3_oddOf 40 = .ok (.ixor, 1) := dk_130 (dk_at dksX3_oddOf_1 16 rfl rfl)
theorem dX3_oddOf_41 : decode cX3_oddOf 41 = .ok (.iand, 1) := dk_126 (dk_at dksX3_oddOf_1 17 rfl rfl)
theorem dX3_oddOf_42 : decode cX3_oddOf 42 = .ok (.istore_n 2, 1) := dk_61 (dk_at dksX3_oddOf_1 18 rfl rfl)
theorem dX3_oddOf_43 : decode cX3_oddOf 43 = .ok (.goto (-32), 3) := dk_167 255 224 (dk_at dksX3_oddOf_1 19 rfl rfl)
theorem dX3_oddOf_46 : decode cX3_oddOf 46 = .ok (.iload_n 3, 1) := dk_29 (dk_at dksX3_oddOf_1 22 rfl rfl)
theorem dX3_oddOf_47 : decode cX3_oddOf 47 = .ok (.ireturn, 1) := dk_172 (dk_at dksX3_oddOf_1 23 rfl rfl)
abbrev cX3_partOf : ByteArray := prog_12_method_42_code
def yX3_partOf : MethodName := ⟨RX3, "partOf", "(II)I"⟩
def dkwX3_partOf_4 : List UInt8 := [167, 255, 173, 29, 172]
abbrev dktX3_partOf_4 : List UInt8 := dkwX3_partOf_4 ++ []
def dkwX3_partOf_3 : List UInt8 := [159, 0, 10, 29, 4, 21, 6, 120, 128, 62, 132, 6, 1, 167, 255, 206, 132, 5, 1, 167, 255, 188]
abbrev dktX3_partOf_3 : List UInt8 := dkwX3_partOf_3 ++ dktX3_partOf_4
def dkwX3_partOf_2 : List UInt8 := [184, 0, 183, 153, 0, 37, 28, 21, 6, 184, 0, 183, 153, 0, 22, 42, 21, 5, 21, 6, 182, 0, 203, 2]
abbrev dktX3_partOf_2 : List UInt8 := dkwX3_partOf_2 ++ dktX3_partOf_3
def dkwX3_partOf_1 : List UInt8 := [182, 0, 181, 162, 0, 65, 3, 54, 6, 21, 6, 42, 182, 0, 181, 162, 0, 47, 21, 4, 21, 5]
abbrev dktX3_partOf_1 : List UInt8 := dkwX3_partOf_1 ++ dktX3_partOf_2
def dkwX3_partOf_0 : List UInt8 := [4, 27, 120, 62, 3, 54, 4, 29, 21, 4, 159, 0, 83, 29, 54, 4, 3, 54, 5, 21, 5, 42]
abbrev dktX3_partOf_0 : List UInt8 := dkwX3_partOf_0 ++ dktX3_partOf_1
theorem dksX3_partOf_0 : cX3_partOf.data.toList.drop 0 = dktX3_partOf_0 := by decide +kernel
theorem dksX3_partOf_1 : cX3_partOf.data.toList.drop 22 = dktX3_partOf_1 := dk_seg dksX3_partOf_0 22 rfl rfl
theorem dksX3_partOf_2 : cX3_partOf.data.toList.drop 44 = dktX3_partOf_2 := dk_seg dksX3_partOf_1 22 rfl rfl
theorem dksX3_partOf_3 : cX3_partOf.data.toList.drop 68 = dktX3_partOf_3 := dk_seg dksX3_partOf_2 24 rfl rfl
theorem dksX3_partOf_4 : cX3_partOf.data.toList.drop 90 = dktX3_partOf_4 := dk_seg dksX3_partOf_3 22 rfl rfl
theorem dX3_partOf_0 : decode cX3_partOf 0 = .ok (.iconst 1, 1) := dk_4 (dk_at dksX3_partOf_0 0 rfl rfl)
theorem dX3_partOf_1 : decode cX3_partOf 1 = .ok (.iload_n 1, 1) := dk_27 (dk_at dksX3_partOf_0 1 rfl rfl)
theorem dX3_partOf_2 : decode cX3_partOf 2 = .ok (.ishl, 1) := dk_120 (dk_at dksX3_partOf_0 2 rfl rfl)
theorem dX3_partOf_3 : decode cX3_partOf 3 = .ok (.istore_n 3, 1) := dk_62 (dk_at dksX3_partOf_0 3 rfl rfl)
theorem dX3_partOf_4 : decode cX3_partOf 4 = .ok (.iconst 0, 1) := dk_3 (dk_at dksX3_partOf_0 4 rfl rfl)
theorem dX3_partOf_5 : decode cX3_partOf 5 = .ok (.istore 4, 2) := dk_54 4 (dk_at dksX3_partOf_0 5 rfl rfl)
theorem dX3_partOf_7 : decode cX3_partOf 7 = .ok (.iload_n 3, 1) := dk_29 (dk_at dksX3_partOf_0 7 rfl rfl)
theorem dX3_partOf_8 : decode cX3_partOf 8 = .ok (.iload 4, 2) := dk_21 4 (dk_at dksX3_partOf_0 8 rfl rfl)
theorem dX3_partOf_10 : decode cX3_partOf 10 = .ok (.if_icmp .eq 83, 3) := dk_159 0 83 (dk_at dksX3_partOf_0 10 rfl rfl)
theorem dX3_partOf_13 : decode cX3_partOf 13 = .ok (.iload_n 3, 1) := dk_29 (dk_at dksX3_partOf_0 13 rfl rfl)
theorem dX3_partOf_14 : decode cX3_partOf 14 = .ok (.istore 4, 2) := dk_54 4 (dk_at dksX3_partOf_0 14 rfl rfl)
theorem dX3_partOf_16 : decode cX3_partOf 16 = .ok (.iconst 0, 1) := dk_3 (dk_at dksX3_partOf_0 16 rfl rfl)
theorem dX3_partOf_17 : decode cX3_partOf 17 = .ok (.istore 5, 2) := dk_54 5 (dk_at dksX3_partOf_0 17 rfl rfl)
theorem dX3_partOf_19 : decode cX3_partOf 19 = .ok (.iload 5, 2) := dk_21 5 (dk_at dksX3_partOf_0 19 rfl rfl)
theorem dX3_partOf_21 : decode cX3_partOf 21 = .ok (.aload_n 0, 1) := dk_42 (dk_at dksX3_partOf_0 21 rfl rfl)
theorem dX3_partOf_22 : decode cX3_partOf 22 = .ok (.invokevirtual 181, 3) := dk_182 0 181 (dk_at dksX3_partOf_1 0 rfl rfl)
theorem dX3_partOf_25 : decode cX3_partOf 25 = .ok (.if_icmp .ge 65, 3) := dk_162 0 65 (dk_at dksX3_partOf_1 3 rfl rfl)
theorem dX3_partOf_28 : decode cX3_partOf 28 = .ok (.iconst 0, 1) := dk_3 (dk_at dksX3_partOf_1 6 rfl rfl)
theorem dX3_partOf_29 : decode cX3_partOf 29 = .ok (.istore 6, 2) := dk_54 6 (dk_at dksX3_partOf_1 7 rfl rfl)
theorem dX3_partOf_31 : decode cX3_partOf 31 = .ok (.iload 6, 2) := dk_21 6 (dk_at dksX3_partOf_1 9 rfl rfl)
theorem dX3_partOf_33 : decode cX3_partOf 33 = .ok (.aload_n 0, 1) := dk_42 (dk_at dksX3_partOf_1 11 rfl rfl)
theorem dX3_partOf_34 : decode cX3_partOf 34 = .ok (.invokevirtual 181, 3) := dk_182 0 181 (dk_at dksX3_partOf_1 12 rfl rfl)
theorem dX3_partOf_37 : decode cX3_partOf 37 = .ok (.if_icmp .ge 47, 3) := dk_162 0 47 (dk_at dksX3_partOf_1 15 rfl rfl)
theorem dX3_partOf_40 : decode cX3_partOf 40 = .ok (.iload 4, 2) := dk_21 4 (dk_at dksX3_partOf_1 18 rfl rfl)
theorem dX3_partOf_42 : decode cX3_partOf 42 = .ok (.iload 5, 2) := dk_21 5 (dk_at dksX3_partOf_1 20 rfl rfl)
theorem dX3_partOf_44 : decode cX3_partOf 44 = .ok (.invokestatic 183, 3) := dk_184 0 183 (dk_at dksX3_partOf_2 0 rfl rfl)
theorem dX3_partOf_47 : decode cX3_partOf 47 = .ok (.ifCond .eq 37, 3) := dk_153 0 37 (dk_at dksX3_partOf_2 3 rfl rfl)
theorem dX3_partOf_50 : decode cX3_partOf 50 = .ok (.iload_n 2, 1) := dk_28 (dk_at dksX3_partOf_2 6 rfl rfl)
theorem dX3_partOf_51 : decode cX3_partOf 51 = .ok (.iload 6, 2) := dk_21 6 (dk_at dksX3_partOf_2 7 rfl rfl)
theorem dX3_partOf_53 : decode cX3_partOf 53 = .ok (.invokestatic 183, 3) := dk_184 0 183 (dk_at dksX3_partOf_2 9 rfl rfl)
theorem dX3_partOf_56 : decode cX3_partOf 56 = .ok (.ifCond .eq 22, 3) := dk_153 0 22 (dk_at dksX3_partOf_2 12 rfl rfl)
theorem dX3_partOf_59 : decode cX3_partOf 59 = .ok (.aload_n 0, 1) := dk_42 (dk_at dksX3_partOf_2 15 rfl rfl)
theorem dX3_partOf_60 : decode cX3_partOf 60 = .ok (.iload 5, 2) := dk_21 5 (dk_at dksX3_partOf_2 16 rfl rfl)
theorem dX3_partOf_62 : decode cX3_partOf 62 = .ok (.iload 6, 2) := dk_21 6 (dk_at dksX3_partOf_2 18 rfl rfl)
theorem dX3_partOf_64 : decode cX3_partOf 64 = .ok (.invokevirtual 203, 3) := dk_182 0 203 (dk_at dksX3_partOf_2 20 rfl rfl)
theorem dX3_partOf_67 : decode cX3_partOf 67 = .ok (.iconst (-1), 1) := dk_2 (dk_at dksX3_partOf_2 23 rfl rfl)
theorem dX3_partOf_68 : decode cX3_partOf 68 = .ok (.if_icmp .eq 10, 3) := dk_159 0 10 (dk_at dksX3_partOf_3 0 rfl rfl)
theorem dX3_partOf_71 : decode cX3_partOf 71 = .ok (.iload_n 3, 1) := dk_29 (dk_at dksX3_partOf_3 3 rfl rfl)
theorem dX3_partOf_72 : decode cX3_partOf 72 = .ok (.iconst 1, 1) := dk_4 (dk_at dksX3_partOf_3 4 rfl rfl)
theorem dX3_partOf_73 : decode cX3_partOf 73 = .ok (.iload 6, 2) := dk_21 6 (dk_at dksX3_partOf_3 5 rfl rfl)
theorem dX3_partOf_75 : decode cX3_partOf 75 = .ok (.ishl, 1) := dk_120 (dk_at dksX3_partOf_3 7 rfl rfl)
theorem dX3_partOf_76 : decode cX3_partOf 76 = .ok (.ior, 1) := dk_128 (dk_at dksX3_partOf_3 8 rfl rfl)
theorem dX3_partOf_77 : decode cX3_partOf 77 = .ok (.istore_n 3, 1) := dk_62 (dk_at dksX3_partOf_3 9 rfl rfl)
theorem dX3_partOf_78 : decode cX3_partOf 78 = .ok (.iinc 6 1, 3) := dk_132 6 1 (dk_at dksX3_partOf_3 10 rfl rfl)
theorem dX3_partOf_81 : decode cX3_partOf 81 = .ok (.goto (-50), 3) := dk_167 255 206 (dk_at dksX3_partOf_3 13 rfl rfl)
theorem dX3_partOf_84 : decode cX3_partOf 84 = .ok (.iinc 5 1, 3) := dk_132 5 1 (dk_at dksX3_partOf_3 16 rfl rfl)
theorem dX3_partOf_87 : decode cX3_partOf 87 = .ok (.goto (-68), 3) := dk_167 255 188 (dk_at dksX3_partOf_3 19 rfl rfl)
theorem dX3_partOf_90 : decode cX3_partOf 90 = .ok (.goto (-83), 3) := dk_167 255 173 (dk_at dksX3_partOf_4 0 rfl rfl)
theorem dX3_partOf_93 : decode cX3_partOf 93 = .ok (.iload_n 3, 1) := dk_29 (dk_at dksX3_partOf_4 3 rfl rfl)
theorem dX3_partOf_94 : decode cX3_partOf 94 = .ok (.ireturn, 1) := dk_172 (dk_at dksX3_partOf_4 4 rfl rfl)
abbrev cX3_barrier : ByteArray := prog_12_method_67_code
def yX3_barrier : MethodName := ⟨RX3, "barrier", "(I)I"⟩
def dkwX3_barrier_4 : List UInt8 := [182, 1, 10, 160, 0, 5, 29, 61, 132, 3, 1, 167, 255, 189, 28, 172]
abbrev dktX3_barrier_4 : List UInt8 := dkwX3_barrier_4 ++ []
def dkwX3_barrier_3 : List UInt8 := [184, 0, 221, 28, 184, 0, 221, 163, 0, 6, 167, 0, 22, 42, 29, 182, 1, 19, 29, 184, 0, 221, 100, 42]
abbrev dktX3_barrier_3 : List UInt8 := dkwX3_barrier_3 ++ dktX3_barrier_4
def dkwX3_barrier_2 : List UInt8 := [28, 2, 159, 0, 35, 27, 154, 0, 17, 29, 184, 0, 221, 28, 184, 0, 221, 161, 0, 20, 167, 0, 36, 29]
abbrev dktX3_barrier_2 : List UInt8 := dkwX3_barrier_2 ++ dktX3_barrier_3
def dkwX3_barrier_1 : List UInt8 := [182, 0, 159, 153, 0, 5, 3, 172, 42, 182, 0, 209, 2, 61, 3, 62, 29, 42, 182, 0, 194, 163, 0, 65]
abbrev dktX3_barrier_1 : List UInt8 := dkwX3_barrier_1 ++ dktX3_barrier_2
def dkwX3_barrier_0 : List UInt8 := [42, 3, 181, 0, 72, 42, 27, 3, 4, 184, 0, 111, 154, 0, 7, 4, 167, 0, 4, 3, 4, 4]
abbrev dktX3_barrier_0 : List UInt8 := dkwX3_barrier_0 ++ dktX3_barrier_1
theorem dksX3_barrier_0 : cX3_barrier.data.toList.drop 0 = dktX3_barrier_0 := by decide +kernel
theorem dksX3_barrier_1 : cX3_barrier.data.toList.drop 22 = dktX3_barrier_1 := dk_seg dksX3_barrier_0 22 rfl rfl
theorem dksX3_barrier_2 : cX3_barrier.data.toList.drop 46 = dktX3_barrier_2 := dk_seg dksX3_barrier_1 24 rfl rfl
theorem dksX3_barrier_3 : cX3_barrier.data.toList.drop 70 = dktX3_barrier_3 := dk_seg dksX3_barrier_2 24 rfl rfl
theorem dksX3_barrier_4 : cX3_barrier.data.toList.drop 94 = dktX3_barrier_4 := dk_seg dksX3_barrier_3 24 rfl rfl
theorem dX3_barrier_0 : decode cX3_barrier 0 = .ok (.aload_n 0, 1) := dk_42 (dk_at dksX3_barrier_0 0 rfl rfl)
theorem dX3_barrier_1 : decode cX3_barrier 1 = .ok (.iconst 0, 1) := dk_3 (dk_at dksX3_barrier_0 1 rfl rfl)
theorem dX3_barrier_2 : decode cX3_barrier 2 = .ok (.putfield 72, 3) := dk_181 0 72 (dk_at dksX3_barrier_0 2 rfl rfl)
theorem dX3_barrier_5 : decode cX3_barrier 5 = .ok (.aload_n 0, 1) := dk_42 (dk_at dksX3_barrier_0 5 rfl rfl)
theorem dX3_barrier_6 : decode cX3_barrier 6 = .ok (.iload_n 1, 1) := dk_27 (dk_at dksX3_barrier_0 6 rfl rfl)
theorem dX3_barrier_7 : decode cX3_barrier 7 = .ok (.iconst 0, 1) := dk_3 (dk_at dksX3_barrier_0 7 rfl rfl)
theorem dX3_barrier_8 : decode cX3_barrier 8 = .ok (.iconst 1, 1) := dk_4 (dk_at dksX3_barrier_0 8 rfl rfl)
theorem dX3_barrier_9 : decode cX3_barrier 9 = .ok (.invokestatic 111, 3) := dk_184 0 111 (dk_at dksX3_barrier_0 9 rfl rfl)
theorem dX3_barrier_12 : decode cX3_barrier 12 = .ok (.ifCond .ne 7, 3) := dk_154 0 7 (dk_at dksX3_barrier_0 12 rfl rfl)
theorem dX3_barrier_15 : decode cX3_barrier 15 = .ok (.iconst 1, 1) := dk_4 (dk_at dksX3_barrier_0 15 rfl rfl)
theorem dX3_barrier_16 : decode cX3_barrier 16 = .ok (.goto 4, 3) := dk_167 0 4 (dk_at dksX3_barrier_0 16 rfl rfl)
theorem dX3_barrier_19 : decode cX3_barrier 19 = .ok (.iconst 0, 1) := dk_3 (dk_at dksX3_barrier_0 19 rfl rfl)
theorem dX3_barrier_20 : decode cX3_barrier 20 = .ok (.iconst 1, 1) := dk_4 (dk_at dksX3_barrier_0 20 rfl rfl)
theorem dX3_barrier_21 : decode cX3_barrier 21 = .ok (.iconst 1, 1) := dk_4 (dk_at dksX3_barrier_0 21 rfl rfl)
theorem dX3_barrier_22 : decode cX3_barrier 22 = .ok (.invokevirtual 159, 3) := dk_182 0 159 (dk_at dksX3_barrier_1 0 rfl rfl)
theorem dX3_barrier_25 : decode cX3_barrier 25 = .ok (.ifCond .eq 5, 3) := dk_153 0 5 (dk_at dksX3_barrier_1 3 rfl rfl)
theorem dX3_barrier_28 : decode cX3_barrier 28 = .ok (.iconst 0, 1) := dk_3 (dk_at dksX3_barrier_1 6 rfl rfl)
theorem dX3_barrier_29 : decode cX3_barrier 29 = .ok (.ireturn, 1) := dk_172 (dk_at dksX3_barrier_1 7 rfl rfl)
theorem dX3_barrier_30 : decode cX3_barrier 30 = .ok (.aload_n 0, 1) := dk_42 (dk_at dksX3_barrier_1 8 rfl rfl)
theorem dX3_barrier_31 : decode cX3_barrier 31 = .ok (.invokevirtual 209, 3) := dk_182 0 209 (dk_at dksX3_barrier_1 9 rfl rfl)
theorem dX3_barrier_34 : decode cX3_barrier 34 = .ok (.iconst (-1), 1) := dk_2 (dk_at dksX3_barrier_1 12 rfl rfl)
theorem dX3_barrier_35 : decode cX3_barrier 35 = .ok (.istore_n 2, 1) := dk_61 (dk_at dksX3_barrier_1 13 rfl rfl)
theorem dX3_barrier_36 : decode cX3_barrier 36 = .ok (.iconst 0, 1) := dk_3 (dk_at dksX3_barrier_1 14 rfl rfl)
theorem dX3_barrier_37 : decode cX3_barrier 37 = .ok (.istore_n 3, 1) := dk_62 (dk_at dksX3_barrier_1 15 rfl rfl)
theorem dX3_barrier_38 : decode cX3_barrier 38 = .ok (.iload_n 3, 1) := dk_29 (dk_at dksX3_barrier_1 16 rfl rfl)
theorem dX3_barrier_39 : decode cX3_barrier 39 = .ok (.aload_n 0, 1) := dk_42 (dk_at dksX3_barrier_1 17 rfl rfl)
theorem dX3_barrier_40 : decode cX3_barrier 40 = .ok (.invokevirtual 194, 3) := dk_182 0 194 (dk_at dksX3_barrier_1 18 rfl rfl)
theorem dX3_barrier_43 : decode cX3_barrier 43 = .ok (.if_icmp .gt 65, 3) := dk_163 0 65 (dk_at dksX3_barrier_1 21 rfl rfl)
theorem dX3_barrier_46 : decode cX3_barrier 46 = .ok (.iload_n 2, 1) := dk_28 (dk_at dksX3_barrier_2 0 rfl rfl)
theorem dX3_barrier_47 : decode cX3_barrier 47 = .ok (.iconst (-1), 1) := dk_2 (dk_at dksX3_barrier_2 1 rfl rfl)
theorem dX3_barrier_48 : decode cX3_barrier 48 = .ok (.if_icmp .eq 35, 3) := dk_159 0 35 (dk_at dksX3_barrier_2 2 rfl rfl)
theorem dX3_barrier_51 : decode cX3_barrier 51 = .ok (.iload_n 1, 1) := dk_27 (dk_at dksX3_barrier_2 5 rfl rfl)
theorem dX3_barrier_52 : decode cX3_barrier 52 = .ok (.ifCond .ne 17, 3) := dk_154 0 17 (dk_at dksX3_barrier_2 6 rfl rfl)
theorem dX3_barrier_55 : decode cX3_barrier 55 = .ok (.iload_n 3, 1) := dk_29 (dk_at dksX3_barrier_2 9 rfl rfl)
theorem dX3_barrier_56 : decode cX3_barrier 56 = .ok (.invokestatic 221, 3) := dk_184 0 221 (dk_at dksX3_barrier_2 10 rfl rfl)
theorem dX3_barrier_59 : decode cX3_barrier 59 = .ok (.iload_n 2, 1) := dk_28 (dk_at dksX3_barrier_2 13 rfl rfl)
theorem dX3_barrier_60 : decode cX3_barrier 60 = .ok (.invokestatic 221, 3) := dk_184 0 221 (dk_at dksX3_barrier_2 14 rfl rfl)
theorem dX3_barrier_63 : decode cX3_barrier 63 = .ok (.if_icmp .lt 20, 3) := dk_161 0 20 (dk_at dksX3_barrier_2 17 rfl rfl)
theorem dX3_barrier_66 : decode cX3_barrier 66 = .ok (.goto 36, 3) := dk_167 0 36 (dk_at dksX3_barrier_2 20 rfl rfl)
theorem dX3_barrier_69 : decode cX3_barrier 69 = .ok (.iload_n 3, 1) := dk_29 (dk_at dksX3_barrier_2 23 rfl rfl)
theorem dX3_barrier_70 : decode cX3_barrier 70 = .ok (.invokestatic 221, 3) := dk_184 0 221 (dk_at dksX3_barrier_3 0 rfl rfl)
theorem dX3_barrier_73 : decode cX3_barrier 73 = .ok (.iload_n 2, 1) := dk_28 (dk_at dksX3_barrier_3 3 rfl rfl)
theorem dX3_barrier_74 : decode cX3_barrier 74 = .ok (.invokestatic 221, 3) := dk_184 0 221 (dk_at dksX3_barrier_3 4 rfl rfl)
theorem dX3_barrier_77 : decode cX3_barrier 77 = .ok (.if_icmp .gt 6, 3) := dk_163 0 6 (dk_at dksX3_barrier_3 7 rfl rfl)
theorem dX3_barrier_80 : decode cX3_barrier 80 = .ok (.goto 22, 3) := dk_167 0 22 (dk_at dksX3_barrier_3 10 rfl rfl)
theorem dX3_barrier_83 : decode cX3_barrier 83 = .ok (.aload_n 0, 1) := dk_42 (dk_at dksX3_barrier_3 13 rfl rfl)
theorem dX3_barrier_84 : decode cX3_barrier 84 = .ok (.iload_n 3, 1) := dk_29 (dk_at dksX3_barrier_3 14 rfl rfl)
theorem dX3_barrier_85 : decode cX3_barrier 85 = .ok (.invokevirtual 275, 3) := dk_182 1 19 (dk_at dksX3_barrier_3 15 rfl rfl)
theorem dX3_barrier_88 : decode cX3_barrier 88 = .ok (.iload_n 3, 1) := dk_29 (dk_at dksX3_barrier_3 18 rfl rfl)
theorem dX3_barrier_89 : decode cX3_barrier 89 = .ok (.invokestatic 221, 3) := dk_184 0 221 (dk_at dksX3_barrier_3 19 rfl rfl)
theorem dX3_barrier_92 : decode cX3_barrier 92 = .ok (.isub, 1) := dk_100 (dk_at dksX3_barrier_3 22 rfl rfl)
theorem dX3_barrier_93 : decode cX3_barrier 93 = .ok (.aload_n 0, 1) := dk_42 (dk_at dksX3_barrier_3 23 rfl rfl)
theorem dX3_barrier_94 : decode cX3_barrier 94 = .ok (.invokevirtual 266, 3) := dk_182 1 10 (dk_at dksX3_barrier_4 0 rfl rfl)
theorem dX3_barrier_97 : decode cX3_barrier 97 = .ok (.if_icmp .ne 5, 3) := dk_160 0 5 (dk_at dksX3_barrier_4 3 rfl rfl)
theorem dX3_barrier_100 : decode cX3_barrier 100 = .ok (.iload_n 3, 1) := dk_29 (dk_at dksX3_barrier_4 6 rfl rfl)
theorem dX3_barrier_101 : decode cX3_barrier 101 = .ok (.istore_n 2, 1) := dk_61 (dk_at dksX3_barrier_4 7 rfl rfl)
theorem dX3_barrier_102 : decode cX3_barrier 102 = .ok (.iinc 3 1, 3) := dk_132 3 1 (dk_at dksX3_barrier_4 8 rfl rfl)
theorem dX3_barrier_105 : decode cX3_barrier 105 = .ok (.goto (-67), 3) := dk_167 255 189 (dk_at dksX3_barrier_4 11 rfl rfl)
theorem dX3_barrier_108 : decode cX3_barrier 108 = .ok (.iload_n 2, 1) := dk_28 (dk_at dksX3_barrier_4 14 rfl rfl)
theorem dX3_barrier_109 : decode cX3_barrier 109 = .ok (.ireturn, 1) := dk_172 (dk_at dksX3_barrier_4 15 rfl rfl)
abbrev cX3_ways : ByteArray := prog_12_method_68_code
def yX3_ways : MethodName := ⟨RX3, "ways", "()I"⟩
def dkwX3_ways_0 : List UInt8 := [42, 3, 181, 0, 72, 42, 182, 0, 209, 42, 180, 0, 43, 42, 182, 0, 194, 47, 136, 172]
abbrev dktX3_ways_0 : List UInt8 := dkwX3_ways_0 ++ []
theorem dksX3_ways_0 : cX3_ways.data.toList.drop 0 = dktX3_ways_0 := by decide +kernel
theorem dX3_ways_0 : decode cX3_ways 0 = .ok (.aload_n 0, 1) := dk_42 (dk_at dksX3_ways_0 0 rfl rfl)
theorem dX3_ways_1 : decode cX3_ways 1 = .ok (.iconst 0, 1) := dk_3 (dk_at dksX3_ways_0 1 rfl rfl)
theorem dX3_ways_2 : decode cX3_ways 2 = .ok (.putfield 72, 3) := dk_181 0 72 (dk_at dksX3_ways_0 2 rfl rfl)
theorem dX3_ways_5 : decode cX3_ways 5 = .ok (.aload_n 0, 1) := dk_42 (dk_at dksX3_ways_0 5 rfl rfl)
theorem dX3_ways_6 : decode cX3_ways 6 = .ok (.invokevirtual 209, 3) := dk_182 0 209 (dk_at dksX3_ways_0 6 rfl rfl)
theorem dX3_ways_9 : decode cX3_ways 9 = .ok (.aload_n 0, 1) := dk_42 (dk_at dksX3_ways_0 9 rfl rfl)
theorem dX3_ways_10 : decode cX3_ways 10 = .ok (.getfield 43, 3) := dk_180 0 43 (dk_at dksX3_ways_0 10 rfl rfl)
theorem dX3_ways_13 : decode cX3_ways 13 = .ok (.aload_n 0, 1) := dk_42 (dk_at dksX3_ways_0 13 rfl rfl)
theorem dX3_ways_14 : decode cX3_ways 14 = .ok (.invokevirtual 194, 3) := dk_182 0 194 (dk_at dksX3_ways_0 14 rfl rfl)
theorem dX3_ways_17 : decode cX3_ways 17 = .ok (.laload, 1) := dk_47 (dk_at dksX3_ways_0 17 rfl rfl)
theorem dX3_ways_18 : decode cX3_ways 18 = .ok (.l2i, 1) := dk_136 (dk_at dksX3_ways_0 18 rfl rfl)
theorem dX3_ways_19 : decode cX3_ways 19 = .ok (.ireturn, 1) := dk_172 (dk_at dksX3_ways_0 19 rfl rfl)
abbrev cX3_heavy : ByteArray := prog_12_method_69_code
def yX3_heavy : MethodName := ⟨RX3, "heavy", "(I)I"⟩
def dkwX3_heavy_2 : List UInt8 := [46, 167, 0, 12, 42, 180, 0, 40, 42, 182, 0, 194, 46, 172]
abbrev dktX3_heavy_2 : List UInt8 := dkwX3_heavy_2 ++ []
def dkwX3_heavy_1 : List UInt8 := [182, 0, 159, 153, 0, 5, 3, 172, 42, 182, 0, 209, 27, 154, 0, 15, 42, 180, 0, 37, 42, 182, 0, 194]
abbrev dktX3_heavy_1 : List UInt8 := dkwX3_heavy_1 ++ dktX3_heavy_2
def dkwX3_heavy_0 : List UInt8 := [42, 3, 181, 0, 72, 42, 27, 3, 4, 184, 0, 111, 154, 0, 7, 4, 167, 0, 4, 3, 4, 4]
abbrev dktX3_heavy_0 : List UInt8 := dkwX3_heavy_0 ++ dktX3_heavy_1
theorem dksX3_heavy_0 : cX3_heavy.data.toList.drop 0 = dktX3_heavy_0 := by decide +kernel
theorem dksX3_heavy_1 : cX3_heavy.data.toList.drop 22 = dktX3_heavy_1 := dk_seg dksX3_heavy_0 22 rfl rfl
theorem dksX3_heavy_2 : cX3_heavy.data.toList.drop 46 = dktX3_heavy_2 := dk_seg dksX3_heavy_1 24 rfl rfl
theorem dX3_heavy_0 : decode cX3_heavy 0 = .ok (.aload_n 0, 1) := dk_42 (dk_at dksX3_heavy_0 0 rfl rfl)
theorem dX3_heavy_1 : decode cX3_heavy 1 = .ok (.iconst 0, 1) := dk_3 (dk_at dksX3_heavy_0 1 rfl rfl)
theorem dX3_heavy_2 : decode cX3_heavy 2 = .ok (.putfield 72, 3) := dk_181 0 72 (dk_at dksX3_heavy_0 2 rfl rfl)
theorem dX3_heavy_5 : decode cX3_heavy 5 = .ok (.aload_n 0, 1) := dk_42 (dk_at dksX3_heavy_0 5 rfl rfl)
theorem dX3_heavy_6 : decode cX3_heavy 6 = .ok (.iload_n 1, 1) := dk_27 (dk_at dksX3_heavy_0 6 rfl rfl)
theorem dX3_heavy_7 : decode cX3_heavy 7 = .ok (.iconst 0, 1) := dk_3 (dk_at dksX3_heavy_0 7 rfl rfl)
theorem dX3_heavy_8 : decode cX3_heavy 8 = .ok (.iconst 1, 1) := dk_4 (dk_at dksX3_heavy_0 8 rfl rfl)
theorem dX3_heavy_9 : decode cX3_heavy 9 = .ok (.invokestatic 111, 3) := dk_184 0 111 (dk_at dksX3_heavy_0 9 rfl rfl)
theorem dX3_heavy_12 : decode cX3_heavy 12 = .ok (.ifCond .ne 7, 3) := dk_154 0 7 (dk_at dksX3_heavy_0 12 rfl rfl)
theorem dX3_heavy_15 : decode cX3_heavy 15 = .ok (.iconst 1, 1) := dk_4 (dk_at dksX3_heavy_0 15 rfl rfl)
theorem dX3_heavy_16 : decode cX3_heavy 16 = .ok (.goto 4, 3) := dk_167 0 4 (dk_at dksX3_heavy_0 16 rfl rfl)
theorem dX3_heavy_19 : decode cX3_heavy 19 = .ok (.iconst 0, 1) := dk_3 (dk_at dksX3_heavy_0 19 rfl rfl)
theorem dX3_heavy_20 : decode cX3_heavy 20 = .ok (.iconst 1, 1) := dk_4 (dk_at dksX3_heavy_0 20 rfl rfl)
theorem dX3_heavy_21 : decode cX3_heavy 21 = .ok (.iconst 1, 1) := dk_4 (dk_at dksX3_heavy_0 21 rfl rfl)
theorem dX3_heavy_22 : decode cX3_heavy 22 = .ok (.invokevirtual 159, 3) := dk_182 0 159 (dk_at dksX3_heavy_1 0 rfl rfl)
theorem dX3_heavy_25 : decode cX3_heavy 25 = .ok (.ifCond .eq 5, 3) := dk_153 0 5 (dk_at dksX3_heavy_1 3 rfl rfl)
theorem dX3_heavy_28 : decode cX3_heavy 28 = .ok (.iconst 0, 1) := dk_3 (dk_at dksX3_heavy_1 6 rfl rfl)
theorem dX3_heavy_29 : decode cX3_heavy 29 = .ok (.ireturn, 1) := dk_172 (dk_at dksX3_heavy_1 7 rfl rfl)
theorem dX3_heavy_30 : decode cX3_heavy 30 = .ok (.aload_n 0, 1) := dk_42 (dk_at dksX3_heavy_1 8 rfl rfl)
theorem dX3_heavy_31 : decode cX3_heavy 31 = .ok (.invokevirtual 209, 3) := dk_182 0 209 (dk_at dksX3_heavy_1 9 rfl rfl)
theorem dX3_heavy_34 : decode cX3_heavy 34 = .ok (.iload_n 1, 1) := dk_27 (dk_at dksX3_heavy_1 12 rfl rfl)
theorem dX3_heavy_35 : decode cX3_heavy 35 = .ok (.ifCond .ne 15, 3) := dk_154 0 15 (dk_at dksX3_heavy_1 13 rfl rfl)
theorem dX3_heavy_38 : decode cX3_heavy 38 = .ok (.aload_n 0, 1) := dk_42 (dk_at dksX3_heavy_1 16 rfl rfl)
theorem dX3_heavy_39 : decode cX3_heavy 39 = .ok (.getfield 37, 3) := dk_180 0 37 (dk_at dksX3_heavy_1 17 rfl rfl)
theorem dX3_heavy_42 : decode cX3_heavy 42 = .ok (.aload_n 0, 1) := dk_42 (dk_at dksX3_heavy_1 20 rfl rfl)
theorem dX3_heavy_43 : decode cX3_heavy 43 = .ok (.invokevirtual 194, 3) := dk_182 0 194 (dk_at dksX3_heavy_1 21 rfl rfl)
theorem dX3_heavy_46 : decode cX3_heavy 46 = .ok (.iaload, 1) := dk_46 (dk_at dksX3_heavy_2 0 rfl rfl)
theorem dX3_heavy_47 : decode cX3_heavy 47 = .ok (.goto 12, 3) := dk_167 0 12 (dk_at dksX3_heavy_2 1 rfl rfl)
theorem dX3_heavy_50 : decode cX3_heavy 50 = .ok (.aload_n 0, 1) := dk_42 (dk_at dksX3_heavy_2 4 rfl rfl)
theorem dX3_heavy_51 : decode cX3_heavy 51 = .ok (.getfield 40, 3) := dk_180 0 40 (dk_at dksX3_heavy_2 5 rfl rfl)
theorem dX3_heavy_54 : decode cX3_heavy 54 = .ok (.aload_n 0, 1) := dk_42 (dk_at dksX3_heavy_2 8 rfl rfl)
theorem dX3_heavy_55 : decode cX3_heavy 55 = .ok (.invokevirtual 194, 3) := dk_182 0 194 (dk_at dksX3_heavy_2 9 rfl rfl)
theorem dX3_heavy_58 : decode cX3_heavy 58 = .ok (.iaload, 1) := dk_46 (dk_at dksX3_heavy_2 12 rfl rfl)
theorem dX3_heavy_59 : decode cX3_heavy 59 = .ok (.ireturn, 1) := dk_172 (dk_at dksX3_heavy_2 13 rfl rfl)
abbrev cX3_path : ByteArray := prog_12_method_71_code
def yX3_path : MethodName := ⟨RX3, "path", "(II)I"⟩
def dkwX3_path_1 : List UInt8 := [153, 0, 5, 3, 172, 42, 27, 182, 1, 1, 62, 42, 29, 28, 42, 180, 0, 236, 4, 100, 182, 1, 22, 172]
abbrev dktX3_path_1 : List UInt8 := dkwX3_path_1 ++ []
def dkwX3_path_0 : List UInt8 := [42, 3, 181, 0, 72, 42, 42, 27, 182, 0, 245, 154, 0, 7, 4, 167, 0, 4, 3, 4, 3, 182, 0, 159]
abbrev dktX3_path_0 : List UInt8 := dkwX3_path_0 ++ dktX3_path_1
theorem dksX3_path_0 : cX3_path.data.toList.drop 0 = dktX3_path_0 := by decide +kernel
theorem dksX3_path_1 : cX3_path.data.toList.drop 24 = dktX3_path_1 := dk_seg dksX3_path_0 24 rfl rfl
theorem dX3_path_0 : decode cX3_path 0 = .ok (.aload_n 0, 1) := dk_42 (dk_at dksX3_path_0 0 rfl rfl)
theorem dX3_path_1 : decode cX3_path 1 = .ok (.iconst 0, 1) := dk_3 (dk_at dksX3_path_0 1 rfl rfl)
theorem dX3_path_2 : decode cX3_path 2 = .ok (.putfield 72, 3) := dk_181 0 72 (dk_at dksX3_path_0 2 rfl rfl)
theorem dX3_path_5 : decode cX3_path 5 = .ok (.aload_n 0, 1) := dk_42 (dk_at dksX3_path_0 5 rfl rfl)
theorem dX3_path_6 : decode cX3_path 6 = .ok (.aload_n 0, 1) := dk_42 (dk_at dksX3_path_0 6 rfl rfl)
theorem dX3_path_7 : decode cX3_path 7 = .ok (.iload_n 1, 1) := dk_27 (dk_at dksX3_path_0 7 rfl rfl)
theorem dX3_path_8 : decode cX3_path 8 = .ok (.invokevirtual 245, 3) := dk_182 0 245 (dk_at dksX3_path_0 8 rfl rfl)
theorem dX3_path_11 : decode cX3_path 11 = .ok (.ifCond .ne 7, 3) := dk_154 0 7 (dk_at dksX3_path_0 11 rfl rfl)
theorem dX3_path_14 : decode cX3_path 14 = .ok (.iconst 1, 1) := dk_4 (dk_at dksX3_path_0 14 rfl rfl)
theorem dX3_path_15 : decode cX3_path 15 = .ok (.goto 4, 3) := dk_167 0 4 (dk_at dksX3_path_0 15 rfl rfl)
theorem dX3_path_18 : decode cX3_path 18 = .ok (.iconst 0, 1) := dk_3 (dk_at dksX3_path_0 18 rfl rfl)
theorem dX3_path_19 : decode cX3_path 19 = .ok (.iconst 1, 1) := dk_4 (dk_at dksX3_path_0 19 rfl rfl)
theorem dX3_path_20 : decode cX3_path 20 = .ok (.iconst 0, 1) := dk_3 (dk_at dksX3_path_0 20 rfl rfl)
theorem dX3_path_21 : decode cX3_path 21 = .ok (.invokevirtual 159, 3) := dk_182 0 159 (dk_at dksX3_path_0 21 rfl rfl)
theorem dX3_path_24 : decode cX3_path 24 = .ok (.ifCond .eq 5, 3) := dk_153 0 5 (dk_at dksX3_path_1 0 rfl rfl)
theorem dX3_path_27 : decode cX3_path 27 = .ok (.iconst 0, 1) := dk_3 (dk_at dksX3_path_1 3 rfl rfl)
theorem dX3_path_28 : decode cX3_path 28 = .ok (.ireturn, 1) := dk_172 (dk_at dksX3_path_1 4 rfl rfl)
theorem dX3_path_29 : decode cX3_path 29 = .ok (.aload_n 0, 1) := dk_42 (dk_at dksX3_path_1 5 rfl rfl)
theorem dX3_path_30 : decode cX3_path 30 = .ok (.iload_n 1, 1) := dk_27 (dk_at dksX3_path_1 6 rfl rfl)
theorem dX3_path_31 : decode cX3_path 31 = .ok (.invokevirtual 257, 3) := dk_182 1 1 (dk_at dksX3_path_1 7 rfl rfl)
theorem dX3_path_34 : decode cX3_path 34 = .ok (.istore_n 3, 1) := dk_62 (dk_at dksX3_path_1 10 rfl rfl)
theorem dX3_path_35 : decode cX3_path 35 = .ok (.aload_n 0, 1) := dk_42 (dk_at dksX3_path_1 11 rfl rfl)
theorem dX3_path_36 : decode cX3_path 36 = .ok (.iload_n 3, 1) := dk_29 (dk_at dksX3_path_1 12 rfl rfl)
theorem dX3_path_37 : decode cX3_path 37 = .ok (.iload_n 2, 1) := dk_28 (dk_at dksX3_path_1 13 rfl rfl)
theorem dX3_path_38 : decode cX3_path 38 = .ok (.aload_n 0, 1) := dk_42 (dk_at dksX3_path_1 14 rfl rfl)
theorem dX3_path_39 : decode cX3_path 39 = .ok (.getfield 236, 3) := dk_180 0 236 (dk_at dksX3_path_1 15 rfl rfl)
theorem dX3_path_42 : decode cX3_path 42 = .ok (.iconst 1, 1) := dk_4 (dk_at dksX3_path_1 18 rfl rfl)
theorem dX3_path_43 : decode cX3_path 43 = .ok (.isub, 1) := dk_100 (dk_at dksX3_path_1 19 rfl rfl)
theorem dX3_path_44 : decode cX3_path 44 = .ok (.invokevirtual 278, 3) := dk_182 1 22 (dk_at dksX3_path_1 20 rfl rfl)
theorem dX3_path_47 : decode cX3_path 47 = .ok (.ireturn, 1) := dk_172 (dk_at dksX3_path_1 23 rfl rfl)
abbrev cX3_rowAt : ByteArray := prog_12_method_70_code
def yX3_rowAt : MethodName := ⟨RX3, "rowAt", "(ZII)I"⟩
def dkwX3_rowAt_2 : List UInt8 := [180, 0, 55, 28, 46, 172]
abbrev dktX3_rowAt_2 : List UInt8 := dkwX3_rowAt_2 ++ []
def dkwX3_rowAt_1 : List UInt8 := [184, 0, 111, 154, 0, 7, 4, 167, 0, 4, 3, 4, 3, 182, 0, 159, 153, 0, 7, 3, 167, 0, 9, 42]
abbrev dktX3_rowAt_1 : List UInt8 := dkwX3_rowAt_1 ++ dktX3_rowAt_2
def dkwX3_rowAt_0 : List UInt8 := [27, 154, 0, 5, 2, 172, 28, 2, 160, 0, 5, 29, 172, 42, 28, 3, 42, 180, 0, 236, 4, 100]
abbrev dktX3_rowAt_0 : List UInt8 := dkwX3_rowAt_0 ++ dktX3_rowAt_1
theorem dksX3_rowAt_0 : cX3_rowAt.data.toList.drop 0 = dktX3_rowAt_0 := by decide +kernel
theorem dksX3_rowAt_1 : cX3_rowAt.data.toList.drop 22 = dktX3_rowAt_1 := dk_seg dksX3_rowAt_0 22 rfl rfl
theorem dksX3_rowAt_2 : cX3_rowAt.data.toList.drop 46 = dktX3_rowAt_2 := dk_seg dksX3_rowAt_1 24 rfl rfl
theorem dX3_rowAt_0 : decode cX3_rowAt 0 = .ok (.iload_n 1, 1) := dk_27 (dk_at dksX3_rowAt_0 0 rfl rfl)
theorem dX3_rowAt_1 : decode cX3_rowAt 1 = .ok (.ifCond .ne 5, 3) := dk_154 0 5 (dk_at dksX3_rowAt_0 1 rfl rfl)
theorem dX3_rowAt_4 : decode cX3_rowAt 4 = .ok (.iconst (-1), 1) := dk_2 (dk_at dksX3_rowAt_0 4 rfl rfl)
theorem dX3_rowAt_5 : decode cX3_rowAt 5 = .ok (.ireturn, 1) := dk_172 (dk_at dksX3_rowAt_0 5 rfl rfl)
theorem dX3_rowAt_6 : decode cX3_rowAt 6 = .ok (.iload_n 2, 1) := dk_28 (dk_at dksX3_rowAt_0 6 rfl rfl)
theorem dX3_rowAt_7 : decode cX3_rowAt 7 = .ok (.iconst (-1), 1) := dk_2 (dk_at dksX3_rowAt_0 7 rfl rfl)
theorem dX3_rowAt_8 : decode cX3_rowAt 8 = .ok (.if_icmp .ne 5, 3) := dk_160 0 5 (dk_at dksX3_rowAt_0 8 rfl rfl)
theorem dX3_rowAt_11 : decode cX3_rowAt 11 = .ok (.iload_n 3, 1) := dk_29 (dk_at dksX3_rowAt_0 11 rfl rfl)
theorem dX3_rowAt_12 : decode cX3_rowAt 12 = .ok (.ireturn, 1) := dk_172 (dk_at dksX3_rowAt_0 12 rfl rfl)
theorem dX3_rowAt_13 : decode cX3_rowAt 13 = .ok (.aload_n 0, 1) := dk_42 (dk_at dksX3_rowAt_0 13 rfl rfl)
theorem dX3_rowAt_14 : decode cX3_rowAt 14 = .ok (.iload_n 2, 1) := dk_28 (dk_at dksX3_rowAt_0 14 rfl rfl)
theorem dX3_rowAt_15 : decode cX3_rowAt 15 = .ok (.iconst 0, 1) := dk_3 (dk_at dksX3_rowAt_0 15 rfl rfl)
theorem dX3_rowAt_16 : decode cX3_rowAt 16 = .ok (.aload_n 0, 1) := dk_42 (dk_at dksX3_rowAt_0 16 rfl rfl)
theorem dX3_rowAt_17 : decode cX3_rowAt 17 = .ok (.getfield 236, 3) := dk_180 0 236 (dk_at dksX3_rowAt_0 17 rfl rfl)
theorem dX3_rowAt_20 : decode cX3_rowAt 20 = .ok (.iconst 1, 1) := dk_4 (dk_at dksX3_rowAt_0 20 rfl rfl)
theorem dX3_rowAt_21 : decode cX3_rowAt 21 = .ok (.isub, 1) := dk_100 (dk_at dksX3_rowAt_0 21 rfl rfl)
theorem dX3_rowAt_22 : decode cX3_rowAt 22 = .ok (.invokestatic 111, 3) := dk_184 0 111 (dk_at dksX3_rowAt_1 0 rfl rfl)
theorem dX3_rowAt_25 : decode cX3_rowAt 25 = .ok (.ifCond .ne 7, 3) := dk_154 0 7 (dk_at dksX3_rowAt_1 3 rfl rfl)
theorem dX3_rowAt_28 : decode cX3_rowAt 28 = .ok (.iconst 1, 1) := dk_4 (dk_at dksX3_rowAt_1 6 rfl rfl)
theorem dX3_rowAt_29 : decode cX3_rowAt 29 = .ok (.goto 4, 3) := dk_167 0 4 (dk_at dksX3_rowAt_1 7 rfl rfl)
theorem dX3_rowAt_32 : decode cX3_rowAt 32 = .ok (.iconst 0, 1) := dk_3 (dk_at dksX3_rowAt_1 10 rfl rfl)
theorem dX3_rowAt_33 : decode cX3_rowAt 33 = .ok (.iconst 1, 1) := dk_4 (dk_at dksX3_rowAt_1 11 rfl rfl)
theorem dX3_rowAt_34 : decode cX3_rowAt 34 = .ok (.iconst 0, 1) := dk_3 (dk_at dksX3_rowAt_1 12 rfl rfl)
theorem dX3_rowAt_35 : decode cX3_rowAt 35 = .ok (.invokevirtual 159, 3) := dk_182 0 159 (dk_at dksX3_rowAt_1 13 rfl rfl)
theorem dX3_rowAt_38 : decode cX3_rowAt 38 = .ok (.ifCond .eq 7, 3) := dk_153 0 7 (dk_at dksX3_rowAt_1 16 rfl rfl)
theorem dX3_rowAt_41 : decode cX3_rowAt 41 = .ok (.iconst 0, 1) := dk_3 (dk_at dksX3_rowAt_1 19 rfl rfl)
theorem dX3_rowAt_42 : decode cX3_rowAt 42 = .ok (.goto 9, 3) := dk_167 0 9 (dk_at dksX3_rowAt_1 20 rfl rfl)
theorem dX3_rowAt_45 : decode cX3_rowAt 45 = .ok (.aload_n 0, 1) := dk_42 (dk_at dksX3_rowAt_1 23 rfl rfl)
theorem dX3_rowAt_46 : decode cX3_rowAt 46 = .ok (.getfield 55, 3) := dk_180 0 55 (dk_at dksX3_rowAt_2 0 rfl rfl)
theorem dX3_rowAt_49 : decode cX3_rowAt 49 = .ok (.iload_n 2, 1) := dk_28 (dk_at dksX3_rowAt_2 3 rfl rfl)
theorem dX3_rowAt_50 : decode cX3_rowAt 50 = .ok (.iaload, 1) := dk_46 (dk_at dksX3_rowAt_2 4 rfl rfl)
theorem dX3_rowAt_51 : decode cX3_rowAt 51 = .ok (.ireturn, 1) := dk_172 (dk_at dksX3_rowAt_2 5 rfl rfl)
abbrev cX3_flower : ByteArray := prog_12_method_72_code
def yX3_flower : MethodName := ⟨RX3, "flower", "(II)I"⟩
def dkwX3_flower_1 : List UInt8 := [153, 0, 5, 3, 172, 42, 27, 182, 1, 7, 62, 42, 29, 28, 42, 180, 0, 236, 182, 1, 22, 172]
abbrev dktX3_flower_1 : List UInt8 := dkwX3_flower_1 ++ []
def dkwX3_flower_0 : List UInt8 := [42, 3, 181, 0, 72, 42, 42, 27, 182, 0, 245, 154, 0, 7, 4, 167, 0, 4, 3, 4, 3, 182, 0, 159]
abbrev dktX3_flower_0 : List UInt8 := dkwX3_flower_0 ++ dktX3_flower_1
theorem dksX3_flower_0 : cX3_flower.data.toList.drop 0 = dktX3_flower_0 := by decide +kernel
theorem dksX3_flower_1 : cX3_flower.data.toList.drop 24 = dktX3_flower_1 := dk_seg dksX3_flower_0 24 rfl rfl
theorem dX3_flower_0 : decode cX3_flower 0 = .ok (.aload_n 0, 1) := dk_42 (dk_at dksX3_flower_0 0 rfl rfl)
theorem dX3_flower_1 : decode cX3_flower 1 = .ok (.iconst 0, 1) := dk_3 (dk_at dksX3_flower_0 1 rfl rfl)
theorem dX3_flower_2 : decode cX3_flower 2 = .ok (.putfield 72, 3) := dk_181 0 72 (dk_at dksX3_flower_0 2 rfl rfl)
theorem dX3_flower_5 : decode cX3_flower 5 = .ok (.aload_n 0, 1) := dk_42 (dk_at dksX3_flower_0 5 rfl rfl)
theorem dX3_flower_6 : decode cX3_flower 6 = .ok (.aload_n 0, 1) := dk_42 (dk_at dksX3_flower_0 6 rfl rfl)
theorem dX3_flower_7 : decode cX3_flower 7 = .ok (.iload_n 1, 1) := dk_27 (dk_at dksX3_flower_0 7 rfl rfl)
theorem dX3_flower_8 : decode cX3_flower 8 = .ok (.invokevirtual 245, 3) := dk_182 0 245 (dk_at dksX3_flower_0 8 rfl rfl)
theorem dX3_flower_11 : decode cX3_flower 11 = .ok (.ifCond .ne 7, 3) := dk_154 0 7 (dk_at dksX3_flower_0 11 rfl rfl)
theorem dX3_flower_14 : decode cX3_flower 14 = .ok (.iconst 1, 1) := dk_4 (dk_at dksX3_flower_0 14 rfl rfl)
theorem dX3_flower_15 : decode cX3_flower 15 = .ok (.goto 4, 3) := dk_167 0 4 (dk_at dksX3_flower_0 15 rfl rfl)
theorem dX3_flower_18 : decode cX3_flower 18 = .ok (.iconst 0, 1) := dk_3 (dk_at dksX3_flower_0 18 rfl rfl)
theorem dX3_flower_19 : decode cX3_flower 19 = .ok (.iconst 1, 1) := dk_4 (dk_at dksX3_flower_0 19 rfl rfl)
theorem dX3_flower_20 : decode cX3_flower 20 = .ok (.iconst 0, 1) := dk_3 (dk_at dksX3_flower_0 20 rfl rfl)
theorem dX3_flower_21 : decode cX3_flower 21 = .ok (.invokevirtual 159, 3) := dk_182 0 159 (dk_at dksX3_flower_0 21 rfl rfl)
theorem dX3_flower_24 : decode cX3_flower 24 = .ok (.ifCond .eq 5, 3) := dk_153 0 5 (dk_at dksX3_flower_1 0 rfl rfl)
theorem dX3_flower_27 : decode cX3_flower 27 = .ok (.iconst 0, 1) := dk_3 (dk_at dksX3_flower_1 3 rfl rfl)
theorem dX3_flower_28 : decode cX3_flower 28 = .ok (.ireturn, 1) := dk_172 (dk_at dksX3_flower_1 4 rfl rfl)
theorem dX3_flower_29 : decode cX3_flower 29 = .ok (.aload_n 0, 1) := dk_42 (dk_at dksX3_flower_1 5 rfl rfl)
theorem dX3_flower_30 : decode cX3_flower 30 = .ok (.iload_n 1, 1) := dk_27 (dk_at dksX3_flower_1 6 rfl rfl)
theorem dX3_flower_31 : decode cX3_flower 31 = .ok (.invokevirtual 263, 3) := dk_182 1 7 (dk_at dksX3_flower_1 7 rfl rfl)
theorem dX3_flower_34 : decode cX3_flower 34 = .ok (.istore_n 3, 1) := dk_62 (dk_at dksX3_flower_1 10 rfl rfl)
theorem dX3_flower_35 : decode cX3_flower 35 = .ok (.aload_n 0, 1) := dk_42 (dk_at dksX3_flower_1 11 rfl rfl)
theorem dX3_flower_36 : decode cX3_flower 36 = .ok (.iload_n 3, 1) := dk_29 (dk_at dksX3_flower_1 12 rfl rfl)
theorem dX3_flower_37 : decode cX3_flower 37 = .ok (.iload_n 2, 1) := dk_28 (dk_at dksX3_flower_1 13 rfl rfl)
theorem dX3_flower_38 : decode cX3_flower 38 = .ok (.aload_n 0, 1) := dk_42 (dk_at dksX3_flower_1 14 rfl rfl)
theorem dX3_flower_39 : decode cX3_flower 39 = .ok (.getfield 236, 3) := dk_180 0 236 (dk_at dksX3_flower_1 15 rfl rfl)
theorem dX3_flower_42 : decode cX3_flower 42 = .ok (.invokevirtual 278, 3) := dk_182 1 22 (dk_at dksX3_flower_1 18 rfl rfl)
theorem dX3_flower_45 : decode cX3_flower 45 = .ok (.ireturn, 1) := dk_172 (dk_at dksX3_flower_1 21 rfl rfl)
abbrev cX3_print : ByteArray := prog_12_method_73_code
def yX3_print : MethodName := ⟨RX3, "print", "()J"⟩
def dkwX3_print_4 : List UInt8 := [167, 255, 199, 31, 173]
abbrev dktX3_print_4 : List UInt8 := dkwX3_print_4 ++ []
def dkwX3_print_3 : List UInt8 := [20, 1, 26, 31, 105, 42, 29, 21, 4, 182, 0, 203, 133, 97, 64, 132, 4, 1, 167, 255, 218, 132, 3, 1]
abbrev dktX3_print_3 : List UInt8 := dkwX3_print_3 ++ dktX3_print_4
def dkwX3_print_2 : List UInt8 := [96, 54, 4, 21, 4, 42, 182, 0, 181, 162, 0, 35, 42, 29, 21, 4, 182, 0, 203, 2, 159, 0, 18]
abbrev dktX3_print_2 : List UInt8 := dkwX3_print_2 ++ dktX3_print_3
def dkwX3_print_1 : List UInt8 := [182, 0, 206, 133, 97, 64, 132, 3, 1, 167, 255, 232, 3, 62, 29, 42, 182, 0, 181, 162, 0, 55, 29, 4]
abbrev dktX3_print_1 : List UInt8 := dkwX3_print_1 ++ dktX3_print_2
def dkwX3_print_0 : List UInt8 := [42, 3, 181, 0, 72, 9, 64, 3, 62, 29, 42, 182, 0, 181, 162, 0, 22, 20, 1, 26, 31, 105, 42, 29]
abbrev dktX3_print_0 : List UInt8 := dkwX3_print_0 ++ dktX3_print_1
theorem dksX3_print_0 : cX3_print.data.toList.drop 0 = dktX3_print_0 := by decide +kernel
theorem dksX3_print_1 : cX3_print.data.toList.drop 24 = dktX3_print_1 := dk_seg dksX3_print_0 24 rfl rfl
theorem dksX3_print_2 : cX3_print.data.toList.drop 48 = dktX3_print_2 := dk_seg dksX3_print_1 24 rfl rfl
theorem dksX3_print_3 : cX3_print.data.toList.drop 71 = dktX3_print_3 := dk_seg dksX3_print_2 23 rfl rfl
theorem dksX3_print_4 : cX3_print.data.toList.drop 95 = dktX3_print_4 := dk_seg dksX3_print_3 24 rfl rfl
theorem dX3_print_0 : decode cX3_print 0 = .ok (.aload_n 0, 1) := dk_42 (dk_at dksX3_print_0 0 rfl rfl)
theorem dX3_print_1 : decode cX3_print 1 = .ok (.iconst 0, 1) := dk_3 (dk_at dksX3_print_0 1 rfl rfl)
theorem dX3_print_2 : decode cX3_print 2 = .ok (.putfield 72, 3) := dk_181 0 72 (dk_at dksX3_print_0 2 rfl rfl)
theorem dX3_print_5 : decode cX3_print 5 = .ok (.lconst 0, 1) := dk_9 (dk_at dksX3_print_0 5 rfl rfl)
theorem dX3_print_6 : decode cX3_print 6 = .ok (.lstore_n 1, 1) := dk_64 (dk_at dksX3_print_0 6 rfl rfl)
theorem dX3_print_7 : decode cX3_print 7 = .ok (.iconst 0, 1) := dk_3 (dk_at dksX3_print_0 7 rfl rfl)
theorem dX3_print_8 : decode cX3_print 8 = .ok (.istore_n 3, 1) := dk_62 (dk_at dksX3_print_0 8 rfl rfl)
theorem dX3_print_9 : decode cX3_print 9 = .ok (.iload_n 3, 1) := dk_29 (dk_at dksX3_print_0 9 rfl rfl)
theorem dX3_print_10 : decode cX3_print 10 = .ok (.aload_n 0, 1) := dk_42 (dk_at dksX3_print_0 10 rfl rfl)
theorem dX3_print_11 : decode cX3_print 11 = .ok (.invokevirtual 181, 3) := dk_182 0 181 (dk_at dksX3_print_0 11 rfl rfl)
theorem dX3_print_14 : decode cX3_print 14 = .ok (.if_icmp .ge 22, 3) := dk_162 0 22 (dk_at dksX3_print_0 14 rfl rfl)
theorem dX3_print_17 : decode cX3_print 17 = .ok (.ldc2_w 282, 3) := dk_20 1 26 (dk_at dksX3_print_0 17 rfl rfl)
theorem dX3_print_20 : decode cX3_print 20 = .ok (.lload_n 1, 1) := dk_31 (dk_at dksX3_print_0 20 rfl rfl)
theorem dX3_print_21 : decode cX3_print 21 = .ok (.lmul, 1) := dk_105 (dk_at dksX3_print_0 21 rfl rfl)
theorem dX3_print_22 : decode cX3_print 22 = .ok (.aload_n 0, 1) := dk_42 (dk_at dksX3_print_0 22 rfl rfl)
theorem dX3_print_23 : decode cX3_print 23 = .ok (.iload_n 3, 1) := dk_29 (dk_at dksX3_print_0 23 rfl rfl)
theorem dX3_print_24 : decode cX3_print 24 = .ok (.invokevirtual 206, 3) := dk_182 0 206 (dk_at dksX3_print_1 0 rfl rfl)
theorem dX3_print_27 : decode cX3_print 27 = .ok (.i2l, 1) := dk_133 (dk_at dksX3_print_1 3 rfl rfl)
theorem dX3_print_28 : decode cX3_print 28 = .ok (.ladd, 1) := dk_97 (dk_at dksX3_print_1 4 rfl rfl)
theorem dX3_print_29 : decode cX3_print 29 = .ok (.lstore_n 1, 1) := dk_64 (dk_at dksX3_print_1 5 rfl rfl)
theorem dX3_print_30 : decode cX3_print 30 = .ok (.iinc 3 1, 3) := dk_132 3 1 (dk_at dksX3_print_1 6 rfl rfl)
theorem dX3_print_33 : decode cX3_print 33 = .ok (.goto (-24), 3) := dk_167 255 232 (dk_at dksX3_print_1 9 rfl rfl)
theorem dX3_print_36 : decode cX3_print 36 = .ok (.iconst 0, 1) := dk_3 (dk_at dksX3_print_1 12 rfl rfl)
theorem dX3_print_37 : decode cX3_print 37 = .ok (.istore_n 3, 1) := dk_62 (dk_at dksX3_print_1 13 rfl rfl)
theorem dX3_print_38 : decode cX3_print 38 = .ok (.iload_n 3, 1) := dk_29 (dk_at dksX3_print_1 14 rfl rfl)
theorem dX3_print_39 : decode cX3_print 39 = .ok (.aload_n 0, 1) := dk_42 (dk_at dksX3_print_1 15 rfl rfl)
theorem dX3_print_40 : decode cX3_print 40 = .ok (.invokevirtual 181, 3) := dk_182 0 181 (dk_at dksX3_print_1 16 rfl rfl)
theorem dX3_print_43 : decode cX3_print 43 = .ok (.if_icmp .ge 55, 3) := dk_162 0 55 (dk_at dksX3_print_1 19 rfl rfl)
theorem dX3_print_46 : decode cX3_print 46 = .ok (.iload_n 3, 1) := dk_29 (dk_at dksX3_print_1 22 rfl rfl)
theorem dX3_print_47 : decode cX3_print 47 = .ok (.iconst 1, 1) := dk_4 (dk_at dksX3_print_1 23 rfl rfl)
theorem dX3_print_48 : decode cX3_print 48 = .ok (.iadd, 1) := dk_96 (dk_at dksX3_print_2 0 rfl rfl)
theorem dX3_print_49 : decode cX3_print 49 = .ok (.istore 4, 2) := dk_54 4 (dk_at dksX3_print_2 1 rfl rfl)
theorem dX3_print_51 : decode cX3_print 51 = .ok (.iload 4, 2) := dk_21 4 (dk_at dksX3_print_2 3 rfl rfl)
theorem dX3_print_53 : decode cX3_print 53 = .ok (.aload_n 0, 1) := dk_42 (dk_at dksX3_print_2 5 rfl rfl)
theorem dX3_print_54 : decode cX3_print 54 = .ok (.invokevirtual 181, 3) := dk_182 0 181 (dk_at dksX3_print_2 6 rfl rfl)
theorem dX3_print_57 : decode cX3_print 57 = .ok (.if_icmp .ge 35, 3) := dk_162 0 35 (dk_at dksX3_print_2 9 rfl rfl)
theorem dX3_print_60 : decode cX3_print 60 = .ok (.aload_n 0, 1) := dk_42 (dk_at dksX3_print_2 12 rfl rfl)
theorem dX3_print_61 : decode cX3_print 61 = .ok (.iload_n 3, 1) := dk_29 (dk_at dksX3_print_2 13 rfl rfl)
theorem dX3_print_62 : decode cX3_print 62 = .ok (.iload 4, 2) := dk_21 4 (dk_at dksX3_print_2 14 rfl rfl)
theorem dX3_print_64 : decode cX3_print 64 = .ok (.invokevirtual 203, 3) := dk_182 0 203 (dk_at dksX3_print_2 16 rfl rfl)
theorem dX3_print_67 : decode cX3_print 67 = .ok (.iconst (-1), 1) := dk_2 (dk_at dksX3_print_2 19 rfl rfl)
theorem dX3_print_68 : decode cX3_print 68 = .ok (.if_icmp .eq 18, 3) := dk_159 0 18 (dk_at dksX3_print_2 20 rfl rfl)
theorem dX3_print_71 : decode cX3_print 71 = .ok (.ldc2_w 282, 3) := dk_20 1 26 (dk_at dksX3_print_3 0 rfl rfl)
theorem dX3_print_74 : decode cX3_print 74 = .ok (.lload_n 1, 1) := dk_31 (dk_at dksX3_print_3 3 rfl rfl)
theorem dX3_print_75 : decode cX3_print 75 = .ok (.lmul, 1) := dk_105 (dk_at dksX3_print_3 4 rfl rfl)
theorem dX3_print_76 : decode cX3_print 76 = .ok (.aload_n 0, 1) := dk_42 (dk_at dksX3_print_3 5 rfl rfl)
theorem dX3_print_77 : decode cX3_print 77 = .ok (.iload_n 3, 1) := dk_29 (dk_at dksX3_print_3 6 rfl rfl)
theorem dX3_print_78 : decode cX3_print 78 = .ok (.iload 4, 2) := dk_21 4 (dk_at dksX3_print_3 7 rfl rfl)
theorem dX3_print_80 : decode cX3_print 80 = .ok (.invokevirtual 203, 3) := dk_182 0 203 (dk_at dksX3_print_3 9 rfl rfl)
theorem dX3_print_83 : decode cX3_print 83 = .ok (.i2l, 1) := dk_133 (dk_at dksX3_print_3 12 rfl rfl)
theorem dX3_print_84 : decode cX3_print 84 = .ok (.ladd, 1) := dk_97 (dk_at dksX3_print_3 13 rfl rfl)
theorem dX3_print_85 : decode cX3_print 85 = .ok (.lstore_n 1, 1) := dk_64 (dk_at dksX3_print_3 14 rfl rfl)
theorem dX3_print_86 : decode cX3_print 86 = .ok (.iinc 4 1, 3) := dk_132 4 1 (dk_at dksX3_print_3 15 rfl rfl)
theorem dX3_print_89 : decode cX3_print 89 = .ok (.goto (-38), 3) := dk_167 255 218 (dk_at dksX3_print_3 18 rfl rfl)
theorem dX3_print_92 : decode cX3_print 92 = .ok (.iinc 3 1, 3) := dk_132 3 1 (dk_at dksX3_print_3 21 rfl rfl)
theorem dX3_print_95 : decode cX3_print 95 = .ok (.goto (-57), 3) := dk_167 255 199 (dk_at dksX3_print_4 0 rfl rfl)
theorem dX3_print_98 : decode cX3_print 98 = .ok (.lload_n 1, 1) := dk_31 (dk_at dksX3_print_4 3 rfl rfl)
theorem dX3_print_99 : decode cX3_print 99 = .ok (.lreturn, 1) := dk_173 (dk_at dksX3_print_4 4 rfl rfl)
abbrev cX3_status : ByteArray := prog_12_method_74_code
def yX3_status : MethodName := ⟨RX3, "status", "(I)I"⟩
def dkwX3_status_1 : List UInt8 := [172]
abbrev dktX3_status_1 : List UInt8 := dkwX3_status_1 ++ []
def dkwX3_status_0 : List UInt8 := [42, 3, 181, 0, 72, 27, 3, 5, 184, 0, 111, 153, 0, 12, 42, 180, 0, 9, 27, 46, 167, 0, 4, 2]
abbrev dktX3_status_0 : List UInt8 := dkwX3_status_0 ++ dktX3_status_1
theorem dksX3_status_0 : cX3_status.data.toList.drop 0 = dktX3_status_0 := by decide +kernel
theorem dksX3_status_1 : cX3_status.data.toList.drop 24 = dktX3_status_1 := dk_seg dksX3_status_0 24 rfl rfl
theorem dX3_status_0 : decode cX3_status 0 = .ok (.aload_n 0, 1) := dk_42 (dk_at dksX3_status_0 0 rfl rfl)
theorem dX3_status_1 : decode cX3_status 1 = .ok (.iconst 0, 1) := dk_3 (dk_at dksX3_status_0 1 rfl rfl)
theorem dX3_status_2 : decode cX3_status 2 = .ok (.putfield 72, 3) := dk_181 0 72 (dk_at dksX3_status_0 2 rfl rfl)
theorem dX3_status_5 : decode cX3_status 5 = .ok (.iload_n 1, 1) := dk_27 (dk_at dksX3_status_0 5 rfl rfl)
theorem dX3_status_6 : decode cX3_status 6 = .ok (.iconst 0, 1) := dk_3 (dk_at dksX3_status_0 6 rfl rfl)
theorem dX3_status_7 : decode cX3_status 7 = .ok (.iconst 2, 1) := dk_5 (dk_at dksX3_status_0 7 rfl rfl)
theorem dX3_status_8 : decode cX3_status 8 = .ok (.invokestatic 111, 3) := dk_184 0 111 (dk_at dksX3_status_0 8 rfl rfl)
theorem dX3_status_11 : decode cX3_status 11 = .ok (.ifCond .eq 12, 3) := dk_153 0 12 (dk_at dksX3_status_0 11 rfl rfl)
theorem dX3_status_14 : decode cX3_status 14 = .ok (.aload_n 0, 1) := dk_42 (dk_at dksX3_status_0 14 rfl rfl)
theorem dX3_status_15 : decode cX3_status 15 = .ok (.getfield 9, 3) := dk_180 0 9 (dk_at dksX3_status_0 15 rfl rfl)
theorem dX3_status_18 : decode cX3_status 18 = .ok (.iload_n 1, 1) := dk_27 (dk_at dksX3_status_0 18 rfl rfl)
theorem dX3_status_19 : decode cX3_status 19 = .ok (.iaload, 1) := dk_46 (dk_at dksX3_status_0 19 rfl rfl)
theorem dX3_status_20 : decode cX3_status 20 = .ok (.goto 4, 3) := dk_167 0 4 (dk_at dksX3_status_0 20 rfl rfl)
theorem dX3_status_23 : decode cX3_status 23 = .ok (.iconst (-1), 1) := dk_2 (dk_at dksX3_status_0 23 rfl rfl)
theorem dX3_status_24 : decode cX3_status 24 = .ok (.ireturn, 1) := dk_172 (dk_at dksX3_status_1 0 rfl rfl)
theorem q77 : (Jvm.Cond.initialized "OddPairsModel") ∈ lw_all := lw_g (lw_at lw_m1 6 rfl) rfl
theorem q461 : (Jvm.Cond.selects "OddPairsModel" ({ cls := "java/lang/Object", name := "getClass", desc := "()Ljava/lang/Class;" } : Jvm.MethodName) ({ cls := "java/lang/Object", name := "getClass", desc := "()Ljava/lang/Class;" } : Jvm.MethodName)) ∈ lw_all := lw_g (lw_at lw_m2 150 rfl) rfl
theorem q1475 : (Jvm.Cond.instantiable "OddPairsModel" (27 : Nat)) ∈ lw_all := lw_g (lw_at lw_m6 204 rfl) rfl
theorem q1477 : (Jvm.Cond.instanceMethod ({ cls := "OddPairsModel", name := "<init>", desc := "()V" } : Jvm.MethodName)) ∈ lw_all := lw_g (lw_at lw_m6 206 rfl) rfl
theorem q1478 : (Jvm.Cond.code ({ cls := "OddPairsModel", name := "<init>", desc := "()V" } : Jvm.MethodName) prog_12_method_1_code (1 : Nat) (Option.none : Option Jvm.ClassFile.FieldType)) ∈ lw_all := lw_g (lw_at lw_m6 207 rfl) rfl
theorem q1479 : (Jvm.Cond.methodLink "OddPairsModel" (3 : Nat) ({ cls := "java/lang/Object", name := "<init>", desc := "()V" } : Jvm.MethodName)) ∈ lw_all := lw_g (lw_at lw_m6 208 rfl) rfl
theorem q1480 : (Jvm.Cond.classLink "OddPairsModel" (26 : Nat) "[[I") ∈ lw_all := lw_g (lw_at lw_m6 209 rfl) rfl
theorem q1481 : (Jvm.Cond.constant "OddPairsModel" (50 : Nat) (49152 : Int32)) ∈ lw_all := lw_g (lw_at lw_m6 210 rfl) rfl
theorem q1482 : (Jvm.Cond.methodLink "OddPairsModel" (61 : Nat) ({ cls := "OddPairsModel", name := "begins", desc := "([I)V" } : Jvm.MethodName)) ∈ lw_all := lw_g (lw_at lw_m6 211 rfl) rfl
theorem q1483 : (Jvm.Cond.static ({ cls := "OddPairsModel", name := "begins", desc := "([I)V" } : Jvm.MethodName)) ∈ lw_all := lw_g (lw_at lw_m6 212 rfl) rfl
theorem q1484 : (Jvm.Cond.code ({ cls := "OddPairsModel", name := "begins", desc := "([I)V" } : Jvm.MethodName) prog_12_method_2_code (2 : Nat) (Option.none : Option Jvm.ClassFile.FieldType)) ∈ lw_all := lw_g (lw_at lw_m6 213 rfl) rfl
theorem q1485 : (Jvm.Cond.methodLink "OddPairsModel" (65 : Nat) ({ cls := "OddPairsModel", name := "joins", desc := "([IIII)V" } : Jvm.MethodName)) ∈ lw_all := lw_g (lw_at lw_m6 214 rfl) rfl
theorem q1486 : (Jvm.Cond.static ({ cls := "OddPairsModel", name := "joins", desc := "([IIII)V" } : Jvm.MethodName)) ∈ lw_all := lw_g (lw_at lw_m6 215 rfl) rfl
theorem q1487 : (Jvm.Cond.code ({ cls := "OddPairsModel", name := "joins", desc := "([IIII)V" } : Jvm.MethodName) prog_12_method_9_code (4 : Nat) (Option.none : Option Jvm.ClassFile.FieldType)) ∈ lw_all := lw_g (lw_at lw_m6 216 rfl) rfl
theorem q1488 : (Jvm.Cond.methodLink "OddPairsModel" (69 : Nat) ({ cls := "OddPairsModel", name := "changes", desc := "()V" } : Jvm.MethodName)) ∈ lw_all := lw_g (lw_at lw_m6 217 rfl) rfl
theorem q1489 : (Jvm.Cond.privateMethod ({ cls := "OddPairsModel", name := "changes", desc := "()V" } : Jvm.MethodName)) ∈ lw_tbl := lw_at lw_m6 218 rfl
theorem q1490 : (Jvm.Cond.instanceMethod ({ cls := "OddPairsModel", name := "changes", desc := "()V" } : Jvm.MethodName)) ∈ lw_all := lw_g (lw_at lw_m6 219 rfl) rfl
theorem q1491 : (Jvm.Cond.code ({ cls := "OddPairsModel", name := "changes", desc := "()V" } : Jvm.MethodName) prog_12_method_32_code (1 : Nat) (Option.none : Option Jvm.ClassFile.FieldType)) ∈ lw_all := lw_g (lw_at lw_m6 220 rfl) rfl
theorem q1492 : (Jvm.Cond.fieldLink "OddPairsModel" (72 : Nat) "OddPairsModel" "thrown" "I") ∈ lw_all := lw_g (lw_at lw_m6 221 rfl) rfl
theorem q1493 : (Jvm.Cond.fieldLink "OddPairsModel" (9 : Nat) "OddPairsModel" "refused" "[I") ∈ lw_all := lw_g (lw_at lw_m6 222 rfl) rfl
theorem q1494 : (Jvm.Cond.fieldLink "OddPairsModel" (75 : Nat) "OddPairsModel" "tape" "I") ∈ lw_all := lw_g (lw_at lw_m6 223 rfl) rfl
theorem q1495 : (Jvm.Cond.fieldLink "OddPairsModel" (78 : Nat) "OddPairsModel" "size" "I") ∈ lw_all := lw_g (lw_at lw_m6 224 rfl) rfl
theorem q1496 : (Jvm.Cond.fieldLink "OddPairsModel" (81 : Nat) "OddPairsModel" "at" "I") ∈ lw_all := lw_g (lw_at lw_m6 225 rfl) rfl
theorem q1497 : (Jvm.Cond.fieldLink "OddPairsModel" (13 : Nat) "OddPairsModel" "place" "I") ∈ lw_all := lw_g (lw_at lw_m6 226 rfl) rfl
theorem q1498 : (Jvm.Cond.fieldLink "OddPairsModel" (88 : Nat) "OddPairsModel" "fault" "I") ∈ lw_all := lw_g (lw_at lw_m6 227 rfl) rfl
theorem q1499 : (Jvm.Cond.fieldLink "OddPairsModel" (91 : Nat) "OddPairsModel" "faultAt" "I") ∈ lw_all := lw_g (lw_at lw_m6 228 rfl) rfl
theorem q1500 : (Jvm.Cond.fieldLink "OddPairsModel" (17 : Nat) "OddPairsModel" "fed" "[I") ∈ lw_all := lw_g (lw_at lw_m6 229 rfl) rfl
theorem q1501 : (Jvm.Cond.fieldLink "OddPairsModel" (20 : Nat) "OddPairsModel" "now" "[I") ∈ lw_all := lw_g (lw_at lw_m6 230 rfl) rfl
theorem q1502 : (Jvm.Cond.fieldLink "OddPairsModel" (23 : Nat) "OddPairsModel" "told" "[I") ∈ lw_all := lw_g (lw_at lw_m6 231 rfl) rfl
theorem q1503 : (Jvm.Cond.fieldLink "OddPairsModel" (28 : Nat) "OddPairsModel" "past" "[[I") ∈ lw_all := lw_g (lw_at lw_m6 232 rfl) rfl
theorem q1504 : (Jvm.Cond.fieldLink "OddPairsModel" (242 : Nat) "OddPairsModel" "backs" "I") ∈ lw_all := lw_g (lw_at lw_m6 233 rfl) rfl
theorem q1505 : (Jvm.Cond.fieldLink "OddPairsModel" (31 : Nat) "OddPairsModel" "pairTold" "[I") ∈ lw_all := lw_g (lw_at lw_m6 234 rfl) rfl
theorem q1506 : (Jvm.Cond.fieldLink "OddPairsModel" (152 : Nat) "OddPairsModel" "pairs" "I") ∈ lw_all := lw_g (lw_at lw_m6 235 rfl) rfl
theorem q1507 : (Jvm.Cond.fieldLink "OddPairsModel" (34 : Nat) "OddPairsModel" "most" "[I") ∈ lw_all := lw_g (lw_at lw_m6 236 rfl) rfl
theorem q1508 : (Jvm.Cond.fieldLink "OddPairsModel" (37 : Nat) "OddPairsModel" "heavy" "[I") ∈ lw_all := lw_g (lw_at lw_m6 237 rfl) rfl
theorem q1509 : (Jvm.Cond.fieldLink "OddPairsModel" (40 : Nat) "OddPairsModel" "light" "[I") ∈ lw_all := lw_g (lw_at lw_m6 238 rfl) rfl
theorem q1510 : (Jvm.Cond.fieldLink "OddPairsModel" (43 : Nat) "OddPairsModel" "ways" "[J") ∈ lw_all := lw_g (lw_at lw_m6 239 rfl) rfl
theorem q1511 : (Jvm.Cond.fieldLink "OddPairsModel" (187 : Nat) "OddPairsModel" "isLaid" "Z") ∈ lw_all := lw_g (lw_at lw_m7 0 rfl) rfl
theorem q1512 : (Jvm.Cond.fieldLink "OddPairsModel" (47 : Nat) "OddPairsModel" "firstRow" "[I") ∈ lw_all := lw_g (lw_at lw_m7 1 rfl) rfl
theorem q1513 : (Jvm.Cond.fieldLink "OddPairsModel" (51 : Nat) "OddPairsModel" "been" "[Z") ∈ lw_all := lw_g (lw_at lw_m7 2 rfl) rfl
theorem q1514 : (Jvm.Cond.fieldLink "OddPairsModel" (224 : Nat) "OddPairsModel" "even" "I") ∈ lw_all := lw_g (lw_at lw_m7 3 rfl) rfl
theorem q1515 : (Jvm.Cond.fieldLink "OddPairsModel" (227 : Nat) "OddPairsModel" "odd" "I") ∈ lw_all := lw_g (lw_at lw_m7 4 rfl) rfl
theorem q1516 : (Jvm.Cond.fieldLink "OddPairsModel" (55 : Nat) "OddPairsModel" "row" "[I") ∈ lw_all := lw_g (lw_at lw_m7 5 rfl) rfl
theorem q1517 : (Jvm.Cond.fieldLink "OddPairsModel" (236 : Nat) "OddPairsModel" "rowMany" "I") ∈ lw_all := lw_g (lw_at lw_m7 6 rfl) rfl
theorem q1518 : (Jvm.Cond.fieldLink "OddPairsModel" (58 : Nat) "OddPairsModel" "number" "[I") ∈ lw_all := lw_g (lw_at lw_m7 7 rfl) rfl
theorem q1519 : (Jvm.Cond.lays "OddPairsModel" "OddPairsModel" "thrown" "I") ∈ lw_all := lw_g (lw_at lw_m7 8 rfl) rfl
theorem q1520 : (Jvm.Cond.soleField "OddPairsModel" "thrown") ∈ lw_all := lw_g (lw_at lw_m7 9 rfl) rfl
theorem q1521 : (Jvm.Cond.laysFinal "OddPairsModel" "OddPairsModel" "refused" "[I") ∈ lw_all := lw_g (lw_at lw_m7 10 rfl) rfl
theorem q1522 : (Jvm.Cond.soleField "OddPairsModel" "refused") ∈ lw_all := lw_g (lw_at lw_m7 11 rfl) rfl
theorem q1523 : (Jvm.Cond.lays "OddPairsModel" "OddPairsModel" "tape" "I") ∈ lw_all := lw_g (lw_at lw_m7 12 rfl) rfl
theorem q1524 : (Jvm.Cond.soleField "OddPairsModel" "tape") ∈ lw_all := lw_g (lw_at lw_m7 13 rfl) rfl
theorem q1525 : (Jvm.Cond.lays "OddPairsModel" "OddPairsModel" "size" "I") ∈ lw_all := lw_g (lw_at lw_m7 14 rfl) rfl
theorem q1526 : (Jvm.Cond.soleField "OddPairsModel" "size") ∈ lw_all := lw_g (lw_at lw_m7 15 rfl) rfl
theorem q1527 : (Jvm.Cond.lays "OddPairsModel" "OddPairsModel" "at" "I") ∈ lw_all := lw_g (lw_at lw_m7 16 rfl) rfl
theorem q1528 : (Jvm.Cond.soleField "OddPairsModel" "at") ∈ lw_all := lw_g (lw_at lw_m7 17 rfl) rfl
theorem q1529 : (Jvm.Cond.lays "OddPairsModel" "OddPairsModel" "place" "I") ∈ lw_all := lw_g (lw_at lw_m7 18 rfl) rfl
theorem q1530 : (Jvm.Cond.soleField "OddPairsModel" "place") ∈ lw_all := lw_g (lw_at lw_m7 19 rfl) rfl
theorem q1531 : (Jvm.Cond.lays "OddPairsModel" "OddPairsModel" "fault" "I") ∈ lw_all := lw_g (lw_at lw_m7 20 rfl) rfl
theorem q1532 : (Jvm.Cond.soleField "OddPairsModel" "fault") ∈ lw_all := lw_g (lw_at lw_m7 21 rfl) rfl
theorem q1533 : (Jvm.Cond.lays "OddPairsModel" "OddPairsModel" "faultAt" "I") ∈ lw_all := lw_g (lw_at lw_m7 22 rfl) rfl
theorem q1534 : (Jvm.Cond.soleField "OddPairsModel" "faultAt") ∈ lw_all := lw_g (lw_at lw_m7 23 rfl) rfl
theorem q1535 : (Jvm.Cond.laysFinal "OddPairsModel" "OddPairsModel" "fed" "[I") ∈ lw_all := lw_g (lw_at lw_m7 24 rfl) rfl
theorem q1536 : (Jvm.Cond.soleField "OddPairsModel" "fed") ∈ lw_all := lw_g (lw_at lw_m7 25 rfl) rfl
theorem q1537 : (Jvm.Cond.laysFinal "OddPairsModel" "OddPairsModel" "now" "[I") ∈ lw_all := lw_g (lw_at lw_m7 26 rfl) rfl
theorem q1538 : (Jvm.Cond.soleField "OddPairsModel" "now") ∈ lw_all := lw_g (lw_at lw_m7 27 rfl) rfl
theorem q1539 : (Jvm.Cond.laysFinal "OddPairsModel" "OddPairsModel" "told" "[I") ∈ lw_all := lw_g (lw_at lw_m7 28 rfl) rfl
theorem q1540 : (Jvm.Cond.soleField "OddPairsModel" "told") ∈ lw_all := lw_g (lw_at lw_m7 29 rfl) rfl
theorem q1541 : (Jvm.Cond.laysFinal "OddPairsModel" "OddPairsModel" "past" "[[I") ∈ lw_all := lw_g (lw_at lw_m7 30 rfl) rfl
theorem q1542 : (Jvm.Cond.soleField "OddPairsModel" "past") ∈ lw_all := lw_g (lw_at lw_m7 31 rfl) rfl
theorem q1543 : (Jvm.Cond.lays "OddPairsModel" "OddPairsModel" "backs" "I") ∈ lw_all := lw_g (lw_at lw_m7 32 rfl) rfl
theorem q1544 : (Jvm.Cond.soleField "OddPairsModel" "backs") ∈ lw_all := lw_g (lw_at lw_m7 33 rfl) rfl
theorem q1545 : (Jvm.Cond.laysFinal "OddPairsModel" "OddPairsModel" "pairTold" "[I") ∈ lw_all := lw_g (lw_at lw_m7 34 rfl) rfl
theorem q1546 : (Jvm.Cond.soleField "OddPairsModel" "pairTold") ∈ lw_all := lw_g (lw_at lw_m7 35 rfl) rfl
theorem q1547 : (Jvm.Cond.lays "OddPairsModel" "OddPairsModel" "pairs" "I") ∈ lw_all := lw_g (lw_at lw_m7 36 rfl) rfl
theorem q1548 : (Jvm.Cond.soleField "OddPairsModel" "pairs") ∈ lw_all := lw_g (lw_at lw_m7 37 rfl) rfl
theorem q1549 : (Jvm.Cond.laysFinal "OddPairsModel" "OddPairsModel" "most" "[I") ∈ lw_all := lw_g (lw_at lw_m7 38 rfl) rfl
theorem q1550 : (Jvm.Cond.soleField "OddPairsModel" "most") ∈ lw_all := lw_g (lw_at lw_m7 39 rfl) rfl
theorem q1551 : (Jvm.Cond.laysFinal "OddPairsModel" "OddPairsModel" "heavy" "[I") ∈ lw_all := lw_g (lw_at lw_m7 40 rfl) rfl
theorem q1552 : (Jvm.Cond.soleField "OddPairsModel" "heavy") ∈ lw_all := lw_g (lw_at lw_m7 41 rfl) rfl
theorem q1553 : (Jvm.Cond.laysFinal "OddPairsModel" "OddPairsModel" "light" "[I") ∈ lw_all := lw_g (lw_at lw_m7 42 rfl) rfl
theorem q1554 : (Jvm.Cond.soleField "OddPairsModel" "light") ∈ lw_all := lw_g (lw_at lw_m7 43 rfl) rfl
theorem q1555 : (Jvm.Cond.laysFinal "OddPairsModel" "OddPairsModel" "ways" "[J") ∈ lw_all := lw_g (lw_at lw_m7 44 rfl) rfl
theorem q1556 : (Jvm.Cond.soleField "OddPairsModel" "ways") ∈ lw_all := lw_g (lw_at lw_m7 45 rfl) rfl
theorem q1557 : (Jvm.Cond.lays "OddPairsModel" "OddPairsModel" "isLaid" "Z") ∈ lw_all := lw_g (lw_at lw_m7 46 rfl) rfl
theorem q1558 : (Jvm.Cond.soleField "OddPairsModel" "isLaid") ∈ lw_all := lw_g (lw_at lw_m7 47 rfl) rfl
theorem q1559 : (Jvm.Cond.laysFinal "OddPairsModel" "OddPairsModel" "firstRow" "[I") ∈ lw_all := lw_g (lw_at lw_m7 48 rfl) rfl
theorem q1560 : (Jvm.Cond.soleField "OddPairsModel" "firstRow") ∈ lw_all := lw_g (lw_at lw_m7 49 rfl) rfl
theorem q1561 : (Jvm.Cond.laysFinal "OddPairsModel" "OddPairsModel" "been" "[Z") ∈ lw_all := lw_g (lw_at lw_m7 50 rfl) rfl
theorem q1562 : (Jvm.Cond.soleField "OddPairsModel" "been") ∈ lw_all := lw_g (lw_at lw_m7 51 rfl) rfl
theorem q1563 : (Jvm.Cond.lays "OddPairsModel" "OddPairsModel" "even" "I") ∈ lw_all := lw_g (lw_at lw_m7 52 rfl) rfl
theorem q1564 : (Jvm.Cond.soleField "OddPairsModel" "even") ∈ lw_all := lw_g (lw_at lw_m7 53 rfl) rfl
theorem q1565 : (Jvm.Cond.lays "OddPairsModel" "OddPairsModel" "odd" "I") ∈ lw_all := lw_g (lw_at lw_m7 54 rfl) rfl
theorem q1566 : (Jvm.Cond.soleField "OddPairsModel" "odd") ∈ lw_all := lw_g (lw_at lw_m7 55 rfl) rfl
theorem q1567 : (Jvm.Cond.laysFinal "OddPairsModel" "OddPairsModel" "row" "[I") ∈ lw_all := lw_g (lw_at lw_m7 56 rfl) rfl
theorem q1568 : (Jvm.Cond.soleField "OddPairsModel" "row") ∈ lw_all := lw_g (lw_at lw_m7 57 rfl) rfl
theorem q1569 : (Jvm.Cond.lays "OddPairsModel" "OddPairsModel" "rowMany" "I") ∈ lw_all := lw_g (lw_at lw_m7 58 rfl) rfl
theorem q1570 : (Jvm.Cond.soleField "OddPairsModel" "rowMany") ∈ lw_all := lw_g (lw_at lw_m7 59 rfl) rfl
theorem q1571 : (Jvm.Cond.laysFinal "OddPairsModel" "OddPairsModel" "number" "[I") ∈ lw_all := lw_g (lw_at lw_m7 60 rfl) rfl
theorem q1572 : (Jvm.Cond.soleField "OddPairsModel" "number") ∈ lw_all := lw_g (lw_at lw_m7 61 rfl) rfl
theorem q1573 : (Jvm.Cond.superclass "OddPairsModel" "java/lang/Object") ∈ lw_all := lw_g (lw_at lw_m7 62 rfl) rfl
theorem q1576 : (Jvm.Cond.instanceMethod ({ cls := "OddPairsModel", name := "thrown", desc := "()I" } : Jvm.MethodName)) ∈ lw_all := lw_g (lw_at lw_m7 65 rfl) rfl
theorem q1577 : (Jvm.Cond.selects "OddPairsModel" ({ cls := "OddPairsModel", name := "thrown", desc := "()I" } : Jvm.MethodName) ({ cls := "OddPairsModel", name := "thrown", desc := "()I" } : Jvm.MethodName)) ∈ lw_all := lw_g (lw_at lw_m7 66 rfl) rfl
theorem q1578 : (Jvm.Cond.code ({ cls := "OddPairsModel", name := "thrown", desc := "()I" } : Jvm.MethodName) prog_12_method_3_code (1 : Nat) (Option.some Jvm.ClassFile.FieldType.int)) ∈ lw_all := lw_g (lw_at lw_m7 67 rfl) rfl
theorem q1580 : (Jvm.Cond.instanceMethod ({ cls := "OddPairsModel", name := "feed", desc := "(IIIII)I" } : Jvm.MethodName)) ∈ lw_all := lw_g (lw_at lw_m7 69 rfl) rfl
theorem q1581 : (Jvm.Cond.selects "OddPairsModel" ({ cls := "OddPairsModel", name := "feed", desc := "(IIIII)I" } : Jvm.MethodName) ({ cls := "OddPairsModel", name := "feed", desc := "(IIIII)I" } : Jvm.MethodName)) ∈ lw_all := lw_g (lw_at lw_m7 70 rfl) rfl
theorem q1582 : (Jvm.Cond.code ({ cls := "OddPairsModel", name := "feed", desc := "(IIIII)I" } : Jvm.MethodName) prog_12_method_7_code (8 : Nat) (Option.some Jvm.ClassFile.FieldType.int)) ∈ lw_all := lw_g (lw_at lw_m7 71 rfl) rfl
theorem q1584 : (Jvm.Cond.instanceMethod ({ cls := "OddPairsModel", name := "text", desc := "(I)I" } : Jvm.MethodName)) ∈ lw_all := lw_g (lw_at lw_m7 73 rfl) rfl
theorem q1585 : (Jvm.Cond.selects "OddPairsModel" ({ cls := "OddPairsModel", name := "text", desc := "(I)I" } : Jvm.MethodName) ({ cls := "OddPairsModel", name := "text", desc := "(I)I" } : Jvm.MethodName)) ∈ lw_all := lw_g (lw_at lw_m7 74 rfl) rfl
theorem q1586 : (Jvm.Cond.code ({ cls := "OddPairsModel", name := "text", desc := "(I)I" } : Jvm.MethodName) prog_12_method_23_code (2 : Nat) (Option.some Jvm.ClassFile.FieldType.int)) ∈ lw_all := lw_g (lw_at lw_m7 75 rfl) rfl
theorem q1587 : (Jvm.Cond.methodLink "OddPairsModel" (111 : Nat) ({ cls := "OddPairsModel", name := "in", desc := "(III)Z" } : Jvm.MethodName)) ∈ lw_all := lw_g (lw_at lw_m7 76 rfl) rfl
theorem q1588 : (Jvm.Cond.static ({ cls := "OddPairsModel", name := "in", desc := "(III)Z" } : Jvm.MethodName)) ∈ lw_all := lw_g (lw_at lw_m7 77 rfl) rfl
theorem q1589 : (Jvm.Cond.code ({ cls := "OddPairsModel", name := "in", desc := "(III)Z" } : Jvm.MethodName) prog_12_method_5_code (3 : Nat) (Option.some Jvm.ClassFile.FieldType.boolean)) ∈ lw_all := lw_g (lw_at lw_m7 78 rfl) rfl
theorem q1590 : (Jvm.Cond.methodLink "OddPairsModel" (159 : Nat) ({ cls := "OddPairsModel", name := "bad", desc := "(ZII)Z" } : Jvm.MethodName)) ∈ lw_all := lw_g (lw_at lw_m7 79 rfl) rfl
theorem q1591 : (Jvm.Cond.privateMethod ({ cls := "OddPairsModel", name := "bad", desc := "(ZII)Z" } : Jvm.MethodName)) ∈ lw_tbl := lw_at lw_m7 80 rfl
theorem q1592 : (Jvm.Cond.instanceMethod ({ cls := "OddPairsModel", name := "bad", desc := "(ZII)Z" } : Jvm.MethodName)) ∈ lw_all := lw_g (lw_at lw_m7 81 rfl) rfl
theorem q1593 : (Jvm.Cond.code ({ cls := "OddPairsModel", name := "bad", desc := "(ZII)Z" } : Jvm.MethodName) prog_12_method_4_code (4 : Nat) (Option.some Jvm.ClassFile.FieldType.boolean)) ∈ lw_all := lw_g (lw_at lw_m7 82 rfl) rfl
theorem q1594 : (Jvm.Cond.stringRef "OddPairsModel" (163 : Nat) "nodes") ∈ lw_tbl := lw_at lw_m7 83 rfl
theorem q1595 : (Jvm.Cond.methodLink "OddPairsModel" (139 : Nat) ({ cls := "OddPairsModel", name := "takes", desc := "(Ljava/lang/String;)Z" } : Jvm.MethodName)) ∈ lw_all := lw_g (lw_at lw_m7 84 rfl) rfl
theorem q1596 : (Jvm.Cond.privateMethod ({ cls := "OddPairsModel", name := "takes", desc := "(Ljava/lang/String;)Z" } : Jvm.MethodName)) ∈ lw_tbl := lw_at lw_m7 85 rfl
theorem q1597 : (Jvm.Cond.instanceMethod ({ cls := "OddPairsModel", name := "takes", desc := "(Ljava/lang/String;)Z" } : Jvm.MethodName)) ∈ lw_all := lw_g (lw_at lw_m7 86 rfl) rfl
theorem q1598 : (Jvm.Cond.code ({ cls := "OddPairsModel", name := "takes", desc := "(Ljava/lang/String;)Z" } : Jvm.MethodName) prog_12_method_15_code (3 : Nat) (Option.some Jvm.ClassFile.FieldType.boolean)) ∈ lw_all := lw_g (lw_at lw_m7 87 rfl) rfl
theorem q1599 : (Jvm.Cond.methodLink "OddPairsModel" (94 : Nat) ({ cls := "OddPairsModel", name := "fine", desc := "()Z" } : Jvm.MethodName)) ∈ lw_all := lw_g (lw_at lw_m7 88 rfl) rfl
theorem q1600 : (Jvm.Cond.privateMethod ({ cls := "OddPairsModel", name := "fine", desc := "()Z" } : Jvm.MethodName)) ∈ lw_tbl := lw_at lw_m7 89 rfl
theorem q1601 : (Jvm.Cond.instanceMethod ({ cls := "OddPairsModel", name := "fine", desc := "()Z" } : Jvm.MethodName)) ∈ lw_all := lw_g (lw_at lw_m7 90 rfl) rfl
theorem q1602 : (Jvm.Cond.code ({ cls := "OddPairsModel", name := "fine", desc := "()Z" } : Jvm.MethodName) prog_12_method_12_code (1 : Nat) (Option.some Jvm.ClassFile.FieldType.boolean)) ∈ lw_all := lw_g (lw_at lw_m7 91 rfl) rfl
theorem q1603 : (Jvm.Cond.methodLink "OddPairsModel" (98 : Nat) ({ cls := "OddPairsModel", name := "here", desc := "()I" } : Jvm.MethodName)) ∈ lw_all := lw_g (lw_at lw_m7 92 rfl) rfl
theorem q1604 : (Jvm.Cond.privateMethod ({ cls := "OddPairsModel", name := "here", desc := "()I" } : Jvm.MethodName)) ∈ lw_tbl := lw_at lw_m7 93 rfl
theorem q1605 : (Jvm.Cond.instanceMethod ({ cls := "OddPairsModel", name := "here", desc := "()I" } : Jvm.MethodName)) ∈ lw_all := lw_g (lw_at lw_m7 94 rfl) rfl
theorem q1606 : (Jvm.Cond.code ({ cls := "OddPairsModel", name := "here", desc := "()I" } : Jvm.MethodName) prog_12_method_11_code (1 : Nat) (Option.some Jvm.ClassFile.FieldType.int)) ∈ lw_all := lw_g (lw_at lw_m7 95 rfl) rfl
theorem q1607 : (Jvm.Cond.methodLink "OddPairsModel" (84 : Nat) ({ cls := "OddPairsModel", name := "byteAt", desc := "(I)I" } : Jvm.MethodName)) ∈ lw_all := lw_g (lw_at lw_m7 96 rfl) rfl
theorem q1608 : (Jvm.Cond.privateMethod ({ cls := "OddPairsModel", name := "byteAt", desc := "(I)I" } : Jvm.MethodName)) ∈ lw_tbl := lw_at lw_m7 97 rfl
theorem q1609 : (Jvm.Cond.instanceMethod ({ cls := "OddPairsModel", name := "byteAt", desc := "(I)I" } : Jvm.MethodName)) ∈ lw_all := lw_g (lw_at lw_m7 98 rfl) rfl
theorem q1610 : (Jvm.Cond.code ({ cls := "OddPairsModel", name := "byteAt", desc := "(I)I" } : Jvm.MethodName) prog_12_method_10_code (2 : Nat) (Option.some Jvm.ClassFile.FieldType.int)) ∈ lw_all := lw_g (lw_at lw_m7 99 rfl) rfl
theorem q1611 : (Jvm.Cond.methodLink "OddPairsModel" (102 : Nat) ({ cls := "java/lang/String", name := "length", desc := "()I" } : Jvm.MethodName)) ∈ lw_all := lw_g (lw_at lw_m7 100 rfl) rfl
theorem q1612 : (Jvm.Cond.methodLink "OddPairsModel" (107 : Nat) ({ cls := "java/lang/String", name := "charAt", desc := "(I)C" } : Jvm.MethodName)) ∈ lw_all := lw_g (lw_at lw_m7 101 rfl) rfl
theorem q1623 : (Jvm.Cond.methodLink "OddPairsModel" (115 : Nat) ({ cls := "OddPairsModel", name := "wrong", desc := "(II)V" } : Jvm.MethodName)) ∈ lw_all := lw_g (lw_at lw_m7 112 rfl) rfl
theorem q1624 : (Jvm.Cond.privateMethod ({ cls := "OddPairsModel", name := "wrong", desc := "(II)V" } : Jvm.MethodName)) ∈ lw_tbl := lw_at lw_m7 113 rfl
theorem q1625 : (Jvm.Cond.instanceMethod ({ cls := "OddPairsModel", name := "wrong", desc := "(II)V" } : Jvm.MethodName)) ∈ lw_all := lw_g (lw_at lw_m7 114 rfl) rfl
theorem q1626 : (Jvm.Cond.code ({ cls := "OddPairsModel", name := "wrong", desc := "(II)V" } : Jvm.MethodName) prog_12_method_13_code (3 : Nat) (Option.none : Option Jvm.ClassFile.FieldType)) ∈ lw_all := lw_g (lw_at lw_m7 115 rfl) rfl
theorem q1627 : (Jvm.Cond.methodLink "OddPairsModel" (128 : Nat) ({ cls := "OddPairsModel", name := "number", desc := "(III)I" } : Jvm.MethodName)) ∈ lw_all := lw_g (lw_at lw_m7 116 rfl) rfl
theorem q1628 : (Jvm.Cond.privateMethod ({ cls := "OddPairsModel", name := "number", desc := "(III)I" } : Jvm.MethodName)) ∈ lw_tbl := lw_at lw_m7 117 rfl
theorem q1629 : (Jvm.Cond.instanceMethod ({ cls := "OddPairsModel", name := "number", desc := "(III)I" } : Jvm.MethodName)) ∈ lw_all := lw_g (lw_at lw_m7 118 rfl) rfl
theorem q1630 : (Jvm.Cond.code ({ cls := "OddPairsModel", name := "number", desc := "(III)I" } : Jvm.MethodName) prog_12_method_17_code (6 : Nat) (Option.some Jvm.ClassFile.FieldType.int)) ∈ lw_all := lw_g (lw_at lw_m7 119 rfl) rfl
theorem q1631 : (Jvm.Cond.methodLink "OddPairsModel" (119 : Nat) ({ cls := "OddPairsModel", name := "isDigit", desc := "(I)Z" } : Jvm.MethodName)) ∈ lw_all := lw_g (lw_at lw_m7 120 rfl) rfl
theorem q1632 : (Jvm.Cond.static ({ cls := "OddPairsModel", name := "isDigit", desc := "(I)Z" } : Jvm.MethodName)) ∈ lw_all := lw_g (lw_at lw_m7 121 rfl) rfl
theorem q1633 : (Jvm.Cond.code ({ cls := "OddPairsModel", name := "isDigit", desc := "(I)Z" } : Jvm.MethodName) prog_12_method_14_code (1 : Nat) (Option.some Jvm.ClassFile.FieldType.boolean)) ∈ lw_all := lw_g (lw_at lw_m7 122 rfl) rfl
theorem q1634 : (Jvm.Cond.constant "OddPairsModel" (123 : Nat) (100000 : Int32)) ∈ lw_all := lw_g (lw_at lw_m7 123 rfl) rfl
theorem q1635 : (Jvm.Cond.methodLink "OddPairsModel" (124 : Nat) ({ cls := "OddPairsModel", name := "less", desc := "(II)I" } : Jvm.MethodName)) ∈ lw_all := lw_g (lw_at lw_m7 124 rfl) rfl
theorem q1636 : (Jvm.Cond.static ({ cls := "OddPairsModel", name := "less", desc := "(II)I" } : Jvm.MethodName)) ∈ lw_all := lw_g (lw_at lw_m7 125 rfl) rfl
theorem q1637 : (Jvm.Cond.code ({ cls := "OddPairsModel", name := "less", desc := "(II)I" } : Jvm.MethodName) prog_12_method_6_code (2 : Nat) (Option.some Jvm.ClassFile.FieldType.int)) ∈ lw_all := lw_g (lw_at lw_m7 126 rfl) rfl
theorem q1638 : (Jvm.Cond.methodLink "OddPairsModel" (155 : Nat) ({ cls := "OddPairsModel", name := "must", desc := "(I)V" } : Jvm.MethodName)) ∈ lw_all := lw_g (lw_at lw_m7 127 rfl) rfl
theorem q1639 : (Jvm.Cond.privateMethod ({ cls := "OddPairsModel", name := "must", desc := "(I)V" } : Jvm.MethodName)) ∈ lw_tbl := lw_at lw_m7 128 rfl
theorem q1640 : (Jvm.Cond.instanceMethod ({ cls := "OddPairsModel", name := "must", desc := "(I)V" } : Jvm.MethodName)) ∈ lw_all := lw_g (lw_at lw_m7 129 rfl) rfl
theorem q1641 : (Jvm.Cond.code ({ cls := "OddPairsModel", name := "must", desc := "(I)V" } : Jvm.MethodName) prog_12_method_16_code (2 : Nat) (Option.none : Option Jvm.ClassFile.FieldType)) ∈ lw_all := lw_g (lw_at lw_m7 130 rfl) rfl
theorem q1642 : (Jvm.Cond.methodLink "OddPairsModel" (165 : Nat) ({ cls := "OddPairsModel", name := "readsLine", desc := "()V" } : Jvm.MethodName)) ∈ lw_all := lw_g (lw_at lw_m7 131 rfl) rfl
theorem q1643 : (Jvm.Cond.privateMethod ({ cls := "OddPairsModel", name := "readsLine", desc := "()V" } : Jvm.MethodName)) ∈ lw_tbl := lw_at lw_m7 132 rfl
theorem q1644 : (Jvm.Cond.instanceMethod ({ cls := "OddPairsModel", name := "readsLine", desc := "()V" } : Jvm.MethodName)) ∈ lw_all := lw_g (lw_at lw_m7 133 rfl) rfl
theorem q1645 : (Jvm.Cond.code ({ cls := "OddPairsModel", name := "readsLine", desc := "()V" } : Jvm.MethodName) prog_12_method_21_code (5 : Nat) (Option.none : Option Jvm.ClassFile.FieldType)) ∈ lw_all := lw_g (lw_at lw_m7 134 rfl) rfl
theorem q1646 : (Jvm.Cond.stringRef "OddPairsModel" (137 : Nat) "line") ∈ lw_tbl := lw_at lw_m7 135 rfl
theorem q1647 : (Jvm.Cond.methodLink "OddPairsModel" (131 : Nat) ({ cls := "OddPairsModel", name := "nodeTold", desc := "(I)I" } : Jvm.MethodName)) ∈ lw_all := lw_g (lw_at lw_m7 136 rfl) rfl
theorem q1648 : (Jvm.Cond.privateMethod ({ cls := "OddPairsModel", name := "nodeTold", desc := "(I)I" } : Jvm.MethodName)) ∈ lw_tbl := lw_at lw_m7 137 rfl
theorem q1649 : (Jvm.Cond.instanceMethod ({ cls := "OddPairsModel", name := "nodeTold", desc := "(I)I" } : Jvm.MethodName)) ∈ lw_all := lw_g (lw_at lw_m7 138 rfl) rfl
theorem q1650 : (Jvm.Cond.code ({ cls := "OddPairsModel", name := "nodeTold", desc := "(I)I" } : Jvm.MethodName) prog_12_method_18_code (2 : Nat) (Option.some Jvm.ClassFile.FieldType.int)) ∈ lw_all := lw_g (lw_at lw_m7 139 rfl) rfl
theorem q1651 : (Jvm.Cond.stringRef "OddPairsModel" (143 : Nat) "ring") ∈ lw_tbl := lw_at lw_m7 140 rfl
theorem q1652 : (Jvm.Cond.methodLink "OddPairsModel" (145 : Nat) ({ cls := "OddPairsModel", name := "readsRing", desc := "()V" } : Jvm.MethodName)) ∈ lw_all := lw_g (lw_at lw_m7 141 rfl) rfl
theorem q1653 : (Jvm.Cond.privateMethod ({ cls := "OddPairsModel", name := "readsRing", desc := "()V" } : Jvm.MethodName)) ∈ lw_tbl := lw_at lw_m7 142 rfl
theorem q1654 : (Jvm.Cond.instanceMethod ({ cls := "OddPairsModel", name := "readsRing", desc := "()V" } : Jvm.MethodName)) ∈ lw_all := lw_g (lw_at lw_m7 143 rfl) rfl
theorem q1655 : (Jvm.Cond.code ({ cls := "OddPairsModel", name := "readsRing", desc := "()V" } : Jvm.MethodName) prog_12_method_20_code (6 : Nat) (Option.none : Option Jvm.ClassFile.FieldType)) ∈ lw_all := lw_g (lw_at lw_m7 144 rfl) rfl
theorem q1656 : (Jvm.Cond.methodLink "OddPairsModel" (134 : Nat) ({ cls := "OddPairsModel", name := "comes", desc := "(II)V" } : Jvm.MethodName)) ∈ lw_all := lw_g (lw_at lw_m7 145 rfl) rfl
theorem q1657 : (Jvm.Cond.privateMethod ({ cls := "OddPairsModel", name := "comes", desc := "(II)V" } : Jvm.MethodName)) ∈ lw_tbl := lw_at lw_m7 146 rfl
theorem q1658 : (Jvm.Cond.instanceMethod ({ cls := "OddPairsModel", name := "comes", desc := "(II)V" } : Jvm.MethodName)) ∈ lw_all := lw_g (lw_at lw_m7 147 rfl) rfl
theorem q1659 : (Jvm.Cond.code ({ cls := "OddPairsModel", name := "comes", desc := "(II)V" } : Jvm.MethodName) prog_12_method_19_code (3 : Nat) (Option.none : Option Jvm.ClassFile.FieldType)) ∈ lw_all := lw_g (lw_at lw_m7 148 rfl) rfl
theorem q1660 : (Jvm.Cond.stringRef "OddPairsModel" (148 : Nat) "all") ∈ lw_tbl := lw_at lw_m7 149 rfl
theorem q1661 : (Jvm.Cond.stringRef "OddPairsModel" (150 : Nat) "pair") ∈ lw_tbl := lw_at lw_m7 150 rfl
theorem q1662 : (Jvm.Cond.methodLink "OddPairsModel" (168 : Nat) ({ cls := "OddPairsModel", name := "arePairs", desc := "()Z" } : Jvm.MethodName)) ∈ lw_all := lw_g (lw_at lw_m7 151 rfl) rfl
theorem q1663 : (Jvm.Cond.privateMethod ({ cls := "OddPairsModel", name := "arePairs", desc := "()Z" } : Jvm.MethodName)) ∈ lw_tbl := lw_at lw_m7 152 rfl
theorem q1664 : (Jvm.Cond.instanceMethod ({ cls := "OddPairsModel", name := "arePairs", desc := "()Z" } : Jvm.MethodName)) ∈ lw_all := lw_g (lw_at lw_m7 153 rfl) rfl
theorem q1665 : (Jvm.Cond.code ({ cls := "OddPairsModel", name := "arePairs", desc := "()Z" } : Jvm.MethodName) prog_12_method_22_code (4 : Nat) (Option.some Jvm.ClassFile.FieldType.boolean)) ∈ lw_all := lw_g (lw_at lw_m7 154 rfl) rfl
theorem q1666 : (Jvm.Cond.methodLink "OddPairsModel" (171 : Nat) ({ cls := "OddPairsModel", name := "remembers", desc := "()V" } : Jvm.MethodName)) ∈ lw_all := lw_g (lw_at lw_m7 155 rfl) rfl
theorem q1667 : (Jvm.Cond.privateMethod ({ cls := "OddPairsModel", name := "remembers", desc := "()V" } : Jvm.MethodName)) ∈ lw_tbl := lw_at lw_m7 156 rfl
theorem q1668 : (Jvm.Cond.instanceMethod ({ cls := "OddPairsModel", name := "remembers", desc := "()V" } : Jvm.MethodName)) ∈ lw_all := lw_g (lw_at lw_m7 157 rfl) rfl
theorem q1669 : (Jvm.Cond.code ({ cls := "OddPairsModel", name := "remembers", desc := "()V" } : Jvm.MethodName) prog_12_method_50_code (2 : Nat) (Option.none : Option Jvm.ClassFile.FieldType)) ∈ lw_all := lw_g (lw_at lw_m7 158 rfl) rfl
theorem q1670 : (Jvm.Cond.methodLink "OddPairsModel" (174 : Nat) ({ cls := "OddPairsModel", name := "copies", desc := "([I[I)V" } : Jvm.MethodName)) ∈ lw_all := lw_g (lw_at lw_m7 159 rfl) rfl
theorem q1671 : (Jvm.Cond.static ({ cls := "OddPairsModel", name := "copies", desc := "([I[I)V" } : Jvm.MethodName)) ∈ lw_all := lw_g (lw_at lw_m7 160 rfl) rfl
theorem q1672 : (Jvm.Cond.code ({ cls := "OddPairsModel", name := "copies", desc := "([I[I)V" } : Jvm.MethodName) prog_12_method_8_code (3 : Nat) (Option.none : Option Jvm.ClassFile.FieldType)) ∈ lw_all := lw_g (lw_at lw_m7 161 rfl) rfl
theorem q1673 : (Jvm.Cond.methodLink "OddPairsModel" (178 : Nat) ({ cls := "OddPairsModel", name := "lines", desc := "()I" } : Jvm.MethodName)) ∈ lw_all := lw_g (lw_at lw_m7 162 rfl) rfl
theorem q1674 : (Jvm.Cond.privateMethod ({ cls := "OddPairsModel", name := "lines", desc := "()I" } : Jvm.MethodName)) ∈ lw_tbl := lw_at lw_m7 163 rfl
theorem q1675 : (Jvm.Cond.instanceMethod ({ cls := "OddPairsModel", name := "lines", desc := "()I" } : Jvm.MethodName)) ∈ lw_all := lw_g (lw_at lw_m7 164 rfl) rfl
theorem q1676 : (Jvm.Cond.code ({ cls := "OddPairsModel", name := "lines", desc := "()I" } : Jvm.MethodName) prog_12_method_36_code (4 : Nat) (Option.some Jvm.ClassFile.FieldType.int)) ∈ lw_all := lw_g (lw_at lw_m7 165 rfl) rfl
theorem q1677 : (Jvm.Cond.methodLink "OddPairsModel" (181 : Nat) ({ cls := "OddPairsModel", name := "nodes", desc := "()I" } : Jvm.MethodName)) ∈ lw_all := lw_g (lw_at lw_m7 166 rfl) rfl
theorem q1678 : (Jvm.Cond.privateMethod ({ cls := "OddPairsModel", name := "nodes", desc := "()I" } : Jvm.MethodName)) ∈ lw_tbl := lw_at lw_m7 167 rfl
theorem q1679 : (Jvm.Cond.instanceMethod ({ cls := "OddPairsModel", name := "nodes", desc := "()I" } : Jvm.MethodName)) ∈ lw_all := lw_g (lw_at lw_m7 168 rfl) rfl
theorem q1680 : (Jvm.Cond.code ({ cls := "OddPairsModel", name := "nodes", desc := "()I" } : Jvm.MethodName) prog_12_method_25_code (1 : Nat) (Option.some Jvm.ClassFile.FieldType.int)) ∈ lw_all := lw_g (lw_at lw_m7 169 rfl) rfl
theorem q1681 : (Jvm.Cond.methodLink "OddPairsModel" (203 : Nat) ({ cls := "OddPairsModel", name := "weight", desc := "(II)I" } : Jvm.MethodName)) ∈ lw_all := lw_g (lw_at lw_m7 170 rfl) rfl
theorem q1682 : (Jvm.Cond.privateMethod ({ cls := "OddPairsModel", name := "weight", desc := "(II)I" } : Jvm.MethodName)) ∈ lw_tbl := lw_at lw_m7 171 rfl
theorem q1683 : (Jvm.Cond.instanceMethod ({ cls := "OddPairsModel", name := "weight", desc := "(II)I" } : Jvm.MethodName)) ∈ lw_all := lw_g (lw_at lw_m7 172 rfl) rfl
theorem q1684 : (Jvm.Cond.code ({ cls := "OddPairsModel", name := "weight", desc := "(II)I" } : Jvm.MethodName) prog_12_method_28_code (3 : Nat) (Option.some Jvm.ClassFile.FieldType.int)) ∈ lw_all := lw_g (lw_at lw_m7 173 rfl) rfl
theorem q1686 : (Jvm.Cond.instanceMethod ({ cls := "OddPairsModel", name := "fault", desc := "()I" } : Jvm.MethodName)) ∈ lw_all := lw_g (lw_at lw_m7 175 rfl) rfl
theorem q1687 : (Jvm.Cond.selects "OddPairsModel" ({ cls := "OddPairsModel", name := "fault", desc := "()I" } : Jvm.MethodName) ({ cls := "OddPairsModel", name := "fault", desc := "()I" } : Jvm.MethodName)) ∈ lw_all := lw_g (lw_at lw_m7 176 rfl) rfl
theorem q1688 : (Jvm.Cond.code ({ cls := "OddPairsModel", name := "fault", desc := "()I" } : Jvm.MethodName) prog_12_method_24_code (1 : Nat) (Option.some Jvm.ClassFile.FieldType.int)) ∈ lw_all := lw_g (lw_at lw_m7 177 rfl) rfl
theorem q1690 : (Jvm.Cond.instanceMethod ({ cls := "OddPairsModel", name := "undo", desc := "()I" } : Jvm.MethodName)) ∈ lw_all := lw_g (lw_at lw_m7 179 rfl) rfl
theorem q1691 : (Jvm.Cond.selects "OddPairsModel" ({ cls := "OddPairsModel", name := "undo", desc := "()I" } : Jvm.MethodName) ({ cls := "OddPairsModel", name := "undo", desc := "()I" } : Jvm.MethodName)) ∈ lw_all := lw_g (lw_at lw_m7 180 rfl) rfl
theorem q1692 : (Jvm.Cond.code ({ cls := "OddPairsModel", name := "undo", desc := "()I" } : Jvm.MethodName) prog_12_method_51_code (1 : Nat) (Option.some Jvm.ClassFile.FieldType.int)) ∈ lw_all := lw_g (lw_at lw_m7 181 rfl) rfl
theorem q1694 : (Jvm.Cond.instanceMethod ({ cls := "OddPairsModel", name := "join", desc := "(III)I" } : Jvm.MethodName)) ∈ lw_all := lw_g (lw_at lw_m7 183 rfl) rfl
theorem q1695 : (Jvm.Cond.selects "OddPairsModel" ({ cls := "OddPairsModel", name := "join", desc := "(III)I" } : Jvm.MethodName) ({ cls := "OddPairsModel", name := "join", desc := "(III)I" } : Jvm.MethodName)) ∈ lw_all := lw_g (lw_at lw_m7 184 rfl) rfl
theorem q1696 : (Jvm.Cond.code ({ cls := "OddPairsModel", name := "join", desc := "(III)I" } : Jvm.MethodName) prog_12_method_53_code (4 : Nat) (Option.some Jvm.ClassFile.FieldType.int)) ∈ lw_all := lw_g (lw_at lw_m7 185 rfl) rfl
theorem q1697 : (Jvm.Cond.methodLink "OddPairsModel" (245 : Nat) ({ cls := "OddPairsModel", name := "isNode", desc := "(I)Z" } : Jvm.MethodName)) ∈ lw_all := lw_g (lw_at lw_m7 186 rfl) rfl
theorem q1698 : (Jvm.Cond.privateMethod ({ cls := "OddPairsModel", name := "isNode", desc := "(I)Z" } : Jvm.MethodName)) ∈ lw_tbl := lw_at lw_m7 187 rfl
theorem q1699 : (Jvm.Cond.instanceMethod ({ cls := "OddPairsModel", name := "isNode", desc := "(I)Z" } : Jvm.MethodName)) ∈ lw_all := lw_g (lw_at lw_m7 188 rfl) rfl
theorem q1700 : (Jvm.Cond.code ({ cls := "OddPairsModel", name := "isNode", desc := "(I)Z" } : Jvm.MethodName) prog_12_method_52_code (2 : Nat) (Option.some Jvm.ClassFile.FieldType.boolean)) ∈ lw_all := lw_g (lw_at lw_m7 189 rfl) rfl
theorem q1702 : (Jvm.Cond.instanceMethod ({ cls := "OddPairsModel", name := "cut", desc := "(II)I" } : Jvm.MethodName)) ∈ lw_all := lw_g (lw_at lw_m7 191 rfl) rfl
theorem q1703 : (Jvm.Cond.selects "OddPairsModel" ({ cls := "OddPairsModel", name := "cut", desc := "(II)I" } : Jvm.MethodName) ({ cls := "OddPairsModel", name := "cut", desc := "(II)I" } : Jvm.MethodName)) ∈ lw_all := lw_g (lw_at lw_m7 192 rfl) rfl
theorem q1704 : (Jvm.Cond.code ({ cls := "OddPairsModel", name := "cut", desc := "(II)I" } : Jvm.MethodName) prog_12_method_55_code (3 : Nat) (Option.some Jvm.ClassFile.FieldType.int)) ∈ lw_all := lw_g (lw_at lw_m7 193 rfl) rfl
theorem q1705 : (Jvm.Cond.methodLink "OddPairsModel" (206 : Nat) ({ cls := "OddPairsModel", name := "mate", desc := "(I)I" } : Jvm.MethodName)) ∈ lw_all := lw_g (lw_at lw_m7 194 rfl) rfl
theorem q1706 : (Jvm.Cond.privateMethod ({ cls := "OddPairsModel", name := "mate", desc := "(I)I" } : Jvm.MethodName)) ∈ lw_tbl := lw_at lw_m7 195 rfl
theorem q1707 : (Jvm.Cond.instanceMethod ({ cls := "OddPairsModel", name := "mate", desc := "(I)I" } : Jvm.MethodName)) ∈ lw_all := lw_g (lw_at lw_m7 196 rfl) rfl
theorem q1708 : (Jvm.Cond.code ({ cls := "OddPairsModel", name := "mate", desc := "(I)I" } : Jvm.MethodName) prog_12_method_27_code (2 : Nat) (Option.some Jvm.ClassFile.FieldType.int)) ∈ lw_all := lw_g (lw_at lw_m7 197 rfl) rfl
theorem q1709 : (Jvm.Cond.methodLink "OddPairsModel" (248 : Nat) ({ cls := "OddPairsModel", name := "parts", desc := "(I)V" } : Jvm.MethodName)) ∈ lw_all := lw_g (lw_at lw_m7 198 rfl) rfl
theorem q1710 : (Jvm.Cond.privateMethod ({ cls := "OddPairsModel", name := "parts", desc := "(I)V" } : Jvm.MethodName)) ∈ lw_tbl := lw_at lw_m7 199 rfl
theorem q1711 : (Jvm.Cond.instanceMethod ({ cls := "OddPairsModel", name := "parts", desc := "(I)V" } : Jvm.MethodName)) ∈ lw_all := lw_g (lw_at lw_m7 200 rfl) rfl
theorem q1712 : (Jvm.Cond.code ({ cls := "OddPairsModel", name := "parts", desc := "(I)V" } : Jvm.MethodName) prog_12_method_54_code (3 : Nat) (Option.none : Option Jvm.ClassFile.FieldType)) ∈ lw_all := lw_g (lw_at lw_m7 201 rfl) rfl
theorem q1714 : (Jvm.Cond.instanceMethod ({ cls := "OddPairsModel", name := "pair", desc := "(II)I" } : Jvm.MethodName)) ∈ lw_all := lw_g (lw_at lw_m7 203 rfl) rfl
theorem q1715 : (Jvm.Cond.selects "OddPairsModel" ({ cls := "OddPairsModel", name := "pair", desc := "(II)I" } : Jvm.MethodName) ({ cls := "OddPairsModel", name := "pair", desc := "(II)I" } : Jvm.MethodName)) ∈ lw_all := lw_g (lw_at lw_m7 204 rfl) rfl
theorem q1716 : (Jvm.Cond.code ({ cls := "OddPairsModel", name := "pair", desc := "(II)I" } : Jvm.MethodName) prog_12_method_57_code (3 : Nat) (Option.some Jvm.ClassFile.FieldType.int)) ∈ lw_all := lw_g (lw_at lw_m7 205 rfl) rfl
theorem q1717 : (Jvm.Cond.methodLink "OddPairsModel" (251 : Nat) ({ cls := "OddPairsModel", name := "mates", desc := "(II)V" } : Jvm.MethodName)) ∈ lw_all := lw_g (lw_at lw_m7 206 rfl) rfl
theorem q1718 : (Jvm.Cond.privateMethod ({ cls := "OddPairsModel", name := "mates", desc := "(II)V" } : Jvm.MethodName)) ∈ lw_tbl := lw_at lw_m7 207 rfl
theorem q1719 : (Jvm.Cond.instanceMethod ({ cls := "OddPairsModel", name := "mates", desc := "(II)V" } : Jvm.MethodName)) ∈ lw_all := lw_g (lw_at lw_m7 208 rfl) rfl
theorem q1720 : (Jvm.Cond.code ({ cls := "OddPairsModel", name := "mates", desc := "(II)V" } : Jvm.MethodName) prog_12_method_56_code (3 : Nat) (Option.none : Option Jvm.ClassFile.FieldType)) ∈ lw_all := lw_g (lw_at lw_m7 209 rfl) rfl
theorem q1721 : (Jvm.Cond.methodLink "OddPairsModel" (254 : Nat) ({ cls := "OddPairsModel", name := "pairsNow", desc := "()I" } : Jvm.MethodName)) ∈ lw_all := lw_g (lw_at lw_m7 210 rfl) rfl
theorem q1722 : (Jvm.Cond.privateMethod ({ cls := "OddPairsModel", name := "pairsNow", desc := "()I" } : Jvm.MethodName)) ∈ lw_tbl := lw_at lw_m7 211 rfl
theorem q1723 : (Jvm.Cond.instanceMethod ({ cls := "OddPairsModel", name := "pairsNow", desc := "()I" } : Jvm.MethodName)) ∈ lw_all := lw_g (lw_at lw_m7 212 rfl) rfl
theorem q1724 : (Jvm.Cond.code ({ cls := "OddPairsModel", name := "pairsNow", desc := "()I" } : Jvm.MethodName) prog_12_method_37_code (3 : Nat) (Option.some Jvm.ClassFile.FieldType.int)) ∈ lw_all := lw_g (lw_at lw_m7 213 rfl) rfl
theorem q1726 : (Jvm.Cond.instanceMethod ({ cls := "OddPairsModel", name := "part", desc := "(I)I" } : Jvm.MethodName)) ∈ lw_all := lw_g (lw_at lw_m7 215 rfl) rfl
theorem q1727 : (Jvm.Cond.selects "OddPairsModel" ({ cls := "OddPairsModel", name := "part", desc := "(I)I" } : Jvm.MethodName) ({ cls := "OddPairsModel", name := "part", desc := "(I)I" } : Jvm.MethodName)) ∈ lw_all := lw_g (lw_at lw_m7 216 rfl) rfl
theorem q1728 : (Jvm.Cond.code ({ cls := "OddPairsModel", name := "part", desc := "(I)I" } : Jvm.MethodName) prog_12_method_58_code (3 : Nat) (Option.some Jvm.ClassFile.FieldType.int)) ∈ lw_all := lw_g (lw_at lw_m7 217 rfl) rfl
theorem q1730 : (Jvm.Cond.instanceMethod ({ cls := "OddPairsModel", name := "better", desc := "(I)I" } : Jvm.MethodName)) ∈ lw_all := lw_g (lw_at lw_m7 219 rfl) rfl
theorem q1731 : (Jvm.Cond.selects "OddPairsModel" ({ cls := "OddPairsModel", name := "better", desc := "(I)I" } : Jvm.MethodName) ({ cls := "OddPairsModel", name := "better", desc := "(I)I" } : Jvm.MethodName)) ∈ lw_all := lw_g (lw_at lw_m7 220 rfl) rfl
theorem q1732 : (Jvm.Cond.code ({ cls := "OddPairsModel", name := "better", desc := "(I)I" } : Jvm.MethodName) prog_12_method_59_code (3 : Nat) (Option.some Jvm.ClassFile.FieldType.int)) ∈ lw_all := lw_g (lw_at lw_m7 221 rfl) rfl
theorem q1733 : (Jvm.Cond.methodLink "OddPairsModel" (257 : Nat) ({ cls := "OddPairsModel", name := "findsPath", desc := "(I)Z" } : Jvm.MethodName)) ∈ lw_all := lw_g (lw_at lw_m7 222 rfl) rfl
theorem q1734 : (Jvm.Cond.privateMethod ({ cls := "OddPairsModel", name := "findsPath", desc := "(I)Z" } : Jvm.MethodName)) ∈ lw_tbl := lw_at lw_m7 223 rfl
theorem q1735 : (Jvm.Cond.instanceMethod ({ cls := "OddPairsModel", name := "findsPath", desc := "(I)Z" } : Jvm.MethodName)) ∈ lw_all := lw_g (lw_at lw_m7 224 rfl) rfl
theorem q1736 : (Jvm.Cond.code ({ cls := "OddPairsModel", name := "findsPath", desc := "(I)Z" } : Jvm.MethodName) prog_12_method_47_code (2 : Nat) (Option.some Jvm.ClassFile.FieldType.boolean)) ∈ lw_all := lw_g (lw_at lw_m7 225 rfl) rfl
theorem q1737 : (Jvm.Cond.methodLink "OddPairsModel" (233 : Nat) ({ cls := "OddPairsModel", name := "betters", desc := "(III)Z" } : Jvm.MethodName)) ∈ lw_all := lw_g (lw_at lw_m7 226 rfl) rfl
theorem q1738 : (Jvm.Cond.privateMethod ({ cls := "OddPairsModel", name := "betters", desc := "(III)Z" } : Jvm.MethodName)) ∈ lw_tbl := lw_at lw_m7 227 rfl
theorem q1739 : (Jvm.Cond.instanceMethod ({ cls := "OddPairsModel", name := "betters", desc := "(III)Z" } : Jvm.MethodName)) ∈ lw_all := lw_g (lw_at lw_m7 228 rfl) rfl
theorem q1740 : (Jvm.Cond.code ({ cls := "OddPairsModel", name := "betters", desc := "(III)Z" } : Jvm.MethodName) prog_12_method_46_code (6 : Nat) (Option.some Jvm.ClassFile.FieldType.boolean)) ∈ lw_all := lw_g (lw_at lw_m7 229 rfl) rfl
theorem q1741 : (Jvm.Cond.methodLink "OddPairsModel" (183 : Nat) ({ cls := "OddPairsModel", name := "has", desc := "(II)Z" } : Jvm.MethodName)) ∈ lw_all := lw_g (lw_at lw_m7 230 rfl) rfl
theorem q1742 : (Jvm.Cond.static ({ cls := "OddPairsModel", name := "has", desc := "(II)Z" } : Jvm.MethodName)) ∈ lw_all := lw_g (lw_at lw_m7 231 rfl) rfl
theorem q1743 : (Jvm.Cond.code ({ cls := "OddPairsModel", name := "has", desc := "(II)Z" } : Jvm.MethodName) prog_12_method_29_code (2 : Nat) (Option.some Jvm.ClassFile.FieldType.boolean)) ∈ lw_all := lw_g (lw_at lw_m7 232 rfl) rfl
theorem q1745 : (Jvm.Cond.instanceMethod ({ cls := "OddPairsModel", name := "finish", desc := "()I" } : Jvm.MethodName)) ∈ lw_all := lw_g (lw_at lw_m7 234 rfl) rfl
theorem q1746 : (Jvm.Cond.selects "OddPairsModel" ({ cls := "OddPairsModel", name := "finish", desc := "()I" } : Jvm.MethodName) ({ cls := "OddPairsModel", name := "finish", desc := "()I" } : Jvm.MethodName)) ∈ lw_all := lw_g (lw_at lw_m7 235 rfl) rfl
theorem q1747 : (Jvm.Cond.code ({ cls := "OddPairsModel", name := "finish", desc := "()I" } : Jvm.MethodName) prog_12_method_60_code (3 : Nat) (Option.some Jvm.ClassFile.FieldType.int)) ∈ lw_all := lw_g (lw_at lw_m7 236 rfl) rfl
theorem q1748 : (Jvm.Cond.methodLink "OddPairsModel" (260 : Nat) ({ cls := "OddPairsModel", name := "laysFirst", desc := "()V" } : Jvm.MethodName)) ∈ lw_all := lw_g (lw_at lw_m7 237 rfl) rfl
theorem q1749 : (Jvm.Cond.privateMethod ({ cls := "OddPairsModel", name := "laysFirst", desc := "()V" } : Jvm.MethodName)) ∈ lw_tbl := lw_at lw_m7 238 rfl
theorem q1750 : (Jvm.Cond.instanceMethod ({ cls := "OddPairsModel", name := "laysFirst", desc := "()V" } : Jvm.MethodName)) ∈ lw_all := lw_g (lw_at lw_m7 239 rfl) rfl
theorem q1751 : (Jvm.Cond.code ({ cls := "OddPairsModel", name := "laysFirst", desc := "()V" } : Jvm.MethodName) prog_12_method_38_code (5 : Nat) (Option.none : Option Jvm.ClassFile.FieldType)) ∈ lw_all := lw_g (lw_at lw_m8 0 rfl) rfl
theorem q1752 : (Jvm.Cond.methodLink "OddPairsModel" (209 : Nat) ({ cls := "OddPairsModel", name := "lays", desc := "()V" } : Jvm.MethodName)) ∈ lw_all := lw_g (lw_at lw_m8 1 rfl) rfl
theorem q1753 : (Jvm.Cond.privateMethod ({ cls := "OddPairsModel", name := "lays", desc := "()V" } : Jvm.MethodName)) ∈ lw_tbl := lw_at lw_m8 2 rfl
theorem q1754 : (Jvm.Cond.instanceMethod ({ cls := "OddPairsModel", name := "lays", desc := "()V" } : Jvm.MethodName)) ∈ lw_all := lw_g (lw_at lw_m8 3 rfl) rfl
theorem q1755 : (Jvm.Cond.code ({ cls := "OddPairsModel", name := "lays", desc := "()V" } : Jvm.MethodName) prog_12_method_34_code (5 : Nat) (Option.none : Option Jvm.ClassFile.FieldType)) ∈ lw_all := lw_g (lw_at lw_m8 4 rfl) rfl
theorem q1756 : (Jvm.Cond.methodLink "OddPairsModel" (194 : Nat) ({ cls := "OddPairsModel", name := "all", desc := "()I" } : Jvm.MethodName)) ∈ lw_all := lw_g (lw_at lw_m8 5 rfl) rfl
theorem q1757 : (Jvm.Cond.privateMethod ({ cls := "OddPairsModel", name := "all", desc := "()I" } : Jvm.MethodName)) ∈ lw_tbl := lw_at lw_m8 6 rfl
theorem q1758 : (Jvm.Cond.instanceMethod ({ cls := "OddPairsModel", name := "all", desc := "()I" } : Jvm.MethodName)) ∈ lw_all := lw_g (lw_at lw_m8 7 rfl) rfl
theorem q1759 : (Jvm.Cond.code ({ cls := "OddPairsModel", name := "all", desc := "()I" } : Jvm.MethodName) prog_12_method_26_code (1 : Nat) (Option.some Jvm.ClassFile.FieldType.int)) ∈ lw_all := lw_g (lw_at lw_m8 8 rfl) rfl
theorem q1760 : (Jvm.Cond.methodLink "OddPairsModel" (196 : Nat) ({ cls := "OddPairsModel", name := "first", desc := "(I)I" } : Jvm.MethodName)) ∈ lw_all := lw_g (lw_at lw_m8 9 rfl) rfl
theorem q1761 : (Jvm.Cond.static ({ cls := "OddPairsModel", name := "first", desc := "(I)I" } : Jvm.MethodName)) ∈ lw_all := lw_g (lw_at lw_m8 10 rfl) rfl
theorem q1762 : (Jvm.Cond.code ({ cls := "OddPairsModel", name := "first", desc := "(I)I" } : Jvm.MethodName) prog_12_method_31_code (2 : Nat) (Option.some Jvm.ClassFile.FieldType.int)) ∈ lw_all := lw_g (lw_at lw_m8 11 rfl) rfl
theorem q1763 : (Jvm.Cond.methodLink "OddPairsModel" (199 : Nat) ({ cls := "OddPairsModel", name := "adds", desc := "(IIII)V" } : Jvm.MethodName)) ∈ lw_all := lw_g (lw_at lw_m8 12 rfl) rfl
theorem q1764 : (Jvm.Cond.privateMethod ({ cls := "OddPairsModel", name := "adds", desc := "(IIII)V" } : Jvm.MethodName)) ∈ lw_tbl := lw_at lw_m8 13 rfl
theorem q1765 : (Jvm.Cond.instanceMethod ({ cls := "OddPairsModel", name := "adds", desc := "(IIII)V" } : Jvm.MethodName)) ∈ lw_all := lw_g (lw_at lw_m8 14 rfl) rfl
theorem q1766 : (Jvm.Cond.code ({ cls := "OddPairsModel", name := "adds", desc := "(IIII)V" } : Jvm.MethodName) prog_12_method_33_code (6 : Nat) (Option.none : Option Jvm.ClassFile.FieldType)) ∈ lw_all := lw_g (lw_at lw_m8 15 rfl) rfl
theorem q1767 : (Jvm.Cond.constant "OddPairsModel" (193 : Nat) (2147483647 : Int32)) ∈ lw_all := lw_g (lw_at lw_m8 16 rfl) rfl
theorem q1769 : (Jvm.Cond.instanceMethod ({ cls := "OddPairsModel", name := "shrink", desc := "(I)I" } : Jvm.MethodName)) ∈ lw_all := lw_g (lw_at lw_m8 18 rfl) rfl
theorem q1770 : (Jvm.Cond.selects "OddPairsModel" ({ cls := "OddPairsModel", name := "shrink", desc := "(I)I" } : Jvm.MethodName) ({ cls := "OddPairsModel", name := "shrink", desc := "(I)I" } : Jvm.MethodName)) ∈ lw_all := lw_g (lw_at lw_m8 19 rfl) rfl
theorem q1771 : (Jvm.Cond.code ({ cls := "OddPairsModel", name := "shrink", desc := "(I)I" } : Jvm.MethodName) prog_12_method_61_code (6 : Nat) (Option.some Jvm.ClassFile.FieldType.int)) ∈ lw_all := lw_g (lw_at lw_m8 20 rfl) rfl
theorem q1772 : (Jvm.Cond.methodLink "OddPairsModel" (263 : Nat) ({ cls := "OddPairsModel", name := "findsFlower", desc := "(I)Z" } : Jvm.MethodName)) ∈ lw_all := lw_g (lw_at lw_m8 21 rfl) rfl
theorem q1773 : (Jvm.Cond.privateMethod ({ cls := "OddPairsModel", name := "findsFlower", desc := "(I)Z" } : Jvm.MethodName)) ∈ lw_tbl := lw_at lw_m8 22 rfl
theorem q1774 : (Jvm.Cond.instanceMethod ({ cls := "OddPairsModel", name := "findsFlower", desc := "(I)Z" } : Jvm.MethodName)) ∈ lw_all := lw_g (lw_at lw_m8 23 rfl) rfl
theorem q1775 : (Jvm.Cond.code ({ cls := "OddPairsModel", name := "findsFlower", desc := "(I)Z" } : Jvm.MethodName) prog_12_method_49_code (2 : Nat) (Option.some Jvm.ClassFile.FieldType.boolean)) ∈ lw_all := lw_g (lw_at lw_m8 24 rfl) rfl
theorem q1776 : (Jvm.Cond.methodLink "OddPairsModel" (239 : Nat) ({ cls := "OddPairsModel", name := "rings", desc := "(III)Z" } : Jvm.MethodName)) ∈ lw_all := lw_g (lw_at lw_m8 25 rfl) rfl
theorem q1777 : (Jvm.Cond.privateMethod ({ cls := "OddPairsModel", name := "rings", desc := "(III)Z" } : Jvm.MethodName)) ∈ lw_tbl := lw_at lw_m8 26 rfl
theorem q1778 : (Jvm.Cond.instanceMethod ({ cls := "OddPairsModel", name := "rings", desc := "(III)Z" } : Jvm.MethodName)) ∈ lw_all := lw_g (lw_at lw_m8 27 rfl) rfl
theorem q1779 : (Jvm.Cond.code ({ cls := "OddPairsModel", name := "rings", desc := "(III)Z" } : Jvm.MethodName) prog_12_method_48_code (6 : Nat) (Option.some Jvm.ClassFile.FieldType.boolean)) ∈ lw_all := lw_g (lw_at lw_m8 28 rfl) rfl
theorem q1781 : (Jvm.Cond.instanceMethod ({ cls := "OddPairsModel", name := "told", desc := "(I)I" } : Jvm.MethodName)) ∈ lw_all := lw_g (lw_at lw_m8 30 rfl) rfl
theorem q1782 : (Jvm.Cond.selects "OddPairsModel" ({ cls := "OddPairsModel", name := "told", desc := "(I)I" } : Jvm.MethodName) ({ cls := "OddPairsModel", name := "told", desc := "(I)I" } : Jvm.MethodName)) ∈ lw_all := lw_g (lw_at lw_m8 31 rfl) rfl
theorem q1783 : (Jvm.Cond.code ({ cls := "OddPairsModel", name := "told", desc := "(I)I" } : Jvm.MethodName) prog_12_method_62_code (4 : Nat) (Option.some Jvm.ClassFile.FieldType.int)) ∈ lw_all := lw_g (lw_at lw_m8 32 rfl) rfl
theorem q1784 : (Jvm.Cond.methodLink "OddPairsModel" (266 : Nat) ({ cls := "OddPairsModel", name := "missing", desc := "()I" } : Jvm.MethodName)) ∈ lw_all := lw_g (lw_at lw_m8 33 rfl) rfl
theorem q1785 : (Jvm.Cond.privateMethod ({ cls := "OddPairsModel", name := "missing", desc := "()I" } : Jvm.MethodName)) ∈ lw_tbl := lw_at lw_m8 34 rfl
theorem q1786 : (Jvm.Cond.instanceMethod ({ cls := "OddPairsModel", name := "missing", desc := "()I" } : Jvm.MethodName)) ∈ lw_all := lw_g (lw_at lw_m8 35 rfl) rfl
theorem q1787 : (Jvm.Cond.code ({ cls := "OddPairsModel", name := "missing", desc := "()I" } : Jvm.MethodName) prog_12_method_35_code (1 : Nat) (Option.some Jvm.ClassFile.FieldType.int)) ∈ lw_all := lw_g (lw_at lw_m8 36 rfl) rfl
theorem q1789 : (Jvm.Cond.instanceMethod ({ cls := "OddPairsModel", name := "line", desc := "(III)I" } : Jvm.MethodName)) ∈ lw_all := lw_g (lw_at lw_m8 38 rfl) rfl
theorem q1790 : (Jvm.Cond.selects "OddPairsModel" ({ cls := "OddPairsModel", name := "line", desc := "(III)I" } : Jvm.MethodName) ({ cls := "OddPairsModel", name := "line", desc := "(III)I" } : Jvm.MethodName)) ∈ lw_all := lw_g (lw_at lw_m8 39 rfl) rfl
theorem q1791 : (Jvm.Cond.code ({ cls := "OddPairsModel", name := "line", desc := "(III)I" } : Jvm.MethodName) prog_12_method_63_code (7 : Nat) (Option.some Jvm.ClassFile.FieldType.int)) ∈ lw_all := lw_g (lw_at lw_m8 40 rfl) rfl
theorem q1793 : (Jvm.Cond.instanceMethod ({ cls := "OddPairsModel", name := "node", desc := "(II)I" } : Jvm.MethodName)) ∈ lw_all := lw_g (lw_at lw_m8 42 rfl) rfl
theorem q1794 : (Jvm.Cond.selects "OddPairsModel" ({ cls := "OddPairsModel", name := "node", desc := "(II)I" } : Jvm.MethodName) ({ cls := "OddPairsModel", name := "node", desc := "(II)I" } : Jvm.MethodName)) ∈ lw_all := lw_g (lw_at lw_m8 43 rfl) rfl
theorem q1795 : (Jvm.Cond.code ({ cls := "OddPairsModel", name := "node", desc := "(II)I" } : Jvm.MethodName) prog_12_method_64_code (5 : Nat) (Option.some Jvm.ClassFile.FieldType.int)) ∈ lw_all := lw_g (lw_at lw_m8 44 rfl) rfl
theorem q1796 : (Jvm.Cond.methodLink "OddPairsModel" (269 : Nat) ({ cls := "OddPairsModel", name := "labels", desc := "()V" } : Jvm.MethodName)) ∈ lw_all := lw_g (lw_at lw_m8 45 rfl) rfl
theorem q1797 : (Jvm.Cond.privateMethod ({ cls := "OddPairsModel", name := "labels", desc := "()V" } : Jvm.MethodName)) ∈ lw_tbl := lw_at lw_m8 46 rfl
theorem q1798 : (Jvm.Cond.instanceMethod ({ cls := "OddPairsModel", name := "labels", desc := "()V" } : Jvm.MethodName)) ∈ lw_all := lw_g (lw_at lw_m8 47 rfl) rfl
theorem q1799 : (Jvm.Cond.code ({ cls := "OddPairsModel", name := "labels", desc := "()V" } : Jvm.MethodName) prog_12_method_45_code (2 : Nat) (Option.none : Option Jvm.ClassFile.FieldType)) ∈ lw_all := lw_g (lw_at lw_m8 48 rfl) rfl
theorem q1800 : (Jvm.Cond.methodLink "OddPairsModel" (230 : Nat) ({ cls := "OddPairsModel", name := "goes", desc := "(II)V" } : Jvm.MethodName)) ∈ lw_all := lw_g (lw_at lw_m8 49 rfl) rfl
theorem q1801 : (Jvm.Cond.privateMethod ({ cls := "OddPairsModel", name := "goes", desc := "(II)V" } : Jvm.MethodName)) ∈ lw_tbl := lw_at lw_m8 50 rfl
theorem q1802 : (Jvm.Cond.instanceMethod ({ cls := "OddPairsModel", name := "goes", desc := "(II)V" } : Jvm.MethodName)) ∈ lw_all := lw_g (lw_at lw_m8 51 rfl) rfl
theorem q1803 : (Jvm.Cond.code ({ cls := "OddPairsModel", name := "goes", desc := "(II)V" } : Jvm.MethodName) prog_12_method_44_code (5 : Nat) (Option.none : Option Jvm.ClassFile.FieldType)) ∈ lw_all := lw_g (lw_at lw_m8 52 rfl) rfl
theorem q1804 : (Jvm.Cond.methodLink "OddPairsModel" (221 : Nat) ({ cls := "OddPairsModel", name := "bits", desc := "(I)I" } : Jvm.MethodName)) ∈ lw_all := lw_g (lw_at lw_m8 53 rfl) rfl
theorem q1805 : (Jvm.Cond.static ({ cls := "OddPairsModel", name := "bits", desc := "(I)I" } : Jvm.MethodName)) ∈ lw_all := lw_g (lw_at lw_m8 54 rfl) rfl
theorem q1806 : (Jvm.Cond.code ({ cls := "OddPairsModel", name := "bits", desc := "(I)I" } : Jvm.MethodName) prog_12_method_30_code (3 : Nat) (Option.some Jvm.ClassFile.FieldType.int)) ∈ lw_all := lw_g (lw_at lw_m8 55 rfl) rfl
theorem q1807 : (Jvm.Cond.methodLink "OddPairsModel" (272 : Nat) ({ cls := "OddPairsModel", name := "setOf", desc := "(I)I" } : Jvm.MethodName)) ∈ lw_all := lw_g (lw_at lw_m8 56 rfl) rfl
theorem q1808 : (Jvm.Cond.privateMethod ({ cls := "OddPairsModel", name := "setOf", desc := "(I)I" } : Jvm.MethodName)) ∈ lw_tbl := lw_at lw_m8 57 rfl
theorem q1809 : (Jvm.Cond.instanceMethod ({ cls := "OddPairsModel", name := "setOf", desc := "(I)I" } : Jvm.MethodName)) ∈ lw_all := lw_g (lw_at lw_m8 58 rfl) rfl
theorem q1810 : (Jvm.Cond.code ({ cls := "OddPairsModel", name := "setOf", desc := "(I)I" } : Jvm.MethodName) prog_12_method_41_code (4 : Nat) (Option.some Jvm.ClassFile.FieldType.int)) ∈ lw_all := lw_g (lw_at lw_m8 59 rfl) rfl
theorem q1811 : (Jvm.Cond.methodLink "OddPairsModel" (212 : Nat) ({ cls := "OddPairsModel", name := "missed", desc := "()I" } : Jvm.MethodName)) ∈ lw_all := lw_g (lw_at lw_m8 60 rfl) rfl
theorem q1812 : (Jvm.Cond.privateMethod ({ cls := "OddPairsModel", name := "missed", desc := "()I" } : Jvm.MethodName)) ∈ lw_tbl := lw_at lw_m8 61 rfl
theorem q1813 : (Jvm.Cond.instanceMethod ({ cls := "OddPairsModel", name := "missed", desc := "()I" } : Jvm.MethodName)) ∈ lw_all := lw_g (lw_at lw_m8 62 rfl) rfl
theorem q1814 : (Jvm.Cond.code ({ cls := "OddPairsModel", name := "missed", desc := "()I" } : Jvm.MethodName) prog_12_method_39_code (3 : Nat) (Option.some Jvm.ClassFile.FieldType.int)) ∈ lw_all := lw_g (lw_at lw_m8 63 rfl) rfl
theorem q1815 : (Jvm.Cond.methodLink "OddPairsModel" (215 : Nat) ({ cls := "OddPairsModel", name := "beside", desc := "(I)I" } : Jvm.MethodName)) ∈ lw_all := lw_g (lw_at lw_m8 64 rfl) rfl
theorem q1816 : (Jvm.Cond.privateMethod ({ cls := "OddPairsModel", name := "beside", desc := "(I)I" } : Jvm.MethodName)) ∈ lw_tbl := lw_at lw_m8 65 rfl
theorem q1817 : (Jvm.Cond.instanceMethod ({ cls := "OddPairsModel", name := "beside", desc := "(I)I" } : Jvm.MethodName)) ∈ lw_all := lw_g (lw_at lw_m8 66 rfl) rfl
theorem q1818 : (Jvm.Cond.code ({ cls := "OddPairsModel", name := "beside", desc := "(I)I" } : Jvm.MethodName) prog_12_method_40_code (5 : Nat) (Option.some Jvm.ClassFile.FieldType.int)) ∈ lw_all := lw_g (lw_at lw_m8 67 rfl) rfl
theorem q1820 : (Jvm.Cond.instanceMethod ({ cls := "OddPairsModel", name := "sets", desc := "(I)I" } : Jvm.MethodName)) ∈ lw_all := lw_g (lw_at lw_m8 69 rfl) rfl
theorem q1821 : (Jvm.Cond.selects "OddPairsModel" ({ cls := "OddPairsModel", name := "sets", desc := "(I)I" } : Jvm.MethodName) ({ cls := "OddPairsModel", name := "sets", desc := "(I)I" } : Jvm.MethodName)) ∈ lw_all := lw_g (lw_at lw_m8 70 rfl) rfl
theorem q1822 : (Jvm.Cond.code ({ cls := "OddPairsModel", name := "sets", desc := "(I)I" } : Jvm.MethodName) prog_12_method_65_code (2 : Nat) (Option.some Jvm.ClassFile.FieldType.int)) ∈ lw_all := lw_g (lw_at lw_m8 71 rfl) rfl
theorem q1824 : (Jvm.Cond.instanceMethod ({ cls := "OddPairsModel", name := "odd", desc := "(I)I" } : Jvm.MethodName)) ∈ lw_all := lw_g (lw_at lw_m8 73 rfl) rfl
theorem q1825 : (Jvm.Cond.selects "OddPairsModel" ({ cls := "OddPairsModel", name := "odd", desc := "(I)I" } : Jvm.MethodName) ({ cls := "OddPairsModel", name := "odd", desc := "(I)I" } : Jvm.MethodName)) ∈ lw_all := lw_g (lw_at lw_m8 74 rfl) rfl
theorem q1826 : (Jvm.Cond.code ({ cls := "OddPairsModel", name := "odd", desc := "(I)I" } : Jvm.MethodName) prog_12_method_66_code (2 : Nat) (Option.some Jvm.ClassFile.FieldType.int)) ∈ lw_all := lw_g (lw_at lw_m8 75 rfl) rfl
theorem q1827 : (Jvm.Cond.methodLink "OddPairsModel" (275 : Nat) ({ cls := "OddPairsModel", name := "oddOf", desc := "(I)I" } : Jvm.MethodName)) ∈ lw_all := lw_g (lw_at lw_m8 76 rfl) rfl
theorem q1828 : (Jvm.Cond.privateMethod ({ cls := "OddPairsModel", name := "oddOf", desc := "(I)I" } : Jvm.MethodName)) ∈ lw_tbl := lw_at lw_m8 77 rfl
theorem q1829 : (Jvm.Cond.instanceMethod ({ cls := "OddPairsModel", name := "oddOf", desc := "(I)I" } : Jvm.MethodName)) ∈ lw_all := lw_g (lw_at lw_m8 78 rfl) rfl
theorem q1830 : (Jvm.Cond.code ({ cls := "OddPairsModel", name := "oddOf", desc := "(I)I" } : Jvm.MethodName) prog_12_method_43_code (5 : Nat) (Option.some Jvm.ClassFile.FieldType.int)) ∈ lw_all := lw_g (lw_at lw_m8 79 rfl) rfl
theorem q1831 : (Jvm.Cond.methodLink "OddPairsModel" (218 : Nat) ({ cls := "OddPairsModel", name := "partOf", desc := "(II)I" } : Jvm.MethodName)) ∈ lw_all := lw_g (lw_at lw_m8 80 rfl) rfl
theorem q1832 : (Jvm.Cond.privateMethod ({ cls := "OddPairsModel", name := "partOf", desc := "(II)I" } : Jvm.MethodName)) ∈ lw_tbl := lw_at lw_m8 81 rfl
theorem q1833 : (Jvm.Cond.instanceMethod ({ cls := "OddPairsModel", name := "partOf", desc := "(II)I" } : Jvm.MethodName)) ∈ lw_all := lw_g (lw_at lw_m8 82 rfl) rfl
theorem q1834 : (Jvm.Cond.code ({ cls := "OddPairsModel", name := "partOf", desc := "(II)I" } : Jvm.MethodName) prog_12_method_42_code (7 : Nat) (Option.some Jvm.ClassFile.FieldType.int)) ∈ lw_all := lw_g (lw_at lw_m8 83 rfl) rfl
theorem q1836 : (Jvm.Cond.instanceMethod ({ cls := "OddPairsModel", name := "barrier", desc := "(I)I" } : Jvm.MethodName)) ∈ lw_all := lw_g (lw_at lw_m8 85 rfl) rfl
theorem q1837 : (Jvm.Cond.selects "OddPairsModel" ({ cls := "OddPairsModel", name := "barrier", desc := "(I)I" } : Jvm.MethodName) ({ cls := "OddPairsModel", name := "barrier", desc := "(I)I" } : Jvm.MethodName)) ∈ lw_all := lw_g (lw_at lw_m8 86 rfl) rfl
theorem q1838 : (Jvm.Cond.code ({ cls := "OddPairsModel", name := "barrier", desc := "(I)I" } : Jvm.MethodName) prog_12_method_67_code (4 : Nat) (Option.some Jvm.ClassFile.FieldType.int)) ∈ lw_all := lw_g (lw_at lw_m8 87 rfl) rfl
theorem q1840 : (Jvm.Cond.instanceMethod ({ cls := "OddPairsModel", name := "ways", desc := "()I" } : Jvm.MethodName)) ∈ lw_all := lw_g (lw_at lw_m8 89 rfl) rfl
theorem q1841 : (Jvm.Cond.selects "OddPairsModel" ({ cls := "OddPairsModel", name := "ways", desc := "()I" } : Jvm.MethodName) ({ cls := "OddPairsModel", name := "ways", desc := "()I" } : Jvm.MethodName)) ∈ lw_all := lw_g (lw_at lw_m8 90 rfl) rfl
theorem q1842 : (Jvm.Cond.code ({ cls := "OddPairsModel", name := "ways", desc := "()I" } : Jvm.MethodName) prog_12_method_68_code (1 : Nat) (Option.some Jvm.ClassFile.FieldType.int)) ∈ lw_all := lw_g (lw_at lw_m8 91 rfl) rfl
theorem q1844 : (Jvm.Cond.instanceMethod ({ cls := "OddPairsModel", name := "heavy", desc := "(I)I" } : Jvm.MethodName)) ∈ lw_all := lw_g (lw_at lw_m8 93 rfl) rfl
theorem q1845 : (Jvm.Cond.selects "OddPairsModel" ({ cls := "OddPairsModel", name := "heavy", desc := "(I)I" } : Jvm.MethodName) ({ cls := "OddPairsModel", name := "heavy", desc := "(I)I" } : Jvm.MethodName)) ∈ lw_all := lw_g (lw_at lw_m8 94 rfl) rfl
theorem q1846 : (Jvm.Cond.code ({ cls := "OddPairsModel", name := "heavy", desc := "(I)I" } : Jvm.MethodName) prog_12_method_69_code (2 : Nat) (Option.some Jvm.ClassFile.FieldType.int)) ∈ lw_all := lw_g (lw_at lw_m8 95 rfl) rfl
theorem q1848 : (Jvm.Cond.instanceMethod ({ cls := "OddPairsModel", name := "path", desc := "(II)I" } : Jvm.MethodName)) ∈ lw_all := lw_g (lw_at lw_m8 97 rfl) rfl
theorem q1849 : (Jvm.Cond.selects "OddPairsModel" ({ cls := "OddPairsModel", name := "path", desc := "(II)I" } : Jvm.MethodName) ({ cls := "OddPairsModel", name := "path", desc := "(II)I" } : Jvm.MethodName)) ∈ lw_all := lw_g (lw_at lw_m8 98 rfl) rfl
theorem q1850 : (Jvm.Cond.code ({ cls := "OddPairsModel", name := "path", desc := "(II)I" } : Jvm.MethodName) prog_12_method_71_code (4 : Nat) (Option.some Jvm.ClassFile.FieldType.int)) ∈ lw_all := lw_g (lw_at lw_m8 99 rfl) rfl
theorem q1851 : (Jvm.Cond.methodLink "OddPairsModel" (278 : Nat) ({ cls := "OddPairsModel", name := "rowAt", desc := "(ZII)I" } : Jvm.MethodName)) ∈ lw_all := lw_g (lw_at lw_m8 100 rfl) rfl
theorem q1852 : (Jvm.Cond.privateMethod ({ cls := "OddPairsModel", name := "rowAt", desc := "(ZII)I" } : Jvm.MethodName)) ∈ lw_tbl := lw_at lw_m8 101 rfl
theorem q1853 : (Jvm.Cond.instanceMethod ({ cls := "OddPairsModel", name := "rowAt", desc := "(ZII)I" } : Jvm.MethodName)) ∈ lw_all := lw_g (lw_at lw_m8 102 rfl) rfl
theorem q1854 : (Jvm.Cond.code ({ cls := "OddPairsModel", name := "rowAt", desc := "(ZII)I" } : Jvm.MethodName) prog_12_method_70_code (4 : Nat) (Option.some Jvm.ClassFile.FieldType.int)) ∈ lw_all := lw_g (lw_at lw_m8 103 rfl) rfl
theorem q1856 : (Jvm.Cond.instanceMethod ({ cls := "OddPairsModel", name := "flower", desc := "(II)I" } : Jvm.MethodName)) ∈ lw_all := lw_g (lw_at lw_m8 105 rfl) rfl
theorem q1857 : (Jvm.Cond.selects "OddPairsModel" ({ cls := "OddPairsModel", name := "flower", desc := "(II)I" } : Jvm.MethodName) ({ cls := "OddPairsModel", name := "flower", desc := "(II)I" } : Jvm.MethodName)) ∈ lw_all := lw_g (lw_at lw_m8 106 rfl) rfl
theorem q1858 : (Jvm.Cond.code ({ cls := "OddPairsModel", name := "flower", desc := "(II)I" } : Jvm.MethodName) prog_12_method_72_code (4 : Nat) (Option.some Jvm.ClassFile.FieldType.int)) ∈ lw_all := lw_g (lw_at lw_m8 107 rfl) rfl
theorem q1860 : (Jvm.Cond.instanceMethod ({ cls := "OddPairsModel", name := "print", desc := "()J" } : Jvm.MethodName)) ∈ lw_all := lw_g (lw_at lw_m8 109 rfl) rfl
theorem q1861 : (Jvm.Cond.selects "OddPairsModel" ({ cls := "OddPairsModel", name := "print", desc := "()J" } : Jvm.MethodName) ({ cls := "OddPairsModel", name := "print", desc := "()J" } : Jvm.MethodName)) ∈ lw_all := lw_g (lw_at lw_m8 110 rfl) rfl
theorem q1862 : (Jvm.Cond.code ({ cls := "OddPairsModel", name := "print", desc := "()J" } : Jvm.MethodName) prog_12_method_73_code (5 : Nat) (Option.some Jvm.ClassFile.FieldType.long)) ∈ lw_all := lw_g (lw_at lw_m8 111 rfl) rfl
theorem q1863 : (Jvm.Cond.constantLong "OddPairsModel" (282 : Nat) (31 : Int64)) ∈ lw_all := lw_g (lw_at lw_m8 112 rfl) rfl
theorem q1865 : (Jvm.Cond.instanceMethod ({ cls := "OddPairsModel", name := "status", desc := "(I)I" } : Jvm.MethodName)) ∈ lw_all := lw_g (lw_at lw_m8 114 rfl) rfl
theorem q1866 : (Jvm.Cond.selects "OddPairsModel" ({ cls := "OddPairsModel", name := "status", desc := "(I)I" } : Jvm.MethodName) ({ cls := "OddPairsModel", name := "status", desc := "(I)I" } : Jvm.MethodName)) ∈ lw_all := lw_g (lw_at lw_m8 115 rfl) rfl
theorem q1867 : (Jvm.Cond.code ({ cls := "OddPairsModel", name := "status", desc := "(I)I" } : Jvm.MethodName) prog_12_method_74_code (2 : Nat) (Option.some Jvm.ClassFile.FieldType.int)) ∈ lw_all := lw_g (lw_at lw_m8 116 rfl) rfl
theorem q1886 : (Jvm.Cond.castable "OddPairsModel" "java/lang/Object") ∈ lw_tbl := lw_at lw_m8 135 rfl
theorem in_X3 : ∀ w ∈ wsX30, w ∈ lw_all := lw_in wsX30 [1519, 1521, 1523, 1525, 1527, 1529, 1531, 1533, 1535, 1537, 1539, 1541, 1543, 1545, 1547, 1549, 1551, 1553, 1555, 1557, 1559, 1561, 1563, 1565, 1567, 1569, 1571] (by decide +kernel) (by decide +kernel)
