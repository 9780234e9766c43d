/-! MustardFastModel -/
set_option maxRecDepth 100000
def RX2 : String := "MustardFastModel"
def TX2 : u_T := fun k => match k with
  | 0 => ("MustardFastModel", "fault", "I", false)
  | 1 => ("MustardFastModel", "sourNow", "I", false)
  | 2 => ("MustardFastModel", "days", "I", false)
  | 3 => ("MustardFastModel", "lookOf", "[I", true)
  | 4 => ("MustardFastModel", "eaters", "I", false)
  | 5 => ("MustardFastModel", "kindOf", "[I", true)
  | 6 => ("MustardFastModel", "stayOf", "[I", true)
  | 7 => ("MustardFastModel", "spoonsOf", "[I", true)
  | 8 => ("MustardFastModel", "needOf", "[I", true)
  | 9 => ("MustardFastModel", "smiled", "I", false)
  | 10 => ("MustardFastModel", "readAt", "I", false)
  | 11 => ("MustardFastModel", "readSour", "I", false)
  | 12 => ("MustardFastModel", "readDays", "I", false)
  | 13 => ("MustardFastModel", "readEaters", "I", false)
  | 14 => ("MustardFastModel", "readLook", "[I", true)
  | 15 => ("MustardFastModel", "readKind", "[I", true)
  | 16 => ("MustardFastModel", "readStay", "[I", true)
  | 17 => ("MustardFastModel", "readSpoons", "[I", true)
  | 18 => ("MustardFastModel", "readNeed", "[I", true)
  | 19 => ("MustardFastModel", "readings", "I", false)
  | 20 => ("MustardFastModel", "readingOf", "[I", true)
  | 21 => ("MustardFastModel", "readingBy", "[I", true)
  | 22 => ("MustardFastModel", "readingOn", "[I", true)
  | 23 => ("MustardFastModel", "readingWas", "[Z", true)
  | 24 => ("MustardFastModel", "sheetSize", "[I", true)
  | 25 => ("MustardFastModel", "sheetLane", "[I", true)
  | 26 => ("MustardFastModel", "sheet", "[I", true)
  | 27 => ("MustardFastModel", "hands", "[I", true)
  | _ => ("MustardFastModel", "traceNow", "I", false)
def tyX2 : Nat → FieldType := fun k => match k with
  | 0 => .int
  | 1 => .int
  | 2 => .int
  | 3 => .array .int
  | 4 => .int
  | 5 => .array .int
  | 6 => .array .int
  | 7 => .array .int
  | 8 => .array .int
  | 9 => .int
  | 10 => .int
  | 11 => .int
  | 12 => .int
  | 13 => .int
  | 14 => .array .int
  | 15 => .array .int
  | 16 => .array .int
  | 17 => .array .int
  | 18 => .array .int
  | 19 => .int
  | 20 => .array .int
  | 21 => .array .int
  | 22 => .array .int
  | 23 => .array .boolean
  | 24 => .array .int
  | 25 => .array .int
  | 26 => .array .int
  | 27 => .array .int
  | _ => .int
abbrev wsX20 : List Cond := u_ws RX2 TX2 29
set_option maxRecDepth 100000 in
theorem nmX2 : ∀ a, a < 29 → ∀ b, b < 29 → a ≠ b → (TX2 a).2.1 ≠ (TX2 b).2.1 := by decide +kernel
set_option maxRecDepth 100000 in
theorem tyX2_ok : ∀ k, k < 29 → parseFieldDescriptor (TX2 k).2.2.1 = some (tyX2 k) := by decide +kernel
abbrev cX2_init : ByteArray := prog_8_method_1_code
def yX2_init : MethodName := ⟨RX2, "<init>", "()V"⟩
def dkwX2_init_7 : List UInt8 := [167, 255, 241, 177]
abbrev dktX2_init_7 : List UInt8 := dkwX2_init_7 ++ []
def dkwX2_init_6 : List UInt8 := [188, 10, 181, 0, 66, 3, 60, 27, 7, 162, 0, 16, 42, 180, 0, 57, 27, 2, 79, 132, 1, 1]
abbrev dktX2_init_6 : List UInt8 := dkwX2_init_6 ++ dktX2_init_7
def dkwX2_init_5 : List UInt8 := [188, 10, 181, 0, 57, 42, 7, 188, 10, 181, 0, 60, 42, 17, 0, 240, 188, 10, 181, 0, 63, 42, 16, 60]
abbrev dktX2_init_5 : List UInt8 := dkwX2_init_5 ++ dktX2_init_6
def dkwX2_init_4 : List UInt8 := [188, 10, 181, 0, 47, 42, 16, 8, 188, 10, 181, 0, 50, 42, 16, 8, 188, 4, 181, 0, 53, 42, 7]
abbrev dktX2_init_4 : List UInt8 := dkwX2_init_4 ++ dktX2_init_5
def dkwX2_init_3 : List UInt8 := [188, 10, 181, 0, 38, 42, 7, 188, 10, 181, 0, 41, 42, 16, 8, 188, 10, 181, 0, 44, 42, 16, 8]
abbrev dktX2_init_3 : List UInt8 := dkwX2_init_3 ++ dktX2_init_4
def dkwX2_init_2 : List UInt8 := [16, 6, 188, 10, 181, 0, 29, 42, 7, 188, 10, 181, 0, 32, 42, 7, 188, 10, 181, 0, 35, 42, 7]
abbrev dktX2_init_2 : List UInt8 := dkwX2_init_2 ++ dktX2_init_3
def dkwX2_init_1 : List UInt8 := [181, 0, 16, 42, 7, 188, 10, 181, 0, 19, 42, 7, 188, 10, 181, 0, 22, 42, 16, 247, 181, 0, 25, 42]
abbrev dktX2_init_1 : List UInt8 := dkwX2_init_1 ++ dktX2_init_2
def dkwX2_init_0 : List UInt8 := [42, 183, 0, 1, 42, 16, 6, 188, 10, 181, 0, 7, 42, 7, 188, 10, 181, 0, 13, 42, 7, 188, 10]
abbrev dktX2_init_0 : List UInt8 := dkwX2_init_0 ++ dktX2_init_1
theorem dksX2_init_0 : cX2_init.data.toList.drop 0 = dktX2_init_0 := by decide +kernel
theorem dksX2_init_1 : cX2_init.data.toList.drop 23 = dktX2_init_1 := dk_seg dksX2_init_0 23 rfl rfl
theorem dksX2_init_2 : cX2_init.data.toList.drop 47 = dktX2_init_2 := dk_seg dksX2_init_1 24 rfl rfl
theorem dksX2_init_3 : cX2_init.data.toList.drop 70 = dktX2_init_3 := dk_seg dksX2_init_2 23 rfl rfl
theorem dksX2_init_4 : cX2_init.data.toList.drop 93 = dktX2_init_4 := dk_seg dksX2_init_3 23 rfl rfl
theorem dksX2_init_5 : cX2_init.data.toList.drop 116 = dktX2_init_5 := dk_seg dksX2_init_4 23 rfl rfl
theorem dksX2_init_6 : cX2_init.data.toList.drop 140 = dktX2_init_6 := dk_seg dksX2_init_5 24 rfl rfl
theorem dksX2_init_7 : cX2_init.data.toList.drop 162 = dktX2_init_7 := dk_seg dksX2_init_6 22 rfl rfl
theorem dX2_init_0 : decode cX2_init 0 = .ok (.aload_n 0, 1) := dk_42 (dk_at dksX2_init_0 0 rfl rfl)
theorem dX2_init_1 : decode cX2_init 1 = .ok (.invokespecial 1, 3) := dk_183 0 1 (dk_at dksX2_init_0 1 rfl rfl)
theorem dX2_init_4 : decode cX2_init 4 = .ok (.aload_n 0, 1) := dk_42 (dk_at dksX2_init_0 4 rfl rfl)
theorem dX2_init_5 : decode cX2_init 5 = .ok (.bipush 6, 2) := dk_16 6 (dk_at dksX2_init_0 5 rfl rfl)
theorem dX2_init_7 : decode cX2_init 7 = .ok (.newarray .int, 2) := dk_188_10 (dk_at dksX2_init_0 7 rfl rfl)
theorem dX2_init_9 : decode cX2_init 9 = .ok (.putfield 7, 3) := dk_181 0 7 (dk_at dksX2_init_0 9 rfl rfl)
theorem dX2_init_12 : decode cX2_init 12 = .ok (.aload_n 0, 1) := dk_42 (dk_at dksX2_init_0 12 rfl rfl)
theorem dX2_init_13 : decode cX2_init 13 = .ok (.iconst 4, 1) := dk_7 (dk_at dksX2_init_0 13 rfl rfl)
theorem dX2_init_14 : decode cX2_init 14 = .ok (.newarray .int, 2) := dk_188_10 (dk_at dksX2_init_0 14 rfl rfl)
theorem dX2_init_16 : decode cX2_init 16 = .ok (.putfield 13, 3) := dk_181 0 13 (dk_at dksX2_init_0 16 rfl rfl)
theorem dX2_init_19 : decode cX2_init 19 = .ok (.aload_n 0, 1) := dk_42 (dk_at dksX2_init_0 19 rfl rfl)
theorem dX2_init_20 : decode cX2_init 20 = .ok (.iconst 4, 1) := dk_7 (dk_at dksX2_init_0 20 rfl rfl)
theorem dX2_init_21 : decode cX2_init 21 = .ok (.newarray .int, 2) := dk_188_10 (dk_at dksX2_init_0 21 rfl rfl)
theorem dX2_init_23 : decode cX2_init 23 = .ok (.putfield 16, 3) := dk_181 0 16 (dk_at dksX2_init_1 0 rfl rfl)
theorem dX2_init_26 : decode cX2_init 26 = .ok (.aload_n 0, 1) := dk_42 (dk_at dksX2_init_1 3 rfl rfl)
theorem dX2_init_27 : decode cX2_init 27 = .ok (.iconst 4, 1) := dk_7 (dk_at dksX2_init_1 4 rfl rfl)
theorem dX2_init_28 : decode cX2_init 28 = .ok (.newarray .int, 2) := dk_188_10 (dk_at dksX2_init_1 5 rfl rfl)
theorem dX2_init_30 : decode cX2_init 30 = .ok (.putfield 19, 3) := dk_181 0 19 (dk_at dksX2_init_1 7 rfl rfl)
theorem dX2_init_33 : decode cX2_init 33 = .ok (.aload_n 0, 1) := dk_42 (dk_at dksX2_init_1 10 rfl rfl)
theorem dX2_init_34 : decode cX2_init 34 = .ok (.iconst 4, 1) := dk_7 (dk_at dksX2_init_1 11 rfl rfl)
theorem dX2_init_35 : decode cX2_init 35 = .ok (.newarray .int, 2) := dk_188_10 (dk_at dksX2_init_1 12 rfl rfl)
theorem dX2_init_37 : decode cX2_init 37 = .ok (.putfield 22, 3) := dk_181 0 22 (dk_at dksX2_init_1 14 rfl rfl)
theorem dX2_init_40 : decode cX2_init 40 = .ok (.aload_n 0, 1) := dk_42 (dk_at dksX2_init_1 17 rfl rfl)
theorem dX2_init_41 : decode cX2_init 41 = .ok (.bipush (-9), 2) := dk_16 247 (dk_at dksX2_init_1 18 rfl rfl)
theorem dX2_init_43 : decode cX2_init 43 = .ok (.putfield 25, 3) := dk_181 0 25 (dk_at dksX2_init_1 20 rfl rfl)
theorem dX2_init_46 : decode cX2_init 46 = .ok (.aload_n 0, 1) := dk_42 (dk_at dksX2_init_1 23 rfl rfl)
theorem dX2_init_47 : decode cX2_init 47 = .ok (.bipush 6, 2) := dk_16 6 (dk_at dksX2_init_2 0 rfl rfl)
theorem dX2_init_49 : decode cX2_init 49 = .ok (.newarray .int, 2) := dk_188_10 (dk_at dksX2_init_2 2 rfl rfl)
theorem dX2_init_51 : decode cX2_init 51 = .ok (.putfield 29, 3) := dk_181 0 29 (dk_at dksX2_init_2 4 rfl rfl)
theorem dX2_init_54 : decode cX2_init 54 = .ok (.aload_n 0, 1) := dk_42 (dk_at dksX2_init_2 7 rfl rfl)
theorem dX2_init_55 : decode cX2_init 55 = .ok (.iconst 4, 1) := dk_7 (dk_at dksX2_init_2 8 rfl rfl)
theorem dX2_init_56 : decode cX2_init 56 = .ok (.newarray .int, 2) := dk_188_10 (dk_at dksX2_init_2 9 rfl rfl)
theorem dX2_init_58 : decode cX2_init 58 = .ok (.putfield 32, 3) := dk_181 0 32 (dk_at dksX2_init_2 11 rfl rfl)
theorem dX2_init_61 : decode cX2_init 61 = .ok (.aload_n 0, 1) := dk_42 (dk_at dksX2_init_2 14 rfl rfl)
theorem dX2_init_62 : decode cX2_init 62 = .ok (.iconst 4, 1) := dk_7 (dk_at dksX2_init_2 15 rfl rfl)
theorem dX2_init_63 : decode cX2_init 63 = .ok (.newarray .int, 2) := dk_188_10 (dk_at dksX2_init_2 16 rfl rfl)
theorem dX2_init_65 : decode cX2_init 65 = .ok (.putfield 35, 3) := dk_181 0 35 (dk_at dksX2_init_2 18 rfl rfl)
theorem dX2_init_68 : decode cX2_init 68 = .ok (.aload_n 0, 1) := dk_42 (dk_at dksX2_init_2 21 rfl rfl)
theorem dX2_init_69 : decode cX2_init 69 = .ok (.iconst 4, 1) := dk_7 (dk_at dksX2_init_2 22 rfl rfl)
theorem dX2_init_70 : decode cX2_init 70 = .ok (.newarray .int, 2) := dk_188_10 (dk_at dksX2_init_3 0 rfl rfl)
theorem dX2_init_72 : decode cX2_init 72 = .ok (.putfield 38, 3) := dk_181 0 38 (dk_at dksX2_init_3 2 rfl rfl)
theorem dX2_init_75 : decode cX2_init 75 = .ok (.aload_n 0, 1) := dk_42 (dk_at dksX2_init_3 5 rfl rfl)
theorem dX2_init_76 : decode cX2_init 76 = .ok (.iconst 4, 1) := dk_7 (dk_at dksX2_init_3 6 rfl rfl)
theorem dX2_init_77 : decode cX2_init 77 = .ok (.newarray .int, 2) := dk_188_10 (dk_at dksX2_init_3 7 rfl rfl)
theorem dX2_init_79 : decode cX2_init 79 = .ok (.putfield 41, 3) := dk_181 0 41 (dk_at dksX2_init_3 9 rfl rfl)
theorem dX2_init_82 : decode cX2_init 82 = .ok (.aload_n 0, 1) := dk_42 (dk_at dksX2_init_3 12 rfl rfl)
theorem dX2_init_83 : decode cX2_init 83 = .ok (.bipush 8, 2) := dk_16 8 (dk_at dksX2_init_3 13 rfl rfl)
theorem dX2_init_85 : decode cX2_init 85 = .ok (.newarray .int, 2) := dk_188_10 (dk_at dksX2_init_3 15 rfl rfl)
theorem dX2_init_87 : decode cX2_init 87 = .ok (.putfield 44, 3) := dk_181 0 44 (dk_at dksX2_init_3 17 rfl rfl)
theorem dX2_init_90 : decode cX2_init 90 = .ok (.aload_n 0, 1) := dk_42 (dk_at dksX2_init_3 20 rfl rfl)
theorem dX2_init_91 : decode cX2_init 91 = .ok (.bipush 8, 2) := dk_16 8 (dk_at dksX2_init_3 21 rfl rfl)
theorem dX2_init_93 : decode cX2_init 93 = .ok (.newarray .int, 2) := dk_188_10 (dk_at dksX2_init_4 0 rfl rfl)
theorem dX2_init_95 : decode cX2_init 95 = .ok (.putfield 47, 3) := dk_181 0 47 (dk_at dksX2_init_4 2 rfl rfl)
theorem dX2_init_98 : decode cX2_init 98 = .ok (.aload_n 0, 1) := dk_42 (dk_at dksX2_init_4 5 rfl rfl)
theorem dX2_init_99 : decode cX2_init 99 = .ok (.bipush 8, 2) := dk_16 8 (dk_at dksX2_init_4 6 rfl rfl)
theorem dX2_init_101 : decode cX2_init 101 = .ok (.newarray .int, 2) := dk_188_10 (dk_at dksX2_init_4 8 rfl rfl)
theorem dX2_init_103 : decode cX2_init 103 = .ok (.putfield 50, 3) := dk_181 0 50 (dk_at dksX2_init_4 10 rfl rfl)
theorem dX2_init_106 : decode cX2_init 106 = .ok (.aload_n 0, 1) := dk_42 (dk_at dksX2_init_4 13 rfl rfl)
theorem dX2_init_107 : decode cX2_init 107 = .ok (.bipush 8, 2) := dk_16 8 (dk_at dksX2_init_4 14 rfl rfl)
theorem dX2_init_109 : decode cX2_init 109 = .ok (.newarray .boolean, 2) := dk_188_4 (dk_at dksX2_init_4 16 rfl rfl)
theorem dX2_init_111 : decode cX2_init 111 = .ok (.putfield 53, 3) := dk_181 0 53 (dk_at dksX2_init_4 18 rfl rfl)
theorem dX2_init_114 : decode cX2_init 114 = .ok (.aload_n 0, 1) := dk_42 (dk_at dksX2_init_4 21 rfl rfl)
theorem dX2_init_115 : decode cX2_init 115 = .ok (.iconst 4, 1) := dk_7 (dk_at dksX2_init_4 22 rfl rfl)
theorem dX2_init_116 : decode cX2_init 116 = .ok (.newarray .int, 2) := dk_188_10 (dk_at dksX2_init_5 0 rfl rfl)
theorem dX2_init_118 : decode cX2_init 118 = .ok (.putfield 57, 3) := dk_181 0 57 (dk_at dksX2_init_5 2 rfl rfl)
theorem dX2_init_121 : decode cX2_init 121 = .ok (.aload_n 0, 1) := dk_42 (dk_at dksX2_init_5 5 rfl rfl)
theorem dX2_init_122 : decode cX2_init 122 = .ok (.iconst 4, 1) := dk_7 (dk_at dksX2_init_5 6 rfl rfl)
theorem dX2_init_123 : decode cX2_init 123 = .ok (.newarray .int, 2) := dk_188_10 (dk_at dksX2_init_5 7 rfl rfl)
theorem dX2_init_125 : decode cX2_init 125 = .ok (.putfield 60, 3) := dk_181 0 60 (dk_at dksX2_init_5 9 rfl rfl)
theorem dX2_init_128 : decode cX2_init 128 = .ok (.aload_n 0, 1) := dk_42 (dk_at dksX2_init_5 12 rfl rfl)
theorem dX2_init_129 : decode cX2_init 129 = .ok (.sipush 240, 3) := dk_17 0 240 (dk_at dksX2_init_5 13 rfl rfl)
theorem dX2_init_132 : decode cX2_init 132 = .ok (.newarray .int, 2) := dk_188_10 (dk_at dksX2_init_5 16 rfl rfl)
theorem dX2_init_134 : decode cX2_init 134 = .ok (.putfield 63, 3) := dk_181 0 63 (dk_at dksX2_init_5 18 rfl rfl)
theorem dX2_init_137 : decode cX2_init 137 = .ok (.aload_n 0, 1) := dk_42 (dk_at dksX2_init_5 21 rfl rfl)
theorem dX2_init_138 : decode cX2_init 138 = .ok (.bipush 60, 2) := dk_16 60 (dk_at dksX2_init_5 22 rfl rfl)
theorem dX2_init_140 : decode cX2_init 140 = .ok (.newarray .int, 2) := dk_188_10 (dk_at dksX2_init_6 0 rfl rfl)
theorem dX2_init_142 : decode cX2_init 142 = .ok (.putfield 66, 3) := dk_181 0 66 (dk_at dksX2_init_6 2 rfl rfl)
theorem dX2_init_145 : decode cX2_init 145 = .ok (.iconst 0, 1) := dk_3 (dk_at dksX2_init_6 5 rfl rfl)
theorem dX2_init_146 : decode cX2_init 146 = .ok (.istore_n 1, 1) := dk_60 (dk_at dksX2_init_6 6 rfl rfl)
theorem dX2_init_147 : decode cX2_init 147 = .ok (.iload_n 1, 1) := dk_27 (dk_at dksX2_init_6 7 rfl rfl)
theorem dX2_init_148 : decode cX2_init 148 = .ok (.iconst 4, 1) := dk_7 (dk_at dksX2_init_6 8 rfl rfl)
theorem dX2_init_149 : decode cX2_init 149 = .ok (.if_icmp .ge 16, 3) := dk_162 0 16 (dk_at dksX2_init_6 9 rfl rfl)
theorem dX2_init_152 : decode cX2_init 152 = .ok (.aload_n 0, 1) := dk_42 (dk_at dksX2_init_6 12 rfl rfl)
theorem dX2_init_153 : decode cX2_init 153 = .ok (.getfield 57, 3) := dk_180 0 57 (dk_at dksX2_init_6 13 rfl rfl)
theorem dX2_init_156 : decode cX2_init 156 = .ok (.iload_n 1, 1) := dk_27 (dk_at dksX2_init_6 16 rfl rfl)
theorem dX2_init_157 : decode cX2_init 157 = .ok (.iconst (-1), 1) := dk_2 (dk_at dksX2_init_6 17 rfl rfl)
theorem dX2_init_158 : decode cX2_init 158 = .ok (.iastore, 1) := dk_79 (dk_at dksX2_init_6 18 rfl rfl)
theorem dX2_init_159 : decode cX2_init 159 = .ok (.iinc 1 1, 3) := dk_132 1 1 (dk_at dksX2_init_6 19 rfl rfl)
theorem dX2_init_162 : decode cX2_init 162 = .ok (.goto (-15), 3) := dk_167 255 241 (dk_at dksX2_init_7 0 rfl rfl)
theorem dX2_init_165 : decode cX2_init 165 = .ok (.return_, 1) := dk_177 (dk_at dksX2_init_7 3 rfl rfl)
abbrev cX2_duchy : ByteArray := prog_8_method_19_code
def yX2_duchy : MethodName := ⟨RX2, "duchy", "(IIII)I"⟩
def dkwX2_duchy_9 : List UInt8 := [42, 3, 181, 0, 142, 42, 42, 180, 0, 85, 182, 0, 127, 172]
abbrev dktX2_duchy_9 : List UInt8 := dkwX2_duchy_9 ++ []
def dkwX2_duchy_8 : List UInt8 := [21, 6, 46, 79, 42, 180, 0, 22, 21, 6, 42, 180, 0, 41, 21, 6, 46, 79, 132, 6, 1, 167, 255, 188]
abbrev dktX2_duchy_8 : List UInt8 := dkwX2_duchy_8 ++ dktX2_duchy_9
def dkwX2_duchy_7 : List UInt8 := [180, 0, 16, 21, 6, 42, 180, 0, 35, 21, 6, 46, 79, 42, 180, 0, 19, 21, 6, 42, 180, 0, 38]
abbrev dktX2_duchy_7 : List UInt8 := dkwX2_duchy_7 ++ dktX2_duchy_8
def dkwX2_duchy_6 : List UInt8 := [42, 180, 0, 85, 162, 0, 65, 42, 180, 0, 13, 21, 6, 42, 180, 0, 32, 21, 6, 46, 79, 42]
abbrev dktX2_duchy_6 : List UInt8 := dkwX2_duchy_6 ++ dktX2_duchy_7
def dkwX2_duchy_5 : List UInt8 := [180, 0, 7, 21, 6, 42, 180, 0, 29, 21, 6, 46, 79, 132, 6, 1, 167, 255, 230, 3, 54, 6, 21, 6]
abbrev dktX2_duchy_5 : List UInt8 := dkwX2_duchy_5 ++ dktX2_duchy_6
def dkwX2_duchy_4 : List UInt8 := [181, 0, 78, 42, 42, 180, 0, 102, 181, 0, 85, 3, 54, 6, 21, 6, 42, 180, 0, 78, 162, 0, 23, 42]
abbrev dktX2_duchy_4 : List UInt8 := dkwX2_duchy_4 ++ dktX2_duchy_5
def dkwX2_duchy_3 : List UInt8 := [42, 180, 0, 88, 100, 182, 0, 127, 172, 42, 42, 180, 0, 105, 181, 0, 139, 42, 42, 180, 0, 95]
abbrev dktX2_duchy_3 : List UInt8 := dkwX2_duchy_3 ++ dktX2_duchy_4
def dkwX2_duchy_2 : List UInt8 := [156, 0, 6, 21, 5, 172, 42, 16, 60, 27, 104, 29, 96, 21, 4, 182, 0, 136, 154, 0, 15, 42, 16, 156]
abbrev dktX2_duchy_2 : List UInt8 := dkwX2_duchy_2 ++ dktX2_duchy_3
def dkwX2_duchy_1 : List UInt8 := [154, 0, 10, 42, 16, 254, 182, 0, 127, 172, 42, 27, 28, 29, 21, 4, 133, 182, 0, 132, 54, 5, 21, 5]
abbrev dktX2_duchy_1 : List UInt8 := dkwX2_duchy_1 ++ dktX2_duchy_2
def dkwX2_duchy_0 : List UInt8 := [27, 184, 0, 123, 153, 0, 9, 42, 2, 182, 0, 127, 172, 28, 133, 9, 20, 0, 130, 184, 0, 81]
abbrev dktX2_duchy_0 : List UInt8 := dkwX2_duchy_0 ++ dktX2_duchy_1
theorem dksX2_duchy_0 : cX2_duchy.data.toList.drop 0 = dktX2_duchy_0 := by decide +kernel
theorem dksX2_duchy_1 : cX2_duchy.data.toList.drop 22 = dktX2_duchy_1 := dk_seg dksX2_duchy_0 22 rfl rfl
theorem dksX2_duchy_2 : cX2_duchy.data.toList.drop 46 = dktX2_duchy_2 := dk_seg dksX2_duchy_1 24 rfl rfl
theorem dksX2_duchy_3 : cX2_duchy.data.toList.drop 70 = dktX2_duchy_3 := dk_seg dksX2_duchy_2 24 rfl rfl
theorem dksX2_duchy_4 : cX2_duchy.data.toList.drop 92 = dktX2_duchy_4 := dk_seg dksX2_duchy_3 22 rfl rfl
theorem dksX2_duchy_5 : cX2_duchy.data.toList.drop 116 = dktX2_duchy_5 := dk_seg dksX2_duchy_4 24 rfl rfl
theorem dksX2_duchy_6 : cX2_duchy.data.toList.drop 140 = dktX2_duchy_6 := dk_seg dksX2_duchy_5 24 rfl rfl
theorem dksX2_duchy_7 : cX2_duchy.data.toList.drop 162 = dktX2_duchy_7 := dk_seg dksX2_duchy_6 22 rfl rfl
theorem dksX2_duchy_8 : cX2_duchy.data.toList.drop 185 = dktX2_duchy_8 := dk_seg dksX2_duchy_7 23 rfl rfl
theorem dksX2_duchy_9 : cX2_duchy.data.toList.drop 209 = dktX2_duchy_9 := dk_seg dksX2_duchy_8 24 rfl rfl
theorem dX2_duchy_0 : decode cX2_duchy 0 = .ok (.iload_n 1, 1) := dk_27 (dk_at dksX2_duchy_0 0 rfl rfl)
theorem dX2_duchy_1 : decode cX2_duchy 1 = .ok (.invokestatic 123, 3) := dk_184 0 123 (dk_at dksX2_duchy_0 1 rfl rfl)
theorem dX2_duchy_4 : decode cX2_duchy 4 = .ok (.ifCond .eq 9, 3) := dk_153 0 9 (dk_at dksX2_duchy_0 4 rfl rfl)
theorem dX2_duchy_7 : decode cX2_duchy 7 = .ok (.aload_n 0, 1) := dk_42 (dk_at dksX2_duchy_0 7 rfl rfl)
theorem dX2_duchy_8 : decode cX2_duchy 8 = .ok (.iconst (-1), 1) := dk_2 (dk_at dksX2_duchy_0 8 rfl rfl)
theorem dX2_duchy_9 : decode cX2_duchy 9 = .ok (.invokevirtual 127, 3) := dk_182 0 127 (dk_at dksX2_duchy_0 9 rfl rfl)
theorem dX2_duchy_12 : decode cX2_duchy 12 = .ok (.ireturn, 1) := dk_172 (dk_at dksX2_duchy_0 12 rfl rfl)
theorem dX2_duchy_13 : decode cX2_duchy 13 = .ok (.iload_n 2, 1) := dk_28 (dk_at dksX2_duchy_0 13 rfl rfl)
theorem dX2_duchy_14 : decode cX2_duchy 14 = .ok (.i2l, 1) := dk_133 (dk_at dksX2_duchy_0 14 rfl rfl)
theorem dX2_duchy_15 : decode cX2_duchy 15 = .ok (.lconst 0, 1) := dk_9 (dk_at dksX2_duchy_0 15 rfl rfl)
theorem dX2_duchy_16 : decode cX2_duchy 16 = .ok (.ldc2_w 130, 3) := dk_20 0 130 (dk_at dksX2_duchy_0 16 rfl rfl)
theorem dX2_duchy_19 : decode cX2_duchy 19 = .ok (.invokestatic 81, 3) := dk_184 0 81 (dk_at dksX2_duchy_0 19 rfl rfl)
theorem dX2_duchy_22 : decode cX2_duchy 22 = .ok (.ifCond .ne 10, 3) := dk_154 0 10 (dk_at dksX2_duchy_1 0 rfl rfl)
theorem dX2_duchy_25 : decode cX2_duchy 25 = .ok (.aload_n 0, 1) := dk_42 (dk_at dksX2_duchy_1 3 rfl rfl)
theorem dX2_duchy_26 : decode cX2_duchy 26 = .ok (.bipush (-2), 2) := dk_16 254 (dk_at dksX2_duchy_1 4 rfl rfl)
theorem dX2_duchy_28 : decode cX2_duchy 28 = .ok (.invokevirtual 127, 3) := dk_182 0 127 (dk_at dksX2_duchy_1 6 rfl rfl)
theorem dX2_duchy_31 : decode cX2_duchy 31 = .ok (.ireturn, 1) := dk_172 (dk_at dksX2_duchy_1 9 rfl rfl)
theorem dX2_duchy_32 : decode cX2_duchy 32 = .ok (.aload_n 0, 1) := dk_42 (dk_at dksX2_duchy_1 10 rfl rfl)
theorem dX2_duchy_33 : decode cX2_duchy 33 = .ok (.iload_n 1, 1) := dk_27 (dk_at dksX2_duchy_1 11 rfl rfl)
theorem dX2_duchy_34 : decode cX2_duchy 34 = .ok (.iload_n 2, 1) := dk_28 (dk_at dksX2_duchy_1 12 rfl rfl)
theorem dX2_duchy_35 : decode cX2_duchy 35 = .ok (.iload_n 3, 1) := dk_29 (dk_at dksX2_duchy_1 13 rfl rfl)
theorem dX2_duchy_36 : decode cX2_duchy 36 = .ok (.iload 4, 2) := dk_21 4 (dk_at dksX2_duchy_1 14 rfl rfl)
theorem dX2_duchy_38 : decode cX2_duchy 38 = .ok (.i2l, 1) := dk_133 (dk_at dksX2_duchy_1 16 rfl rfl)
theorem dX2_duchy_39 : decode cX2_duchy 39 = .ok (.invokevirtual 132, 3) := dk_182 0 132 (dk_at dksX2_duchy_1 17 rfl rfl)
theorem dX2_duchy_42 : decode cX2_duchy 42 = .ok (.istore 5, 2) := dk_54 5 (dk_at dksX2_duchy_1 20 rfl rfl)
theorem dX2_duchy_44 : decode cX2_duchy 44 = .ok (.iload 5, 2) := dk_21 5 (dk_at dksX2_duchy_1 22 rfl rfl)
theorem dX2_duchy_46 : decode cX2_duchy 46 = .ok (.ifCond .ge 6, 3) := dk_156 0 6 (dk_at dksX2_duchy_2 0 rfl rfl)
theorem dX2_duchy_49 : decode cX2_duchy 49 = .ok (.iload 5, 2) := dk_21 5 (dk_at dksX2_duchy_2 3 rfl rfl)
theorem dX2_duchy_51 : decode cX2_duchy 51 = .ok (.ireturn, 1) := dk_172 (dk_at dksX2_duchy_2 5 rfl rfl)
theorem dX2_duchy_52 : decode cX2_duchy 52 = .ok (.aload_n 0, 1) := dk_42 (dk_at dksX2_duchy_2 6 rfl rfl)
theorem dX2_duchy_53 : decode cX2_duchy 53 = .ok (.bipush 60, 2) := dk_16 60 (dk_at dksX2_duchy_2 7 rfl rfl)
theorem dX2_duchy_55 : decode cX2_duchy 55 = .ok (.iload_n 1, 1) := dk_27 (dk_at dksX2_duchy_2 9 rfl rfl)
theorem dX2_duchy_56 : decode cX2_duchy 56 = .ok (.imul, 1) := dk_104 (dk_at dksX2_duchy_2 10 rfl rfl)
theorem dX2_duchy_57 : decode cX2_duchy 57 = .ok (.iload_n 3, 1) := dk_29 (dk_at dksX2_duchy_2 11 rfl rfl)
theorem dX2_duchy_58 : decode cX2_duchy 58 = .ok (.iadd, 1) := dk_96 (dk_at dksX2_duchy_2 12 rfl rfl)
theorem dX2_duchy_59 : decode cX2_duchy 59 = .ok (.iload 4, 2) := dk_21 4 (dk_at dksX2_duchy_2 13 rfl rfl)
theorem dX2_duchy_61 : decode cX2_duchy 61 = .ok (.invokevirtual 136, 3) := dk_182 0 136 (dk_at dksX2_duchy_2 15 rfl rfl)
theorem dX2_duchy_64 : decode cX2_duchy 64 = .ok (.ifCond .ne 15, 3) := dk_154 0 15 (dk_at dksX2_duchy_2 18 rfl rfl)
theorem dX2_duchy_67 : decode cX2_duchy 67 = .ok (.aload_n 0, 1) := dk_42 (dk_at dksX2_duchy_2 21 rfl rfl)
theorem dX2_duchy_68 : decode cX2_duchy 68 = .ok (.bipush (-100), 2) := dk_16 156 (dk_at dksX2_duchy_2 22 rfl rfl)
theorem dX2_duchy_70 : decode cX2_duchy 70 = .ok (.aload_n 0, 1) := dk_42 (dk_at dksX2_duchy_3 0 rfl rfl)
theorem dX2_duchy_71 : decode cX2_duchy 71 = .ok (.getfield 88, 3) := dk_180 0 88 (dk_at dksX2_duchy_3 1 rfl rfl)
theorem dX2_duchy_74 : decode cX2_duchy 74 = .ok (.isub, 1) := dk_100 (dk_at dksX2_duchy_3 4 rfl rfl)
theorem dX2_duchy_75 : decode cX2_duchy 75 = .ok (.invokevirtual 127, 3) := dk_182 0 127 (dk_at dksX2_duchy_3 5 rfl rfl)
theorem dX2_duchy_78 : decode cX2_duchy 78 = .ok (.ireturn, 1) := dk_172 (dk_at dksX2_duchy_3 8 rfl rfl)
theorem dX2_duchy_79 : decode cX2_duchy 79 = .ok (.aload_n 0, 1) := dk_42 (dk_at dksX2_duchy_3 9 rfl rfl)
theorem dX2_duchy_80 : decode cX2_duchy 80 = .ok (.aload_n 0, 1) := dk_42 (dk_at dksX2_duchy_3 10 rfl rfl)
theorem dX2_duchy_81 : decode cX2_duchy 81 = .ok (.getfield 105, 3) := dk_180 0 105 (dk_at dksX2_duchy_3 11 rfl rfl)
theorem dX2_duchy_84 : decode cX2_duchy 84 = .ok (.putfield 139, 3) := dk_181 0 139 (dk_at dksX2_duchy_3 14 rfl rfl)
theorem dX2_duchy_87 : decode cX2_duchy 87 = .ok (.aload_n 0, 1) := dk_42 (dk_at dksX2_duchy_3 17 rfl rfl)
theorem dX2_duchy_88 : decode cX2_duchy 88 = .ok (.aload_n 0, 1) := dk_42 (dk_at dksX2_duchy_3 18 rfl rfl)
theorem dX2_duchy_89 : decode cX2_duchy 89 = .ok (.getfield 95, 3) := dk_180 0 95 (dk_at dksX2_duchy_3 19 rfl rfl)
theorem dX2_duchy_92 : decode cX2_duchy 92 = .ok (.putfield 78, 3) := dk_181 0 78 (dk_at dksX2_duchy_4 0 rfl rfl)
theorem dX2_duchy_95 : decode cX2_duchy 95 = .ok (.aload_n 0, 1) := dk_42 (dk_at dksX2_duchy_4 3 rfl rfl)
theorem dX2_duchy_96 : decode cX2_duchy 96 = .ok (.aload_n 0, 1) := dk_42 (dk_at dksX2_duchy_4 4 rfl rfl)
theorem dX2_duchy_97 : decode cX2_duchy 97 = .ok (.getfield 102, 3) := dk_180 0 102 (dk_at dksX2_duchy_4 5 rfl rfl)
theorem dX2_duchy_100 : decode cX2_duchy 100 = .ok (.putfield 85, 3) := dk_181 0 85 (dk_at dksX2_duchy_4 8 rfl rfl)
theorem dX2_duchy_103 : decode cX2_duchy 103 = .ok (.iconst 0, 1) := dk_3 (dk_at dksX2_duchy_4 11 rfl rfl)
theorem dX2_duchy_104 : decode cX2_duchy 104 = .ok (.istore 6, 2) := dk_54 6 (dk_at dksX2_duchy_4 12 rfl rfl)
theorem dX2_duchy_106 : decode cX2_duchy 106 = .ok (.iload 6, 2) := dk_21 6 (dk_at dksX2_duchy_4 14 rfl rfl)
theorem dX2_duchy_108 : decode cX2_duchy 108 = .ok (.aload_n 0, 1) := dk_42 (dk_at dksX2_duchy_4 16 rfl rfl)
theorem dX2_duchy_109 : decode cX2_duchy 109 = .ok (.getfield 78, 3) := dk_180 0 78 (dk_at dksX2_duchy_4 17 rfl rfl)
theorem dX2_duchy_112 : decode cX2_duchy 112 = .ok (.if_icmp .ge 23, 3) := dk_162 0 23 (dk_at dksX2_duchy_4 20 rfl rfl)
theorem dX2_duchy_115 : decode cX2_duchy 115 = .ok (.aload_n 0, 1) := dk_42 (dk_at dksX2_duchy_4 23 rfl rfl)
theorem dX2_duchy_116 : decode cX2_duchy 116 = .ok (.getfield 7, 3) := dk_180 0 7 (dk_at dksX2_duchy_5 0 rfl rfl)
theorem dX2_duchy_119 : decode cX2_duchy 119 = .ok (.iload 6, 2) := dk_21 6 (dk_at dksX2_duchy_5 3 rfl rfl)
theorem dX2_duchy_121 : decode cX2_duchy 121 = .ok (.aload_n 0, 1) := dk_42 (dk_at dksX2_duchy_5 5 rfl rfl)
theorem dX2_duchy_122 : decode cX2_duchy 122 = .ok (.getfield 29, 3) := dk_180 0 29 (dk_at dksX2_duchy_5 6 rfl rfl)
theorem dX2_duchy_125 : decode cX2_duchy 125 = .ok (.iload 6, 2) := dk_21 6 (dk_at dksX2_duchy_5 9 rfl rfl)
theorem dX2_duchy_127 : decode cX2_duchy 127 = .ok (.iaload, 1) := dk_46 (dk_at dksX2_duchy_5 11 rfl rfl)
theorem dX2_duchy_128 : decode cX2_duchy 128 = .ok (.iastore, 1) := dk_79 (dk_at dksX2_duchy_5 12 rfl rfl)
theorem dX2_duchy_129 : decode cX2_duchy 129 = .ok (.iinc 6 1, 3) := dk_132 6 1 (dk_at dksX2_duchy_5 13 rfl rfl)
theorem dX2_duchy_132 : decode cX2_duchy 132 = .ok (.goto (-26), 3) := dk_167 255 230 (dk_at dksX2_duchy_5 16 rfl rfl)
theorem dX2_duchy_135 : decode cX2_duchy 135 = .ok (.iconst 0, 1) := dk_3 (dk_at dksX2_duchy_5 19 rfl rfl)
theorem dX2_duchy_136 : decode cX2_duchy 136 = .ok (.istore 6, 2) := dk_54 6 (dk_at dksX2_duchy_5 20 rfl rfl)
theorem dX2_duchy_138 : decode cX2_duchy 138 = .ok (.iload 6, 2) := dk_21 6 (dk_at dksX2_duchy_5 22 rfl rfl)
theorem dX2_duchy_140 : decode cX2_duchy 140 = .ok (.aload_n 0, 1) := dk_42 (dk_at dksX2_duchy_6 0 rfl rfl)
theorem dX2_duchy_141 : decode cX2_duchy 141 = .ok (.getfield 85, 3) := dk_180 0 85 (dk_at dksX2_duchy_6 1 rfl rfl)
theorem dX2_duchy_144 : decode cX2_duchy 144 = .ok (.if_icmp .ge 65, 3) := dk_162 0 65 (dk_at dksX2_duchy_6 4 rfl rfl)
theorem dX2_duchy_147 : decode cX2_duchy 147 = .ok (.aload_n 0, 1) := dk_42 (dk_at dksX2_duchy_6 7 rfl rfl)
theorem dX2_duchy_148 : decode cX2_duchy 148 = .ok (.getfield 13, 3) := dk_180 0 13 (dk_at dksX2_duchy_6 8 rfl rfl)
theorem dX2_duchy_151 : decode cX2_duchy 151 = .ok (.iload 6, 2) := dk_21 6 (dk_at dksX2_duchy_6 11 rfl rfl)
theorem dX2_duchy_153 : decode cX2_duchy 153 = .ok (.aload_n 0, 1) := dk_42 (dk_at dksX2_duchy_6 13 rfl rfl)
theorem dX2_duchy_154 : decode cX2_duchy 154 = .ok (.getfield 32, 3) := dk_180 0 32 (dk_at dksX2_duchy_6 14 rfl rfl)
theorem dX2_duchy_157 : decode cX2_duchy 157 = .ok (.iload 6, 2) := dk_21 6 (dk_at dksX2_duchy_6 17 rfl rfl)
theorem dX2_duchy_159 : decode cX2_duchy 159 = .ok (.iaload, 1) := dk_46 (dk_at dksX2_duchy_6 19 rfl rfl)
theorem dX2_duchy_160 : decode cX2_duchy 160 = .ok (.iastore, 1) := dk_79 (dk_at dksX2_duchy_6 20 rfl rfl)
theorem dX2_duchy_161 : decode cX2_duchy 161 = .ok (.aload_n 0, 1) := dk_42 (dk_at dksX2_duchy_6 21 rfl rfl)
theorem dX2_duchy_162 : decode cX2_duchy 162 = .ok (.getfield 16, 3) := dk_180 0 16 (dk_at dksX2_duchy_7 0 rfl rfl)
theorem dX2_duchy_165 : decode cX2_duchy 165 = .ok (.iload 6, 2) := dk_21 6 (dk_at dksX2_duchy_7 3 rfl rfl)
theorem dX2_duchy_167 : decode cX2_duchy 167 = .ok (.aload_n 0, 1) := dk_42 (dk_at dksX2_duchy_7 5 rfl rfl)
theorem dX2_duchy_168 : decode cX2_duchy 168 = .ok (.getfield 35, 3) := dk_180 0 35 (dk_at dksX2_duchy_7 6 rfl rfl)
theorem dX2_duchy_171 : decode cX2_duchy 171 = .ok (.iload 6, 2) := dk_21 6 (dk_at dksX2_duchy_7 9 rfl rfl)
theorem dX2_duchy_173 : decode cX2_duchy 173 = .ok (.iaload, 1) := dk_46 (dk_at dksX2_duchy_7 11 rfl rfl)
theorem dX2_duchy_174 : decode cX2_duchy 174 = .ok (.iastore, 1) := dk_79 (dk_at dksX2_duchy_7 12 rfl rfl)
theorem dX2_duchy_175 : decode cX2_duchy 175 = .ok (.aload_n 0, 1) := dk_42 (dk_at dksX2_duchy_7 13 rfl rfl)
theorem dX2_duchy_176 : decode cX2_duchy 176 = .ok (.getfield 19, 3) := dk_180 0 19 (dk_at dksX2_duchy_7 14 rfl rfl)
theorem dX2_duchy_179 : decode cX2_duchy 179 = .ok (.iload 6, 2) := dk_21 6 (dk_at dksX2_duchy_7 17 rfl rfl)
theorem dX2_duchy_181 : decode cX2_duchy 181 = .ok (.aload_n 0, 1) := dk_42 (dk_at dksX2_duchy_7 19 rfl rfl)
theorem dX2_duchy_182 : decode cX2_duchy 182 = .ok (.getfield 38, 3) := dk_180 0 38 (dk_at dksX2_duchy_7 20 rfl rfl)
theorem dX2_duchy_185 : decode cX2_duchy 185 = .ok (.iload 6, 2) := dk_21 6 (dk_at dksX2_duchy_8 0 rfl rfl)
theorem dX2_duchy_187 : decode cX2_duchy 187 = .ok (.iaload, 1) := dk_46 (dk_at dksX2_duchy_8 2 rfl rfl)
theorem dX2_duchy_188 : decode cX2_duchy 188 = .ok (.iastore, 1) := dk_79 (dk_at dksX2_duchy_8 3 rfl rfl)
theorem dX2_duchy_189 : decode cX2_duchy 189 = .ok (.aload_n 0, 1) := dk_42 (dk_at dksX2_duchy_8 4 rfl rfl)
theorem dX2_duchy_190 : decode cX2_duchy 190 = .ok (.getfield 22, 3) := dk_180 0 22 (dk_at dksX2_duchy_8 5 rfl rfl)
theorem dX2_duchy_193 : decode cX2_duchy 193 = .ok (.iload 6, 2) := dk_21 6 (dk_at dksX2_duchy_8 8 rfl rfl)
theorem dX2_duchy_195 : decode cX2_duchy 195 = .ok (.aload_n 0, 1) := dk_42 (dk_at dksX2_duchy_8 10 rfl rfl)
theorem dX2_duchy_196 : decode cX2_duchy 196 = .ok (.getfield 41, 3) := dk_180 0 41 (dk_at dksX2_duchy_8 11 rfl rfl)
theorem dX2_duchy_199 : decode cX2_duchy 199 = .ok (.iload 6, 2) := dk_21 6 (dk_at dksX2_duchy_8 14 rfl rfl)
theorem dX2_duchy_201 : decode cX2_duchy 201 = .ok (.iaload, 1) := dk_46 (dk_at dksX2_duchy_8 16 rfl rfl)
theorem dX2_duchy_202 : decode cX2_duchy 202 = .ok (.iastore, 1) := dk_79 (dk_at dksX2_duchy_8 17 rfl rfl)
theorem dX2_duchy_203 : decode cX2_duchy 203 = .ok (.iinc 6 1, 3) := dk_132 6 1 (dk_at dksX2_duchy_8 18 rfl rfl)
theorem dX2_duchy_206 : decode cX2_duchy 206 = .ok (.goto (-68), 3) := dk_167 255 188 (dk_at dksX2_duchy_8 21 rfl rfl)
theorem dX2_duchy_209 : decode cX2_duchy 209 = .ok (.aload_n 0, 1) := dk_42 (dk_at dksX2_duchy_9 0 rfl rfl)
theorem dX2_duchy_210 : decode cX2_duchy 210 = .ok (.iconst 0, 1) := dk_3 (dk_at dksX2_duchy_9 1 rfl rfl)
theorem dX2_duchy_211 : decode cX2_duchy 211 = .ok (.putfield 142, 3) := dk_181 0 142 (dk_at dksX2_duchy_9 2 rfl rfl)
theorem dX2_duchy_214 : decode cX2_duchy 214 = .ok (.aload_n 0, 1) := dk_42 (dk_at dksX2_duchy_9 5 rfl rfl)
theorem dX2_duchy_215 : decode cX2_duchy 215 = .ok (.aload_n 0, 1) := dk_42 (dk_at dksX2_duchy_9 6 rfl rfl)
theorem dX2_duchy_216 : decode cX2_duchy 216 = .ok (.getfield 85, 3) := dk_180 0 85 (dk_at dksX2_duchy_9 7 rfl rfl)
theorem dX2_duchy_219 : decode cX2_duchy 219 = .ok (.invokevirtual 127, 3) := dk_182 0 127 (dk_at dksX2_duchy_9 10 rfl rfl)
theorem dX2_duchy_222 : decode cX2_duchy 222 = .ok (.ireturn, 1) := dk_172 (dk_at dksX2_duchy_9 13 rfl rfl)
abbrev cX2_noSheet : ByteArray := prog_8_method_47_code
def yX2_noSheet : MethodName := ⟨RX2, "noSheet", "(I)Z"⟩
def dkwX2_noSheet_0 : List UInt8 := [26, 133, 9, 20, 0, 180, 184, 0, 81, 154, 0, 7, 4, 167, 0, 4, 3, 172]
abbrev dktX2_noSheet_0 : List UInt8 := dkwX2_noSheet_0 ++ []
theorem dksX2_noSheet_0 : cX2_noSheet.data.toList.drop 0 = dktX2_noSheet_0 := by decide +kernel
theorem dX2_noSheet_0 : decode cX2_noSheet 0 = .ok (.iload_n 0, 1) := dk_26 (dk_at dksX2_noSheet_0 0 rfl rfl)
theorem dX2_noSheet_1 : decode cX2_noSheet 1 = .ok (.i2l, 1) := dk_133 (dk_at dksX2_noSheet_0 1 rfl rfl)
theorem dX2_noSheet_2 : decode cX2_noSheet 2 = .ok (.lconst 0, 1) := dk_9 (dk_at dksX2_noSheet_0 2 rfl rfl)
theorem dX2_noSheet_3 : decode cX2_noSheet 3 = .ok (.ldc2_w 180, 3) := dk_20 0 180 (dk_at dksX2_noSheet_0 3 rfl rfl)
theorem dX2_noSheet_6 : decode cX2_noSheet 6 = .ok (.invokestatic 81, 3) := dk_184 0 81 (dk_at dksX2_noSheet_0 6 rfl rfl)
theorem dX2_noSheet_9 : decode cX2_noSheet 9 = .ok (.ifCond .ne 7, 3) := dk_154 0 7 (dk_at dksX2_noSheet_0 9 rfl rfl)
theorem dX2_noSheet_12 : decode cX2_noSheet 12 = .ok (.iconst 1, 1) := dk_4 (dk_at dksX2_noSheet_0 12 rfl rfl)
theorem dX2_noSheet_13 : decode cX2_noSheet 13 = .ok (.goto 4, 3) := dk_167 0 4 (dk_at dksX2_noSheet_0 13 rfl rfl)
theorem dX2_noSheet_16 : decode cX2_noSheet 16 = .ok (.iconst 0, 1) := dk_3 (dk_at dksX2_noSheet_0 16 rfl rfl)
theorem dX2_noSheet_17 : decode cX2_noSheet 17 = .ok (.ireturn, 1) := dk_172 (dk_at dksX2_noSheet_0 17 rfl rfl)
abbrev cX2_in : ByteArray := prog_8_method_2_code
def yX2_in : MethodName := ⟨RX2, "in", "(JJJ)Z"⟩
def dkwX2_in_0 : List UInt8 := [30, 32, 148, 155, 0, 14, 30, 22, 4, 148, 157, 0, 7, 4, 167, 0, 4, 3, 172]
abbrev dktX2_in_0 : List UInt8 := dkwX2_in_0 ++ []
theorem dksX2_in_0 : cX2_in.data.toList.drop 0 = dktX2_in_0 := by decide +kernel
theorem dX2_in_0 : decode cX2_in 0 = .ok (.lload_n 0, 1) := dk_30 (dk_at dksX2_in_0 0 rfl rfl)
theorem dX2_in_1 : decode cX2_in 1 = .ok (.lload_n 2, 1) := dk_32 (dk_at dksX2_in_0 1 rfl rfl)
theorem dX2_in_2 : decode cX2_in 2 = .ok (.lcmp, 1) := dk_148 (dk_at dksX2_in_0 2 rfl rfl)
theorem dX2_in_3 : decode cX2_in 3 = .ok (.ifCond .lt 14, 3) := dk_155 0 14 (dk_at dksX2_in_0 3 rfl rfl)
theorem dX2_in_6 : decode cX2_in 6 = .ok (.lload_n 0, 1) := dk_30 (dk_at dksX2_in_0 6 rfl rfl)
theorem dX2_in_7 : decode cX2_in 7 = .ok (.lload 4, 2) := dk_22 4 (dk_at dksX2_in_0 7 rfl rfl)
theorem dX2_in_9 : decode cX2_in 9 = .ok (.lcmp, 1) := dk_148 (dk_at dksX2_in_0 9 rfl rfl)
theorem dX2_in_10 : decode cX2_in 10 = .ok (.ifCond .gt 7, 3) := dk_157 0 7 (dk_at dksX2_in_0 10 rfl rfl)
theorem dX2_in_13 : decode cX2_in 13 = .ok (.iconst 1, 1) := dk_4 (dk_at dksX2_in_0 13 rfl rfl)
theorem dX2_in_14 : decode cX2_in 14 = .ok (.goto 4, 3) := dk_167 0 4 (dk_at dksX2_in_0 14 rfl rfl)
theorem dX2_in_17 : decode cX2_in 17 = .ok (.iconst 0, 1) := dk_3 (dk_at dksX2_in_0 17 rfl rfl)
theorem dX2_in_18 : decode cX2_in 18 = .ok (.ireturn, 1) := dk_172 (dk_at dksX2_in_0 18 rfl rfl)
abbrev cX2_refused : ByteArray := prog_8_method_7_code
def yX2_refused : MethodName := ⟨RX2, "refused", "(I)I"⟩
def dkwX2_refused_0 : List UInt8 := [42, 3, 181, 0, 71, 27, 172]
abbrev dktX2_refused_0 : List UInt8 := dkwX2_refused_0 ++ []
theorem dksX2_refused_0 : cX2_refused.data.toList.drop 0 = dktX2_refused_0 := by decide +kernel
theorem dX2_refused_0 : decode cX2_refused 0 = .ok (.aload_n 0, 1) := dk_42 (dk_at dksX2_refused_0 0 rfl rfl)
theorem dX2_refused_1 : decode cX2_refused 1 = .ok (.iconst 0, 1) := dk_3 (dk_at dksX2_refused_0 1 rfl rfl)
theorem dX2_refused_2 : decode cX2_refused 2 = .ok (.putfield 71, 3) := dk_181 0 71 (dk_at dksX2_refused_0 2 rfl rfl)
theorem dX2_refused_5 : decode cX2_refused 5 = .ok (.iload_n 1, 1) := dk_27 (dk_at dksX2_refused_0 5 rfl rfl)
theorem dX2_refused_6 : decode cX2_refused 6 = .ok (.ireturn, 1) := dk_172 (dk_at dksX2_refused_0 6 rfl rfl)
abbrev cX2_cellsBarred : ByteArray := prog_8_method_18_code
def yX2_cellsBarred : MethodName := ⟨RX2, "cellsBarred", "(IIIJ)I"⟩
def dkwX2_cellsBarred_3 : List UInt8 := [182, 0, 115, 167, 0, 4, 3, 172]
abbrev dktX2_cellsBarred_3 : List UInt8 := dkwX2_cellsBarred_3 ++ []
def dkwX2_cellsBarred_2 : List UInt8 := [7, 182, 0, 115, 172, 29, 22, 4, 42, 180, 0, 57, 27, 46, 184, 0, 119, 153, 0, 11, 42, 6]
abbrev dktX2_cellsBarred_2 : List UInt8 := dkwX2_cellsBarred_2 ++ dktX2_cellsBarred_3
def dkwX2_cellsBarred_1 : List UInt8 := [172, 42, 180, 0, 57, 27, 46, 156, 0, 9, 42, 4, 182, 0, 115, 172, 22, 4, 9, 148, 156, 0, 9, 42]
abbrev dktX2_cellsBarred_1 : List UInt8 := dkwX2_cellsBarred_1 ++ dktX2_cellsBarred_2
def dkwX2_cellsBarred_0 : List UInt8 := [42, 180, 0, 57, 27, 46, 155, 0, 19, 42, 180, 0, 60, 27, 46, 28, 159, 0, 9, 42, 5, 182, 0, 115]
abbrev dktX2_cellsBarred_0 : List UInt8 := dkwX2_cellsBarred_0 ++ dktX2_cellsBarred_1
theorem dksX2_cellsBarred_0 : cX2_cellsBarred.data.toList.drop 0 = dktX2_cellsBarred_0 := by decide +kernel
theorem dksX2_cellsBarred_1 : cX2_cellsBarred.data.toList.drop 24 = dktX2_cellsBarred_1 := dk_seg dksX2_cellsBarred_0 24 rfl rfl
theorem dksX2_cellsBarred_2 : cX2_cellsBarred.data.toList.drop 48 = dktX2_cellsBarred_2 := dk_seg dksX2_cellsBarred_1 24 rfl rfl
theorem dksX2_cellsBarred_3 : cX2_cellsBarred.data.toList.drop 70 = dktX2_cellsBarred_3 := dk_seg dksX2_cellsBarred_2 22 rfl rfl
theorem dX2_cellsBarred_0 : decode cX2_cellsBarred 0 = .ok (.aload_n 0, 1) := dk_42 (dk_at dksX2_cellsBarred_0 0 rfl rfl)
theorem dX2_cellsBarred_1 : decode cX2_cellsBarred 1 = .ok (.getfield 57, 3) := dk_180 0 57 (dk_at dksX2_cellsBarred_0 1 rfl rfl)
theorem dX2_cellsBarred_4 : decode cX2_cellsBarred 4 = .ok (.iload_n 1, 1) := dk_27 (dk_at dksX2_cellsBarred_0 4 rfl rfl)
theorem dX2_cellsBarred_5 : decode cX2_cellsBarred 5 = .ok (.iaload, 1) := dk_46 (dk_at dksX2_cellsBarred_0 5 rfl rfl)
theorem dX2_cellsBarred_6 : decode cX2_cellsBarred 6 = .ok (.ifCond .lt 19, 3) := dk_155 0 19 (dk_at dksX2_cellsBarred_0 6 rfl rfl)
theorem dX2_cellsBarred_9 : decode cX2_cellsBarred 9 = .ok (.aload_n 0, 1) := dk_42 (dk_at dksX2_cellsBarred_0 9 rfl rfl)
theorem dX2_cellsBarred_10 : decode cX2_cellsBarred 10 = .ok (.getfield 60, 3) := dk_180 0 60 (dk_at dksX2_cellsBarred_0 10 rfl rfl)
theorem dX2_cellsBarred_13 : decode cX2_cellsBarred 13 = .ok (.iload_n 1, 1) := dk_27 (dk_at dksX2_cellsBarred_0 13 rfl rfl)
theorem dX2_cellsBarred_14 : decode cX2_cellsBarred 14 = .ok (.iaload, 1) := dk_46 (dk_at dksX2_cellsBarred_0 14 rfl rfl)
theorem dX2_cellsBarred_15 : decode cX2_cellsBarred 15 = .ok (.iload_n 2, 1) := dk_28 (dk_at dksX2_cellsBarred_0 15 rfl rfl)
theorem dX2_cellsBarred_16 : decode cX2_cellsBarred 16 = .ok (.if_icmp .eq 9, 3) := dk_159 0 9 (dk_at dksX2_cellsBarred_0 16 rfl rfl)
theorem dX2_cellsBarred_19 : decode cX2_cellsBarred 19 = .ok (.aload_n 0, 1) := dk_42 (dk_at dksX2_cellsBarred_0 19 rfl rfl)
theorem dX2_cellsBarred_20 : decode cX2_cellsBarred 20 = .ok (.iconst 2, 1) := dk_5 (dk_at dksX2_cellsBarred_0 20 rfl rfl)
theorem dX2_cellsBarred_21 : decode cX2_cellsBarred 21 = .ok (.invokevirtual 115, 3) := dk_182 0 115 (dk_at dksX2_cellsBarred_0 21 rfl rfl)
theorem dX2_cellsBarred_24 : decode cX2_cellsBarred 24 = .ok (.ireturn, 1) := dk_172 (dk_at dksX2_cellsBarred_1 0 rfl rfl)
theorem dX2_cellsBarred_25 : decode cX2_cellsBarred 25 = .ok (.aload_n 0, 1) := dk_42 (dk_at dksX2_cellsBarred_1 1 rfl rfl)
theorem dX2_cellsBarred_26 : decode cX2_cellsBarred 26 = .ok (.getfield 57, 3) := dk_180 0 57 (dk_at dksX2_cellsBarred_1 2 rfl rfl)
theorem dX2_cellsBarred_29 : decode cX2_cellsBarred 29 = .ok (.iload_n 1, 1) := dk_27 (dk_at dksX2_cellsBarred_1 5 rfl rfl)
theorem dX2_cellsBarred_30 : decode cX2_cellsBarred 30 = .ok (.iaload, 1) := dk_46 (dk_at dksX2_cellsBarred_1 6 rfl rfl)
theorem dX2_cellsBarred_31 : decode cX2_cellsBarred 31 = .ok (.ifCond .ge 9, 3) := dk_156 0 9 (dk_at dksX2_cellsBarred_1 7 rfl rfl)
theorem dX2_cellsBarred_34 : decode cX2_cellsBarred 34 = .ok (.aload_n 0, 1) := dk_42 (dk_at dksX2_cellsBarred_1 10 rfl rfl)
theorem dX2_cellsBarred_35 : decode cX2_cellsBarred 35 = .ok (.iconst 1, 1) := dk_4 (dk_at dksX2_cellsBarred_1 11 rfl rfl)
theorem dX2_cellsBarred_36 : decode cX2_cellsBarred 36 = .ok (.invokevirtual 115, 3) := dk_182 0 115 (dk_at dksX2_cellsBarred_1 12 rfl rfl)
theorem dX2_cellsBarred_39 : decode cX2_cellsBarred 39 = .ok (.ireturn, 1) := dk_172 (dk_at dksX2_cellsBarred_1 15 rfl rfl)
theorem dX2_cellsBarred_40 : decode cX2_cellsBarred 40 = .ok (.lload 4, 2) := dk_22 4 (dk_at dksX2_cellsBarred_1 16 rfl rfl)
theorem dX2_cellsBarred_42 : decode cX2_cellsBarred 42 = .ok (.lconst 0, 1) := dk_9 (dk_at dksX2_cellsBarred_1 18 rfl rfl)
theorem dX2_cellsBarred_43 : decode cX2_cellsBarred 43 = .ok (.lcmp, 1) := dk_148 (dk_at dksX2_cellsBarred_1 19 rfl rfl)
theorem dX2_cellsBarred_44 : decode cX2_cellsBarred 44 = .ok (.ifCond .ge 9, 3) := dk_156 0 9 (dk_at dksX2_cellsBarred_1 20 rfl rfl)
theorem dX2_cellsBarred_47 : decode cX2_cellsBarred 47 = .ok (.aload_n 0, 1) := dk_42 (dk_at dksX2_cellsBarred_1 23 rfl rfl)
theorem dX2_cellsBarred_48 : decode cX2_cellsBarred 48 = .ok (.iconst 4, 1) := dk_7 (dk_at dksX2_cellsBarred_2 0 rfl rfl)
theorem dX2_cellsBarred_49 : decode cX2_cellsBarred 49 = .ok (.invokevirtual 115, 3) := dk_182 0 115 (dk_at dksX2_cellsBarred_2 1 rfl rfl)
theorem dX2_cellsBarred_52 : decode cX2_cellsBarred 52 = .ok (.ireturn, 1) := dk_172 (dk_at dksX2_cellsBarred_2 4 rfl rfl)
theorem dX2_cellsBarred_53 : decode cX2_cellsBarred 53 = .ok (.iload_n 3, 1) := dk_29 (dk_at dksX2_cellsBarred_2 5 rfl rfl)
theorem dX2_cellsBarred_54 : decode cX2_cellsBarred 54 = .ok (.lload 4, 2) := dk_22 4 (dk_at dksX2_cellsBarred_2 6 rfl rfl)
theorem dX2_cellsBarred_56 : decode cX2_cellsBarred 56 = .ok (.aload_n 0, 1) := dk_42 (dk_at dksX2_cellsBarred_2 8 rfl rfl)
theorem dX2_cellsBarred_57 : decode cX2_cellsBarred 57 = .ok (.getfield 57, 3) := dk_180 0 57 (dk_at dksX2_cellsBarred_2 9 rfl rfl)
theorem dX2_cellsBarred_60 : decode cX2_cellsBarred 60 = .ok (.iload_n 1, 1) := dk_27 (dk_at dksX2_cellsBarred_2 12 rfl rfl)
theorem dX2_cellsBarred_61 : decode cX2_cellsBarred 61 = .ok (.iaload, 1) := dk_46 (dk_at dksX2_cellsBarred_2 13 rfl rfl)
theorem dX2_cellsBarred_62 : decode cX2_cellsBarred 62 = .ok (.invokestatic 119, 3) := dk_184 0 119 (dk_at dksX2_cellsBarred_2 14 rfl rfl)
theorem dX2_cellsBarred_65 : decode cX2_cellsBarred 65 = .ok (.ifCond .eq 11, 3) := dk_153 0 11 (dk_at dksX2_cellsBarred_2 17 rfl rfl)
theorem dX2_cellsBarred_68 : decode cX2_cellsBarred 68 = .ok (.aload_n 0, 1) := dk_42 (dk_at dksX2_cellsBarred_2 20 rfl rfl)
theorem dX2_cellsBarred_69 : decode cX2_cellsBarred 69 = .ok (.iconst 3, 1) := dk_6 (dk_at dksX2_cellsBarred_2 21 rfl rfl)
theorem dX2_cellsBarred_70 : decode cX2_cellsBarred 70 = .ok (.invokevirtual 115, 3) := dk_182 0 115 (dk_at dksX2_cellsBarred_3 0 rfl rfl)
theorem dX2_cellsBarred_73 : decode cX2_cellsBarred 73 = .ok (.goto 4, 3) := dk_167 0 4 (dk_at dksX2_cellsBarred_3 3 rfl rfl)
theorem dX2_cellsBarred_76 : decode cX2_cellsBarred 76 = .ok (.iconst 0, 1) := dk_3 (dk_at dksX2_cellsBarred_3 6 rfl rfl)
theorem dX2_cellsBarred_77 : decode cX2_cellsBarred 77 = .ok (.ireturn, 1) := dk_172 (dk_at dksX2_cellsBarred_3 7 rfl rfl)
abbrev cX2_failed : ByteArray := prog_8_method_8_code
def yX2_failed : MethodName := ⟨RX2, "failed", "(I)I"⟩
def dkwX2_failed_0 : List UInt8 := [42, 27, 181, 0, 71, 16, 246, 27, 100, 172]
abbrev dktX2_failed_0 : List UInt8 := dkwX2_failed_0 ++ []
theorem dksX2_failed_0 : cX2_failed.data.toList.drop 0 = dktX2_failed_0 := by decide +kernel
theorem dX2_failed_0 : decode cX2_failed 0 = .ok (.aload_n 0, 1) := dk_42 (dk_at dksX2_failed_0 0 rfl rfl)
theorem dX2_failed_1 : decode cX2_failed 1 = .ok (.iload_n 1, 1) := dk_27 (dk_at dksX2_failed_0 1 rfl rfl)
theorem dX2_failed_2 : decode cX2_failed 2 = .ok (.putfield 71, 3) := dk_181 0 71 (dk_at dksX2_failed_0 2 rfl rfl)
theorem dX2_failed_5 : decode cX2_failed 5 = .ok (.bipush (-10), 2) := dk_16 246 (dk_at dksX2_failed_0 5 rfl rfl)
theorem dX2_failed_7 : decode cX2_failed 7 = .ok (.iload_n 1, 1) := dk_27 (dk_at dksX2_failed_0 7 rfl rfl)
theorem dX2_failed_8 : decode cX2_failed 8 = .ok (.isub, 1) := dk_100 (dk_at dksX2_failed_0 8 rfl rfl)
theorem dX2_failed_9 : decode cX2_failed 9 = .ok (.ireturn, 1) := dk_172 (dk_at dksX2_failed_0 9 rfl rfl)
abbrev cX2_isBeyond : ByteArray := prog_8_method_53_code
def yX2_isBeyond : MethodName := ⟨RX2, "isBeyond", "(IJI)Z"⟩
def dkwX2_isBeyond_1 : List UInt8 := [3, 172]
abbrev dktX2_isBeyond_1 : List UInt8 := dkwX2_isBeyond_1 ++ []
def dkwX2_isBeyond_0 : List UInt8 := [26, 155, 0, 19, 31, 9, 148, 155, 0, 13, 26, 133, 31, 97, 29, 133, 148, 158, 0, 7, 4, 167, 0, 4]
abbrev dktX2_isBeyond_0 : List UInt8 := dkwX2_isBeyond_0 ++ dktX2_isBeyond_1
theorem dksX2_isBeyond_0 : cX2_isBeyond.data.toList.drop 0 = dktX2_isBeyond_0 := by decide +kernel
theorem dksX2_isBeyond_1 : cX2_isBeyond.data.toList.drop 24 = dktX2_isBeyond_1 := dk_seg dksX2_isBeyond_0 24 rfl rfl
theorem dX2_isBeyond_0 : decode cX2_isBeyond 0 = .ok (.iload_n 0, 1) := dk_26 (dk_at dksX2_isBeyond_0 0 rfl rfl)
theorem dX2_isBeyond_1 : decode cX2_isBeyond 1 = .ok (.ifCond .lt 19, 3) := dk_155 0 19 (dk_at dksX2_isBeyond_0 1 rfl rfl)
theorem dX2_isBeyond_4 : decode cX2_isBeyond 4 = .ok (.lload_n 1, 1) := dk_31 (dk_at dksX2_isBeyond_0 4 rfl rfl)
theorem dX2_isBeyond_5 : decode cX2_isBeyond 5 = .ok (.lconst 0, 1) := dk_9 (dk_at dksX2_isBeyond_0 5 rfl rfl)
theorem dX2_isBeyond_6 : decode cX2_isBeyond 6 = .ok (.lcmp, 1) := dk_148 (dk_at dksX2_isBeyond_0 6 rfl rfl)
theorem dX2_isBeyond_7 : decode cX2_isBeyond 7 = .ok (.ifCond .lt 13, 3) := dk_155 0 13 (dk_at dksX2_isBeyond_0 7 rfl rfl)
theorem dX2_isBeyond_10 : decode cX2_isBeyond 10 = .ok (.iload_n 0, 1) := dk_26 (dk_at dksX2_isBeyond_0 10 rfl rfl)
theorem dX2_isBeyond_11 : decode cX2_isBeyond 11 = .ok (.i2l, 1) := dk_133 (dk_at dksX2_isBeyond_0 11 rfl rfl)
theorem dX2_isBeyond_12 : decode cX2_isBeyond 12 = .ok (.lload_n 1, 1) := dk_31 (dk_at dksX2_isBeyond_0 12 rfl rfl)
theorem dX2_isBeyond_13 : decode cX2_isBeyond 13 = .ok (.ladd, 1) := dk_97 (dk_at dksX2_isBeyond_0 13 rfl rfl)
theorem dX2_isBeyond_14 : decode cX2_isBeyond 14 = .ok (.iload_n 3, 1) := dk_29 (dk_at dksX2_isBeyond_0 14 rfl rfl)
theorem dX2_isBeyond_15 : decode cX2_isBeyond 15 = .ok (.i2l, 1) := dk_133 (dk_at dksX2_isBeyond_0 15 rfl rfl)
theorem dX2_isBeyond_16 : decode cX2_isBeyond 16 = .ok (.lcmp, 1) := dk_148 (dk_at dksX2_isBeyond_0 16 rfl rfl)
theorem dX2_isBeyond_17 : decode cX2_isBeyond 17 = .ok (.ifCond .le 7, 3) := dk_158 0 7 (dk_at dksX2_isBeyond_0 17 rfl rfl)
theorem dX2_isBeyond_20 : decode cX2_isBeyond 20 = .ok (.iconst 1, 1) := dk_4 (dk_at dksX2_isBeyond_0 20 rfl rfl)
theorem dX2_isBeyond_21 : decode cX2_isBeyond 21 = .ok (.goto 4, 3) := dk_167 0 4 (dk_at dksX2_isBeyond_0 21 rfl rfl)
theorem dX2_isBeyond_24 : decode cX2_isBeyond 24 = .ok (.iconst 0, 1) := dk_3 (dk_at dksX2_isBeyond_1 0 rfl rfl)
theorem dX2_isBeyond_25 : decode cX2_isBeyond 25 = .ok (.ireturn, 1) := dk_172 (dk_at dksX2_isBeyond_1 1 rfl rfl)
abbrev cX2_readsDuchy : ByteArray := prog_8_method_17_code
def yX2_readsDuchy : MethodName := ⟨RX2, "readsDuchy", "(II)Z"⟩
def dkwX2_readsDuchy_7 : List UInt8 := [29, 172]
abbrev dktX2_readsDuchy_7 : List UInt8 := dkwX2_readsDuchy_7 ++ []
def dkwX2_readsDuchy_6 : List UInt8 := [180, 0, 102, 153, 0, 11, 42, 180, 0, 88, 28, 162, 0, 13, 42, 27, 28, 182, 0, 112, 62, 167, 255, 230]
abbrev dktX2_readsDuchy_6 : List UInt8 := dkwX2_readsDuchy_6 ++ dktX2_readsDuchy_7
def dkwX2_readsDuchy_5 : List UInt8 := [153, 0, 16, 42, 27, 28, 182, 0, 108, 153, 0, 7, 4, 167, 0, 4, 3, 62, 29, 153, 0, 28, 42]
abbrev dktX2_readsDuchy_5 : List UInt8 := dkwX2_readsDuchy_5 ++ dktX2_readsDuchy_6
def dkwX2_readsDuchy_4 : List UInt8 := [167, 0, 4, 3, 62, 42, 89, 180, 0, 88, 29, 153, 0, 7, 4, 167, 0, 4, 3, 96, 181, 0, 88, 29]
abbrev dktX2_readsDuchy_4 : List UInt8 := dkwX2_readsDuchy_4 ++ dktX2_readsDuchy_5
def dkwX2_readsDuchy_3 : List UInt8 := [181, 0, 105, 42, 180, 0, 105, 155, 0, 18, 42, 27, 28, 182, 0, 91, 16, 44, 160, 0, 7, 4]
abbrev dktX2_readsDuchy_3 : List UInt8 := dkwX2_readsDuchy_3 ++ dktX2_readsDuchy_4
def dkwX2_readsDuchy_2 : List UInt8 := [181, 0, 88, 42, 29, 153, 0, 15, 42, 27, 28, 3, 16, 9, 182, 0, 98, 167, 0, 5, 16, 247]
abbrev dktX2_readsDuchy_2 : List UInt8 := dkwX2_readsDuchy_2 ++ dktX2_readsDuchy_3
def dkwX2_readsDuchy_1 : List UInt8 := [160, 0, 7, 4, 167, 0, 4, 3, 62, 42, 89, 180, 0, 88, 29, 153, 0, 7, 4, 167, 0, 4, 3, 96]
abbrev dktX2_readsDuchy_1 : List UInt8 := dkwX2_readsDuchy_1 ++ dktX2_readsDuchy_2
def dkwX2_readsDuchy_0 : List UInt8 := [42, 3, 181, 0, 88, 42, 3, 181, 0, 95, 42, 3, 181, 0, 102, 42, 27, 28, 182, 0, 91, 16, 100]
abbrev dktX2_readsDuchy_0 : List UInt8 := dkwX2_readsDuchy_0 ++ dktX2_readsDuchy_1
theorem dksX2_readsDuchy_0 : cX2_readsDuchy.data.toList.drop 0 = dktX2_readsDuchy_0 := by decide +kernel
theorem dksX2_readsDuchy_1 : cX2_readsDuchy.data.toList.drop 23 = dktX2_readsDuchy_1 := dk_seg dksX2_readsDuchy_0 23 rfl rfl
theorem dksX2_readsDuchy_2 : cX2_readsDuchy.data.toList.drop 47 = dktX2_readsDuchy_2 := dk_seg dksX2_readsDuchy_1 24 rfl rfl
theorem dksX2_readsDuchy_3 : cX2_readsDuchy.data.toList.drop 69 = dktX2_readsDuchy_3 := dk_seg dksX2_readsDuchy_2 22 rfl rfl
theorem dksX2_readsDuchy_4 : cX2_readsDuchy.data.toList.drop 91 = dktX2_readsDuchy_4 := dk_seg dksX2_readsDuchy_3 22 rfl rfl
theorem dksX2_readsDuchy_5 : cX2_readsDuchy.data.toList.drop 115 = dktX2_readsDuchy_5 := dk_seg dksX2_readsDuchy_4 24 rfl rfl
theorem dksX2_readsDuchy_6 : cX2_readsDuchy.data.toList.drop 138 = dktX2_readsDuchy_6 := dk_seg dksX2_readsDuchy_5 23 rfl rfl
theorem dksX2_readsDuchy_7 : cX2_readsDuchy.data.toList.drop 162 = dktX2_readsDuchy_7 := dk_seg dksX2_readsDuchy_6 24 rfl rfl
theorem dX2_readsDuchy_0 : decode cX2_readsDuchy 0 = .ok (.aload_n 0, 1) := dk_42 (dk_at dksX2_readsDuchy_0 0 rfl rfl)
theorem dX2_readsDuchy_1 : decode cX2_readsDuchy 1 = .ok (.iconst 0, 1) := dk_3 (dk_at dksX2_readsDuchy_0 1 rfl rfl)
theorem dX2_readsDuchy_2 : decode cX2_readsDuchy 2 = .ok (.putfield 88, 3) := dk_181 0 88 (dk_at dksX2_readsDuchy_0 2 rfl rfl)
theorem dX2_readsDuchy_5 : decode cX2_readsDuchy 5 = .ok (.aload_n 0, 1) := dk_42 (dk_at dksX2_readsDuchy_0 5 rfl rfl)
theorem dX2_readsDuchy_6 : decode cX2_readsDuchy 6 = .ok (.iconst 0, 1) := dk_3 (dk_at dksX2_readsDuchy_0 6 rfl rfl)
theorem dX2_readsDuchy_7 : decode cX2_readsDuchy 7 = .ok (.putfield 95, 3) := dk_181 0 95 (dk_at dksX2_readsDuchy_0 7 rfl rfl)
theorem dX2_readsDuchy_10 : decode cX2_readsDuchy 10 = .ok (.aload_n 0, 1) := dk_42 (dk_at dksX2_readsDuchy_0 10 rfl rfl)
theorem dX2_readsDuchy_11 : decode cX2_readsDuchy 11 = .ok (.iconst 0, 1) := dk_3 (dk_at dksX2_readsDuchy_0 11 rfl rfl)
theorem dX2_readsDuchy_12 : decode cX2_readsDuchy 12 = .ok (.putfield 102, 3) := dk_181 0 102 (dk_at dksX2_readsDuchy_0 12 rfl rfl)
theorem dX2_readsDuchy_15 : decode cX2_readsDuchy 15 = .ok (.aload_n 0, 1) := dk_42 (dk_at dksX2_readsDuchy_0 15 rfl rfl)
theorem dX2_readsDuchy_16 : decode cX2_readsDuchy 16 = .ok (.iload_n 1, 1) := dk_27 (dk_at dksX2_readsDuchy_0 16 rfl rfl)
theorem dX2_readsDuchy_17 : decode cX2_readsDuchy 17 = .ok (.iload_n 2, 1) := dk_28 (dk_at dksX2_readsDuchy_0 17 rfl rfl)
theorem dX2_readsDuchy_18 : decode cX2_readsDuchy 18 = .ok (.invokevirtual 91, 3) := dk_182 0 91 (dk_at dksX2_readsDuchy_0 18 rfl rfl)
theorem dX2_readsDuchy_21 : decode cX2_readsDuchy 21 = .ok (.bipush 100, 2) := dk_16 100 (dk_at dksX2_readsDuchy_0 21 rfl rfl)
theorem dX2_readsDuchy_23 : decode cX2_readsDuchy 23 = .ok (.if_icmp .ne 7, 3) := dk_160 0 7 (dk_at dksX2_readsDuchy_1 0 rfl rfl)
theorem dX2_readsDuchy_26 : decode cX2_readsDuchy 26 = .ok (.iconst 1, 1) := dk_4 (dk_at dksX2_readsDuchy_1 3 rfl rfl)
theorem dX2_readsDuchy_27 : decode cX2_readsDuchy 27 = .ok (.goto 4, 3) := dk_167 0 4 (dk_at dksX2_readsDuchy_1 4 rfl rfl)
theorem dX2_readsDuchy_30 : decode cX2_readsDuchy 30 = .ok (.iconst 0, 1) := dk_3 (dk_at dksX2_readsDuchy_1 7 rfl rfl)
theorem dX2_readsDuchy_31 : decode cX2_readsDuchy 31 = .ok (.istore_n 3, 1) := dk_62 (dk_at dksX2_readsDuchy_1 8 rfl rfl)
theorem dX2_readsDuchy_32 : decode cX2_readsDuchy 32 = .ok (.aload_n 0, 1) := dk_42 (dk_at dksX2_readsDuchy_1 9 rfl rfl)
theorem dX2_readsDuchy_33 : decode cX2_readsDuchy 33 = .ok (.dup, 1) := dk_89 (dk_at dksX2_readsDuchy_1 10 rfl rfl)
theorem dX2_readsDuchy_34 : decode cX2_readsDuchy 34 = .ok (.getfield 88, 3) := dk_180 0 88 (dk_at dksX2_readsDuchy_1 11 rfl rfl)
theorem dX2_readsDuchy_37 : decode cX2_readsDuchy 37 = .ok (.iload_n 3, 1) := dk_29 (dk_at dksX2_readsDuchy_1 14 rfl rfl)
theorem dX2_readsDuchy_38 : decode cX2_readsDuchy 38 = .ok (.ifCond .eq 7, 3) := dk_153 0 7 (dk_at dksX2_readsDuchy_1 15 rfl rfl)
theorem dX2_readsDuchy_41 : decode cX2_readsDuchy 41 = .ok (.iconst 1, 1) := dk_4 (dk_at dksX2_readsDuchy_1 18 rfl rfl)
theorem dX2_readsDuchy_42 : decode cX2_readsDuchy 42 = .ok (.goto 4, 3) := dk_167 0 4 (dk_at dksX2_readsDuchy_1 19 rfl rfl)
theorem dX2_readsDuchy_45 : decode cX2_readsDuchy 45 = .ok (.iconst 0, 1) := dk_3 (dk_at dksX2_readsDuchy_1 22 rfl rfl)
theorem dX2_readsDuchy_46 : decode cX2_readsDuchy 46 = .ok (.iadd, 1) := dk_96 (dk_at dksX2_readsDuchy_1 23 rfl rfl)
theorem dX2_readsDuchy_47 : decode cX2_readsDuchy 47 = .ok (.putfield 88, 3) := dk_181 0 88 (dk_at dksX2_readsDuchy_2 0 rfl rfl)
theorem dX2_readsDuchy_50 : decode cX2_readsDuchy 50 = .ok (.aload_n 0, 1) := dk_42 (dk_at dksX2_readsDuchy_2 3 rfl rfl)
theorem dX2_readsDuchy_51 : decode cX2_readsDuchy 51 = .ok (.iload_n 3, 1) := dk_29 (dk_at dksX2_readsDuchy_2 4 rfl rfl)
theorem dX2_readsDuchy_52 : decode cX2_readsDuchy 52 = .ok (.ifCond .eq 15, 3) := dk_153 0 15 (dk_at dksX2_readsDuchy_2 5 rfl rfl)
theorem dX2_readsDuchy_55 : decode cX2_readsDuchy 55 = .ok (.aload_n 0, 1) := dk_42 (dk_at dksX2_readsDuchy_2 8 rfl rfl)
theorem dX2_readsDuchy_56 : decode cX2_readsDuchy 56 = .ok (.iload_n 1, 1) := dk_27 (dk_at dksX2_readsDuchy_2 9 rfl rfl)
theorem dX2_readsDuchy_57 : decode cX2_readsDuchy 57 = .ok (.iload_n 2, 1) := dk_28 (dk_at dksX2_readsDuchy_2 10 rfl rfl)
theorem dX2_readsDuchy_58 : decode cX2_readsDuchy 58 = .ok (.iconst 0, 1) := dk_3 (dk_at dksX2_readsDuchy_2 11 rfl rfl)
theorem dX2_readsDuchy_59 : decode cX2_readsDuchy 59 = .ok (.bipush 9, 2) := dk_16 9 (dk_at dksX2_readsDuchy_2 12 rfl rfl)
theorem dX2_readsDuchy_61 : decode cX2_readsDuchy 61 = .ok (.invokevirtual 98, 3) := dk_182 0 98 (dk_at dksX2_readsDuchy_2 14 rfl rfl)
theorem dX2_readsDuchy_64 : decode cX2_readsDuchy 64 = .ok (.goto 5, 3) := dk_167 0 5 (dk_at dksX2_readsDuchy_2 17 rfl rfl)
theorem dX2_readsDuchy_67 : decode cX2_readsDuchy 67 = .ok (.bipush (-9), 2) := dk_16 247 (dk_at dksX2_readsDuchy_2 20 rfl rfl)
theorem dX2_readsDuchy_69 : decode cX2_readsDuchy 69 = .ok (.putfield 105, 3) := dk_181 0 105 (dk_at dksX2_readsDuchy_3 0 rfl rfl)
theorem dX2_readsDuchy_72 : decode cX2_readsDuchy 72 = .ok (.aload_n 0, 1) := dk_42 (dk_at dksX2_readsDuchy_3 3 rfl rfl)
theorem dX2_readsDuchy_73 : decode cX2_readsDuchy 73 = .ok (.getfield 105, 3) := dk_180 0 105 (dk_at dksX2_readsDuchy_3 4 rfl rfl)
theorem dX2_readsDuchy_76 : decode cX2_readsDuchy 76 = .ok (.ifCond .lt 18, 3) := dk_155 0 18 (dk_at dksX2_readsDuchy_3 7 rfl rfl)
theorem dX2_readsDuchy_79 : decode cX2_readsDuchy 79 = .ok (.aload_n 0, 1) := dk_42 (dk_at dksX2_readsDuchy_3 10 rfl rfl)
theorem dX2_readsDuchy_80 : decode cX2_readsDuchy 80 = .ok (.iload_n 1, 1) := dk_27 (dk_at dksX2_readsDuchy_3 11 rfl rfl)
theorem dX2_readsDuchy_81 : decode cX2_readsDuchy 81 = .ok (.iload_n 2, 1) := dk_28 (dk_at dksX2_readsDuchy_3 12 rfl rfl)
theorem dX2_readsDuchy_82 : decode cX2_readsDuchy 82 = .ok (.invokevirtual 91, 3) := dk_182 0 91 (dk_at dksX2_readsDuchy_3 13 rfl rfl)
theorem dX2_readsDuchy_85 : decode cX2_readsDuchy 85 = .ok (.bipush 44, 2) := dk_16 44 (dk_at dksX2_readsDuchy_3 16 rfl rfl)
theorem dX2_readsDuchy_87 : decode cX2_readsDuchy 87 = .ok (.if_icmp .ne 7, 3) := dk_160 0 7 (dk_at dksX2_readsDuchy_3 18 rfl rfl)
theorem dX2_readsDuchy_90 : decode cX2_readsDuchy 90 = .ok (.iconst 1, 1) := dk_4 (dk_at dksX2_readsDuchy_3 21 rfl rfl)
theorem dX2_readsDuchy_91 : decode cX2_readsDuchy 91 = .ok (.goto 4, 3) := dk_167 0 4 (dk_at dksX2_readsDuchy_4 0 rfl rfl)
theorem dX2_readsDuchy_94 : decode cX2_readsDuchy 94 = .ok (.iconst 0, 1) := dk_3 (dk_at dksX2_readsDuchy_4 3 rfl rfl)
theorem dX2_readsDuchy_95 : decode cX2_readsDuchy 95 = .ok (.istore_n 3, 1) := dk_62 (dk_at dksX2_readsDuchy_4 4 rfl rfl)
theorem dX2_readsDuchy_96 : decode cX2_readsDuchy 96 = .ok (.aload_n 0, 1) := dk_42 (dk_at dksX2_readsDuchy_4 5 rfl rfl)
theorem dX2_readsDuchy_97 : decode cX2_readsDuchy 97 = .ok (.dup, 1) := dk_89 (dk_at dksX2_readsDuchy_4 6 rfl rfl)
theorem dX2_readsDuchy_98 : decode cX2_readsDuchy 98 = .ok (.getfield 88, 3) := dk_180 0 88 (dk_at dksX2_readsDuchy_4 7 rfl rfl)
theorem dX2_readsDuchy_101 : decode cX2_readsDuchy 101 = .ok (.iload_n 3, 1) := dk_29 (dk_at dksX2_readsDuchy_4 10 rfl rfl)
theorem dX2_readsDuchy_102 : decode cX2_readsDuchy 102 = .ok (.ifCond .eq 7, 3) := dk_153 0 7 (dk_at dksX2_readsDuchy_4 11 rfl rfl)
theorem dX2_readsDuchy_105 : decode cX2_readsDuchy 105 = .ok (.iconst 1, 1) := dk_4 (dk_at dksX2_readsDuchy_4 14 rfl rfl)
theorem dX2_readsDuchy_106 : decode cX2_readsDuchy 106 = .ok (.goto 4, 3) := dk_167 0 4 (dk_at dksX2_readsDuchy_4 15 rfl rfl)
theorem dX2_readsDuchy_109 : decode cX2_readsDuchy 109 = .ok (.iconst 0, 1) := dk_3 (dk_at dksX2_readsDuchy_4 18 rfl rfl)
theorem dX2_readsDuchy_110 : decode cX2_readsDuchy 110 = .ok (.iadd, 1) := dk_96 (dk_at dksX2_readsDuchy_4 19 rfl rfl)
theorem dX2_readsDuchy_111 : decode cX2_readsDuchy 111 = .ok (.putfield 88, 3) := dk_181 0 88 (dk_at dksX2_readsDuchy_4 20 rfl rfl)
theorem dX2_readsDuchy_114 : decode cX2_readsDuchy 114 = .ok (.iload_n 3, 1) := dk_29 (dk_at dksX2_readsDuchy_4 23 rfl rfl)
theorem dX2_readsDuchy_115 : decode cX2_readsDuchy 115 = .ok (.ifCond .eq 16, 3) := dk_153 0 16 (dk_at dksX2_readsDuchy_5 0 rfl rfl)
theorem dX2_readsDuchy_118 : decode cX2_readsDuchy 118 = .ok (.aload_n 0, 1) := dk_42 (dk_at dksX2_readsDuchy_5 3 rfl rfl)
theorem dX2_readsDuchy_119 : decode cX2_readsDuchy 119 = .ok (.iload_n 1, 1) := dk_27 (dk_at dksX2_readsDuchy_5 4 rfl rfl)
theorem dX2_readsDuchy_120 : decode cX2_readsDuchy 120 = .ok (.iload_n 2, 1) := dk_28 (dk_at dksX2_readsDuchy_5 5 rfl rfl)
theorem dX2_readsDuchy_121 : decode cX2_readsDuchy 121 = .ok (.invokevirtual 108, 3) := dk_182 0 108 (dk_at dksX2_readsDuchy_5 6 rfl rfl)
theorem dX2_readsDuchy_124 : decode cX2_readsDuchy 124 = .ok (.ifCond .eq 7, 3) := dk_153 0 7 (dk_at dksX2_readsDuchy_5 9 rfl rfl)
theorem dX2_readsDuchy_127 : decode cX2_readsDuchy 127 = .ok (.iconst 1, 1) := dk_4 (dk_at dksX2_readsDuchy_5 12 rfl rfl)
theorem dX2_readsDuchy_128 : decode cX2_readsDuchy 128 = .ok (.goto 4, 3) := dk_167 0 4 (dk_at dksX2_readsDuchy_5 13 rfl rfl)
theorem dX2_readsDuchy_131 : decode cX2_readsDuchy 131 = .ok (.iconst 0, 1) := dk_3 (dk_at dksX2_readsDuchy_5 16 rfl rfl)
theorem dX2_readsDuchy_132 : decode cX2_readsDuchy 132 = .ok (.istore_n 3, 1) := dk_62 (dk_at dksX2_readsDuchy_5 17 rfl rfl)
theorem dX2_readsDuchy_133 : decode cX2_readsDuchy 133 = .ok (.iload_n 3, 1) := dk_29 (dk_at dksX2_readsDuchy_5 18 rfl rfl)
theorem dX2_readsDuchy_134 : decode cX2_readsDuchy 134 = .ok (.ifCond .eq 28, 3) := dk_153 0 28 (dk_at dksX2_readsDuchy_5 19 rfl rfl)
theorem dX2_readsDuchy_137 : decode cX2_readsDuchy 137 = .ok (.aload_n 0, 1) := dk_42 (dk_at dksX2_readsDuchy_5 22 rfl rfl)
theorem dX2_readsDuchy_138 : decode cX2_readsDuchy 138 = .ok (.getfield 102, 3) := dk_180 0 102 (dk_at dksX2_readsDuchy_6 0 rfl rfl)
theorem dX2_readsDuchy_141 : decode cX2_readsDuchy 141 = .ok (.ifCond .eq 11, 3) := dk_153 0 11 (dk_at dksX2_readsDuchy_6 3 rfl rfl)
theorem dX2_readsDuchy_144 : decode cX2_readsDuchy 144 = .ok (.aload_n 0, 1) := dk_42 (dk_at dksX2_readsDuchy_6 6 rfl rfl)
theorem dX2_readsDuchy_145 : decode cX2_readsDuchy 145 = .ok (.getfield 88, 3) := dk_180 0 88 (dk_at dksX2_readsDuchy_6 7 rfl rfl)
theorem dX2_readsDuchy_148 : decode cX2_readsDuchy 148 = .ok (.iload_n 2, 1) := dk_28 (dk_at dksX2_readsDuchy_6 10 rfl rfl)
theorem dX2_readsDuchy_149 : decode cX2_readsDuchy 149 = .ok (.if_icmp .ge 13, 3) := dk_162 0 13 (dk_at dksX2_readsDuchy_6 11 rfl rfl)
theorem dX2_readsDuchy_152 : decode cX2_readsDuchy 152 = .ok (.aload_n 0, 1) := dk_42 (dk_at dksX2_readsDuchy_6 14 rfl rfl)
theorem dX2_readsDuchy_153 : decode cX2_readsDuchy 153 = .ok (.iload_n 1, 1) := dk_27 (dk_at dksX2_readsDuchy_6 15 rfl rfl)
theorem dX2_readsDuchy_154 : decode cX2_readsDuchy 154 = .ok (.iload_n 2, 1) := dk_28 (dk_at dksX2_readsDuchy_6 16 rfl rfl)
theorem dX2_readsDuchy_155 : decode cX2_readsDuchy 155 = .ok (.invokevirtual 112, 3) := dk_182 0 112 (dk_at dksX2_readsDuchy_6 17 rfl rfl)
theorem dX2_readsDuchy_158 : decode cX2_readsDuchy 158 = .ok (.istore_n 3, 1) := dk_62 (dk_at dksX2_readsDuchy_6 20 rfl rfl)
theorem dX2_readsDuchy_159 : decode cX2_readsDuchy 159 = .ok (.goto (-26), 3) := dk_167 255 230 (dk_at dksX2_readsDuchy_6 21 rfl rfl)
theorem dX2_readsDuchy_162 : decode cX2_readsDuchy 162 = .ok (.iload_n 3, 1) := dk_29 (dk_at dksX2_readsDuchy_7 0 rfl rfl)
theorem dX2_readsDuchy_163 : decode cX2_readsDuchy 163 = .ok (.ireturn, 1) := dk_172 (dk_at dksX2_readsDuchy_7 1 rfl rfl)
abbrev cX2_codeAt : ByteArray := prog_8_method_13_code
def yX2_codeAt : MethodName := ⟨RX2, "codeAt", "(II)I"⟩
def dkwX2_codeAt_1 : List UInt8 := [172]
abbrev dktX2_codeAt_1 : List UInt8 := dkwX2_codeAt_1 ++ []
def dkwX2_codeAt_0 : List UInt8 := [42, 180, 0, 88, 28, 162, 0, 17, 42, 180, 0, 63, 27, 42, 180, 0, 88, 96, 46, 167, 0, 5, 16, 247]
abbrev dktX2_codeAt_0 : List UInt8 := dkwX2_codeAt_0 ++ dktX2_codeAt_1
theorem dksX2_codeAt_0 : cX2_codeAt.data.toList.drop 0 = dktX2_codeAt_0 := by decide +kernel
theorem dksX2_codeAt_1 : cX2_codeAt.data.toList.drop 24 = dktX2_codeAt_1 := dk_seg dksX2_codeAt_0 24 rfl rfl
theorem dX2_codeAt_0 : decode cX2_codeAt 0 = .ok (.aload_n 0, 1) := dk_42 (dk_at dksX2_codeAt_0 0 rfl rfl)
theorem dX2_codeAt_1 : decode cX2_codeAt 1 = .ok (.getfield 88, 3) := dk_180 0 88 (dk_at dksX2_codeAt_0 1 rfl rfl)
theorem dX2_codeAt_4 : decode cX2_codeAt 4 = .ok (.iload_n 2, 1) := dk_28 (dk_at dksX2_codeAt_0 4 rfl rfl)
theorem dX2_codeAt_5 : decode cX2_codeAt 5 = .ok (.if_icmp .ge 17, 3) := dk_162 0 17 (dk_at dksX2_codeAt_0 5 rfl rfl)
theorem dX2_codeAt_8 : decode cX2_codeAt 8 = .ok (.aload_n 0, 1) := dk_42 (dk_at dksX2_codeAt_0 8 rfl rfl)
theorem dX2_codeAt_9 : decode cX2_codeAt 9 = .ok (.getfield 63, 3) := dk_180 0 63 (dk_at dksX2_codeAt_0 9 rfl rfl)
theorem dX2_codeAt_12 : decode cX2_codeAt 12 = .ok (.iload_n 1, 1) := dk_27 (dk_at dksX2_codeAt_0 12 rfl rfl)
theorem dX2_codeAt_13 : decode cX2_codeAt 13 = .ok (.aload_n 0, 1) := dk_42 (dk_at dksX2_codeAt_0 13 rfl rfl)
theorem dX2_codeAt_14 : decode cX2_codeAt 14 = .ok (.getfield 88, 3) := dk_180 0 88 (dk_at dksX2_codeAt_0 14 rfl rfl)
theorem dX2_codeAt_17 : decode cX2_codeAt 17 = .ok (.iadd, 1) := dk_96 (dk_at dksX2_codeAt_0 17 rfl rfl)
theorem dX2_codeAt_18 : decode cX2_codeAt 18 = .ok (.iaload, 1) := dk_46 (dk_at dksX2_codeAt_0 18 rfl rfl)
theorem dX2_codeAt_19 : decode cX2_codeAt 19 = .ok (.goto 5, 3) := dk_167 0 5 (dk_at dksX2_codeAt_0 19 rfl rfl)
theorem dX2_codeAt_22 : decode cX2_codeAt 22 = .ok (.bipush (-9), 2) := dk_16 247 (dk_at dksX2_codeAt_0 22 rfl rfl)
theorem dX2_codeAt_24 : decode cX2_codeAt 24 = .ok (.ireturn, 1) := dk_172 (dk_at dksX2_codeAt_1 0 rfl rfl)
abbrev cX2_figure : ByteArray := prog_8_method_14_code
def yX2_figure : MethodName := ⟨RX2, "figure", "(IIII)I"⟩
def dkwX2_figure_2 : List UInt8 := [21, 5, 167, 0, 5, 16, 247, 172]
abbrev dktX2_figure_2 : List UInt8 := dkwX2_figure_2 ++ []
def dkwX2_figure_1 : List UInt8 := [42, 89, 180, 0, 88, 21, 6, 153, 0, 7, 4, 167, 0, 4, 3, 96, 181, 0, 88, 21, 6, 153, 0, 8]
abbrev dktX2_figure_1 : List UInt8 := dkwX2_figure_1 ++ dktX2_figure_2
def dkwX2_figure_0 : List UInt8 := [42, 27, 28, 182, 0, 91, 16, 48, 100, 54, 5, 21, 5, 133, 29, 133, 21, 4, 133, 184, 0, 81, 54, 6]
abbrev dktX2_figure_0 : List UInt8 := dkwX2_figure_0 ++ dktX2_figure_1
theorem dksX2_figure_0 : cX2_figure.data.toList.drop 0 = dktX2_figure_0 := by decide +kernel
theorem dksX2_figure_1 : cX2_figure.data.toList.drop 24 = dktX2_figure_1 := dk_seg dksX2_figure_0 24 rfl rfl
theorem dksX2_figure_2 : cX2_figure.data.toList.drop 48 = dktX2_figure_2 := dk_seg dksX2_figure_1 24 rfl rfl
theorem dX2_figure_0 : decode cX2_figure 0 = .ok (.aload_n 0, 1) := dk_42 (dk_at dksX2_figure_0 0 rfl rfl)
theorem dX2_figure_1 : decode cX2_figure 1 = .ok (.iload_n 1, 1) := dk_27 (dk_at dksX2_figure_0 1 rfl rfl)
theorem dX2_figure_2 : decode cX2_figure 2 = .ok (.iload_n 2, 1) := dk_28 (dk_at dksX2_figure_0 2 rfl rfl)
theorem dX2_figure_3 : decode cX2_figure 3 = .ok (.invokevirtual 91, 3) := dk_182 0 91 (dk_at dksX2_figure_0 3 rfl rfl)
theorem dX2_figure_6 : decode cX2_figure 6 = .ok (.bipush 48, 2) := dk_16 48 (dk_at dksX2_figure_0 6 rfl rfl)
theorem dX2_figure_8 : decode cX2_figure 8 = .ok (.isub, 1) := dk_100 (dk_at dksX2_figure_0 8 rfl rfl)
theorem dX2_figure_9 : decode cX2_figure 9 = .ok (.istore 5, 2) := dk_54 5 (dk_at dksX2_figure_0 9 rfl rfl)
theorem dX2_figure_11 : decode cX2_figure 11 = .ok (.iload 5, 2) := dk_21 5 (dk_at dksX2_figure_0 11 rfl rfl)
theorem dX2_figure_13 : decode cX2_figure 13 = .ok (.i2l, 1) := dk_133 (dk_at dksX2_figure_0 13 rfl rfl)
theorem dX2_figure_14 : decode cX2_figure 14 = .ok (.iload_n 3, 1) := dk_29 (dk_at dksX2_figure_0 14 rfl rfl)
theorem dX2_figure_15 : decode cX2_figure 15 = .ok (.i2l, 1) := dk_133 (dk_at dksX2_figure_0 15 rfl rfl)
theorem dX2_figure_16 : decode cX2_figure 16 = .ok (.iload 4, 2) := dk_21 4 (dk_at dksX2_figure_0 16 rfl rfl)
theorem dX2_figure_18 : decode cX2_figure 18 = .ok (.i2l, 1) := dk_133 (dk_at dksX2_figure_0 18 rfl rfl)
theorem dX2_figure_19 : decode cX2_figure 19 = .ok (.invokestatic 81, 3) := dk_184 0 81 (dk_at dksX2_figure_0 19 rfl rfl)
theorem dX2_figure_22 : decode cX2_figure 22 = .ok (.istore 6, 2) := dk_54 6 (dk_at dksX2_figure_0 22 rfl rfl)
theorem dX2_figure_24 : decode cX2_figure 24 = .ok (.aload_n 0, 1) := dk_42 (dk_at dksX2_figure_1 0 rfl rfl)
theorem dX2_figure_25 : decode cX2_figure 25 = .ok (.dup, 1) := dk_89 (dk_at dksX2_figure_1 1 rfl rfl)
theorem dX2_figure_26 : decode cX2_figure 26 = .ok (.getfield 88, 3) := dk_180 0 88 (dk_at dksX2_figure_1 2 rfl rfl)
theorem dX2_figure_29 : decode cX2_figure 29 = .ok (.iload 6, 2) := dk_21 6 (dk_at dksX2_figure_1 5 rfl rfl)
theorem dX2_figure_31 : decode cX2_figure 31 = .ok (.ifCond .eq 7, 3) := dk_153 0 7 (dk_at dksX2_figure_1 7 rfl rfl)
theorem dX2_figure_34 : decode cX2_figure 34 = .ok (.iconst 1, 1) := dk_4 (dk_at dksX2_figure_1 10 rfl rfl)
theorem dX2_figure_35 : decode cX2_figure 35 = .ok (.goto 4, 3) := dk_167 0 4 (dk_at dksX2_figure_1 11 rfl rfl)
theorem dX2_figure_38 : decode cX2_figure 38 = .ok (.iconst 0, 1) := dk_3 (dk_at dksX2_figure_1 14 rfl rfl)
theorem dX2_figure_39 : decode cX2_figure 39 = .ok (.iadd, 1) := dk_96 (dk_at dksX2_figure_1 15 rfl rfl)
theorem dX2_figure_40 : decode cX2_figure 40 = .ok (.putfield 88, 3) := dk_181 0 88 (dk_at dksX2_figure_1 16 rfl rfl)
theorem dX2_figure_43 : decode cX2_figure 43 = .ok (.iload 6, 2) := dk_21 6 (dk_at dksX2_figure_1 19 rfl rfl)
theorem dX2_figure_45 : decode cX2_figure 45 = .ok (.ifCond .eq 8, 3) := dk_153 0 8 (dk_at dksX2_figure_1 21 rfl rfl)
theorem dX2_figure_48 : decode cX2_figure 48 = .ok (.iload 5, 2) := dk_21 5 (dk_at dksX2_figure_2 0 rfl rfl)
theorem dX2_figure_50 : decode cX2_figure 50 = .ok (.goto 5, 3) := dk_167 0 5 (dk_at dksX2_figure_2 2 rfl rfl)
theorem dX2_figure_53 : decode cX2_figure 53 = .ok (.bipush (-9), 2) := dk_16 247 (dk_at dksX2_figure_2 5 rfl rfl)
theorem dX2_figure_55 : decode cX2_figure 55 = .ok (.ireturn, 1) := dk_172 (dk_at dksX2_figure_2 7 rfl rfl)
abbrev cX2_readsDays : ByteArray := prog_8_method_15_code
def yX2_readsDays : MethodName := ⟨RX2, "readsDays", "(II)Z"⟩
def dkwX2_readsDays_3 : List UInt8 := [158, 0, 7, 4, 167, 0, 4, 3, 172]
abbrev dktX2_readsDays_3 : List UInt8 := dkwX2_readsDays_3 ++ []
def dkwX2_readsDays_2 : List UInt8 := [180, 0, 95, 21, 4, 79, 42, 89, 180, 0, 95, 4, 96, 181, 0, 95, 167, 255, 196, 42, 180, 0, 95]
abbrev dktX2_readsDays_2 : List UInt8 := dkwX2_readsDays_2 ++ dktX2_readsDays_3
def dkwX2_readsDays_1 : List UInt8 := [54, 4, 21, 4, 155, 0, 7, 4, 167, 0, 4, 3, 62, 29, 153, 0, 24, 42, 180, 0, 29, 42]
abbrev dktX2_readsDays_1 : List UInt8 := dkwX2_readsDays_1 ++ dktX2_readsDays_2
def dkwX2_readsDays_0 : List UInt8 := [4, 62, 42, 180, 0, 95, 16, 6, 162, 0, 57, 29, 153, 0, 53, 42, 27, 28, 3, 16, 9, 182, 0, 98]
abbrev dktX2_readsDays_0 : List UInt8 := dkwX2_readsDays_0 ++ dktX2_readsDays_1
theorem dksX2_readsDays_0 : cX2_readsDays.data.toList.drop 0 = dktX2_readsDays_0 := by decide +kernel
theorem dksX2_readsDays_1 : cX2_readsDays.data.toList.drop 24 = dktX2_readsDays_1 := dk_seg dksX2_readsDays_0 24 rfl rfl
theorem dksX2_readsDays_2 : cX2_readsDays.data.toList.drop 46 = dktX2_readsDays_2 := dk_seg dksX2_readsDays_1 22 rfl rfl
theorem dksX2_readsDays_3 : cX2_readsDays.data.toList.drop 69 = dktX2_readsDays_3 := dk_seg dksX2_readsDays_2 23 rfl rfl
theorem dX2_readsDays_0 : decode cX2_readsDays 0 = .ok (.iconst 1, 1) := dk_4 (dk_at dksX2_readsDays_0 0 rfl rfl)
theorem dX2_readsDays_1 : decode cX2_readsDays 1 = .ok (.istore_n 3, 1) := dk_62 (dk_at dksX2_readsDays_0 1 rfl rfl)
theorem dX2_readsDays_2 : decode cX2_readsDays 2 = .ok (.aload_n 0, 1) := dk_42 (dk_at dksX2_readsDays_0 2 rfl rfl)
theorem dX2_readsDays_3 : decode cX2_readsDays 3 = .ok (.getfield 95, 3) := dk_180 0 95 (dk_at dksX2_readsDays_0 3 rfl rfl)
theorem dX2_readsDays_6 : decode cX2_readsDays 6 = .ok (.bipush 6, 2) := dk_16 6 (dk_at dksX2_readsDays_0 6 rfl rfl)
theorem dX2_readsDays_8 : decode cX2_readsDays 8 = .ok (.if_icmp .ge 57, 3) := dk_162 0 57 (dk_at dksX2_readsDays_0 8 rfl rfl)
theorem dX2_readsDays_11 : decode cX2_readsDays 11 = .ok (.iload_n 3, 1) := dk_29 (dk_at dksX2_readsDays_0 11 rfl rfl)
theorem dX2_readsDays_12 : decode cX2_readsDays 12 = .ok (.ifCond .eq 53, 3) := dk_153 0 53 (dk_at dksX2_readsDays_0 12 rfl rfl)
theorem dX2_readsDays_15 : decode cX2_readsDays 15 = .ok (.aload_n 0, 1) := dk_42 (dk_at dksX2_readsDays_0 15 rfl rfl)
theorem dX2_readsDays_16 : decode cX2_readsDays 16 = .ok (.iload_n 1, 1) := dk_27 (dk_at dksX2_readsDays_0 16 rfl rfl)
theorem dX2_readsDays_17 : decode cX2_readsDays 17 = .ok (.iload_n 2, 1) := dk_28 (dk_at dksX2_readsDays_0 17 rfl rfl)
theorem dX2_readsDays_18 : decode cX2_readsDays 18 = .ok (.iconst 0, 1) := dk_3 (dk_at dksX2_readsDays_0 18 rfl rfl)
theorem dX2_readsDays_19 : decode cX2_readsDays 19 = .ok (.bipush 9, 2) := dk_16 9 (dk_at dksX2_readsDays_0 19 rfl rfl)
theorem dX2_readsDays_21 : decode cX2_readsDays 21 = .ok (.invokevirtual 98, 3) := dk_182 0 98 (dk_at dksX2_readsDays_0 21 rfl rfl)
theorem dX2_readsDays_24 : decode cX2_readsDays 24 = .ok (.istore 4, 2) := dk_54 4 (dk_at dksX2_readsDays_1 0 rfl rfl)
theorem dX2_readsDays_26 : decode cX2_readsDays 26 = .ok (.iload 4, 2) := dk_21 4 (dk_at dksX2_readsDays_1 2 rfl rfl)
theorem dX2_readsDays_28 : decode cX2_readsDays 28 = .ok (.ifCond .lt 7, 3) := dk_155 0 7 (dk_at dksX2_readsDays_1 4 rfl rfl)
theorem dX2_readsDays_31 : decode cX2_readsDays 31 = .ok (.iconst 1, 1) := dk_4 (dk_at dksX2_readsDays_1 7 rfl rfl)
theorem dX2_readsDays_32 : decode cX2_readsDays 32 = .ok (.goto 4, 3) := dk_167 0 4 (dk_at dksX2_readsDays_1 8 rfl rfl)
theorem dX2_readsDays_35 : decode cX2_readsDays 35 = .ok (.iconst 0, 1) := dk_3 (dk_at dksX2_readsDays_1 11 rfl rfl)
theorem dX2_readsDays_36 : decode cX2_readsDays 36 = .ok (.istore_n 3, 1) := dk_62 (dk_at dksX2_readsDays_1 12 rfl rfl)
theorem dX2_readsDays_37 : decode cX2_readsDays 37 = .ok (.iload_n 3, 1) := dk_29 (dk_at dksX2_readsDays_1 13 rfl rfl)
theorem dX2_readsDays_38 : decode cX2_readsDays 38 = .ok (.ifCond .eq 24, 3) := dk_153 0 24 (dk_at dksX2_readsDays_1 14 rfl rfl)
theorem dX2_readsDays_41 : decode cX2_readsDays 41 = .ok (.aload_n 0, 1) := dk_42 (dk_at dksX2_readsDays_1 17 rfl rfl)
theorem dX2_readsDays_42 : decode cX2_readsDays 42 = .ok (.getfield 29, 3) := dk_180 0 29 (dk_at dksX2_readsDays_1 18 rfl rfl)
theorem dX2_readsDays_45 : decode cX2_readsDays 45 = .ok (.aload_n 0, 1) := dk_42 (dk_at dksX2_readsDays_1 21 rfl rfl)
theorem dX2_readsDays_46 : decode cX2_readsDays 46 = .ok (.getfield 95, 3) := dk_180 0 95 (dk_at dksX2_readsDays_2 0 rfl rfl)
theorem dX2_readsDays_49 : decode cX2_readsDays 49 = .ok (.iload 4, 2) := dk_21 4 (dk_at dksX2_readsDays_2 3 rfl rfl)
theorem dX2_readsDays_51 : decode cX2_readsDays 51 = .ok (.iastore, 1) := dk_79 (dk_at dksX2_readsDays_2 5 rfl rfl)
theorem dX2_readsDays_52 : decode cX2_readsDays 52 = .ok (.aload_n 0, 1) := dk_42 (dk_at dksX2_readsDays_2 6 rfl rfl)
theorem dX2_readsDays_53 : decode cX2_readsDays 53 = .ok (.dup, 1) := dk_89 (dk_at dksX2_readsDays_2 7 rfl rfl)
theorem dX2_readsDays_54 : decode cX2_readsDays 54 = .ok (.getfield 95, 3) := dk_180 0 95 (dk_at dksX2_readsDays_2 8 rfl rfl)
theorem dX2_readsDays_57 : decode cX2_readsDays 57 = .ok (.iconst 1, 1) := dk_4 (dk_at dksX2_readsDays_2 11 rfl rfl)
theorem dX2_readsDays_58 : decode cX2_readsDays 58 = .ok (.iadd, 1) := dk_96 (dk_at dksX2_readsDays_2 12 rfl rfl)
theorem dX2_readsDays_59 : decode cX2_readsDays 59 = .ok (.putfield 95, 3) := dk_181 0 95 (dk_at dksX2_readsDays_2 13 rfl rfl)
theorem dX2_readsDays_62 : decode cX2_readsDays 62 = .ok (.goto (-60), 3) := dk_167 255 196 (dk_at dksX2_readsDays_2 16 rfl rfl)
theorem dX2_readsDays_65 : decode cX2_readsDays 65 = .ok (.aload_n 0, 1) := dk_42 (dk_at dksX2_readsDays_2 19 rfl rfl)
theorem dX2_readsDays_66 : decode cX2_readsDays 66 = .ok (.getfield 95, 3) := dk_180 0 95 (dk_at dksX2_readsDays_2 20 rfl rfl)
theorem dX2_readsDays_69 : decode cX2_readsDays 69 = .ok (.ifCond .le 7, 3) := dk_158 0 7 (dk_at dksX2_readsDays_3 0 rfl rfl)
theorem dX2_readsDays_72 : decode cX2_readsDays 72 = .ok (.iconst 1, 1) := dk_4 (dk_at dksX2_readsDays_3 3 rfl rfl)
theorem dX2_readsDays_73 : decode cX2_readsDays 73 = .ok (.goto 4, 3) := dk_167 0 4 (dk_at dksX2_readsDays_3 4 rfl rfl)
theorem dX2_readsDays_76 : decode cX2_readsDays 76 = .ok (.iconst 0, 1) := dk_3 (dk_at dksX2_readsDays_3 7 rfl rfl)
theorem dX2_readsDays_77 : decode cX2_readsDays 77 = .ok (.ireturn, 1) := dk_172 (dk_at dksX2_readsDays_3 8 rfl rfl)
abbrev cX2_readsEater : ByteArray := prog_8_method_16_code
def yX2_readsEater : MethodName := ⟨RX2, "readsEater", "(II)Z"⟩
def dkwX2_readsEater_8 : List UInt8 := [79, 42, 89, 180, 0, 102, 4, 96, 181, 0, 102, 4, 172]
abbrev dktX2_readsEater_8 : List UInt8 := dkwX2_readsEater_8 ++ []
def dkwX2_readsEater_7 : List UInt8 := [21, 4, 79, 42, 180, 0, 38, 42, 180, 0, 102, 21, 5, 79, 42, 180, 0, 41, 42, 180, 0, 102, 21, 6]
abbrev dktX2_readsEater_7 : List UInt8 := dkwX2_readsEater_7 ++ dktX2_readsEater_8
def dkwX2_readsEater_6 : List UInt8 := [167, 0, 14, 29, 16, 115, 160, 0, 7, 4, 167, 0, 4, 5, 79, 42, 180, 0, 35, 42, 180, 0, 102]
abbrev dktX2_readsEater_6 : List UInt8 := dkwX2_readsEater_6 ++ dktX2_readsEater_7
def dkwX2_readsEater_5 : List UInt8 := [54, 6, 21, 6, 156, 0, 5, 3, 172, 42, 180, 0, 32, 42, 180, 0, 102, 29, 16, 101, 160, 0, 7, 3]
abbrev dktX2_readsEater_5 : List UInt8 := dkwX2_readsEater_5 ++ dktX2_readsEater_6
def dkwX2_readsEater_4 : List UInt8 := [182, 0, 98, 54, 5, 21, 5, 156, 0, 8, 16, 247, 167, 0, 12, 42, 27, 28, 3, 16, 6, 182, 0, 98]
abbrev dktX2_readsEater_4 : List UInt8 := dkwX2_readsEater_4 ++ dktX2_readsEater_5
def dkwX2_readsEater_3 : List UInt8 := [3, 8, 182, 0, 98, 54, 4, 21, 4, 156, 0, 8, 16, 247, 167, 0, 12, 42, 27, 28, 4, 16, 9]
abbrev dktX2_readsEater_3 : List UInt8 := dkwX2_readsEater_3 ++ dktX2_readsEater_4
def dkwX2_readsEater_2 : List UInt8 := [159, 0, 11, 29, 16, 108, 159, 0, 5, 3, 172, 42, 89, 180, 0, 88, 4, 96, 181, 0, 88, 42, 27, 28]
abbrev dktX2_readsEater_2 : List UInt8 := dkwX2_readsEater_2 ++ dktX2_readsEater_3
def dkwX2_readsEater_1 : List UInt8 := [180, 0, 88, 4, 96, 181, 0, 88, 42, 27, 28, 182, 0, 91, 62, 29, 16, 101, 159, 0, 17, 29, 16, 115]
abbrev dktX2_readsEater_1 : List UInt8 := dkwX2_readsEater_1 ++ dktX2_readsEater_2
def dkwX2_readsEater_0 : List UInt8 := [42, 180, 0, 102, 7, 159, 0, 14, 42, 27, 28, 182, 0, 91, 16, 59, 159, 0, 5, 3, 172, 42, 89]
abbrev dktX2_readsEater_0 : List UInt8 := dkwX2_readsEater_0 ++ dktX2_readsEater_1
theorem dksX2_readsEater_0 : cX2_readsEater.data.toList.drop 0 = dktX2_readsEater_0 := by decide +kernel
theorem dksX2_readsEater_1 : cX2_readsEater.data.toList.drop 23 = dktX2_readsEater_1 := dk_seg dksX2_readsEater_0 23 rfl rfl
theorem dksX2_readsEater_2 : cX2_readsEater.data.toList.drop 47 = dktX2_readsEater_2 := dk_seg dksX2_readsEater_1 24 rfl rfl
theorem dksX2_readsEater_3 : cX2_readsEater.data.toList.drop 71 = dktX2_readsEater_3 := dk_seg dksX2_readsEater_2 24 rfl rfl
theorem dksX2_readsEater_4 : cX2_readsEater.data.toList.drop 94 = dktX2_readsEater_4 := dk_seg dksX2_readsEater_3 23 rfl rfl
theorem dksX2_readsEater_5 : cX2_readsEater.data.toList.drop 118 = dktX2_readsEater_5 := dk_seg dksX2_readsEater_4 24 rfl rfl
theorem dksX2_readsEater_6 : cX2_readsEater.data.toList.drop 142 = dktX2_readsEater_6 := dk_seg dksX2_readsEater_5 24 rfl rfl
theorem dksX2_readsEater_7 : cX2_readsEater.data.toList.drop 165 = dktX2_readsEater_7 := dk_seg dksX2_readsEater_6 23 rfl rfl
theorem dksX2_readsEater_8 : cX2_readsEater.data.toList.drop 189 = dktX2_readsEater_8 := dk_seg dksX2_readsEater_7 24 rfl rfl
theorem dX2_readsEater_0 : decode cX2_readsEater 0 = .ok (.aload_n 0, 1) := dk_42 (dk_at dksX2_readsEater_0 0 rfl rfl)
theorem dX2_readsEater_1 : decode cX2_readsEater 1 = .ok (.getfield 102, 3) := dk_180 0 102 (dk_at dksX2_readsEater_0 1 rfl rfl)
theorem dX2_readsEater_4 : decode cX2_readsEater 4 = .ok (.iconst 4, 1) := dk_7 (dk_at dksX2_readsEater_0 4 rfl rfl)
theorem dX2_readsEater_5 : decode cX2_readsEater 5 = .ok (.if_icmp .eq 14, 3) := dk_159 0 14 (dk_at dksX2_readsEater_0 5 rfl rfl)
theorem dX2_readsEater_8 : decode cX2_readsEater 8 = .ok (.aload_n 0, 1) := dk_42 (dk_at dksX2_readsEater_0 8 rfl rfl)
theorem dX2_readsEater_9 : decode cX2_readsEater 9 = .ok (.iload_n 1, 1) := dk_27 (dk_at dksX2_readsEater_0 9 rfl rfl)
theorem dX2_readsEater_10 : decode cX2_readsEater 10 = .ok (.iload_n 2, 1) := dk_28 (dk_at dksX2_readsEater_0 10 rfl rfl)
theorem dX2_readsEater_11 : decode cX2_readsEater 11 = .ok (.invokevirtual 91, 3) := dk_182 0 91 (dk_at dksX2_readsEater_0 11 rfl rfl)
theorem dX2_readsEater_14 : decode cX2_readsEater 14 = .ok (.bipush 59, 2) := dk_16 59 (dk_at dksX2_readsEater_0 14 rfl rfl)
theorem dX2_readsEater_16 : decode cX2_readsEater 16 = .ok (.if_icmp .eq 5, 3) := dk_159 0 5 (dk_at dksX2_readsEater_0 16 rfl rfl)
theorem dX2_readsEater_19 : decode cX2_readsEater 19 = .ok (.iconst 0, 1) := dk_3 (dk_at dksX2_readsEater_0 19 rfl rfl)
theorem dX2_readsEater_20 : decode cX2_readsEater 20 = .ok (.ireturn, 1) := dk_172 (dk_at dksX2_readsEater_0 20 rfl rfl)
theorem dX2_readsEater_21 : decode cX2_readsEater 21 = .ok (.aload_n 0, 1) := dk_42 (dk_at dksX2_readsEater_0 21 rfl rfl)
theorem dX2_readsEater_22 : decode cX2_readsEater 22 = .ok (.dup, 1) := dk_89 (dk_at dksX2_readsEater_0 22 rfl rfl)
theorem dX2_readsEater_23 : decode cX2_readsEater 23 = .ok (.getfield 88, 3) := dk_180 0 88 (dk_at dksX2_readsEater_1 0 rfl rfl)
theorem dX2_readsEater_26 : decode cX2_readsEater 26 = .ok (.iconst 1, 1) := dk_4 (dk_at dksX2_readsEater_1 3 rfl rfl)
theorem dX2_readsEater_27 : decode cX2_readsEater 27 = .ok (.iadd, 1) := dk_96 (dk_at dksX2_readsEater_1 4 rfl rfl)
theorem dX2_readsEater_28 : decode cX2_readsEater 28 = .ok (.putfield 88, 3) := dk_181 0 88 (dk_at dksX2_readsEater_1 5 rfl rfl)
theorem dX2_readsEater_31 : decode cX2_readsEater 31 = .ok (.aload_n 0, 1) := dk_42 (dk_at dksX2_readsEater_1 8 rfl rfl)
theorem dX2_readsEater_32 : decode cX2_readsEater 32 = .ok (.iload_n 1, 1) := dk_27 (dk_at dksX2_readsEater_1 9 rfl rfl)
theorem dX2_readsEater_33 : decode cX2_readsEater 33 = .ok (.iload_n 2, 1) := dk_28 (dk_at dksX2_readsEater_1 10 rfl rfl)
theorem dX2_readsEater_34 : decode cX2_readsEater 34 = .ok (.invokevirtual 91, 3) := dk_182 0 91 (dk_at dksX2_readsEater_1 11 rfl rfl)
theorem dX2_readsEater_37 : decode cX2_readsEater 37 = .ok (.istore_n 3, 1) := dk_62 (dk_at dksX2_readsEater_1 14 rfl rfl)
theorem dX2_readsEater_38 : decode cX2_readsEater 38 = .ok (.iload_n 3, 1) := dk_29 (dk_at dksX2_readsEater_1 15 rfl rfl)
theorem dX2_readsEater_39 : decode cX2_readsEater 39 = .ok (.bipush 101, 2) := dk_16 101 (dk_at dksX2_readsEater_1 16 rfl rfl)
theorem dX2_readsEater_41 : decode cX2_readsEater 41 = .ok (.if_icmp .eq 17, 3) := dk_159 0 17 (dk_at dksX2_readsEater_1 18 rfl rfl)
theorem dX2_readsEater_44 : decode cX2_readsEater 44 = .ok (.iload_n 3, 1) := dk_29 (dk_at dksX2_readsEater_1 21 rfl rfl)
theorem dX2_readsEater_45 : decode cX2_readsEater 45 = .ok (.bipush 115, 2) := dk_16 115 (dk_at dksX2_readsEater_1 22 rfl rfl)
theorem dX2_readsEater_47 : decode cX2_readsEater 47 = .ok (.if_icmp .eq 11, 3) := dk_159 0 11 (dk_at dksX2_readsEater_2 0 rfl rfl)
theorem dX2_readsEater_50 : decode cX2_readsEater 50 = .ok (.iload_n 3, 1) := dk_29 (dk_at dksX2_readsEater_2 3 rfl rfl)
theorem dX2_readsEater_51 : decode cX2_readsEater 51 = .ok (.bipush 108, 2) := dk_16 108 (dk_at dksX2_readsEater_2 4 rfl rfl)
theorem dX2_readsEater_53 : decode cX2_readsEater 53 = .ok (.if_icmp .eq 5, 3) := dk_159 0 5 (dk_at dksX2_readsEater_2 6 rfl rfl)
theorem dX2_readsEater_56 : decode cX2_readsEater 56 = .ok (.iconst 0, 1) := dk_3 (dk_at dksX2_readsEater_2 9 rfl rfl)
theorem dX2_readsEater_57 : decode cX2_readsEater 57 = .ok (.ireturn, 1) := dk_172 (dk_at dksX2_readsEater_2 10 rfl rfl)
theorem dX2_readsEater_58 : decode cX2_readsEater 58 = .ok (.aload_n 0, 1) := dk_42 (dk_at dksX2_readsEater_2 11 rfl rfl)
theorem dX2_readsEater_59 : decode cX2_readsEater 59 = .ok (.dup, 1) := dk_89 (dk_at dksX2_readsEater_2 12 rfl rfl)
theorem dX2_readsEater_60 : decode cX2_readsEater 60 = .ok (.getfield 88, 3) := dk_180 0 88 (dk_at dksX2_readsEater_2 13 rfl rfl)
theorem dX2_readsEater_63 : decode cX2_readsEater 63 = .ok (.iconst 1, 1) := dk_4 (dk_at dksX2_readsEater_2 16 rfl rfl)
theorem dX2_readsEater_64 : decode cX2_readsEater 64 = .ok (.iadd, 1) := dk_96 (dk_at dksX2_readsEater_2 17 rfl rfl)
theorem dX2_readsEater_65 : decode cX2_readsEater 65 = .ok (.putfield 88, 3) := dk_181 0 88 (dk_at dksX2_readsEater_2 18 rfl rfl)
theorem dX2_readsEater_68 : decode cX2_readsEater 68 = .ok (.aload_n 0, 1) := dk_42 (dk_at dksX2_readsEater_2 21 rfl rfl)
theorem dX2_readsEater_69 : decode cX2_readsEater 69 = .ok (.iload_n 1, 1) := dk_27 (dk_at dksX2_readsEater_2 22 rfl rfl)
theorem dX2_readsEater_70 : decode cX2_readsEater 70 = .ok (.iload_n 2, 1) := dk_28 (dk_at dksX2_readsEater_2 23 rfl rfl)
theorem dX2_readsEater_71 : decode cX2_readsEater 71 = .ok (.iconst 0, 1) := dk_3 (dk_at dksX2_readsEater_3 0 rfl rfl)
theorem dX2_readsEater_72 : decode cX2_readsEater 72 = .ok (.iconst 5, 1) := dk_8 (dk_at dksX2_readsEater_3 1 rfl rfl)
theorem dX2_readsEater_73 : decode cX2_readsEater 73 = .ok (.invokevirtual 98, 3) := dk_182 0 98 (dk_at dksX2_readsEater_3 2 rfl rfl)
theorem dX2_readsEater_76 : decode cX2_readsEater 76 = .ok (.istore 4, 2) := dk_54 4 (dk_at dksX2_readsEater_3 5 rfl rfl)
theorem dX2_readsEater_78 : decode cX2_readsEater 78 = .ok (.iload 4, 2) := dk_21 4 (dk_at dksX2_readsEater_3 7 rfl rfl)
theorem dX2_readsEater_80 : decode cX2_readsEater 80 = .ok (.ifCond .ge 8, 3) := dk_156 0 8 (dk_at dksX2_readsEater_3 9 rfl rfl)
theorem dX2_readsEater_83 : decode cX2_readsEater 83 = .ok (.bipush (-9), 2) := dk_16 247 (dk_at dksX2_readsEater_3 12 rfl rfl)
theorem dX2_readsEater_85 : decode cX2_readsEater 85 = .ok (.goto 12, 3) := dk_167 0 12 (dk_at dksX2_readsEater_3 14 rfl rfl)
theorem dX2_readsEater_88 : decode cX2_readsEater 88 = .ok (.aload_n 0, 1) := dk_42 (dk_at dksX2_readsEater_3 17 rfl rfl)
theorem dX2_readsEater_89 : decode cX2_readsEater 89 = .ok (.iload_n 1, 1) := dk_27 (dk_at dksX2_readsEater_3 18 rfl rfl)
theorem dX2_readsEater_90 : decode cX2_readsEater 90 = .ok (.iload_n 2, 1) := dk_28 (dk_at dksX2_readsEater_3 19 rfl rfl)
theorem dX2_readsEater_91 : decode cX2_readsEater 91 = .ok (.iconst 1, 1) := dk_4 (dk_at dksX2_readsEater_3 20 rfl rfl)
theorem dX2_readsEater_92 : decode cX2_readsEater 92 = .ok (.bipush 9, 2) := dk_16 9 (dk_at dksX2_readsEater_3 21 rfl rfl)
theorem dX2_readsEater_94 : decode cX2_readsEater 94 = .ok (.invokevirtual 98, 3) := dk_182 0 98 (dk_at dksX2_readsEater_4 0 rfl rfl)
theorem dX2_readsEater_97 : decode cX2_readsEater 97 = .ok (.istore 5, 2) := dk_54 5 (dk_at dksX2_readsEater_4 3 rfl rfl)
theorem dX2_readsEater_99 : decode cX2_readsEater 99 = .ok (.iload 5, 2) := dk_21 5 (dk_at dksX2_readsEater_4 5 rfl rfl)
theorem dX2_readsEater_101 : decode cX2_readsEater 101 = .ok (.ifCond .ge 8, 3) := dk_156 0 8 (dk_at dksX2_readsEater_4 7 rfl rfl)
theorem dX2_readsEater_104 : decode cX2_readsEater 104 = .ok (.bipush (-9), 2) := dk_16 247 (dk_at dksX2_readsEater_4 10 rfl rfl)
theorem dX2_readsEater_106 : decode cX2_readsEater 106 = .ok (.goto 12, 3) := dk_167 0 12 (dk_at dksX2_readsEater_4 12 rfl rfl)
theorem dX2_readsEater_109 : decode cX2_readsEater 109 = .ok (.aload_n 0, 1) := dk_42 (dk_at dksX2_readsEater_4 15 rfl rfl)
theorem dX2_readsEater_110 : decode cX2_readsEater 110 = .ok (.iload_n 1, 1) := dk_27 (dk_at dksX2_readsEater_4 16 rfl rfl)
theorem dX2_readsEater_111 : decode cX2_readsEater 111 = .ok (.iload_n 2, 1) := dk_28 (dk_at dksX2_readsEater_4 17 rfl rfl)
theorem dX2_readsEater_112 : decode cX2_readsEater 112 = .ok (.iconst 0, 1) := dk_3 (dk_at dksX2_readsEater_4 18 rfl rfl)
theorem dX2_readsEater_113 : decode cX2_readsEater 113 = .ok (.bipush 6, 2) := dk_16 6 (dk_at dksX2_readsEater_4 19 rfl rfl)
theorem dX2_readsEater_115 : decode cX2_readsEater 115 = .ok (.invokevirtual 98, 3) := dk_182 0 98 (dk_at dksX2_readsEater_4 21 rfl rfl)
theorem dX2_readsEater_118 : decode cX2_readsEater 118 = .ok (.istore 6, 2) := dk_54 6 (dk_at dksX2_readsEater_5 0 rfl rfl)
theorem dX2_readsEater_120 : decode cX2_readsEater 120 = .ok (.iload 6, 2) := dk_21 6 (dk_at dksX2_readsEater_5 2 rfl rfl)
theorem dX2_readsEater_122 : decode cX2_readsEater 122 = .ok (.ifCond .ge 5, 3) := dk_156 0 5 (dk_at dksX2_readsEater_5 4 rfl rfl)
theorem dX2_readsEater_125 : decode cX2_readsEater 125 = .ok (.iconst 0, 1) := dk_3 (dk_at dksX2_readsEater_5 7 rfl rfl)
theorem dX2_readsEater_126 : decode cX2_readsEater 126 = .ok (.ireturn, 1) := dk_172 (dk_at dksX2_readsEater_5 8 rfl rfl)
theorem dX2_readsEater_127 : decode cX2_readsEater 127 = .ok (.aload_n 0, 1) := dk_42 (dk_at dksX2_readsEater_5 9 rfl rfl)
theorem dX2_readsEater_128 : decode cX2_readsEater 128 = .ok (.getfield 32, 3) := dk_180 0 32 (dk_at dksX2_readsEater_5 10 rfl rfl)
theorem dX2_readsEater_131 : decode cX2_readsEater 131 = .ok (.aload_n 0, 1) := dk_42 (dk_at dksX2_readsEater_5 13 rfl rfl)
theorem dX2_readsEater_132 : decode cX2_readsEater 132 = .ok (.getfield 102, 3) := dk_180 0 102 (dk_at dksX2_readsEater_5 14 rfl rfl)
theorem dX2_readsEater_135 : decode cX2_readsEater 135 = .ok (.iload_n 3, 1) := dk_29 (dk_at dksX2_readsEater_5 17 rfl rfl)
theorem dX2_readsEater_136 : decode cX2_readsEater 136 = .ok (.bipush 101, 2) := dk_16 101 (dk_at dksX2_readsEater_5 18 rfl rfl)
theorem dX2_readsEater_138 : decode cX2_readsEater 138 = .ok (.if_icmp .ne 7, 3) := dk_160 0 7 (dk_at dksX2_readsEater_5 20 rfl rfl)
theorem dX2_readsEater_141 : decode cX2_readsEater 141 = .ok (.iconst 0, 1) := dk_3 (dk_at dksX2_readsEater_5 23 rfl rfl)
theorem dX2_readsEater_142 : decode cX2_readsEater 142 = .ok (.goto 14, 3) := dk_167 0 14 (dk_at dksX2_readsEater_6 0 rfl rfl)
theorem dX2_readsEater_145 : decode cX2_readsEater 145 = .ok (.iload_n 3, 1) := dk_29 (dk_at dksX2_readsEater_6 3 rfl rfl)
theorem dX2_readsEater_146 : decode cX2_readsEater 146 = .ok (.bipush 115, 2) := dk_16 115 (dk_at dksX2_readsEater_6 4 rfl rfl)
theorem dX2_readsEater_148 : decode cX2_readsEater 148 = .ok (.if_icmp .ne 7, 3) := dk_160 0 7 (dk_at dksX2_readsEater_6 6 rfl rfl)
theorem dX2_readsEater_151 : decode cX2_readsEater 151 = .ok (.iconst 1, 1) := dk_4 (dk_at dksX2_readsEater_6 9 rfl rfl)
theorem dX2_readsEater_152 : decode cX2_readsEater 152 = .ok (.goto 4, 3) := dk_167 0 4 (dk_at dksX2_readsEater_6 10 rfl rfl)
theorem dX2_readsEater_155 : decode cX2_readsEater 155 = .ok (.iconst 2, 1) := dk_5 (dk_at dksX2_readsEater_6 13 rfl rfl)
theorem dX2_readsEater_156 : decode cX2_readsEater 156 = .ok (.iastore, 1) := dk_79 (dk_at dksX2_readsEater_6 14 rfl rfl)
theorem dX2_readsEater_157 : decode cX2_readsEater 157 = .ok (.aload_n 0, 1) := dk_42 (dk_at dksX2_readsEater_6 15 rfl rfl)
theorem dX2_readsEater_158 : decode cX2_readsEater 158 = .ok (.getfield 35, 3) := dk_180 0 35 (dk_at dksX2_readsEater_6 16 rfl rfl)
theorem dX2_readsEater_161 : decode cX2_readsEater 161 = .ok (.aload_n 0, 1) := dk_42 (dk_at dksX2_readsEater_6 19 rfl rfl)
theorem dX2_readsEater_162 : decode cX2_readsEater 162 = .ok (.getfield 102, 3) := dk_180 0 102 (dk_at dksX2_readsEater_6 20 rfl rfl)
theorem dX2_readsEater_165 : decode cX2_readsEater 165 = .ok (.iload 4, 2) := dk_21 4 (dk_at dksX2_readsEater_7 0 rfl rfl)
theorem dX2_readsEater_167 : decode cX2_readsEater 167 = .ok (.iastore, 1) := dk_79 (dk_at dksX2_readsEater_7 2 rfl rfl)
theorem dX2_readsEater_168 : decode cX2_readsEater 168 = .ok (.aload_n 0, 1) := dk_42 (dk_at dksX2_readsEater_7 3 rfl rfl)
theorem dX2_readsEater_169 : decode cX2_readsEater 169 = .ok (.getfield 38, 3) := dk_180 0 38 (dk_at dksX2_readsEater_7 4 rfl rfl)
theorem dX2_readsEater_172 : decode cX2_readsEater 172 = .ok (.aload_n 0, 1) := dk_42 (dk_at dksX2_readsEater_7 7 rfl rfl)
theorem dX2_readsEater_173 : decode cX2_readsEater 173 = .ok (.getfield 102, 3) := dk_180 0 102 (dk_at dksX2_readsEater_7 8 rfl rfl)
theorem dX2_readsEater_176 : decode cX2_readsEater 176 = .ok (.iload 5, 2) := dk_21 5 (dk_at dksX2_readsEater_7 11 rfl rfl)
theorem dX2_readsEater_178 : decode cX2_readsEater 178 = .ok (.iastore, 1) := dk_79 (dk_at dksX2_readsEater_7 13 rfl rfl)
theorem dX2_readsEater_179 : decode cX2_readsEater 179 = .ok (.aload_n 0, 1) := dk_42 (dk_at dksX2_readsEater_7 14 rfl rfl)
theorem dX2_readsEater_180 : decode cX2_readsEater 180 = .ok (.getfield 41, 3) := dk_180 0 41 (dk_at dksX2_readsEater_7 15 rfl rfl)
theorem dX2_readsEater_183 : decode cX2_readsEater 183 = .ok (.aload_n 0, 1) := dk_42 (dk_at dksX2_readsEater_7 18 rfl rfl)
theorem dX2_readsEater_184 : decode cX2_readsEater 184 = .ok (.getfield 102, 3) := dk_180 0 102 (dk_at dksX2_readsEater_7 19 rfl rfl)
theorem dX2_readsEater_187 : decode cX2_readsEater 187 = .ok (.iload 6, 2) := dk_21 6 (dk_at dksX2_readsEater_7 22 rfl rfl)
theorem dX2_readsEater_189 : decode cX2_readsEater 189 = .ok (.iastore, 1) := dk_79 (dk_at dksX2_readsEater_8 0 rfl rfl)
theorem dX2_readsEater_190 : decode cX2_readsEater 190 = .ok (.aload_n 0, 1) := dk_42 (dk_at dksX2_readsEater_8 1 rfl rfl)
theorem dX2_readsEater_191 : decode cX2_readsEater 191 = .ok (.dup, 1) := dk_89 (dk_at dksX2_readsEater_8 2 rfl rfl)
theorem dX2_readsEater_192 : decode cX2_readsEater 192 = .ok (.getfield 102, 3) := dk_180 0 102 (dk_at dksX2_readsEater_8 3 rfl rfl)
theorem dX2_readsEater_195 : decode cX2_readsEater 195 = .ok (.iconst 1, 1) := dk_4 (dk_at dksX2_readsEater_8 6 rfl rfl)
theorem dX2_readsEater_196 : decode cX2_readsEater 196 = .ok (.iadd, 1) := dk_96 (dk_at dksX2_readsEater_8 7 rfl rfl)
theorem dX2_readsEater_197 : decode cX2_readsEater 197 = .ok (.putfield 102, 3) := dk_181 0 102 (dk_at dksX2_readsEater_8 8 rfl rfl)
theorem dX2_readsEater_200 : decode cX2_readsEater 200 = .ok (.iconst 1, 1) := dk_4 (dk_at dksX2_readsEater_8 11 rfl rfl)
theorem dX2_readsEater_201 : decode cX2_readsEater 201 = .ok (.ireturn, 1) := dk_172 (dk_at dksX2_readsEater_8 12 rfl rfl)
abbrev cX2_ofEater : ByteArray := prog_8_method_21_code
def yX2_ofEater : MethodName := ⟨RX2, "ofEater", "(II)I"⟩
def dkwX2_ofEater_3 : List UInt8 := [180, 0, 22, 27, 46, 172, 42, 27, 182, 0, 148, 172, 16, 254, 172]
abbrev dktX2_ofEater_3 : List UInt8 := dkwX2_ofEater_3 ++ []
def dkwX2_ofEater_2 : List UInt8 := [42, 180, 0, 13, 27, 46, 172, 42, 180, 0, 16, 27, 46, 172, 42, 180, 0, 19, 27, 46, 172, 42]
abbrev dktX2_ofEater_2 : List UInt8 := dkwX2_ofEater_2 ++ dktX2_ofEater_3
def dkwX2_ofEater_1 : List UInt8 := [170, 0, 0, 0, 67, 0, 0, 0, 0, 0, 0, 0, 4, 0, 0, 0, 33, 0, 0, 0, 40, 0, 0, 0, 47, 0, 0, 0, 54, 0, 0, 0, 61]
abbrev dktX2_ofEater_1 : List UInt8 := dkwX2_ofEater_1 ++ dktX2_ofEater_2
def dkwX2_ofEater_0 : List UInt8 := [42, 27, 182, 0, 145, 153, 0, 5, 2, 172, 28]
abbrev dktX2_ofEater_0 : List UInt8 := dkwX2_ofEater_0 ++ dktX2_ofEater_1
theorem dksX2_ofEater_0 : cX2_ofEater.data.toList.drop 0 = dktX2_ofEater_0 := by decide +kernel
theorem dksX2_ofEater_1 : cX2_ofEater.data.toList.drop 11 = dktX2_ofEater_1 := dk_seg dksX2_ofEater_0 11 rfl rfl
theorem dksX2_ofEater_2 : cX2_ofEater.data.toList.drop 44 = dktX2_ofEater_2 := dk_seg dksX2_ofEater_1 33 rfl rfl
theorem dksX2_ofEater_3 : cX2_ofEater.data.toList.drop 66 = dktX2_ofEater_3 := dk_seg dksX2_ofEater_2 22 rfl rfl
theorem dX2_ofEater_0 : decode cX2_ofEater 0 = .ok (.aload_n 0, 1) := dk_42 (dk_at dksX2_ofEater_0 0 rfl rfl)
theorem dX2_ofEater_1 : decode cX2_ofEater 1 = .ok (.iload_n 1, 1) := dk_27 (dk_at dksX2_ofEater_0 1 rfl rfl)
theorem dX2_ofEater_2 : decode cX2_ofEater 2 = .ok (.invokevirtual 145, 3) := dk_182 0 145 (dk_at dksX2_ofEater_0 2 rfl rfl)
theorem dX2_ofEater_5 : decode cX2_ofEater 5 = .ok (.ifCond .eq 5, 3) := dk_153 0 5 (dk_at dksX2_ofEater_0 5 rfl rfl)
theorem dX2_ofEater_8 : decode cX2_ofEater 8 = .ok (.iconst (-1), 1) := dk_2 (dk_at dksX2_ofEater_0 8 rfl rfl)
theorem dX2_ofEater_9 : decode cX2_ofEater 9 = .ok (.ireturn, 1) := dk_172 (dk_at dksX2_ofEater_0 9 rfl rfl)
theorem dX2_ofEater_10 : decode cX2_ofEater 10 = .ok (.iload_n 2, 1) := dk_28 (dk_at dksX2_ofEater_0 10 rfl rfl)
theorem dX2_ofEater_11 : decode cX2_ofEater 11 = .ok (.tableswitch 67 0 4 #[33, 40, 47, 54, 61], 33) := by decide +kernel
theorem dX2_ofEater_44 : decode cX2_ofEater 44 = .ok (.aload_n 0, 1) := dk_42 (dk_at dksX2_ofEater_2 0 rfl rfl)
theorem dX2_ofEater_45 : decode cX2_ofEater 45 = .ok (.getfield 13, 3) := dk_180 0 13 (dk_at dksX2_ofEater_2 1 rfl rfl)
theorem dX2_ofEater_48 : decode cX2_ofEater 48 = .ok (.iload_n 1, 1) := dk_27 (dk_at dksX2_ofEater_2 4 rfl rfl)
theorem dX2_ofEater_49 : decode cX2_ofEater 49 = .ok (.iaload, 1) := dk_46 (dk_at dksX2_ofEater_2 5 rfl rfl)
theorem dX2_ofEater_50 : decode cX2_ofEater 50 = .ok (.ireturn, 1) := dk_172 (dk_at dksX2_ofEater_2 6 rfl rfl)
theorem dX2_ofEater_51 : decode cX2_ofEater 51 = .ok (.aload_n 0, 1) := dk_42 (dk_at dksX2_ofEater_2 7 rfl rfl)
theorem dX2_ofEater_52 : decode cX2_ofEater 52 = .ok (.getfield 16, 3) := dk_180 0 16 (dk_at dksX2_ofEater_2 8 rfl rfl)
theorem dX2_ofEater_55 : decode cX2_ofEater 55 = .ok (.iload_n 1, 1) := dk_27 (dk_at dksX2_ofEater_2 11 rfl rfl)
theorem dX2_ofEater_56 : decode cX2_ofEater 56 = .ok (.iaload, 1) := dk_46 (dk_at dksX2_ofEater_2 12 rfl rfl)
theorem dX2_ofEater_57 : decode cX2_ofEater 57 = .ok (.ireturn, 1) := dk_172 (dk_at dksX2_ofEater_2 13 rfl rfl)
theorem dX2_ofEater_58 : decode cX2_ofEater 58 = .ok (.aload_n 0, 1) := dk_42 (dk_at dksX2_ofEater_2 14 rfl rfl)
theorem dX2_ofEater_59 : decode cX2_ofEater 59 = .ok (.getfield 19, 3) := dk_180 0 19 (dk_at dksX2_ofEater_2 15 rfl rfl)
theorem dX2_ofEater_62 : decode cX2_ofEater 62 = .ok (.iload_n 1, 1) := dk_27 (dk_at dksX2_ofEater_2 18 rfl rfl)
theorem dX2_ofEater_63 : decode cX2_ofEater 63 = .ok (.iaload, 1) := dk_46 (dk_at dksX2_ofEater_2 19 rfl rfl)
theorem dX2_ofEater_64 : decode cX2_ofEater 64 = .ok (.ireturn, 1) := dk_172 (dk_at dksX2_ofEater_2 20 rfl rfl)
theorem dX2_ofEater_65 : decode cX2_ofEater 65 = .ok (.aload_n 0, 1) := dk_42 (dk_at dksX2_ofEater_2 21 rfl rfl)
theorem dX2_ofEater_66 : decode cX2_ofEater 66 = .ok (.getfield 22, 3) := dk_180 0 22 (dk_at dksX2_ofEater_3 0 rfl rfl)
theorem dX2_ofEater_69 : decode cX2_ofEater 69 = .ok (.iload_n 1, 1) := dk_27 (dk_at dksX2_ofEater_3 3 rfl rfl)
theorem dX2_ofEater_70 : decode cX2_ofEater 70 = .ok (.iaload, 1) := dk_46 (dk_at dksX2_ofEater_3 4 rfl rfl)
theorem dX2_ofEater_71 : decode cX2_ofEater 71 = .ok (.ireturn, 1) := dk_172 (dk_at dksX2_ofEater_3 5 rfl rfl)
theorem dX2_ofEater_72 : decode cX2_ofEater 72 = .ok (.aload_n 0, 1) := dk_42 (dk_at dksX2_ofEater_3 6 rfl rfl)
theorem dX2_ofEater_73 : decode cX2_ofEater 73 = .ok (.iload_n 1, 1) := dk_27 (dk_at dksX2_ofEater_3 7 rfl rfl)
theorem dX2_ofEater_74 : decode cX2_ofEater 74 = .ok (.invokevirtual 148, 3) := dk_182 0 148 (dk_at dksX2_ofEater_3 8 rfl rfl)
theorem dX2_ofEater_77 : decode cX2_ofEater 77 = .ok (.ireturn, 1) := dk_172 (dk_at dksX2_ofEater_3 11 rfl rfl)
theorem dX2_ofEater_78 : decode cX2_ofEater 78 = .ok (.bipush (-2), 2) := dk_16 254 (dk_at dksX2_ofEater_3 12 rfl rfl)
theorem dX2_ofEater_80 : decode cX2_ofEater 80 = .ok (.ireturn, 1) := dk_172 (dk_at dksX2_ofEater_3 14 rfl rfl)
abbrev cX2_noEater : ByteArray := prog_8_method_11_code
def yX2_noEater : MethodName := ⟨RX2, "noEater", "(I)Z"⟩
def dkwX2_noEater_0 : List UInt8 := [27, 133, 9, 42, 180, 0, 85, 133, 10, 101, 184, 0, 81, 154, 0, 7, 4, 167, 0, 4, 3, 172]
abbrev dktX2_noEater_0 : List UInt8 := dkwX2_noEater_0 ++ []
theorem dksX2_noEater_0 : cX2_noEater.data.toList.drop 0 = dktX2_noEater_0 := by decide +kernel
theorem dX2_noEater_0 : decode cX2_noEater 0 = .ok (.iload_n 1, 1) := dk_27 (dk_at dksX2_noEater_0 0 rfl rfl)
theorem dX2_noEater_1 : decode cX2_noEater 1 = .ok (.i2l, 1) := dk_133 (dk_at dksX2_noEater_0 1 rfl rfl)
theorem dX2_noEater_2 : decode cX2_noEater 2 = .ok (.lconst 0, 1) := dk_9 (dk_at dksX2_noEater_0 2 rfl rfl)
theorem dX2_noEater_3 : decode cX2_noEater 3 = .ok (.aload_n 0, 1) := dk_42 (dk_at dksX2_noEater_0 3 rfl rfl)
theorem dX2_noEater_4 : decode cX2_noEater 4 = .ok (.getfield 85, 3) := dk_180 0 85 (dk_at dksX2_noEater_0 4 rfl rfl)
theorem dX2_noEater_7 : decode cX2_noEater 7 = .ok (.i2l, 1) := dk_133 (dk_at dksX2_noEater_0 7 rfl rfl)
theorem dX2_noEater_8 : decode cX2_noEater 8 = .ok (.lconst 1, 1) := dk_10 (dk_at dksX2_noEater_0 8 rfl rfl)
theorem dX2_noEater_9 : decode cX2_noEater 9 = .ok (.lsub, 1) := dk_101 (dk_at dksX2_noEater_0 9 rfl rfl)
theorem dX2_noEater_10 : decode cX2_noEater 10 = .ok (.invokestatic 81, 3) := dk_184 0 81 (dk_at dksX2_noEater_0 10 rfl rfl)
theorem dX2_noEater_13 : decode cX2_noEater 13 = .ok (.ifCond .ne 7, 3) := dk_154 0 7 (dk_at dksX2_noEater_0 13 rfl rfl)
theorem dX2_noEater_16 : decode cX2_noEater 16 = .ok (.iconst 1, 1) := dk_4 (dk_at dksX2_noEater_0 16 rfl rfl)
theorem dX2_noEater_17 : decode cX2_noEater 17 = .ok (.goto 4, 3) := dk_167 0 4 (dk_at dksX2_noEater_0 17 rfl rfl)
theorem dX2_noEater_20 : decode cX2_noEater 20 = .ok (.iconst 0, 1) := dk_3 (dk_at dksX2_noEater_0 20 rfl rfl)
theorem dX2_noEater_21 : decode cX2_noEater 21 = .ok (.ireturn, 1) := dk_172 (dk_at dksX2_noEater_0 21 rfl rfl)
abbrev cX2_lastsOf : ByteArray := prog_8_method_20_code
def yX2_lastsOf : MethodName := ⟨RX2, "lastsOf", "(I)I"⟩
def dkwX2_lastsOf_2 : List UInt8 := [160, 0, 7, 28, 167, 0, 6, 28, 5, 108, 172]
abbrev dktX2_lastsOf_2 : List UInt8 := dkwX2_lastsOf_2 ++ []
def dkwX2_lastsOf_1 : List UInt8 := [180, 0, 13, 27, 46, 154, 0, 12, 42, 180, 0, 16, 27, 46, 167, 0, 20, 42, 180, 0, 13, 27, 46, 4]
abbrev dktX2_lastsOf_1 : List UInt8 := dkwX2_lastsOf_1 ++ dktX2_lastsOf_2
def dkwX2_lastsOf_0 : List UInt8 := [42, 180, 0, 16, 27, 46, 158, 0, 14, 42, 180, 0, 16, 27, 46, 4, 100, 167, 0, 4, 3, 61, 42]
abbrev dktX2_lastsOf_0 : List UInt8 := dkwX2_lastsOf_0 ++ dktX2_lastsOf_1
theorem dksX2_lastsOf_0 : cX2_lastsOf.data.toList.drop 0 = dktX2_lastsOf_0 := by decide +kernel
theorem dksX2_lastsOf_1 : cX2_lastsOf.data.toList.drop 23 = dktX2_lastsOf_1 := dk_seg dksX2_lastsOf_0 23 rfl rfl
theorem dksX2_lastsOf_2 : cX2_lastsOf.data.toList.drop 47 = dktX2_lastsOf_2 := dk_seg dksX2_lastsOf_1 24 rfl rfl
theorem dX2_lastsOf_0 : decode cX2_lastsOf 0 = .ok (.aload_n 0, 1) := dk_42 (dk_at dksX2_lastsOf_0 0 rfl rfl)
theorem dX2_lastsOf_1 : decode cX2_lastsOf 1 = .ok (.getfield 16, 3) := dk_180 0 16 (dk_at dksX2_lastsOf_0 1 rfl rfl)
theorem dX2_lastsOf_4 : decode cX2_lastsOf 4 = .ok (.iload_n 1, 1) := dk_27 (dk_at dksX2_lastsOf_0 4 rfl rfl)
theorem dX2_lastsOf_5 : decode cX2_lastsOf 5 = .ok (.iaload, 1) := dk_46 (dk_at dksX2_lastsOf_0 5 rfl rfl)
theorem dX2_lastsOf_6 : decode cX2_lastsOf 6 = .ok (.ifCond .le 14, 3) := dk_158 0 14 (dk_at dksX2_lastsOf_0 6 rfl rfl)
theorem dX2_lastsOf_9 : decode cX2_lastsOf 9 = .ok (.aload_n 0, 1) := dk_42 (dk_at dksX2_lastsOf_0 9 rfl rfl)
theorem dX2_lastsOf_10 : decode cX2_lastsOf 10 = .ok (.getfield 16, 3) := dk_180 0 16 (dk_at dksX2_lastsOf_0 10 rfl rfl)
theorem dX2_lastsOf_13 : decode cX2_lastsOf 13 = .ok (.iload_n 1, 1) := dk_27 (dk_at dksX2_lastsOf_0 13 rfl rfl)
theorem dX2_lastsOf_14 : decode cX2_lastsOf 14 = .ok (.iaload, 1) := dk_46 (dk_at dksX2_lastsOf_0 14 rfl rfl)
theorem dX2_lastsOf_15 : decode cX2_lastsOf 15 = .ok (.iconst 1, 1) := dk_4 (dk_at dksX2_lastsOf_0 15 rfl rfl)
theorem dX2_lastsOf_16 : decode cX2_lastsOf 16 = .ok (.isub, 1) := dk_100 (dk_at dksX2_lastsOf_0 16 rfl rfl)
theorem dX2_lastsOf_17 : decode cX2_lastsOf 17 = .ok (.goto 4, 3) := dk_167 0 4 (dk_at dksX2_lastsOf_0 17 rfl rfl)
theorem dX2_lastsOf_20 : decode cX2_lastsOf 20 = .ok (.iconst 0, 1) := dk_3 (dk_at dksX2_lastsOf_0 20 rfl rfl)
theorem dX2_lastsOf_21 : decode cX2_lastsOf 21 = .ok (.istore_n 2, 1) := dk_61 (dk_at dksX2_lastsOf_0 21 rfl rfl)
theorem dX2_lastsOf_22 : decode cX2_lastsOf 22 = .ok (.aload_n 0, 1) := dk_42 (dk_at dksX2_lastsOf_0 22 rfl rfl)
theorem dX2_lastsOf_23 : decode cX2_lastsOf 23 = .ok (.getfield 13, 3) := dk_180 0 13 (dk_at dksX2_lastsOf_1 0 rfl rfl)
theorem dX2_lastsOf_26 : decode cX2_lastsOf 26 = .ok (.iload_n 1, 1) := dk_27 (dk_at dksX2_lastsOf_1 3 rfl rfl)
theorem dX2_lastsOf_27 : decode cX2_lastsOf 27 = .ok (.iaload, 1) := dk_46 (dk_at dksX2_lastsOf_1 4 rfl rfl)
theorem dX2_lastsOf_28 : decode cX2_lastsOf 28 = .ok (.ifCond .ne 12, 3) := dk_154 0 12 (dk_at dksX2_lastsOf_1 5 rfl rfl)
theorem dX2_lastsOf_31 : decode cX2_lastsOf 31 = .ok (.aload_n 0, 1) := dk_42 (dk_at dksX2_lastsOf_1 8 rfl rfl)
theorem dX2_lastsOf_32 : decode cX2_lastsOf 32 = .ok (.getfield 16, 3) := dk_180 0 16 (dk_at dksX2_lastsOf_1 9 rfl rfl)
theorem dX2_lastsOf_35 : decode cX2_lastsOf 35 = .ok (.iload_n 1, 1) := dk_27 (dk_at dksX2_lastsOf_1 12 rfl rfl)
theorem dX2_lastsOf_36 : decode cX2_lastsOf 36 = .ok (.iaload, 1) := dk_46 (dk_at dksX2_lastsOf_1 13 rfl rfl)
theorem dX2_lastsOf_37 : decode cX2_lastsOf 37 = .ok (.goto 20, 3) := dk_167 0 20 (dk_at dksX2_lastsOf_1 14 rfl rfl)
theorem dX2_lastsOf_40 : decode cX2_lastsOf 40 = .ok (.aload_n 0, 1) := dk_42 (dk_at dksX2_lastsOf_1 17 rfl rfl)
theorem dX2_lastsOf_41 : decode cX2_lastsOf 41 = .ok (.getfield 13, 3) := dk_180 0 13 (dk_at dksX2_lastsOf_1 18 rfl rfl)
theorem dX2_lastsOf_44 : decode cX2_lastsOf 44 = .ok (.iload_n 1, 1) := dk_27 (dk_at dksX2_lastsOf_1 21 rfl rfl)
theorem dX2_lastsOf_45 : decode cX2_lastsOf 45 = .ok (.iaload, 1) := dk_46 (dk_at dksX2_lastsOf_1 22 rfl rfl)
theorem dX2_lastsOf_46 : decode cX2_lastsOf 46 = .ok (.iconst 1, 1) := dk_4 (dk_at dksX2_lastsOf_1 23 rfl rfl)
theorem dX2_lastsOf_47 : decode cX2_lastsOf 47 = .ok (.if_icmp .ne 7, 3) := dk_160 0 7 (dk_at dksX2_lastsOf_2 0 rfl rfl)
theorem dX2_lastsOf_50 : decode cX2_lastsOf 50 = .ok (.iload_n 2, 1) := dk_28 (dk_at dksX2_lastsOf_2 3 rfl rfl)
theorem dX2_lastsOf_51 : decode cX2_lastsOf 51 = .ok (.goto 6, 3) := dk_167 0 6 (dk_at dksX2_lastsOf_2 4 rfl rfl)
theorem dX2_lastsOf_54 : decode cX2_lastsOf 54 = .ok (.iload_n 2, 1) := dk_28 (dk_at dksX2_lastsOf_2 7 rfl rfl)
theorem dX2_lastsOf_55 : decode cX2_lastsOf 55 = .ok (.iconst 2, 1) := dk_5 (dk_at dksX2_lastsOf_2 8 rfl rfl)
theorem dX2_lastsOf_56 : decode cX2_lastsOf 56 = .ok (.idiv, 1) := dk_108 (dk_at dksX2_lastsOf_2 9 rfl rfl)
theorem dX2_lastsOf_57 : decode cX2_lastsOf 57 = .ok (.ireturn, 1) := dk_172 (dk_at dksX2_lastsOf_2 10 rfl rfl)
abbrev cX2_look : ByteArray := prog_8_method_22_code
def yX2_look : MethodName := ⟨RX2, "look", "(I)I"⟩
def dkwX2_look_0 : List UInt8 := [42, 27, 182, 0, 151, 153, 0, 7, 2, 167, 0, 9, 42, 180, 0, 7, 27, 46, 172]
abbrev dktX2_look_0 : List UInt8 := dkwX2_look_0 ++ []
theorem dksX2_look_0 : cX2_look.data.toList.drop 0 = dktX2_look_0 := by decide +kernel
theorem dX2_look_0 : decode cX2_look 0 = .ok (.aload_n 0, 1) := dk_42 (dk_at dksX2_look_0 0 rfl rfl)
theorem dX2_look_1 : decode cX2_look 1 = .ok (.iload_n 1, 1) := dk_27 (dk_at dksX2_look_0 1 rfl rfl)
theorem dX2_look_2 : decode cX2_look 2 = .ok (.invokevirtual 151, 3) := dk_182 0 151 (dk_at dksX2_look_0 2 rfl rfl)
theorem dX2_look_5 : decode cX2_look 5 = .ok (.ifCond .eq 7, 3) := dk_153 0 7 (dk_at dksX2_look_0 5 rfl rfl)
theorem dX2_look_8 : decode cX2_look 8 = .ok (.iconst (-1), 1) := dk_2 (dk_at dksX2_look_0 8 rfl rfl)
theorem dX2_look_9 : decode cX2_look 9 = .ok (.goto 9, 3) := dk_167 0 9 (dk_at dksX2_look_0 9 rfl rfl)
theorem dX2_look_12 : decode cX2_look 12 = .ok (.aload_n 0, 1) := dk_42 (dk_at dksX2_look_0 12 rfl rfl)
theorem dX2_look_13 : decode cX2_look 13 = .ok (.getfield 7, 3) := dk_180 0 7 (dk_at dksX2_look_0 13 rfl rfl)
theorem dX2_look_16 : decode cX2_look 16 = .ok (.iload_n 1, 1) := dk_27 (dk_at dksX2_look_0 16 rfl rfl)
theorem dX2_look_17 : decode cX2_look 17 = .ok (.iaload, 1) := dk_46 (dk_at dksX2_look_0 17 rfl rfl)
theorem dX2_look_18 : decode cX2_look 18 = .ok (.ireturn, 1) := dk_172 (dk_at dksX2_look_0 18 rfl rfl)
abbrev cX2_noDay : ByteArray := prog_8_method_10_code
def yX2_noDay : MethodName := ⟨RX2, "noDay", "(I)Z"⟩
def dkwX2_noDay_0 : List UInt8 := [27, 133, 9, 42, 180, 0, 78, 133, 10, 101, 184, 0, 81, 154, 0, 7, 4, 167, 0, 4, 3, 172]
abbrev dktX2_noDay_0 : List UInt8 := dkwX2_noDay_0 ++ []
theorem dksX2_noDay_0 : cX2_noDay.data.toList.drop 0 = dktX2_noDay_0 := by decide +kernel
theorem dX2_noDay_0 : decode cX2_noDay 0 = .ok (.iload_n 1, 1) := dk_27 (dk_at dksX2_noDay_0 0 rfl rfl)
theorem dX2_noDay_1 : decode cX2_noDay 1 = .ok (.i2l, 1) := dk_133 (dk_at dksX2_noDay_0 1 rfl rfl)
theorem dX2_noDay_2 : decode cX2_noDay 2 = .ok (.lconst 0, 1) := dk_9 (dk_at dksX2_noDay_0 2 rfl rfl)
theorem dX2_noDay_3 : decode cX2_noDay 3 = .ok (.aload_n 0, 1) := dk_42 (dk_at dksX2_noDay_0 3 rfl rfl)
theorem dX2_noDay_4 : decode cX2_noDay 4 = .ok (.getfield 78, 3) := dk_180 0 78 (dk_at dksX2_noDay_0 4 rfl rfl)
theorem dX2_noDay_7 : decode cX2_noDay 7 = .ok (.i2l, 1) := dk_133 (dk_at dksX2_noDay_0 7 rfl rfl)
theorem dX2_noDay_8 : decode cX2_noDay 8 = .ok (.lconst 1, 1) := dk_10 (dk_at dksX2_noDay_0 8 rfl rfl)
theorem dX2_noDay_9 : decode cX2_noDay 9 = .ok (.lsub, 1) := dk_101 (dk_at dksX2_noDay_0 9 rfl rfl)
theorem dX2_noDay_10 : decode cX2_noDay 10 = .ok (.invokestatic 81, 3) := dk_184 0 81 (dk_at dksX2_noDay_0 10 rfl rfl)
theorem dX2_noDay_13 : decode cX2_noDay 13 = .ok (.ifCond .ne 7, 3) := dk_154 0 7 (dk_at dksX2_noDay_0 13 rfl rfl)
theorem dX2_noDay_16 : decode cX2_noDay 16 = .ok (.iconst 1, 1) := dk_4 (dk_at dksX2_noDay_0 16 rfl rfl)
theorem dX2_noDay_17 : decode cX2_noDay 17 = .ok (.goto 4, 3) := dk_167 0 4 (dk_at dksX2_noDay_0 17 rfl rfl)
theorem dX2_noDay_20 : decode cX2_noDay 20 = .ok (.iconst 0, 1) := dk_3 (dk_at dksX2_noDay_0 20 rfl rfl)
theorem dX2_noDay_21 : decode cX2_noDay 21 = .ok (.ireturn, 1) := dk_172 (dk_at dksX2_noDay_0 21 rfl rfl)
abbrev cX2_pull : ByteArray := prog_8_method_23_code
def yX2_pull : MethodName := ⟨RX2, "pull", "(II)I"⟩
def dkwX2_pull_1 : List UInt8 := [172, 42, 180, 0, 7, 27, 46, 62, 42, 180, 0, 7, 27, 28, 79, 29, 172]
abbrev dktX2_pull_1 : List UInt8 := dkwX2_pull_1 ++ []
def dkwX2_pull_0 : List UInt8 := [42, 27, 182, 0, 151, 153, 0, 5, 2, 172, 28, 133, 9, 20, 0, 154, 184, 0, 81, 154, 0, 6, 16, 254]
abbrev dktX2_pull_0 : List UInt8 := dkwX2_pull_0 ++ dktX2_pull_1
theorem dksX2_pull_0 : cX2_pull.data.toList.drop 0 = dktX2_pull_0 := by decide +kernel
theorem dksX2_pull_1 : cX2_pull.data.toList.drop 24 = dktX2_pull_1 := dk_seg dksX2_pull_0 24 rfl rfl
theorem dX2_pull_0 : decode cX2_pull 0 = .ok (.aload_n 0, 1) := dk_42 (dk_at dksX2_pull_0 0 rfl rfl)
theorem dX2_pull_1 : decode cX2_pull 1 = .ok (.iload_n 1, 1) := dk_27 (dk_at dksX2_pull_0 1 rfl rfl)
theorem dX2_pull_2 : decode cX2_pull 2 = .ok (.invokevirtual 151, 3) := dk_182 0 151 (dk_at dksX2_pull_0 2 rfl rfl)
theorem dX2_pull_5 : decode cX2_pull 5 = .ok (.ifCond .eq 5, 3) := dk_153 0 5 (dk_at dksX2_pull_0 5 rfl rfl)
theorem dX2_pull_8 : decode cX2_pull 8 = .ok (.iconst (-1), 1) := dk_2 (dk_at dksX2_pull_0 8 rfl rfl)
theorem dX2_pull_9 : decode cX2_pull 9 = .ok (.ireturn, 1) := dk_172 (dk_at dksX2_pull_0 9 rfl rfl)
theorem dX2_pull_10 : decode cX2_pull 10 = .ok (.iload_n 2, 1) := dk_28 (dk_at dksX2_pull_0 10 rfl rfl)
theorem dX2_pull_11 : decode cX2_pull 11 = .ok (.i2l, 1) := dk_133 (dk_at dksX2_pull_0 11 rfl rfl)
theorem dX2_pull_12 : decode cX2_pull 12 = .ok (.lconst 0, 1) := dk_9 (dk_at dksX2_pull_0 12 rfl rfl)
theorem dX2_pull_13 : decode cX2_pull 13 = .ok (.ldc2_w 154, 3) := dk_20 0 154 (dk_at dksX2_pull_0 13 rfl rfl)
theorem dX2_pull_16 : decode cX2_pull 16 = .ok (.invokestatic 81, 3) := dk_184 0 81 (dk_at dksX2_pull_0 16 rfl rfl)
theorem dX2_pull_19 : decode cX2_pull 19 = .ok (.ifCond .ne 6, 3) := dk_154 0 6 (dk_at dksX2_pull_0 19 rfl rfl)
theorem dX2_pull_22 : decode cX2_pull 22 = .ok (.bipush (-2), 2) := dk_16 254 (dk_at dksX2_pull_0 22 rfl rfl)
theorem dX2_pull_24 : decode cX2_pull 24 = .ok (.ireturn, 1) := dk_172 (dk_at dksX2_pull_1 0 rfl rfl)
theorem dX2_pull_25 : decode cX2_pull 25 = .ok (.aload_n 0, 1) := dk_42 (dk_at dksX2_pull_1 1 rfl rfl)
theorem dX2_pull_26 : decode cX2_pull 26 = .ok (.getfield 7, 3) := dk_180 0 7 (dk_at dksX2_pull_1 2 rfl rfl)
theorem dX2_pull_29 : decode cX2_pull 29 = .ok (.iload_n 1, 1) := dk_27 (dk_at dksX2_pull_1 5 rfl rfl)
theorem dX2_pull_30 : decode cX2_pull 30 = .ok (.iaload, 1) := dk_46 (dk_at dksX2_pull_1 6 rfl rfl)
theorem dX2_pull_31 : decode cX2_pull 31 = .ok (.istore_n 3, 1) := dk_62 (dk_at dksX2_pull_1 7 rfl rfl)
theorem dX2_pull_32 : decode cX2_pull 32 = .ok (.aload_n 0, 1) := dk_42 (dk_at dksX2_pull_1 8 rfl rfl)
theorem dX2_pull_33 : decode cX2_pull 33 = .ok (.getfield 7, 3) := dk_180 0 7 (dk_at dksX2_pull_1 9 rfl rfl)
theorem dX2_pull_36 : decode cX2_pull 36 = .ok (.iload_n 1, 1) := dk_27 (dk_at dksX2_pull_1 12 rfl rfl)
theorem dX2_pull_37 : decode cX2_pull 37 = .ok (.iload_n 2, 1) := dk_28 (dk_at dksX2_pull_1 13 rfl rfl)
theorem dX2_pull_38 : decode cX2_pull 38 = .ok (.iastore, 1) := dk_79 (dk_at dksX2_pull_1 14 rfl rfl)
theorem dX2_pull_39 : decode cX2_pull 39 = .ok (.iload_n 3, 1) := dk_29 (dk_at dksX2_pull_1 15 rfl rfl)
theorem dX2_pull_40 : decode cX2_pull 40 = .ok (.ireturn, 1) := dk_172 (dk_at dksX2_pull_1 16 rfl rfl)
abbrev cX2_sour : ByteArray := prog_8_method_24_code
def yX2_sour : MethodName := ⟨RX2, "sour", "(I)I"⟩
def dkwX2_sour_1 : List UInt8 := [172, 42, 180, 0, 139, 61, 42, 27, 181, 0, 139, 28, 172]
abbrev dktX2_sour_1 : List UInt8 := dkwX2_sour_1 ++ []
def dkwX2_sour_0 : List UInt8 := [27, 133, 9, 20, 0, 154, 184, 0, 81, 154, 0, 6, 16, 254, 172, 42, 180, 0, 85, 154, 0, 6, 16, 253]
abbrev dktX2_sour_0 : List UInt8 := dkwX2_sour_0 ++ dktX2_sour_1
theorem dksX2_sour_0 : cX2_sour.data.toList.drop 0 = dktX2_sour_0 := by decide +kernel
theorem dksX2_sour_1 : cX2_sour.data.toList.drop 24 = dktX2_sour_1 := dk_seg dksX2_sour_0 24 rfl rfl
theorem dX2_sour_0 : decode cX2_sour 0 = .ok (.iload_n 1, 1) := dk_27 (dk_at dksX2_sour_0 0 rfl rfl)
theorem dX2_sour_1 : decode cX2_sour 1 = .ok (.i2l, 1) := dk_133 (dk_at dksX2_sour_0 1 rfl rfl)
theorem dX2_sour_2 : decode cX2_sour 2 = .ok (.lconst 0, 1) := dk_9 (dk_at dksX2_sour_0 2 rfl rfl)
theorem dX2_sour_3 : decode cX2_sour 3 = .ok (.ldc2_w 154, 3) := dk_20 0 154 (dk_at dksX2_sour_0 3 rfl rfl)
theorem dX2_sour_6 : decode cX2_sour 6 = .ok (.invokestatic 81, 3) := dk_184 0 81 (dk_at dksX2_sour_0 6 rfl rfl)
theorem dX2_sour_9 : decode cX2_sour 9 = .ok (.ifCond .ne 6, 3) := dk_154 0 6 (dk_at dksX2_sour_0 9 rfl rfl)
theorem dX2_sour_12 : decode cX2_sour 12 = .ok (.bipush (-2), 2) := dk_16 254 (dk_at dksX2_sour_0 12 rfl rfl)
theorem dX2_sour_14 : decode cX2_sour 14 = .ok (.ireturn, 1) := dk_172 (dk_at dksX2_sour_0 14 rfl rfl)
theorem dX2_sour_15 : decode cX2_sour 15 = .ok (.aload_n 0, 1) := dk_42 (dk_at dksX2_sour_0 15 rfl rfl)
theorem dX2_sour_16 : decode cX2_sour 16 = .ok (.getfield 85, 3) := dk_180 0 85 (dk_at dksX2_sour_0 16 rfl rfl)
theorem dX2_sour_19 : decode cX2_sour 19 = .ok (.ifCond .ne 6, 3) := dk_154 0 6 (dk_at dksX2_sour_0 19 rfl rfl)
theorem dX2_sour_22 : decode cX2_sour 22 = .ok (.bipush (-3), 2) := dk_16 253 (dk_at dksX2_sour_0 22 rfl rfl)
theorem dX2_sour_24 : decode cX2_sour 24 = .ok (.ireturn, 1) := dk_172 (dk_at dksX2_sour_1 0 rfl rfl)
theorem dX2_sour_25 : decode cX2_sour 25 = .ok (.aload_n 0, 1) := dk_42 (dk_at dksX2_sour_1 1 rfl rfl)
theorem dX2_sour_26 : decode cX2_sour 26 = .ok (.getfield 139, 3) := dk_180 0 139 (dk_at dksX2_sour_1 2 rfl rfl)
theorem dX2_sour_29 : decode cX2_sour 29 = .ok (.istore_n 2, 1) := dk_61 (dk_at dksX2_sour_1 5 rfl rfl)
theorem dX2_sour_30 : decode cX2_sour 30 = .ok (.aload_n 0, 1) := dk_42 (dk_at dksX2_sour_1 6 rfl rfl)
theorem dX2_sour_31 : decode cX2_sour 31 = .ok (.iload_n 1, 1) := dk_27 (dk_at dksX2_sour_1 7 rfl rfl)
theorem dX2_sour_32 : decode cX2_sour 32 = .ok (.putfield 139, 3) := dk_181 0 139 (dk_at dksX2_sour_1 8 rfl rfl)
theorem dX2_sour_35 : decode cX2_sour 35 = .ok (.iload_n 2, 1) := dk_28 (dk_at dksX2_sour_1 11 rfl rfl)
theorem dX2_sour_36 : decode cX2_sour 36 = .ok (.ireturn, 1) := dk_172 (dk_at dksX2_sour_1 12 rfl rfl)
abbrev cX2_crave : ByteArray := prog_8_method_25_code
def yX2_crave : MethodName := ⟨RX2, "crave", "(II)I"⟩
def dkwX2_crave_1 : List UInt8 := [172, 42, 180, 0, 22, 27, 46, 62, 42, 180, 0, 22, 27, 28, 79, 29, 172]
abbrev dktX2_crave_1 : List UInt8 := dkwX2_crave_1 ++ []
def dkwX2_crave_0 : List UInt8 := [42, 27, 182, 0, 145, 153, 0, 5, 2, 172, 28, 133, 9, 20, 0, 156, 184, 0, 81, 154, 0, 6, 16, 254]
abbrev dktX2_crave_0 : List UInt8 := dkwX2_crave_0 ++ dktX2_crave_1
theorem dksX2_crave_0 : cX2_crave.data.toList.drop 0 = dktX2_crave_0 := by decide +kernel
theorem dksX2_crave_1 : cX2_crave.data.toList.drop 24 = dktX2_crave_1 := dk_seg dksX2_crave_0 24 rfl rfl
theorem dX2_crave_0 : decode cX2_crave 0 = .ok (.aload_n 0, 1) := dk_42 (dk_at dksX2_crave_0 0 rfl rfl)
theorem dX2_crave_1 : decode cX2_crave 1 = .ok (.iload_n 1, 1) := dk_27 (dk_at dksX2_crave_0 1 rfl rfl)
theorem dX2_crave_2 : decode cX2_crave 2 = .ok (.invokevirtual 145, 3) := dk_182 0 145 (dk_at dksX2_crave_0 2 rfl rfl)
theorem dX2_crave_5 : decode cX2_crave 5 = .ok (.ifCond .eq 5, 3) := dk_153 0 5 (dk_at dksX2_crave_0 5 rfl rfl)
theorem dX2_crave_8 : decode cX2_crave 8 = .ok (.iconst (-1), 1) := dk_2 (dk_at dksX2_crave_0 8 rfl rfl)
theorem dX2_crave_9 : decode cX2_crave 9 = .ok (.ireturn, 1) := dk_172 (dk_at dksX2_crave_0 9 rfl rfl)
theorem dX2_crave_10 : decode cX2_crave 10 = .ok (.iload_n 2, 1) := dk_28 (dk_at dksX2_crave_0 10 rfl rfl)
theorem dX2_crave_11 : decode cX2_crave 11 = .ok (.i2l, 1) := dk_133 (dk_at dksX2_crave_0 11 rfl rfl)
theorem dX2_crave_12 : decode cX2_crave 12 = .ok (.lconst 0, 1) := dk_9 (dk_at dksX2_crave_0 12 rfl rfl)
theorem dX2_crave_13 : decode cX2_crave 13 = .ok (.ldc2_w 156, 3) := dk_20 0 156 (dk_at dksX2_crave_0 13 rfl rfl)
theorem dX2_crave_16 : decode cX2_crave 16 = .ok (.invokestatic 81, 3) := dk_184 0 81 (dk_at dksX2_crave_0 16 rfl rfl)
theorem dX2_crave_19 : decode cX2_crave 19 = .ok (.ifCond .ne 6, 3) := dk_154 0 6 (dk_at dksX2_crave_0 19 rfl rfl)
theorem dX2_crave_22 : decode cX2_crave 22 = .ok (.bipush (-2), 2) := dk_16 254 (dk_at dksX2_crave_0 22 rfl rfl)
theorem dX2_crave_24 : decode cX2_crave 24 = .ok (.ireturn, 1) := dk_172 (dk_at dksX2_crave_1 0 rfl rfl)
theorem dX2_crave_25 : decode cX2_crave 25 = .ok (.aload_n 0, 1) := dk_42 (dk_at dksX2_crave_1 1 rfl rfl)
theorem dX2_crave_26 : decode cX2_crave 26 = .ok (.getfield 22, 3) := dk_180 0 22 (dk_at dksX2_crave_1 2 rfl rfl)
theorem dX2_crave_29 : decode cX2_crave 29 = .ok (.iload_n 1, 1) := dk_27 (dk_at dksX2_crave_1 5 rfl rfl)
theorem dX2_crave_30 : decode cX2_crave 30 = .ok (.iaload, 1) := dk_46 (dk_at dksX2_crave_1 6 rfl rfl)
theorem dX2_crave_31 : decode cX2_crave 31 = .ok (.istore_n 3, 1) := dk_62 (dk_at dksX2_crave_1 7 rfl rfl)
theorem dX2_crave_32 : decode cX2_crave 32 = .ok (.aload_n 0, 1) := dk_42 (dk_at dksX2_crave_1 8 rfl rfl)
theorem dX2_crave_33 : decode cX2_crave 33 = .ok (.getfield 22, 3) := dk_180 0 22 (dk_at dksX2_crave_1 9 rfl rfl)
theorem dX2_crave_36 : decode cX2_crave 36 = .ok (.iload_n 1, 1) := dk_27 (dk_at dksX2_crave_1 12 rfl rfl)
theorem dX2_crave_37 : decode cX2_crave 37 = .ok (.iload_n 2, 1) := dk_28 (dk_at dksX2_crave_1 13 rfl rfl)
theorem dX2_crave_38 : decode cX2_crave 38 = .ok (.iastore, 1) := dk_79 (dk_at dksX2_crave_1 14 rfl rfl)
theorem dX2_crave_39 : decode cX2_crave 39 = .ok (.iload_n 3, 1) := dk_29 (dk_at dksX2_crave_1 15 rfl rfl)
theorem dX2_crave_40 : decode cX2_crave 40 = .ok (.ireturn, 1) := dk_172 (dk_at dksX2_crave_1 16 rfl rfl)
abbrev cX2_fasts : ByteArray := prog_8_method_30_code
def yX2_fasts : MethodName := ⟨RX2, "fasts", "()I"⟩
def dkwX2_fasts_0 : List UInt8 := [42, 180, 0, 85, 154, 0, 8, 16, 253, 167, 0, 7, 42, 182, 0, 164, 172]
abbrev dktX2_fasts_0 : List UInt8 := dkwX2_fasts_0 ++ []
theorem dksX2_fasts_0 : cX2_fasts.data.toList.drop 0 = dktX2_fasts_0 := by decide +kernel
theorem dX2_fasts_0 : decode cX2_fasts 0 = .ok (.aload_n 0, 1) := dk_42 (dk_at dksX2_fasts_0 0 rfl rfl)
theorem dX2_fasts_1 : decode cX2_fasts 1 = .ok (.getfield 85, 3) := dk_180 0 85 (dk_at dksX2_fasts_0 1 rfl rfl)
theorem dX2_fasts_4 : decode cX2_fasts 4 = .ok (.ifCond .ne 8, 3) := dk_154 0 8 (dk_at dksX2_fasts_0 4 rfl rfl)
theorem dX2_fasts_7 : decode cX2_fasts 7 = .ok (.bipush (-3), 2) := dk_16 253 (dk_at dksX2_fasts_0 7 rfl rfl)
theorem dX2_fasts_9 : decode cX2_fasts 9 = .ok (.goto 7, 3) := dk_167 0 7 (dk_at dksX2_fasts_0 9 rfl rfl)
theorem dX2_fasts_12 : decode cX2_fasts 12 = .ok (.aload_n 0, 1) := dk_42 (dk_at dksX2_fasts_0 12 rfl rfl)
theorem dX2_fasts_13 : decode cX2_fasts 13 = .ok (.invokevirtual 164, 3) := dk_182 0 164 (dk_at dksX2_fasts_0 13 rfl rfl)
theorem dX2_fasts_16 : decode cX2_fasts 16 = .ok (.ireturn, 1) := dk_172 (dk_at dksX2_fasts_0 16 rfl rfl)
abbrev cX2_fastsNow : ByteArray := prog_8_method_26_code
def yX2_fastsNow : MethodName := ⟨RX2, "fastsNow", "()I"⟩
def dkwX2_fastsNow_2 : List UInt8 := [167, 255, 214, 27, 172]
abbrev dktX2_fastsNow_2 : List UInt8 := dkwX2_fastsNow_2 ++ []
def dkwX2_fastsNow_1 : List UInt8 := [161, 0, 17, 28, 42, 180, 0, 25, 159, 0, 9, 4, 28, 120, 167, 0, 4, 3, 128, 60, 132, 2, 1]
abbrev dktX2_fastsNow_1 : List UInt8 := dkwX2_fastsNow_1 ++ dktX2_fastsNow_2
def dkwX2_fastsNow_0 : List UInt8 := [3, 60, 3, 61, 28, 42, 180, 0, 78, 162, 0, 40, 27, 42, 180, 0, 7, 28, 46, 42, 180, 0, 139]
abbrev dktX2_fastsNow_0 : List UInt8 := dkwX2_fastsNow_0 ++ dktX2_fastsNow_1
theorem dksX2_fastsNow_0 : cX2_fastsNow.data.toList.drop 0 = dktX2_fastsNow_0 := by decide +kernel
theorem dksX2_fastsNow_1 : cX2_fastsNow.data.toList.drop 23 = dktX2_fastsNow_1 := dk_seg dksX2_fastsNow_0 23 rfl rfl
theorem dksX2_fastsNow_2 : cX2_fastsNow.data.toList.drop 46 = dktX2_fastsNow_2 := dk_seg dksX2_fastsNow_1 23 rfl rfl
theorem dX2_fastsNow_0 : decode cX2_fastsNow 0 = .ok (.iconst 0, 1) := dk_3 (dk_at dksX2_fastsNow_0 0 rfl rfl)
theorem dX2_fastsNow_1 : decode cX2_fastsNow 1 = .ok (.istore_n 1, 1) := dk_60 (dk_at dksX2_fastsNow_0 1 rfl rfl)
theorem dX2_fastsNow_2 : decode cX2_fastsNow 2 = .ok (.iconst 0, 1) := dk_3 (dk_at dksX2_fastsNow_0 2 rfl rfl)
theorem dX2_fastsNow_3 : decode cX2_fastsNow 3 = .ok (.istore_n 2, 1) := dk_61 (dk_at dksX2_fastsNow_0 3 rfl rfl)
theorem dX2_fastsNow_4 : decode cX2_fastsNow 4 = .ok (.iload_n 2, 1) := dk_28 (dk_at dksX2_fastsNow_0 4 rfl rfl)
theorem dX2_fastsNow_5 : decode cX2_fastsNow 5 = .ok (.aload_n 0, 1) := dk_42 (dk_at dksX2_fastsNow_0 5 rfl rfl)
theorem dX2_fastsNow_6 : decode cX2_fastsNow 6 = .ok (.getfield 78, 3) := dk_180 0 78 (dk_at dksX2_fastsNow_0 6 rfl rfl)
theorem dX2_fastsNow_9 : decode cX2_fastsNow 9 = .ok (.if_icmp .ge 40, 3) := dk_162 0 40 (dk_at dksX2_fastsNow_0 9 rfl rfl)
theorem dX2_fastsNow_12 : decode cX2_fastsNow 12 = .ok (.iload_n 1, 1) := dk_27 (dk_at dksX2_fastsNow_0 12 rfl rfl)
theorem dX2_fastsNow_13 : decode cX2_fastsNow 13 = .ok (.aload_n 0, 1) := dk_42 (dk_at dksX2_fastsNow_0 13 rfl rfl)
theorem dX2_fastsNow_14 : decode cX2_fastsNow 14 = .ok (.getfield 7, 3) := dk_180 0 7 (dk_at dksX2_fastsNow_0 14 rfl rfl)
theorem dX2_fastsNow_17 : decode cX2_fastsNow 17 = .ok (.iload_n 2, 1) := dk_28 (dk_at dksX2_fastsNow_0 17 rfl rfl)
theorem dX2_fastsNow_18 : decode cX2_fastsNow 18 = .ok (.iaload, 1) := dk_46 (dk_at dksX2_fastsNow_0 18 rfl rfl)
theorem dX2_fastsNow_19 : decode cX2_fastsNow 19 = .ok (.aload_n 0, 1) := dk_42 (dk_at dksX2_fastsNow_0 19 rfl rfl)
theorem dX2_fastsNow_20 : decode cX2_fastsNow 20 = .ok (.getfield 139, 3) := dk_180 0 139 (dk_at dksX2_fastsNow_0 20 rfl rfl)
theorem dX2_fastsNow_23 : decode cX2_fastsNow 23 = .ok (.if_icmp .lt 17, 3) := dk_161 0 17 (dk_at dksX2_fastsNow_1 0 rfl rfl)
theorem dX2_fastsNow_26 : decode cX2_fastsNow 26 = .ok (.iload_n 2, 1) := dk_28 (dk_at dksX2_fastsNow_1 3 rfl rfl)
theorem dX2_fastsNow_27 : decode cX2_fastsNow 27 = .ok (.aload_n 0, 1) := dk_42 (dk_at dksX2_fastsNow_1 4 rfl rfl)
theorem dX2_fastsNow_28 : decode cX2_fastsNow 28 = .ok (.getfield 25, 3) := dk_180 0 25 (dk_at dksX2_fastsNow_1 5 rfl rfl)
theorem dX2_fastsNow_31 : decode cX2_fastsNow 31 = .ok (.if_icmp .eq 9, 3) := dk_159 0 9 (dk_at dksX2_fastsNow_1 8 rfl rfl)
theorem dX2_fastsNow_34 : decode cX2_fastsNow 34 = .ok (.iconst 1, 1) := dk_4 (dk_at dksX2_fastsNow_1 11 rfl rfl)
theorem dX2_fastsNow_35 : decode cX2_fastsNow 35 = .ok (.iload_n 2, 1) := dk_28 (dk_at dksX2_fastsNow_1 12 rfl rfl)
theorem dX2_fastsNow_36 : decode cX2_fastsNow 36 = .ok (.ishl, 1) := dk_120 (dk_at dksX2_fastsNow_1 13 rfl rfl)
theorem dX2_fastsNow_37 : decode cX2_fastsNow 37 = .ok (.goto 4, 3) := dk_167 0 4 (dk_at dksX2_fastsNow_1 14 rfl rfl)
theorem dX2_fastsNow_40 : decode cX2_fastsNow 40 = .ok (.iconst 0, 1) := dk_3 (dk_at dksX2_fastsNow_1 17 rfl rfl)
theorem dX2_fastsNow_41 : decode cX2_fastsNow 41 = .ok (.ior, 1) := dk_128 (dk_at dksX2_fastsNow_1 18 rfl rfl)
theorem dX2_fastsNow_42 : decode cX2_fastsNow 42 = .ok (.istore_n 1, 1) := dk_60 (dk_at dksX2_fastsNow_1 19 rfl rfl)
theorem dX2_fastsNow_43 : decode cX2_fastsNow 43 = .ok (.iinc 2 1, 3) := dk_132 2 1 (dk_at dksX2_fastsNow_1 20 rfl rfl)
theorem dX2_fastsNow_46 : decode cX2_fastsNow 46 = .ok (.goto (-42), 3) := dk_167 255 214 (dk_at dksX2_fastsNow_2 0 rfl rfl)
theorem dX2_fastsNow_49 : decode cX2_fastsNow 49 = .ok (.iload_n 1, 1) := dk_27 (dk_at dksX2_fastsNow_2 3 rfl rfl)
theorem dX2_fastsNow_50 : decode cX2_fastsNow 50 = .ok (.ireturn, 1) := dk_172 (dk_at dksX2_fastsNow_2 4 rfl rfl)
abbrev cX2_yellow : ByteArray := prog_8_method_31_code
def yX2_yellow : MethodName := ⟨RX2, "yellow", "(II)I"⟩
def dkwX2_yellow_1 : List UInt8 := [27, 28, 182, 0, 161, 172]
abbrev dktX2_yellow_1 : List UInt8 := dkwX2_yellow_1 ++ []
def dkwX2_yellow_0 : List UInt8 := [42, 27, 182, 0, 145, 153, 0, 5, 2, 172, 42, 28, 182, 0, 174, 153, 0, 8, 16, 254, 167, 0, 9, 42]
abbrev dktX2_yellow_0 : List UInt8 := dkwX2_yellow_0 ++ dktX2_yellow_1
theorem dksX2_yellow_0 : cX2_yellow.data.toList.drop 0 = dktX2_yellow_0 := by decide +kernel
theorem dksX2_yellow_1 : cX2_yellow.data.toList.drop 24 = dktX2_yellow_1 := dk_seg dksX2_yellow_0 24 rfl rfl
theorem dX2_yellow_0 : decode cX2_yellow 0 = .ok (.aload_n 0, 1) := dk_42 (dk_at dksX2_yellow_0 0 rfl rfl)
theorem dX2_yellow_1 : decode cX2_yellow 1 = .ok (.iload_n 1, 1) := dk_27 (dk_at dksX2_yellow_0 1 rfl rfl)
theorem dX2_yellow_2 : decode cX2_yellow 2 = .ok (.invokevirtual 145, 3) := dk_182 0 145 (dk_at dksX2_yellow_0 2 rfl rfl)
theorem dX2_yellow_5 : decode cX2_yellow 5 = .ok (.ifCond .eq 5, 3) := dk_153 0 5 (dk_at dksX2_yellow_0 5 rfl rfl)
theorem dX2_yellow_8 : decode cX2_yellow 8 = .ok (.iconst (-1), 1) := dk_2 (dk_at dksX2_yellow_0 8 rfl rfl)
theorem dX2_yellow_9 : decode cX2_yellow 9 = .ok (.ireturn, 1) := dk_172 (dk_at dksX2_yellow_0 9 rfl rfl)
theorem dX2_yellow_10 : decode cX2_yellow 10 = .ok (.aload_n 0, 1) := dk_42 (dk_at dksX2_yellow_0 10 rfl rfl)
theorem dX2_yellow_11 : decode cX2_yellow 11 = .ok (.iload_n 2, 1) := dk_28 (dk_at dksX2_yellow_0 11 rfl rfl)
theorem dX2_yellow_12 : decode cX2_yellow 12 = .ok (.invokevirtual 174, 3) := dk_182 0 174 (dk_at dksX2_yellow_0 12 rfl rfl)
theorem dX2_yellow_15 : decode cX2_yellow 15 = .ok (.ifCond .eq 8, 3) := dk_153 0 8 (dk_at dksX2_yellow_0 15 rfl rfl)
theorem dX2_yellow_18 : decode cX2_yellow 18 = .ok (.bipush (-2), 2) := dk_16 254 (dk_at dksX2_yellow_0 18 rfl rfl)
theorem dX2_yellow_20 : decode cX2_yellow 20 = .ok (.goto 9, 3) := dk_167 0 9 (dk_at dksX2_yellow_0 20 rfl rfl)
theorem dX2_yellow_23 : decode cX2_yellow 23 = .ok (.aload_n 0, 1) := dk_42 (dk_at dksX2_yellow_0 23 rfl rfl)
theorem dX2_yellow_24 : decode cX2_yellow 24 = .ok (.iload_n 1, 1) := dk_27 (dk_at dksX2_yellow_1 0 rfl rfl)
theorem dX2_yellow_25 : decode cX2_yellow 25 = .ok (.iload_n 2, 1) := dk_28 (dk_at dksX2_yellow_1 1 rfl rfl)
theorem dX2_yellow_26 : decode cX2_yellow 26 = .ok (.invokevirtual 161, 3) := dk_182 0 161 (dk_at dksX2_yellow_1 2 rfl rfl)
theorem dX2_yellow_29 : decode cX2_yellow 29 = .ok (.ireturn, 1) := dk_172 (dk_at dksX2_yellow_1 5 rfl rfl)
abbrev cX2_noSet : ByteArray := prog_8_method_12_code
def yX2_noSet : MethodName := ⟨RX2, "noSet", "(I)Z"⟩
def dkwX2_noSet_0 : List UInt8 := [27, 133, 9, 4, 42, 180, 0, 78, 120, 133, 10, 101, 184, 0, 81, 154, 0, 7, 4, 167, 0, 4, 3, 172]
abbrev dktX2_noSet_0 : List UInt8 := dkwX2_noSet_0 ++ []
theorem dksX2_noSet_0 : cX2_noSet.data.toList.drop 0 = dktX2_noSet_0 := by decide +kernel
theorem dX2_noSet_0 : decode cX2_noSet 0 = .ok (.iload_n 1, 1) := dk_27 (dk_at dksX2_noSet_0 0 rfl rfl)
theorem dX2_noSet_1 : decode cX2_noSet 1 = .ok (.i2l, 1) := dk_133 (dk_at dksX2_noSet_0 1 rfl rfl)
theorem dX2_noSet_2 : decode cX2_noSet 2 = .ok (.lconst 0, 1) := dk_9 (dk_at dksX2_noSet_0 2 rfl rfl)
theorem dX2_noSet_3 : decode cX2_noSet 3 = .ok (.iconst 1, 1) := dk_4 (dk_at dksX2_noSet_0 3 rfl rfl)
theorem dX2_noSet_4 : decode cX2_noSet 4 = .ok (.aload_n 0, 1) := dk_42 (dk_at dksX2_noSet_0 4 rfl rfl)
theorem dX2_noSet_5 : decode cX2_noSet 5 = .ok (.getfield 78, 3) := dk_180 0 78 (dk_at dksX2_noSet_0 5 rfl rfl)
theorem dX2_noSet_8 : decode cX2_noSet 8 = .ok (.ishl, 1) := dk_120 (dk_at dksX2_noSet_0 8 rfl rfl)
theorem dX2_noSet_9 : decode cX2_noSet 9 = .ok (.i2l, 1) := dk_133 (dk_at dksX2_noSet_0 9 rfl rfl)
theorem dX2_noSet_10 : decode cX2_noSet 10 = .ok (.lconst 1, 1) := dk_10 (dk_at dksX2_noSet_0 10 rfl rfl)
theorem dX2_noSet_11 : decode cX2_noSet 11 = .ok (.lsub, 1) := dk_101 (dk_at dksX2_noSet_0 11 rfl rfl)
theorem dX2_noSet_12 : decode cX2_noSet 12 = .ok (.invokestatic 81, 3) := dk_184 0 81 (dk_at dksX2_noSet_0 12 rfl rfl)
theorem dX2_noSet_15 : decode cX2_noSet 15 = .ok (.ifCond .ne 7, 3) := dk_154 0 7 (dk_at dksX2_noSet_0 15 rfl rfl)
theorem dX2_noSet_18 : decode cX2_noSet 18 = .ok (.iconst 1, 1) := dk_4 (dk_at dksX2_noSet_0 18 rfl rfl)
theorem dX2_noSet_19 : decode cX2_noSet 19 = .ok (.goto 4, 3) := dk_167 0 4 (dk_at dksX2_noSet_0 19 rfl rfl)
theorem dX2_noSet_22 : decode cX2_noSet 22 = .ok (.iconst 0, 1) := dk_3 (dk_at dksX2_noSet_0 22 rfl rfl)
theorem dX2_noSet_23 : decode cX2_noSet 23 = .ok (.ireturn, 1) := dk_172 (dk_at dksX2_noSet_0 23 rfl rfl)
abbrev cX2_yellowBy : ByteArray := prog_8_method_27_code
def yX2_yellowBy : MethodName := ⟨RX2, "yellowBy", "(II)I"⟩
def dkwX2_yellowBy_3 : List UInt8 := [132, 5, 1, 167, 255, 195, 29, 172]
abbrev dktX2_yellowBy_3 : List UInt8 := dkwX2_yellowBy_3 ++ []
def dkwX2_yellowBy_2 : List UInt8 := [21, 5, 184, 0, 158, 153, 0, 10, 4, 21, 6, 120, 167, 0, 4, 3, 128, 62, 132, 6, 1, 167, 255, 214]
abbrev dktX2_yellowBy_2 : List UInt8 := dkwX2_yellowBy_2 ++ dktX2_yellowBy_3
def dkwX2_yellowBy_1 : List UInt8 := [54, 6, 21, 6, 42, 180, 0, 78, 162, 0, 39, 21, 6, 21, 5, 21, 4, 96, 163, 0, 29, 29, 28]
abbrev dktX2_yellowBy_1 : List UInt8 := dkwX2_yellowBy_1 ++ dktX2_yellowBy_2
def dkwX2_yellowBy_0 : List UInt8 := [3, 62, 42, 27, 182, 0, 148, 54, 4, 3, 54, 5, 21, 5, 42, 180, 0, 78, 162, 0, 58, 21, 5]
abbrev dktX2_yellowBy_0 : List UInt8 := dkwX2_yellowBy_0 ++ dktX2_yellowBy_1
theorem dksX2_yellowBy_0 : cX2_yellowBy.data.toList.drop 0 = dktX2_yellowBy_0 := by decide +kernel
theorem dksX2_yellowBy_1 : cX2_yellowBy.data.toList.drop 23 = dktX2_yellowBy_1 := dk_seg dksX2_yellowBy_0 23 rfl rfl
theorem dksX2_yellowBy_2 : cX2_yellowBy.data.toList.drop 46 = dktX2_yellowBy_2 := dk_seg dksX2_yellowBy_1 23 rfl rfl
theorem dksX2_yellowBy_3 : cX2_yellowBy.data.toList.drop 70 = dktX2_yellowBy_3 := dk_seg dksX2_yellowBy_2 24 rfl rfl
theorem dX2_yellowBy_0 : decode cX2_yellowBy 0 = .ok (.iconst 0, 1) := dk_3 (dk_at dksX2_yellowBy_0 0 rfl rfl)
theorem dX2_yellowBy_1 : decode cX2_yellowBy 1 = .ok (.istore_n 3, 1) := dk_62 (dk_at dksX2_yellowBy_0 1 rfl rfl)
theorem dX2_yellowBy_2 : decode cX2_yellowBy 2 = .ok (.aload_n 0, 1) := dk_42 (dk_at dksX2_yellowBy_0 2 rfl rfl)
theorem dX2_yellowBy_3 : decode cX2_yellowBy 3 = .ok (.iload_n 1, 1) := dk_27 (dk_at dksX2_yellowBy_0 3 rfl rfl)
theorem dX2_yellowBy_4 : decode cX2_yellowBy 4 = .ok (.invokevirtual 148, 3) := dk_182 0 148 (dk_at dksX2_yellowBy_0 4 rfl rfl)
theorem dX2_yellowBy_7 : decode cX2_yellowBy 7 = .ok (.istore 4, 2) := dk_54 4 (dk_at dksX2_yellowBy_0 7 rfl rfl)
theorem dX2_yellowBy_9 : decode cX2_yellowBy 9 = .ok (.iconst 0, 1) := dk_3 (dk_at dksX2_yellowBy_0 9 rfl rfl)
theorem dX2_yellowBy_10 : decode cX2_yellowBy 10 = .ok (.istore 5, 2) := dk_54 5 (dk_at dksX2_yellowBy_0 10 rfl rfl)
theorem dX2_yellowBy_12 : decode cX2_yellowBy 12 = .ok (.iload 5, 2) := dk_21 5 (dk_at dksX2_yellowBy_0 12 rfl rfl)
theorem dX2_yellowBy_14 : decode cX2_yellowBy 14 = .ok (.aload_n 0, 1) := dk_42 (dk_at dksX2_yellowBy_0 14 rfl rfl)
theorem dX2_yellowBy_15 : decode cX2_yellowBy 15 = .ok (.getfield 78, 3) := dk_180 0 78 (dk_at dksX2_yellowBy_0 15 rfl rfl)
theorem dX2_yellowBy_18 : decode cX2_yellowBy 18 = .ok (.if_icmp .ge 58, 3) := dk_162 0 58 (dk_at dksX2_yellowBy_0 18 rfl rfl)
theorem dX2_yellowBy_21 : decode cX2_yellowBy 21 = .ok (.iload 5, 2) := dk_21 5 (dk_at dksX2_yellowBy_0 21 rfl rfl)
theorem dX2_yellowBy_23 : decode cX2_yellowBy 23 = .ok (.istore 6, 2) := dk_54 6 (dk_at dksX2_yellowBy_1 0 rfl rfl)
theorem dX2_yellowBy_25 : decode cX2_yellowBy 25 = .ok (.iload 6, 2) := dk_21 6 (dk_at dksX2_yellowBy_1 2 rfl rfl)
theorem dX2_yellowBy_27 : decode cX2_yellowBy 27 = .ok (.aload_n 0, 1) := dk_42 (dk_at dksX2_yellowBy_1 4 rfl rfl)
theorem dX2_yellowBy_28 : decode cX2_yellowBy 28 = .ok (.getfield 78, 3) := dk_180 0 78 (dk_at dksX2_yellowBy_1 5 rfl rfl)
theorem dX2_yellowBy_31 : decode cX2_yellowBy 31 = .ok (.if_icmp .ge 39, 3) := dk_162 0 39 (dk_at dksX2_yellowBy_1 8 rfl rfl)
theorem dX2_yellowBy_34 : decode cX2_yellowBy 34 = .ok (.iload 6, 2) := dk_21 6 (dk_at dksX2_yellowBy_1 11 rfl rfl)
theorem dX2_yellowBy_36 : decode cX2_yellowBy 36 = .ok (.iload 5, 2) := dk_21 5 (dk_at dksX2_yellowBy_1 13 rfl rfl)
theorem dX2_yellowBy_38 : decode cX2_yellowBy 38 = .ok (.iload 4, 2) := dk_21 4 (dk_at dksX2_yellowBy_1 15 rfl rfl)
theorem dX2_yellowBy_40 : decode cX2_yellowBy 40 = .ok (.iadd, 1) := dk_96 (dk_at dksX2_yellowBy_1 17 rfl rfl)
theorem dX2_yellowBy_41 : decode cX2_yellowBy 41 = .ok (.if_icmp .gt 29, 3) := dk_163 0 29 (dk_at dksX2_yellowBy_1 18 rfl rfl)
theorem dX2_yellowBy_44 : decode cX2_yellowBy 44 = .ok (.iload_n 3, 1) := dk_29 (dk_at dksX2_yellowBy_1 21 rfl rfl)
theorem dX2_yellowBy_45 : decode cX2_yellowBy 45 = .ok (.iload_n 2, 1) := dk_28 (dk_at dksX2_yellowBy_1 22 rfl rfl)
theorem dX2_yellowBy_46 : decode cX2_yellowBy 46 = .ok (.iload 5, 2) := dk_21 5 (dk_at dksX2_yellowBy_2 0 rfl rfl)
theorem dX2_yellowBy_48 : decode cX2_yellowBy 48 = .ok (.invokestatic 158, 3) := dk_184 0 158 (dk_at dksX2_yellowBy_2 2 rfl rfl)
theorem dX2_yellowBy_51 : decode cX2_yellowBy 51 = .ok (.ifCond .eq 10, 3) := dk_153 0 10 (dk_at dksX2_yellowBy_2 5 rfl rfl)
theorem dX2_yellowBy_54 : decode cX2_yellowBy 54 = .ok (.iconst 1, 1) := dk_4 (dk_at dksX2_yellowBy_2 8 rfl rfl)
theorem dX2_yellowBy_55 : decode cX2_yellowBy 55 = .ok (.iload 6, 2) := dk_21 6 (dk_at dksX2_yellowBy_2 9 rfl rfl)
theorem dX2_yellowBy_57 : decode cX2_yellowBy 57 = .ok (.ishl, 1) := dk_120 (dk_at dksX2_yellowBy_2 11 rfl rfl)
theorem dX2_yellowBy_58 : decode cX2_yellowBy 58 = .ok (.goto 4, 3) := dk_167 0 4 (dk_at dksX2_yellowBy_2 12 rfl rfl)
theorem dX2_yellowBy_61 : decode cX2_yellowBy 61 = .ok (.iconst 0, 1) := dk_3 (dk_at dksX2_yellowBy_2 15 rfl rfl)
theorem dX2_yellowBy_62 : decode cX2_yellowBy 62 = .ok (.ior, 1) := dk_128 (dk_at dksX2_yellowBy_2 16 rfl rfl)
theorem dX2_yellowBy_63 : decode cX2_yellowBy 63 = .ok (.istore_n 3, 1) := dk_62 (dk_at dksX2_yellowBy_2 17 rfl rfl)
theorem dX2_yellowBy_64 : decode cX2_yellowBy 64 = .ok (.iinc 6 1, 3) := dk_132 6 1 (dk_at dksX2_yellowBy_2 18 rfl rfl)
theorem dX2_yellowBy_67 : decode cX2_yellowBy 67 = .ok (.goto (-42), 3) := dk_167 255 214 (dk_at dksX2_yellowBy_2 21 rfl rfl)
theorem dX2_yellowBy_70 : decode cX2_yellowBy 70 = .ok (.iinc 5 1, 3) := dk_132 5 1 (dk_at dksX2_yellowBy_3 0 rfl rfl)
theorem dX2_yellowBy_73 : decode cX2_yellowBy 73 = .ok (.goto (-61), 3) := dk_167 255 195 (dk_at dksX2_yellowBy_3 3 rfl rfl)
theorem dX2_yellowBy_76 : decode cX2_yellowBy 76 = .ok (.iload_n 3, 1) := dk_29 (dk_at dksX2_yellowBy_3 6 rfl rfl)
theorem dX2_yellowBy_77 : decode cX2_yellowBy 77 = .ok (.ireturn, 1) := dk_172 (dk_at dksX2_yellowBy_3 7 rfl rfl)
abbrev cX2_isIn : ByteArray := prog_8_method_4_code
def yX2_isIn : MethodName := ⟨RX2, "isIn", "(II)Z"⟩
def dkwX2_isIn_0 : List UInt8 := [26, 27, 122, 4, 126, 4, 160, 0, 7, 4, 167, 0, 4, 3, 172]
abbrev dktX2_isIn_0 : List UInt8 := dkwX2_isIn_0 ++ []
theorem dksX2_isIn_0 : cX2_isIn.data.toList.drop 0 = dktX2_isIn_0 := by decide +kernel
theorem dX2_isIn_0 : decode cX2_isIn 0 = .ok (.iload_n 0, 1) := dk_26 (dk_at dksX2_isIn_0 0 rfl rfl)
theorem dX2_isIn_1 : decode cX2_isIn 1 = .ok (.iload_n 1, 1) := dk_27 (dk_at dksX2_isIn_0 1 rfl rfl)
theorem dX2_isIn_2 : decode cX2_isIn 2 = .ok (.ishr, 1) := dk_122 (dk_at dksX2_isIn_0 2 rfl rfl)
theorem dX2_isIn_3 : decode cX2_isIn 3 = .ok (.iconst 1, 1) := dk_4 (dk_at dksX2_isIn_0 3 rfl rfl)
theorem dX2_isIn_4 : decode cX2_isIn 4 = .ok (.iand, 1) := dk_126 (dk_at dksX2_isIn_0 4 rfl rfl)
theorem dX2_isIn_5 : decode cX2_isIn 5 = .ok (.iconst 1, 1) := dk_4 (dk_at dksX2_isIn_0 5 rfl rfl)
theorem dX2_isIn_6 : decode cX2_isIn 6 = .ok (.if_icmp .ne 7, 3) := dk_160 0 7 (dk_at dksX2_isIn_0 6 rfl rfl)
theorem dX2_isIn_9 : decode cX2_isIn 9 = .ok (.iconst 1, 1) := dk_4 (dk_at dksX2_isIn_0 9 rfl rfl)
theorem dX2_isIn_10 : decode cX2_isIn 10 = .ok (.goto 4, 3) := dk_167 0 4 (dk_at dksX2_isIn_0 10 rfl rfl)
theorem dX2_isIn_13 : decode cX2_isIn 13 = .ok (.iconst 0, 1) := dk_3 (dk_at dksX2_isIn_0 13 rfl rfl)
theorem dX2_isIn_14 : decode cX2_isIn 14 = .ok (.ireturn, 1) := dk_172 (dk_at dksX2_isIn_0 14 rfl rfl)
abbrev cX2_found : ByteArray := prog_8_method_32_code
def yX2_found : MethodName := ⟨RX2, "found", "(III)I"⟩
def dkwX2_found_2 : List UInt8 := [28, 182, 0, 177, 172]
abbrev dktX2_found_2 : List UInt8 := dkwX2_found_2 ++ []
def dkwX2_found_1 : List UInt8 := [184, 0, 81, 154, 0, 6, 16, 254, 172, 29, 154, 0, 12, 42, 27, 28, 182, 0, 168, 167, 0, 9, 42, 27]
abbrev dktX2_found_1 : List UInt8 := dkwX2_found_1 ++ dktX2_found_2
def dkwX2_found_0 : List UInt8 := [42, 27, 182, 0, 145, 153, 0, 5, 2, 172, 42, 28, 182, 0, 174, 154, 0, 13, 29, 133, 9, 10]
abbrev dktX2_found_0 : List UInt8 := dkwX2_found_0 ++ dktX2_found_1
theorem dksX2_found_0 : cX2_found.data.toList.drop 0 = dktX2_found_0 := by decide +kernel
theorem dksX2_found_1 : cX2_found.data.toList.drop 22 = dktX2_found_1 := dk_seg dksX2_found_0 22 rfl rfl
theorem dksX2_found_2 : cX2_found.data.toList.drop 46 = dktX2_found_2 := dk_seg dksX2_found_1 24 rfl rfl
theorem dX2_found_0 : decode cX2_found 0 = .ok (.aload_n 0, 1) := dk_42 (dk_at dksX2_found_0 0 rfl rfl)
theorem dX2_found_1 : decode cX2_found 1 = .ok (.iload_n 1, 1) := dk_27 (dk_at dksX2_found_0 1 rfl rfl)
theorem dX2_found_2 : decode cX2_found 2 = .ok (.invokevirtual 145, 3) := dk_182 0 145 (dk_at dksX2_found_0 2 rfl rfl)
theorem dX2_found_5 : decode cX2_found 5 = .ok (.ifCond .eq 5, 3) := dk_153 0 5 (dk_at dksX2_found_0 5 rfl rfl)
theorem dX2_found_8 : decode cX2_found 8 = .ok (.iconst (-1), 1) := dk_2 (dk_at dksX2_found_0 8 rfl rfl)
theorem dX2_found_9 : decode cX2_found 9 = .ok (.ireturn, 1) := dk_172 (dk_at dksX2_found_0 9 rfl rfl)
theorem dX2_found_10 : decode cX2_found 10 = .ok (.aload_n 0, 1) := dk_42 (dk_at dksX2_found_0 10 rfl rfl)
theorem dX2_found_11 : decode cX2_found 11 = .ok (.iload_n 2, 1) := dk_28 (dk_at dksX2_found_0 11 rfl rfl)
theorem dX2_found_12 : decode cX2_found 12 = .ok (.invokevirtual 174, 3) := dk_182 0 174 (dk_at dksX2_found_0 12 rfl rfl)
theorem dX2_found_15 : decode cX2_found 15 = .ok (.ifCond .ne 13, 3) := dk_154 0 13 (dk_at dksX2_found_0 15 rfl rfl)
theorem dX2_found_18 : decode cX2_found 18 = .ok (.iload_n 3, 1) := dk_29 (dk_at dksX2_found_0 18 rfl rfl)
theorem dX2_found_19 : decode cX2_found 19 = .ok (.i2l, 1) := dk_133 (dk_at dksX2_found_0 19 rfl rfl)
theorem dX2_found_20 : decode cX2_found 20 = .ok (.lconst 0, 1) := dk_9 (dk_at dksX2_found_0 20 rfl rfl)
theorem dX2_found_21 : decode cX2_found 21 = .ok (.lconst 1, 1) := dk_10 (dk_at dksX2_found_0 21 rfl rfl)
theorem dX2_found_22 : decode cX2_found 22 = .ok (.invokestatic 81, 3) := dk_184 0 81 (dk_at dksX2_found_1 0 rfl rfl)
theorem dX2_found_25 : decode cX2_found 25 = .ok (.ifCond .ne 6, 3) := dk_154 0 6 (dk_at dksX2_found_1 3 rfl rfl)
theorem dX2_found_28 : decode cX2_found 28 = .ok (.bipush (-2), 2) := dk_16 254 (dk_at dksX2_found_1 6 rfl rfl)
theorem dX2_found_30 : decode cX2_found 30 = .ok (.ireturn, 1) := dk_172 (dk_at dksX2_found_1 8 rfl rfl)
theorem dX2_found_31 : decode cX2_found 31 = .ok (.iload_n 3, 1) := dk_29 (dk_at dksX2_found_1 9 rfl rfl)
theorem dX2_found_32 : decode cX2_found 32 = .ok (.ifCond .ne 12, 3) := dk_154 0 12 (dk_at dksX2_found_1 10 rfl rfl)
theorem dX2_found_35 : decode cX2_found 35 = .ok (.aload_n 0, 1) := dk_42 (dk_at dksX2_found_1 13 rfl rfl)
theorem dX2_found_36 : decode cX2_found 36 = .ok (.iload_n 1, 1) := dk_27 (dk_at dksX2_found_1 14 rfl rfl)
theorem dX2_found_37 : decode cX2_found 37 = .ok (.iload_n 2, 1) := dk_28 (dk_at dksX2_found_1 15 rfl rfl)
theorem dX2_found_38 : decode cX2_found 38 = .ok (.invokevirtual 168, 3) := dk_182 0 168 (dk_at dksX2_found_1 16 rfl rfl)
theorem dX2_found_41 : decode cX2_found 41 = .ok (.goto 9, 3) := dk_167 0 9 (dk_at dksX2_found_1 19 rfl rfl)
theorem dX2_found_44 : decode cX2_found 44 = .ok (.aload_n 0, 1) := dk_42 (dk_at dksX2_found_1 22 rfl rfl)
theorem dX2_found_45 : decode cX2_found 45 = .ok (.iload_n 1, 1) := dk_27 (dk_at dksX2_found_1 23 rfl rfl)
theorem dX2_found_46 : decode cX2_found 46 = .ok (.iload_n 2, 1) := dk_28 (dk_at dksX2_found_2 0 rfl rfl)
theorem dX2_found_47 : decode cX2_found 47 = .ok (.invokevirtual 177, 3) := dk_182 0 177 (dk_at dksX2_found_2 1 rfl rfl)
theorem dX2_found_50 : decode cX2_found 50 = .ok (.ireturn, 1) := dk_172 (dk_at dksX2_found_2 4 rfl rfl)
abbrev cX2_foundBy : ByteArray := prog_8_method_28_code
def yX2_foundBy : MethodName := ⟨RX2, "foundBy", "(II)I"⟩
def dkwX2_foundBy_0 : List UInt8 := [42, 27, 28, 182, 0, 161, 42, 182, 0, 164, 126, 172]
abbrev dktX2_foundBy_0 : List UInt8 := dkwX2_foundBy_0 ++ []
theorem dksX2_foundBy_0 : cX2_foundBy.data.toList.drop 0 = dktX2_foundBy_0 := by decide +kernel
theorem dX2_foundBy_0 : decode cX2_foundBy 0 = .ok (.aload_n 0, 1) := dk_42 (dk_at dksX2_foundBy_0 0 rfl rfl)
theorem dX2_foundBy_1 : decode cX2_foundBy 1 = .ok (.iload_n 1, 1) := dk_27 (dk_at dksX2_foundBy_0 1 rfl rfl)
theorem dX2_foundBy_2 : decode cX2_foundBy 2 = .ok (.iload_n 2, 1) := dk_28 (dk_at dksX2_foundBy_0 2 rfl rfl)
theorem dX2_foundBy_3 : decode cX2_foundBy 3 = .ok (.invokevirtual 161, 3) := dk_182 0 161 (dk_at dksX2_foundBy_0 3 rfl rfl)
theorem dX2_foundBy_6 : decode cX2_foundBy 6 = .ok (.aload_n 0, 1) := dk_42 (dk_at dksX2_foundBy_0 6 rfl rfl)
theorem dX2_foundBy_7 : decode cX2_foundBy 7 = .ok (.invokevirtual 164, 3) := dk_182 0 164 (dk_at dksX2_foundBy_0 7 rfl rfl)
theorem dX2_foundBy_10 : decode cX2_foundBy 10 = .ok (.iand, 1) := dk_126 (dk_at dksX2_foundBy_0 10 rfl rfl)
theorem dX2_foundBy_11 : decode cX2_foundBy 11 = .ok (.ireturn, 1) := dk_172 (dk_at dksX2_foundBy_0 11 rfl rfl)
abbrev cX2_fineOf : ByteArray := prog_8_method_29_code
def yX2_fineOf : MethodName := ⟨RX2, "fineOf", "(II)I"⟩
def dkwX2_fineOf_0 : List UInt8 := [42, 180, 0, 19, 27, 46, 42, 27, 28, 182, 0, 168, 184, 0, 171, 104, 172]
abbrev dktX2_fineOf_0 : List UInt8 := dkwX2_fineOf_0 ++ []
theorem dksX2_fineOf_0 : cX2_fineOf.data.toList.drop 0 = dktX2_fineOf_0 := by decide +kernel
theorem dX2_fineOf_0 : decode cX2_fineOf 0 = .ok (.aload_n 0, 1) := dk_42 (dk_at dksX2_fineOf_0 0 rfl rfl)
theorem dX2_fineOf_1 : decode cX2_fineOf 1 = .ok (.getfield 19, 3) := dk_180 0 19 (dk_at dksX2_fineOf_0 1 rfl rfl)
theorem dX2_fineOf_4 : decode cX2_fineOf 4 = .ok (.iload_n 1, 1) := dk_27 (dk_at dksX2_fineOf_0 4 rfl rfl)
theorem dX2_fineOf_5 : decode cX2_fineOf 5 = .ok (.iaload, 1) := dk_46 (dk_at dksX2_fineOf_0 5 rfl rfl)
theorem dX2_fineOf_6 : decode cX2_fineOf 6 = .ok (.aload_n 0, 1) := dk_42 (dk_at dksX2_fineOf_0 6 rfl rfl)
theorem dX2_fineOf_7 : decode cX2_fineOf 7 = .ok (.iload_n 1, 1) := dk_27 (dk_at dksX2_fineOf_0 7 rfl rfl)
theorem dX2_fineOf_8 : decode cX2_fineOf 8 = .ok (.iload_n 2, 1) := dk_28 (dk_at dksX2_fineOf_0 8 rfl rfl)
theorem dX2_fineOf_9 : decode cX2_fineOf 9 = .ok (.invokevirtual 168, 3) := dk_182 0 168 (dk_at dksX2_fineOf_0 9 rfl rfl)
theorem dX2_fineOf_12 : decode cX2_fineOf 12 = .ok (.invokestatic 171, 3) := dk_184 0 171 (dk_at dksX2_fineOf_0 12 rfl rfl)
theorem dX2_fineOf_15 : decode cX2_fineOf 15 = .ok (.imul, 1) := dk_104 (dk_at dksX2_fineOf_0 15 rfl rfl)
theorem dX2_fineOf_16 : decode cX2_fineOf 16 = .ok (.ireturn, 1) := dk_172 (dk_at dksX2_fineOf_0 16 rfl rfl)
abbrev cX2_bits : ByteArray := prog_8_method_5_code
def yX2_bits : MethodName := ⟨RX2, "bits", "(I)I"⟩
def dkwX2_bits_0 : List UInt8 := [3, 60, 26, 61, 28, 158, 0, 16, 27, 28, 4, 126, 96, 60, 28, 4, 122, 61, 167, 255, 242, 27, 172]
abbrev dktX2_bits_0 : List UInt8 := dkwX2_bits_0 ++ []
theorem dksX2_bits_0 : cX2_bits.data.toList.drop 0 = dktX2_bits_0 := by decide +kernel
theorem dX2_bits_0 : decode cX2_bits 0 = .ok (.iconst 0, 1) := dk_3 (dk_at dksX2_bits_0 0 rfl rfl)
theorem dX2_bits_1 : decode cX2_bits 1 = .ok (.istore_n 1, 1) := dk_60 (dk_at dksX2_bits_0 1 rfl rfl)
theorem dX2_bits_2 : decode cX2_bits 2 = .ok (.iload_n 0, 1) := dk_26 (dk_at dksX2_bits_0 2 rfl rfl)
theorem dX2_bits_3 : decode cX2_bits 3 = .ok (.istore_n 2, 1) := dk_61 (dk_at dksX2_bits_0 3 rfl rfl)
theorem dX2_bits_4 : decode cX2_bits 4 = .ok (.iload_n 2, 1) := dk_28 (dk_at dksX2_bits_0 4 rfl rfl)
theorem dX2_bits_5 : decode cX2_bits 5 = .ok (.ifCond .le 16, 3) := dk_158 0 16 (dk_at dksX2_bits_0 5 rfl rfl)
theorem dX2_bits_8 : decode cX2_bits 8 = .ok (.iload_n 1, 1) := dk_27 (dk_at dksX2_bits_0 8 rfl rfl)
theorem dX2_bits_9 : decode cX2_bits 9 = .ok (.iload_n 2, 1) := dk_28 (dk_at dksX2_bits_0 9 rfl rfl)
theorem dX2_bits_10 : decode cX2_bits 10 = .ok (.iconst 1, 1) := dk_4 (dk_at dksX2_bits_0 10 rfl rfl)
theorem dX2_bits_11 : decode cX2_bits 11 = .ok (.iand, 1) := dk_126 (dk_at dksX2_bits_0 11 rfl rfl)
theorem dX2_bits_12 : decode cX2_bits 12 = .ok (.iadd, 1) := dk_96 (dk_at dksX2_bits_0 12 rfl rfl)
theorem dX2_bits_13 : decode cX2_bits 13 = .ok (.istore_n 1, 1) := dk_60 (dk_at dksX2_bits_0 13 rfl rfl)
theorem dX2_bits_14 : decode cX2_bits 14 = .ok (.iload_n 2, 1) := dk_28 (dk_at dksX2_bits_0 14 rfl rfl)
theorem dX2_bits_15 : decode cX2_bits 15 = .ok (.iconst 1, 1) := dk_4 (dk_at dksX2_bits_0 15 rfl rfl)
theorem dX2_bits_16 : decode cX2_bits 16 = .ok (.ishr, 1) := dk_122 (dk_at dksX2_bits_0 16 rfl rfl)
theorem dX2_bits_17 : decode cX2_bits 17 = .ok (.istore_n 2, 1) := dk_61 (dk_at dksX2_bits_0 17 rfl rfl)
theorem dX2_bits_18 : decode cX2_bits 18 = .ok (.goto (-14), 3) := dk_167 255 242 (dk_at dksX2_bits_0 18 rfl rfl)
theorem dX2_bits_21 : decode cX2_bits 21 = .ok (.iload_n 1, 1) := dk_27 (dk_at dksX2_bits_0 21 rfl rfl)
theorem dX2_bits_22 : decode cX2_bits 22 = .ok (.ireturn, 1) := dk_172 (dk_at dksX2_bits_0 22 rfl rfl)
abbrev cX2_plan : ByteArray := prog_8_method_34_code
def yX2_plan : MethodName := ⟨RX2, "plan", "(IIIII)I"⟩
def dkwX2_plan_7 : List UInt8 := [167, 255, 218, 42, 42, 16, 60, 27, 104, 29, 96, 21, 5, 182, 0, 186, 182, 0, 127, 172]
abbrev dktX2_plan_7 : List UInt8 := dkwX2_plan_7 ++ []
def dkwX2_plan_6 : List UInt8 := [104, 29, 96, 21, 8, 96, 46, 182, 0, 174, 153, 0, 10, 42, 16, 254, 182, 0, 127, 172, 132, 8, 1]
abbrev dktX2_plan_6 : List UInt8 := dkwX2_plan_6 ++ dktX2_plan_7
def dkwX2_plan_5 : List UInt8 := [16, 254, 182, 0, 127, 172, 3, 54, 8, 21, 8, 21, 4, 162, 0, 37, 42, 42, 180, 0, 63, 16, 60, 27]
abbrev dktX2_plan_5 : List UInt8 := dkwX2_plan_5 ++ dktX2_plan_6
def dkwX2_plan_4 : List UInt8 := [133, 182, 0, 132, 54, 7, 21, 7, 156, 0, 6, 21, 7, 172, 21, 4, 42, 180, 0, 85, 159, 0, 10, 42]
abbrev dktX2_plan_4 : List UInt8 := dkwX2_plan_4 ++ dktX2_plan_5
def dkwX2_plan_3 : List UInt8 := [182, 0, 127, 172, 42, 180, 0, 85, 154, 0, 10, 42, 16, 253, 182, 0, 127, 172, 42, 27, 28, 29, 21, 4]
abbrev dktX2_plan_3 : List UInt8 := dkwX2_plan_3 ++ dktX2_plan_4
def dkwX2_plan_2 : List UInt8 := [54, 6, 28, 133, 9, 20, 0, 130, 184, 0, 81, 153, 0, 8, 21, 6, 154, 0, 10, 42, 16, 254]
abbrev dktX2_plan_2 : List UInt8 := dkwX2_plan_2 ++ dktX2_plan_3
def dkwX2_plan_1 : List UInt8 := [154, 0, 18, 21, 5, 133, 20, 0, 182, 20, 0, 184, 184, 0, 81, 153, 0, 7, 4, 167, 0, 4, 3]
abbrev dktX2_plan_1 : List UInt8 := dkwX2_plan_1 ++ dktX2_plan_2
def dkwX2_plan_0 : List UInt8 := [27, 184, 0, 123, 153, 0, 9, 42, 2, 182, 0, 127, 172, 21, 5, 133, 9, 20, 0, 180, 184, 0, 81]
abbrev dktX2_plan_0 : List UInt8 := dkwX2_plan_0 ++ dktX2_plan_1
theorem dksX2_plan_0 : cX2_plan.data.toList.drop 0 = dktX2_plan_0 := by decide +kernel
theorem dksX2_plan_1 : cX2_plan.data.toList.drop 23 = dktX2_plan_1 := dk_seg dksX2_plan_0 23 rfl rfl
theorem dksX2_plan_2 : cX2_plan.data.toList.drop 46 = dktX2_plan_2 := dk_seg dksX2_plan_1 23 rfl rfl
theorem dksX2_plan_3 : cX2_plan.data.toList.drop 68 = dktX2_plan_3 := dk_seg dksX2_plan_2 22 rfl rfl
theorem dksX2_plan_4 : cX2_plan.data.toList.drop 92 = dktX2_plan_4 := dk_seg dksX2_plan_3 24 rfl rfl
theorem dksX2_plan_5 : cX2_plan.data.toList.drop 116 = dktX2_plan_5 := dk_seg dksX2_plan_4 24 rfl rfl
theorem dksX2_plan_6 : cX2_plan.data.toList.drop 140 = dktX2_plan_6 := dk_seg dksX2_plan_5 24 rfl rfl
theorem dksX2_plan_7 : cX2_plan.data.toList.drop 163 = dktX2_plan_7 := dk_seg dksX2_plan_6 23 rfl rfl
theorem dX2_plan_0 : decode cX2_plan 0 = .ok (.iload_n 1, 1) := dk_27 (dk_at dksX2_plan_0 0 rfl rfl)
theorem dX2_plan_1 : decode cX2_plan 1 = .ok (.invokestatic 123, 3) := dk_184 0 123 (dk_at dksX2_plan_0 1 rfl rfl)
theorem dX2_plan_4 : decode cX2_plan 4 = .ok (.ifCond .eq 9, 3) := dk_153 0 9 (dk_at dksX2_plan_0 4 rfl rfl)
theorem dX2_plan_7 : decode cX2_plan 7 = .ok (.aload_n 0, 1) := dk_42 (dk_at dksX2_plan_0 7 rfl rfl)
theorem dX2_plan_8 : decode cX2_plan 8 = .ok (.iconst (-1), 1) := dk_2 (dk_at dksX2_plan_0 8 rfl rfl)
theorem dX2_plan_9 : decode cX2_plan 9 = .ok (.invokevirtual 127, 3) := dk_182 0 127 (dk_at dksX2_plan_0 9 rfl rfl)
theorem dX2_plan_12 : decode cX2_plan 12 = .ok (.ireturn, 1) := dk_172 (dk_at dksX2_plan_0 12 rfl rfl)
theorem dX2_plan_13 : decode cX2_plan 13 = .ok (.iload 5, 2) := dk_21 5 (dk_at dksX2_plan_0 13 rfl rfl)
theorem dX2_plan_15 : decode cX2_plan 15 = .ok (.i2l, 1) := dk_133 (dk_at dksX2_plan_0 15 rfl rfl)
theorem dX2_plan_16 : decode cX2_plan 16 = .ok (.lconst 0, 1) := dk_9 (dk_at dksX2_plan_0 16 rfl rfl)
theorem dX2_plan_17 : decode cX2_plan 17 = .ok (.ldc2_w 180, 3) := dk_20 0 180 (dk_at dksX2_plan_0 17 rfl rfl)
theorem dX2_plan_20 : decode cX2_plan 20 = .ok (.invokestatic 81, 3) := dk_184 0 81 (dk_at dksX2_plan_0 20 rfl rfl)
theorem dX2_plan_23 : decode cX2_plan 23 = .ok (.ifCond .ne 18, 3) := dk_154 0 18 (dk_at dksX2_plan_1 0 rfl rfl)
theorem dX2_plan_26 : decode cX2_plan 26 = .ok (.iload 5, 2) := dk_21 5 (dk_at dksX2_plan_1 3 rfl rfl)
theorem dX2_plan_28 : decode cX2_plan 28 = .ok (.i2l, 1) := dk_133 (dk_at dksX2_plan_1 5 rfl rfl)
theorem dX2_plan_29 : decode cX2_plan 29 = .ok (.ldc2_w 182, 3) := dk_20 0 182 (dk_at dksX2_plan_1 6 rfl rfl)
theorem dX2_plan_32 : decode cX2_plan 32 = .ok (.ldc2_w 184, 3) := dk_20 0 184 (dk_at dksX2_plan_1 9 rfl rfl)
theorem dX2_plan_35 : decode cX2_plan 35 = .ok (.invokestatic 81, 3) := dk_184 0 81 (dk_at dksX2_plan_1 12 rfl rfl)
theorem dX2_plan_38 : decode cX2_plan 38 = .ok (.ifCond .eq 7, 3) := dk_153 0 7 (dk_at dksX2_plan_1 15 rfl rfl)
theorem dX2_plan_41 : decode cX2_plan 41 = .ok (.iconst 1, 1) := dk_4 (dk_at dksX2_plan_1 18 rfl rfl)
theorem dX2_plan_42 : decode cX2_plan 42 = .ok (.goto 4, 3) := dk_167 0 4 (dk_at dksX2_plan_1 19 rfl rfl)
theorem dX2_plan_45 : decode cX2_plan 45 = .ok (.iconst 0, 1) := dk_3 (dk_at dksX2_plan_1 22 rfl rfl)
theorem dX2_plan_46 : decode cX2_plan 46 = .ok (.istore 6, 2) := dk_54 6 (dk_at dksX2_plan_2 0 rfl rfl)
theorem dX2_plan_48 : decode cX2_plan 48 = .ok (.iload_n 2, 1) := dk_28 (dk_at dksX2_plan_2 2 rfl rfl)
theorem dX2_plan_49 : decode cX2_plan 49 = .ok (.i2l, 1) := dk_133 (dk_at dksX2_plan_2 3 rfl rfl)
theorem dX2_plan_50 : decode cX2_plan 50 = .ok (.lconst 0, 1) := dk_9 (dk_at dksX2_plan_2 4 rfl rfl)
theorem dX2_plan_51 : decode cX2_plan 51 = .ok (.ldc2_w 130, 3) := dk_20 0 130 (dk_at dksX2_plan_2 5 rfl rfl)
theorem dX2_plan_54 : decode cX2_plan 54 = .ok (.invokestatic 81, 3) := dk_184 0 81 (dk_at dksX2_plan_2 8 rfl rfl)
theorem dX2_plan_57 : decode cX2_plan 57 = .ok (.ifCond .eq 8, 3) := dk_153 0 8 (dk_at dksX2_plan_2 11 rfl rfl)
theorem dX2_plan_60 : decode cX2_plan 60 = .ok (.iload 6, 2) := dk_21 6 (dk_at dksX2_plan_2 14 rfl rfl)
theorem dX2_plan_62 : decode cX2_plan 62 = .ok (.ifCond .ne 10, 3) := dk_154 0 10 (dk_at dksX2_plan_2 16 rfl rfl)
theorem dX2_plan_65 : decode cX2_plan 65 = .ok (.aload_n 0, 1) := dk_42 (dk_at dksX2_plan_2 19 rfl rfl)
theorem dX2_plan_66 : decode cX2_plan 66 = .ok (.bipush (-2), 2) := dk_16 254 (dk_at dksX2_plan_2 20 rfl rfl)
theorem dX2_plan_68 : decode cX2_plan 68 = .ok (.invokevirtual 127, 3) := dk_182 0 127 (dk_at dksX2_plan_3 0 rfl rfl)
theorem dX2_plan_71 : decode cX2_plan 71 = .ok (.ireturn, 1) := dk_172 (dk_at dksX2_plan_3 3 rfl rfl)
theorem dX2_plan_72 : decode cX2_plan 72 = .ok (.aload_n 0, 1) := dk_42 (dk_at dksX2_plan_3 4 rfl rfl)
theorem dX2_plan_73 : decode cX2_plan 73 = .ok (.getfield 85, 3) := dk_180 0 85 (dk_at dksX2_plan_3 5 rfl rfl)
theorem dX2_plan_76 : decode cX2_plan 76 = .ok (.ifCond .ne 10, 3) := dk_154 0 10 (dk_at dksX2_plan_3 8 rfl rfl)
theorem dX2_plan_79 : decode cX2_plan 79 = .ok (.aload_n 0, 1) := dk_42 (dk_at dksX2_plan_3 11 rfl rfl)
theorem dX2_plan_80 : decode cX2_plan 80 = .ok (.bipush (-3), 2) := dk_16 253 (dk_at dksX2_plan_3 12 rfl rfl)
theorem dX2_plan_82 : decode cX2_plan 82 = .ok (.invokevirtual 127, 3) := dk_182 0 127 (dk_at dksX2_plan_3 14 rfl rfl)
theorem dX2_plan_85 : decode cX2_plan 85 = .ok (.ireturn, 1) := dk_172 (dk_at dksX2_plan_3 17 rfl rfl)
theorem dX2_plan_86 : decode cX2_plan 86 = .ok (.aload_n 0, 1) := dk_42 (dk_at dksX2_plan_3 18 rfl rfl)
theorem dX2_plan_87 : decode cX2_plan 87 = .ok (.iload_n 1, 1) := dk_27 (dk_at dksX2_plan_3 19 rfl rfl)
theorem dX2_plan_88 : decode cX2_plan 88 = .ok (.iload_n 2, 1) := dk_28 (dk_at dksX2_plan_3 20 rfl rfl)
theorem dX2_plan_89 : decode cX2_plan 89 = .ok (.iload_n 3, 1) := dk_29 (dk_at dksX2_plan_3 21 rfl rfl)
theorem dX2_plan_90 : decode cX2_plan 90 = .ok (.iload 4, 2) := dk_21 4 (dk_at dksX2_plan_3 22 rfl rfl)
theorem dX2_plan_92 : decode cX2_plan 92 = .ok (.i2l, 1) := dk_133 (dk_at dksX2_plan_4 0 rfl rfl)
theorem dX2_plan_93 : decode cX2_plan 93 = .ok (.invokevirtual 132, 3) := dk_182 0 132 (dk_at dksX2_plan_4 1 rfl rfl)
theorem dX2_plan_96 : decode cX2_plan 96 = .ok (.istore 7, 2) := dk_54 7 (dk_at dksX2_plan_4 4 rfl rfl)
theorem dX2_plan_98 : decode cX2_plan 98 = .ok (.iload 7, 2) := dk_21 7 (dk_at dksX2_plan_4 6 rfl rfl)
theorem dX2_plan_100 : decode cX2_plan 100 = .ok (.ifCond .ge 6, 3) := dk_156 0 6 (dk_at dksX2_plan_4 8 rfl rfl)
theorem dX2_plan_103 : decode cX2_plan 103 = .ok (.iload 7, 2) := dk_21 7 (dk_at dksX2_plan_4 11 rfl rfl)
theorem dX2_plan_105 : decode cX2_plan 105 = .ok (.ireturn, 1) := dk_172 (dk_at dksX2_plan_4 13 rfl rfl)
theorem dX2_plan_106 : decode cX2_plan 106 = .ok (.iload 4, 2) := dk_21 4 (dk_at dksX2_plan_4 14 rfl rfl)
theorem dX2_plan_108 : decode cX2_plan 108 = .ok (.aload_n 0, 1) := dk_42 (dk_at dksX2_plan_4 16 rfl rfl)
theorem dX2_plan_109 : decode cX2_plan 109 = .ok (.getfield 85, 3) := dk_180 0 85 (dk_at dksX2_plan_4 17 rfl rfl)
theorem dX2_plan_112 : decode cX2_plan 112 = .ok (.if_icmp .eq 10, 3) := dk_159 0 10 (dk_at dksX2_plan_4 20 rfl rfl)
theorem dX2_plan_115 : decode cX2_plan 115 = .ok (.aload_n 0, 1) := dk_42 (dk_at dksX2_plan_4 23 rfl rfl)
theorem dX2_plan_116 : decode cX2_plan 116 = .ok (.bipush (-2), 2) := dk_16 254 (dk_at dksX2_plan_5 0 rfl rfl)
theorem dX2_plan_118 : decode cX2_plan 118 = .ok (.invokevirtual 127, 3) := dk_182 0 127 (dk_at dksX2_plan_5 2 rfl rfl)
theorem dX2_plan_121 : decode cX2_plan 121 = .ok (.ireturn, 1) := dk_172 (dk_at dksX2_plan_5 5 rfl rfl)
theorem dX2_plan_122 : decode cX2_plan 122 = .ok (.iconst 0, 1) := dk_3 (dk_at dksX2_plan_5 6 rfl rfl)
theorem dX2_plan_123 : decode cX2_plan 123 = .ok (.istore 8, 2) := dk_54 8 (dk_at dksX2_plan_5 7 rfl rfl)
theorem dX2_plan_125 : decode cX2_plan 125 = .ok (.iload 8, 2) := dk_21 8 (dk_at dksX2_plan_5 9 rfl rfl)
theorem dX2_plan_127 : decode cX2_plan 127 = .ok (.iload 4, 2) := dk_21 4 (dk_at dksX2_plan_5 11 rfl rfl)
theorem dX2_plan_129 : decode cX2_plan 129 = .ok (.if_icmp .ge 37, 3) := dk_162 0 37 (dk_at dksX2_plan_5 13 rfl rfl)
theorem dX2_plan_132 : decode cX2_plan 132 = .ok (.aload_n 0, 1) := dk_42 (dk_at dksX2_plan_5 16 rfl rfl)
theorem dX2_plan_133 : decode cX2_plan 133 = .ok (.aload_n 0, 1) := dk_42 (dk_at dksX2_plan_5 17 rfl rfl)
theorem dX2_plan_134 : decode cX2_plan 134 = .ok (.getfield 63, 3) := dk_180 0 63 (dk_at dksX2_plan_5 18 rfl rfl)
theorem dX2_plan_137 : decode cX2_plan 137 = .ok (.bipush 60, 2) := dk_16 60 (dk_at dksX2_plan_5 21 rfl rfl)
theorem dX2_plan_139 : decode cX2_plan 139 = .ok (.iload_n 1, 1) := dk_27 (dk_at dksX2_plan_5 23 rfl rfl)
theorem dX2_plan_140 : decode cX2_plan 140 = .ok (.imul, 1) := dk_104 (dk_at dksX2_plan_6 0 rfl rfl)
theorem dX2_plan_141 : decode cX2_plan 141 = .ok (.iload_n 3, 1) := dk_29 (dk_at dksX2_plan_6 1 rfl rfl)
theorem dX2_plan_142 : decode cX2_plan 142 = .ok (.iadd, 1) := dk_96 (dk_at dksX2_plan_6 2 rfl rfl)
theorem dX2_plan_143 : decode cX2_plan 143 = .ok (.iload 8, 2) := dk_21 8 (dk_at dksX2_plan_6 3 rfl rfl)
theorem dX2_plan_145 : decode cX2_plan 145 = .ok (.iadd, 1) := dk_96 (dk_at dksX2_plan_6 5 rfl rfl)
theorem dX2_plan_146 : decode cX2_plan 146 = .ok (.iaload, 1) := dk_46 (dk_at dksX2_plan_6 6 rfl rfl)
theorem dX2_plan_147 : decode cX2_plan 147 = .ok (.invokevirtual 174, 3) := dk_182 0 174 (dk_at dksX2_plan_6 7 rfl rfl)
theorem dX2_plan_150 : decode cX2_plan 150 = .ok (.ifCond .eq 10, 3) := dk_153 0 10 (dk_at dksX2_plan_6 10 rfl rfl)
theorem dX2_plan_153 : decode cX2_plan 153 = .ok (.aload_n 0, 1) := dk_42 (dk_at dksX2_plan_6 13 rfl rfl)
theorem dX2_plan_154 : decode cX2_plan 154 = .ok (.bipush (-2), 2) := dk_16 254 (dk_at dksX2_plan_6 14 rfl rfl)
theorem dX2_plan_156 : decode cX2_plan 156 = .ok (.invokevirtual 127, 3) := dk_182 0 127 (dk_at dksX2_plan_6 16 rfl rfl)
theorem dX2_plan_159 : decode cX2_plan 159 = .ok (.ireturn, 1) := dk_172 (dk_at dksX2_plan_6 19 rfl rfl)
theorem dX2_plan_160 : decode cX2_plan 160 = .ok (.iinc 8 1, 3) := dk_132 8 1 (dk_at dksX2_plan_6 20 rfl rfl)
theorem dX2_plan_163 : decode cX2_plan 163 = .ok (.goto (-38), 3) := dk_167 255 218 (dk_at dksX2_plan_7 0 rfl rfl)
theorem dX2_plan_166 : decode cX2_plan 166 = .ok (.aload_n 0, 1) := dk_42 (dk_at dksX2_plan_7 3 rfl rfl)
theorem dX2_plan_167 : decode cX2_plan 167 = .ok (.aload_n 0, 1) := dk_42 (dk_at dksX2_plan_7 4 rfl rfl)
theorem dX2_plan_168 : decode cX2_plan 168 = .ok (.bipush 60, 2) := dk_16 60 (dk_at dksX2_plan_7 5 rfl rfl)
theorem dX2_plan_170 : decode cX2_plan 170 = .ok (.iload_n 1, 1) := dk_27 (dk_at dksX2_plan_7 7 rfl rfl)
theorem dX2_plan_171 : decode cX2_plan 171 = .ok (.imul, 1) := dk_104 (dk_at dksX2_plan_7 8 rfl rfl)
theorem dX2_plan_172 : decode cX2_plan 172 = .ok (.iload_n 3, 1) := dk_29 (dk_at dksX2_plan_7 9 rfl rfl)
theorem dX2_plan_173 : decode cX2_plan 173 = .ok (.iadd, 1) := dk_96 (dk_at dksX2_plan_7 10 rfl rfl)
theorem dX2_plan_174 : decode cX2_plan 174 = .ok (.iload 5, 2) := dk_21 5 (dk_at dksX2_plan_7 11 rfl rfl)
theorem dX2_plan_176 : decode cX2_plan 176 = .ok (.invokevirtual 186, 3) := dk_182 0 186 (dk_at dksX2_plan_7 13 rfl rfl)
theorem dX2_plan_179 : decode cX2_plan 179 = .ok (.invokevirtual 127, 3) := dk_182 0 127 (dk_at dksX2_plan_7 16 rfl rfl)
theorem dX2_plan_182 : decode cX2_plan 182 = .ok (.ireturn, 1) := dk_172 (dk_at dksX2_plan_7 19 rfl rfl)
abbrev cX2_planBy : ByteArray := prog_8_method_33_code
def yX2_planBy : MethodName := ⟨RX2, "planBy", "(II)I"⟩
def dkwX2_planBy_10 : List UInt8 := [21, 5, 167, 0, 5, 21, 6, 172]
abbrev dktX2_planBy_10 : List UInt8 := dkwX2_planBy_10 ++ []
def dkwX2_planBy_9 : List UInt8 := [172, 28, 154, 0, 7, 29, 167, 0, 25, 28, 4, 160, 0, 8, 21, 4, 167, 0, 15, 28, 5, 160, 0, 8]
abbrev dktX2_planBy_9 : List UInt8 := dkwX2_planBy_9 ++ dktX2_planBy_10
def dkwX2_planBy_8 : List UInt8 := [28, 16, 10, 161, 0, 22, 42, 28, 16, 10, 100, 182, 0, 151, 153, 0, 8, 16, 247, 167, 0, 5, 21, 7]
abbrev dktX2_planBy_8 : List UInt8 := dkwX2_planBy_8 ++ dktX2_planBy_9
def dkwX2_planBy_7 : List UInt8 := [162, 0, 8, 21, 11, 167, 0, 5, 21, 4, 54, 4, 132, 11, 255, 167, 255, 217, 132, 8, 1, 167, 255, 88]
abbrev dktX2_planBy_7 : List UInt8 := dkwX2_planBy_7 ++ dktX2_planBy_8
def dkwX2_planBy_6 : List UInt8 := [21, 11, 155, 0, 40, 21, 10, 21, 11, 184, 0, 158, 153, 0, 20, 21, 4, 155, 0, 10, 21, 11, 21, 4]
abbrev dktX2_planBy_6 : List UInt8 := dkwX2_planBy_6 ++ dktX2_planBy_7
def dkwX2_planBy_5 : List UInt8 := [100, 184, 0, 158, 153, 0, 7, 4, 167, 0, 4, 3, 96, 54, 7, 42, 180, 0, 78, 4, 100, 54, 11]
abbrev dktX2_planBy_5 : List UInt8 := dkwX2_planBy_5 ++ dktX2_planBy_6
def dkwX2_planBy_4 : List UInt8 := [4, 21, 8, 120, 167, 0, 4, 3, 128, 54, 6, 21, 7, 28, 16, 10, 161, 0, 19, 21, 10, 28, 16, 10]
abbrev dktX2_planBy_4 : List UInt8 := dkwX2_planBy_4 ++ dktX2_planBy_5
def dkwX2_planBy_3 : List UInt8 := [167, 0, 4, 3, 128, 54, 5, 21, 6, 21, 9, 184, 0, 171, 42, 180, 0, 22, 21, 8, 46, 162, 0, 10]
abbrev dktX2_planBy_3 : List UInt8 := dkwX2_planBy_3 ++ dktX2_planBy_4
def dkwX2_planBy_2 : List UInt8 := [29, 42, 21, 8, 21, 9, 182, 0, 177, 96, 62, 21, 5, 21, 10, 158, 0, 10, 4, 21, 8, 120]
abbrev dktX2_planBy_2 : List UInt8 := dkwX2_planBy_2 ++ dktX2_planBy_3
def dkwX2_planBy_1 : List UInt8 := [162, 0, 165, 42, 180, 0, 63, 27, 21, 8, 96, 46, 54, 9, 42, 21, 8, 21, 9, 182, 0, 168, 54, 10]
abbrev dktX2_planBy_1 : List UInt8 := dkwX2_planBy_1 ++ dktX2_planBy_2
def dkwX2_planBy_0 : List UInt8 := [3, 62, 16, 247, 54, 4, 3, 54, 5, 3, 54, 6, 3, 54, 7, 3, 54, 8, 21, 8, 42, 180, 0, 85]
abbrev dktX2_planBy_0 : List UInt8 := dkwX2_planBy_0 ++ dktX2_planBy_1
theorem dksX2_planBy_0 : cX2_planBy.data.toList.drop 0 = dktX2_planBy_0 := by decide +kernel
theorem dksX2_planBy_1 : cX2_planBy.data.toList.drop 24 = dktX2_planBy_1 := dk_seg dksX2_planBy_0 24 rfl rfl
theorem dksX2_planBy_2 : cX2_planBy.data.toList.drop 48 = dktX2_planBy_2 := dk_seg dksX2_planBy_1 24 rfl rfl
theorem dksX2_planBy_3 : cX2_planBy.data.toList.drop 70 = dktX2_planBy_3 := dk_seg dksX2_planBy_2 22 rfl rfl
theorem dksX2_planBy_4 : cX2_planBy.data.toList.drop 94 = dktX2_planBy_4 := dk_seg dksX2_planBy_3 24 rfl rfl
theorem dksX2_planBy_5 : cX2_planBy.data.toList.drop 118 = dktX2_planBy_5 := dk_seg dksX2_planBy_4 24 rfl rfl
theorem dksX2_planBy_6 : cX2_planBy.data.toList.drop 141 = dktX2_planBy_6 := dk_seg dksX2_planBy_5 23 rfl rfl
theorem dksX2_planBy_7 : cX2_planBy.data.toList.drop 165 = dktX2_planBy_7 := dk_seg dksX2_planBy_6 24 rfl rfl
theorem dksX2_planBy_8 : cX2_planBy.data.toList.drop 189 = dktX2_planBy_8 := dk_seg dksX2_planBy_7 24 rfl rfl
theorem dksX2_planBy_9 : cX2_planBy.data.toList.drop 213 = dktX2_planBy_9 := dk_seg dksX2_planBy_8 24 rfl rfl
theorem dksX2_planBy_10 : cX2_planBy.data.toList.drop 237 = dktX2_planBy_10 := dk_seg dksX2_planBy_9 24 rfl rfl
theorem dX2_planBy_0 : decode cX2_planBy 0 = .ok (.iconst 0, 1) := dk_3 (dk_at dksX2_planBy_0 0 rfl rfl)
theorem dX2_planBy_1 : decode cX2_planBy 1 = .ok (.istore_n 3, 1) := dk_62 (dk_at dksX2_planBy_0 1 rfl rfl)
theorem dX2_planBy_2 : decode cX2_planBy 2 = .ok (.bipush (-9), 2) := dk_16 247 (dk_at dksX2_planBy_0 2 rfl rfl)
theorem dX2_planBy_4 : decode cX2_planBy 4 = .ok (.istore 4, 2) := dk_54 4 (dk_at dksX2_planBy_0 4 rfl rfl)
theorem dX2_planBy_6 : decode cX2_planBy 6 = .ok (.iconst 0, 1) := dk_3 (dk_at dksX2_planBy_0 6 rfl rfl)
theorem dX2_planBy_7 : decode cX2_planBy 7 = .ok (.istore 5, 2) := dk_54 5 (dk_at dksX2_planBy_0 7 rfl rfl)
theorem dX2_planBy_9 : decode cX2_planBy 9 = .ok (.iconst 0, 1) := dk_3 (dk_at dksX2_planBy_0 9 rfl rfl)
theorem dX2_planBy_10 : decode cX2_planBy 10 = .ok (.istore 6, 2) := dk_54 6 (dk_at dksX2_planBy_0 10 rfl rfl)
theorem dX2_planBy_12 : decode cX2_planBy 12 = .ok (.iconst 0, 1) := dk_3 (dk_at dksX2_planBy_0 12 rfl rfl)
theorem dX2_planBy_13 : decode cX2_planBy 13 = .ok (.istore 7, 2) := dk_54 7 (dk_at dksX2_planBy_0 13 rfl rfl)
theorem dX2_planBy_15 : decode cX2_planBy 15 = .ok (.iconst 0, 1) := dk_3 (dk_at dksX2_planBy_0 15 rfl rfl)
theorem dX2_planBy_16 : decode cX2_planBy 16 = .ok (.istore 8, 2) := dk_54 8 (dk_at dksX2_planBy_0 16 rfl rfl)
theorem dX2_planBy_18 : decode cX2_planBy 18 = .ok (.iload 8, 2) := dk_21 8 (dk_at dksX2_planBy_0 18 rfl rfl)
theorem dX2_planBy_20 : decode cX2_planBy 20 = .ok (.aload_n 0, 1) := dk_42 (dk_at dksX2_planBy_0 20 rfl rfl)
theorem dX2_planBy_21 : decode cX2_planBy 21 = .ok (.getfield 85, 3) := dk_180 0 85 (dk_at dksX2_planBy_0 21 rfl rfl)
theorem dX2_planBy_24 : decode cX2_planBy 24 = .ok (.if_icmp .ge 165, 3) := dk_162 0 165 (dk_at dksX2_planBy_1 0 rfl rfl)
theorem dX2_planBy_27 : decode cX2_planBy 27 = .ok (.aload_n 0, 1) := dk_42 (dk_at dksX2_planBy_1 3 rfl rfl)
theorem dX2_planBy_28 : decode cX2_planBy 28 = .ok (.getfield 63, 3) := dk_180 0 63 (dk_at dksX2_planBy_1 4 rfl rfl)
theorem dX2_planBy_31 : decode cX2_planBy 31 = .ok (.iload_n 1, 1) := dk_27 (dk_at dksX2_planBy_1 7 rfl rfl)
theorem dX2_planBy_32 : decode cX2_planBy 32 = .ok (.iload 8, 2) := dk_21 8 (dk_at dksX2_planBy_1 8 rfl rfl)
theorem dX2_planBy_34 : decode cX2_planBy 34 = .ok (.iadd, 1) := dk_96 (dk_at dksX2_planBy_1 10 rfl rfl)
theorem dX2_planBy_35 : decode cX2_planBy 35 = .ok (.iaload, 1) := dk_46 (dk_at dksX2_planBy_1 11 rfl rfl)
theorem dX2_planBy_36 : decode cX2_planBy 36 = .ok (.istore 9, 2) := dk_54 9 (dk_at dksX2_planBy_1 12 rfl rfl)
theorem dX2_planBy_38 : decode cX2_planBy 38 = .ok (.aload_n 0, 1) := dk_42 (dk_at dksX2_planBy_1 14 rfl rfl)
theorem dX2_planBy_39 : decode cX2_planBy 39 = .ok (.iload 8, 2) := dk_21 8 (dk_at dksX2_planBy_1 15 rfl rfl)
theorem dX2_planBy_41 : decode cX2_planBy 41 = .ok (.iload 9, 2) := dk_21 9 (dk_at dksX2_planBy_1 17 rfl rfl)
theorem dX2_planBy_43 : decode cX2_planBy 43 = .ok (.invokevirtual 168, 3) := dk_182 0 168 (dk_at dksX2_planBy_1 19 rfl rfl)
theorem dX2_planBy_46 : decode cX2_planBy 46 = .ok (.istore 10, 2) := dk_54 10 (dk_at dksX2_planBy_1 22 rfl rfl)
theorem dX2_planBy_48 : decode cX2_planBy 48 = .ok (.iload_n 3, 1) := dk_29 (dk_at dksX2_planBy_2 0 rfl rfl)
theorem dX2_planBy_49 : decode cX2_planBy 49 = .ok (.aload_n 0, 1) := dk_42 (dk_at dksX2_planBy_2 1 rfl rfl)
theorem dX2_planBy_50 : decode cX2_planBy 50 = .ok (.iload 8, 2) := dk_21 8 (dk_at dksX2_planBy_2 2 rfl rfl)
theorem dX2_planBy_52 : decode cX2_planBy 52 = .ok (.iload 9, 2) := dk_21 9 (dk_at dksX2_planBy_2 4 rfl rfl)
theorem dX2_planBy_54 : decode cX2_planBy 54 = .ok (.invokevirtual 177, 3) := dk_182 0 177 (dk_at dksX2_planBy_2 6 rfl rfl)
theorem dX2_planBy_57 : decode cX2_planBy 57 = .ok (.iadd, 1) := dk_96 (dk_at dksX2_planBy_2 9 rfl rfl)
theorem dX2_planBy_58 : decode cX2_planBy 58 = .ok (.istore_n 3, 1) := dk_62 (dk_at dksX2_planBy_2 10 rfl rfl)
theorem dX2_planBy_59 : decode cX2_planBy 59 = .ok (.iload 5, 2) := dk_21 5 (dk_at dksX2_planBy_2 11 rfl rfl)
theorem dX2_planBy_61 : decode cX2_planBy 61 = .ok (.iload 10, 2) := dk_21 10 (dk_at dksX2_planBy_2 13 rfl rfl)
theorem dX2_planBy_63 : decode cX2_planBy 63 = .ok (.ifCond .le 10, 3) := dk_158 0 10 (dk_at dksX2_planBy_2 15 rfl rfl)
theorem dX2_planBy_66 : decode cX2_planBy 66 = .ok (.iconst 1, 1) := dk_4 (dk_at dksX2_planBy_2 18 rfl rfl)
theorem dX2_planBy_67 : decode cX2_planBy 67 = .ok (.iload 8, 2) := dk_21 8 (dk_at dksX2_planBy_2 19 rfl rfl)
theorem dX2_planBy_69 : decode cX2_planBy 69 = .ok (.ishl, 1) := dk_120 (dk_at dksX2_planBy_2 21 rfl rfl)
theorem dX2_planBy_70 : decode cX2_planBy 70 = .ok (.goto 4, 3) := dk_167 0 4 (dk_at dksX2_planBy_3 0 rfl rfl)
theorem dX2_planBy_73 : decode cX2_planBy 73 = .ok (.iconst 0, 1) := dk_3 (dk_at dksX2_planBy_3 3 rfl rfl)
theorem dX2_planBy_74 : decode cX2_planBy 74 = .ok (.ior, 1) := dk_128 (dk_at dksX2_planBy_3 4 rfl rfl)
theorem dX2_planBy_75 : decode cX2_planBy 75 = .ok (.istore 5, 2) := dk_54 5 (dk_at dksX2_planBy_3 5 rfl rfl)
theorem dX2_planBy_77 : decode cX2_planBy 77 = .ok (.iload 6, 2) := dk_21 6 (dk_at dksX2_planBy_3 7 rfl rfl)
theorem dX2_planBy_79 : decode cX2_planBy 79 = .ok (.iload 9, 2) := dk_21 9 (dk_at dksX2_planBy_3 9 rfl rfl)
theorem dX2_planBy_81 : decode cX2_planBy 81 = .ok (.invokestatic 171, 3) := dk_184 0 171 (dk_at dksX2_planBy_3 11 rfl rfl)
theorem dX2_planBy_84 : decode cX2_planBy 84 = .ok (.aload_n 0, 1) := dk_42 (dk_at dksX2_planBy_3 14 rfl rfl)
theorem dX2_planBy_85 : decode cX2_planBy 85 = .ok (.getfield 22, 3) := dk_180 0 22 (dk_at dksX2_planBy_3 15 rfl rfl)
theorem dX2_planBy_88 : decode cX2_planBy 88 = .ok (.iload 8, 2) := dk_21 8 (dk_at dksX2_planBy_3 18 rfl rfl)
theorem dX2_planBy_90 : decode cX2_planBy 90 = .ok (.iaload, 1) := dk_46 (dk_at dksX2_planBy_3 20 rfl rfl)
theorem dX2_planBy_91 : decode cX2_planBy 91 = .ok (.if_icmp .ge 10, 3) := dk_162 0 10 (dk_at dksX2_planBy_3 21 rfl rfl)
theorem dX2_planBy_94 : decode cX2_planBy 94 = .ok (.iconst 1, 1) := dk_4 (dk_at dksX2_planBy_4 0 rfl rfl)
theorem dX2_planBy_95 : decode cX2_planBy 95 = .ok (.iload 8, 2) := dk_21 8 (dk_at dksX2_planBy_4 1 rfl rfl)
theorem dX2_planBy_97 : decode cX2_planBy 97 = .ok (.ishl, 1) := dk_120 (dk_at dksX2_planBy_4 3 rfl rfl)
theorem dX2_planBy_98 : decode cX2_planBy 98 = .ok (.goto 4, 3) := dk_167 0 4 (dk_at dksX2_planBy_4 4 rfl rfl)
theorem dX2_planBy_101 : decode cX2_planBy 101 = .ok (.iconst 0, 1) := dk_3 (dk_at dksX2_planBy_4 7 rfl rfl)
theorem dX2_planBy_102 : decode cX2_planBy 102 = .ok (.ior, 1) := dk_128 (dk_at dksX2_planBy_4 8 rfl rfl)
theorem dX2_planBy_103 : decode cX2_planBy 103 = .ok (.istore 6, 2) := dk_54 6 (dk_at dksX2_planBy_4 9 rfl rfl)
theorem dX2_planBy_105 : decode cX2_planBy 105 = .ok (.iload 7, 2) := dk_21 7 (dk_at dksX2_planBy_4 11 rfl rfl)
theorem dX2_planBy_107 : decode cX2_planBy 107 = .ok (.iload_n 2, 1) := dk_28 (dk_at dksX2_planBy_4 13 rfl rfl)
theorem dX2_planBy_108 : decode cX2_planBy 108 = .ok (.bipush 10, 2) := dk_16 10 (dk_at dksX2_planBy_4 14 rfl rfl)
theorem dX2_planBy_110 : decode cX2_planBy 110 = .ok (.if_icmp .lt 19, 3) := dk_161 0 19 (dk_at dksX2_planBy_4 16 rfl rfl)
theorem dX2_planBy_113 : decode cX2_planBy 113 = .ok (.iload 10, 2) := dk_21 10 (dk_at dksX2_planBy_4 19 rfl rfl)
theorem dX2_planBy_115 : decode cX2_planBy 115 = .ok (.iload_n 2, 1) := dk_28 (dk_at dksX2_planBy_4 21 rfl rfl)
theorem dX2_planBy_116 : decode cX2_planBy 116 = .ok (.bipush 10, 2) := dk_16 10 (dk_at dksX2_planBy_4 22 rfl rfl)
theorem dX2_planBy_118 : decode cX2_planBy 118 = .ok (.isub, 1) := dk_100 (dk_at dksX2_planBy_5 0 rfl rfl)
theorem dX2_planBy_119 : decode cX2_planBy 119 = .ok (.invokestatic 158, 3) := dk_184 0 158 (dk_at dksX2_planBy_5 1 rfl rfl)
theorem dX2_planBy_122 : decode cX2_planBy 122 = .ok (.ifCond .eq 7, 3) := dk_153 0 7 (dk_at dksX2_planBy_5 4 rfl rfl)
theorem dX2_planBy_125 : decode cX2_planBy 125 = .ok (.iconst 1, 1) := dk_4 (dk_at dksX2_planBy_5 7 rfl rfl)
theorem dX2_planBy_126 : decode cX2_planBy 126 = .ok (.goto 4, 3) := dk_167 0 4 (dk_at dksX2_planBy_5 8 rfl rfl)
theorem dX2_planBy_129 : decode cX2_planBy 129 = .ok (.iconst 0, 1) := dk_3 (dk_at dksX2_planBy_5 11 rfl rfl)
theorem dX2_planBy_130 : decode cX2_planBy 130 = .ok (.iadd, 1) := dk_96 (dk_at dksX2_planBy_5 12 rfl rfl)
theorem dX2_planBy_131 : decode cX2_planBy 131 = .ok (.istore 7, 2) := dk_54 7 (dk_at dksX2_planBy_5 13 rfl rfl)
theorem dX2_planBy_133 : decode cX2_planBy 133 = .ok (.aload_n 0, 1) := dk_42 (dk_at dksX2_planBy_5 15 rfl rfl)
theorem dX2_planBy_134 : decode cX2_planBy 134 = .ok (.getfield 78, 3) := dk_180 0 78 (dk_at dksX2_planBy_5 16 rfl rfl)
theorem dX2_planBy_137 : decode cX2_planBy 137 = .ok (.iconst 1, 1) := dk_4 (dk_at dksX2_planBy_5 19 rfl rfl)
theorem dX2_planBy_138 : decode cX2_planBy 138 = .ok (.isub, 1) := dk_100 (dk_at dksX2_planBy_5 20 rfl rfl)
theorem dX2_planBy_139 : decode cX2_planBy 139 = .ok (.istore 11, 2) := dk_54 11 (dk_at dksX2_planBy_5 21 rfl rfl)
theorem dX2_planBy_141 : decode cX2_planBy 141 = .ok (.iload 11, 2) := dk_21 11 (dk_at dksX2_planBy_6 0 rfl rfl)
theorem dX2_planBy_143 : decode cX2_planBy 143 = .ok (.ifCond .lt 40, 3) := dk_155 0 40 (dk_at dksX2_planBy_6 2 rfl rfl)
theorem dX2_planBy_146 : decode cX2_planBy 146 = .ok (.iload 10, 2) := dk_21 10 (dk_at dksX2_planBy_6 5 rfl rfl)
theorem dX2_planBy_148 : decode cX2_planBy 148 = .ok (.iload 11, 2) := dk_21 11 (dk_at dksX2_planBy_6 7 rfl rfl)
theorem dX2_planBy_150 : decode cX2_planBy 150 = .ok (.invokestatic 158, 3) := dk_184 0 158 (dk_at dksX2_planBy_6 9 rfl rfl)
theorem dX2_planBy_153 : decode cX2_planBy 153 = .ok (.ifCond .eq 20, 3) := dk_153 0 20 (dk_at dksX2_planBy_6 12 rfl rfl)
theorem dX2_planBy_156 : decode cX2_planBy 156 = .ok (.iload 4, 2) := dk_21 4 (dk_at dksX2_planBy_6 15 rfl rfl)
theorem dX2_planBy_158 : decode cX2_planBy 158 = .ok (.ifCond .lt 10, 3) := dk_155 0 10 (dk_at dksX2_planBy_6 17 rfl rfl)
theorem dX2_planBy_161 : decode cX2_planBy 161 = .ok (.iload 11, 2) := dk_21 11 (dk_at dksX2_planBy_6 20 rfl rfl)
theorem dX2_planBy_163 : decode cX2_planBy 163 = .ok (.iload 4, 2) := dk_21 4 (dk_at dksX2_planBy_6 22 rfl rfl)
theorem dX2_planBy_165 : decode cX2_planBy 165 = .ok (.if_icmp .ge 8, 3) := dk_162 0 8 (dk_at dksX2_planBy_7 0 rfl rfl)
theorem dX2_planBy_168 : decode cX2_planBy 168 = .ok (.iload 11, 2) := dk_21 11 (dk_at dksX2_planBy_7 3 rfl rfl)
theorem dX2_planBy_170 : decode cX2_planBy 170 = .ok (.goto 5, 3) := dk_167 0 5 (dk_at dksX2_planBy_7 5 rfl rfl)
theorem dX2_planBy_173 : decode cX2_planBy 173 = .ok (.iload 4, 2) := dk_21 4 (dk_at dksX2_planBy_7 8 rfl rfl)
theorem dX2_planBy_175 : decode cX2_planBy 175 = .ok (.istore 4, 2) := dk_54 4 (dk_at dksX2_planBy_7 10 rfl rfl)
theorem dX2_planBy_177 : decode cX2_planBy 177 = .ok (.iinc 11 (-1), 3) := dk_132 11 255 (dk_at dksX2_planBy_7 12 rfl rfl)
theorem dX2_planBy_180 : decode cX2_planBy 180 = .ok (.goto (-39), 3) := dk_167 255 217 (dk_at dksX2_planBy_7 15 rfl rfl)
theorem dX2_planBy_183 : decode cX2_planBy 183 = .ok (.iinc 8 1, 3) := dk_132 8 1 (dk_at dksX2_planBy_7 18 rfl rfl)
theorem dX2_planBy_186 : decode cX2_planBy 186 = .ok (.goto (-168), 3) := dk_167 255 88 (dk_at dksX2_planBy_7 21 rfl rfl)
theorem dX2_planBy_189 : decode cX2_planBy 189 = .ok (.iload_n 2, 1) := dk_28 (dk_at dksX2_planBy_8 0 rfl rfl)
theorem dX2_planBy_190 : decode cX2_planBy 190 = .ok (.bipush 10, 2) := dk_16 10 (dk_at dksX2_planBy_8 1 rfl rfl)
theorem dX2_planBy_192 : decode cX2_planBy 192 = .ok (.if_icmp .lt 22, 3) := dk_161 0 22 (dk_at dksX2_planBy_8 3 rfl rfl)
theorem dX2_planBy_195 : decode cX2_planBy 195 = .ok (.aload_n 0, 1) := dk_42 (dk_at dksX2_planBy_8 6 rfl rfl)
theorem dX2_planBy_196 : decode cX2_planBy 196 = .ok (.iload_n 2, 1) := dk_28 (dk_at dksX2_planBy_8 7 rfl rfl)
theorem dX2_planBy_197 : decode cX2_planBy 197 = .ok (.bipush 10, 2) := dk_16 10 (dk_at dksX2_planBy_8 8 rfl rfl)
theorem dX2_planBy_199 : decode cX2_planBy 199 = .ok (.isub, 1) := dk_100 (dk_at dksX2_planBy_8 10 rfl rfl)
theorem dX2_planBy_200 : decode cX2_planBy 200 = .ok (.invokevirtual 151, 3) := dk_182 0 151 (dk_at dksX2_planBy_8 11 rfl rfl)
theorem dX2_planBy_203 : decode cX2_planBy 203 = .ok (.ifCond .eq 8, 3) := dk_153 0 8 (dk_at dksX2_planBy_8 14 rfl rfl)
theorem dX2_planBy_206 : decode cX2_planBy 206 = .ok (.bipush (-9), 2) := dk_16 247 (dk_at dksX2_planBy_8 17 rfl rfl)
theorem dX2_planBy_208 : decode cX2_planBy 208 = .ok (.goto 5, 3) := dk_167 0 5 (dk_at dksX2_planBy_8 19 rfl rfl)
theorem dX2_planBy_211 : decode cX2_planBy 211 = .ok (.iload 7, 2) := dk_21 7 (dk_at dksX2_planBy_8 22 rfl rfl)
theorem dX2_planBy_213 : decode cX2_planBy 213 = .ok (.ireturn, 1) := dk_172 (dk_at dksX2_planBy_9 0 rfl rfl)
theorem dX2_planBy_214 : decode cX2_planBy 214 = .ok (.iload_n 2, 1) := dk_28 (dk_at dksX2_planBy_9 1 rfl rfl)
theorem dX2_planBy_215 : decode cX2_planBy 215 = .ok (.ifCond .ne 7, 3) := dk_154 0 7 (dk_at dksX2_planBy_9 2 rfl rfl)
theorem dX2_planBy_218 : decode cX2_planBy 218 = .ok (.iload_n 3, 1) := dk_29 (dk_at dksX2_planBy_9 5 rfl rfl)
theorem dX2_planBy_219 : decode cX2_planBy 219 = .ok (.goto 25, 3) := dk_167 0 25 (dk_at dksX2_planBy_9 6 rfl rfl)
theorem dX2_planBy_222 : decode cX2_planBy 222 = .ok (.iload_n 2, 1) := dk_28 (dk_at dksX2_planBy_9 9 rfl rfl)
theorem dX2_planBy_223 : decode cX2_planBy 223 = .ok (.iconst 1, 1) := dk_4 (dk_at dksX2_planBy_9 10 rfl rfl)
theorem dX2_planBy_224 : decode cX2_planBy 224 = .ok (.if_icmp .ne 8, 3) := dk_160 0 8 (dk_at dksX2_planBy_9 11 rfl rfl)
theorem dX2_planBy_227 : decode cX2_planBy 227 = .ok (.iload 4, 2) := dk_21 4 (dk_at dksX2_planBy_9 14 rfl rfl)
theorem dX2_planBy_229 : decode cX2_planBy 229 = .ok (.goto 15, 3) := dk_167 0 15 (dk_at dksX2_planBy_9 16 rfl rfl)
theorem dX2_planBy_232 : decode cX2_planBy 232 = .ok (.iload_n 2, 1) := dk_28 (dk_at dksX2_planBy_9 19 rfl rfl)
theorem dX2_planBy_233 : decode cX2_planBy 233 = .ok (.iconst 2, 1) := dk_5 (dk_at dksX2_planBy_9 20 rfl rfl)
theorem dX2_planBy_234 : decode cX2_planBy 234 = .ok (.if_icmp .ne 8, 3) := dk_160 0 8 (dk_at dksX2_planBy_9 21 rfl rfl)
theorem dX2_planBy_237 : decode cX2_planBy 237 = .ok (.iload 5, 2) := dk_21 5 (dk_at dksX2_planBy_10 0 rfl rfl)
theorem dX2_planBy_239 : decode cX2_planBy 239 = .ok (.goto 5, 3) := dk_167 0 5 (dk_at dksX2_planBy_10 2 rfl rfl)
theorem dX2_planBy_242 : decode cX2_planBy 242 = .ok (.iload 6, 2) := dk_21 6 (dk_at dksX2_planBy_10 5 rfl rfl)
theorem dX2_planBy_244 : decode cX2_planBy 244 = .ok (.ireturn, 1) := dk_172 (dk_at dksX2_planBy_10 7 rfl rfl)
abbrev cX2_best : ByteArray := prog_8_method_36_code
def yX2_best : MethodName := ⟨RX2, "best", "(II)I"⟩
def dkwX2_best_2 : List UInt8 := [29, 182, 0, 177, 172]
abbrev dktX2_best_2 : List UInt8 := dkwX2_best_2 ++ []
def dkwX2_best_1 : List UInt8 := [27, 182, 0, 189, 62, 29, 156, 0, 8, 16, 247, 167, 0, 17, 28, 154, 0, 7, 29, 167, 0, 9, 42, 27]
abbrev dktX2_best_1 : List UInt8 := dkwX2_best_1 ++ dktX2_best_2
def dkwX2_best_0 : List UInt8 := [42, 27, 182, 0, 145, 153, 0, 5, 2, 172, 28, 133, 9, 10, 184, 0, 81, 154, 0, 6, 16, 254, 172, 42]
abbrev dktX2_best_0 : List UInt8 := dkwX2_best_0 ++ dktX2_best_1
theorem dksX2_best_0 : cX2_best.data.toList.drop 0 = dktX2_best_0 := by decide +kernel
theorem dksX2_best_1 : cX2_best.data.toList.drop 24 = dktX2_best_1 := dk_seg dksX2_best_0 24 rfl rfl
theorem dksX2_best_2 : cX2_best.data.toList.drop 48 = dktX2_best_2 := dk_seg dksX2_best_1 24 rfl rfl
theorem dX2_best_0 : decode cX2_best 0 = .ok (.aload_n 0, 1) := dk_42 (dk_at dksX2_best_0 0 rfl rfl)
theorem dX2_best_1 : decode cX2_best 1 = .ok (.iload_n 1, 1) := dk_27 (dk_at dksX2_best_0 1 rfl rfl)
theorem dX2_best_2 : decode cX2_best 2 = .ok (.invokevirtual 145, 3) := dk_182 0 145 (dk_at dksX2_best_0 2 rfl rfl)
theorem dX2_best_5 : decode cX2_best 5 = .ok (.ifCond .eq 5, 3) := dk_153 0 5 (dk_at dksX2_best_0 5 rfl rfl)
theorem dX2_best_8 : decode cX2_best 8 = .ok (.iconst (-1), 1) := dk_2 (dk_at dksX2_best_0 8 rfl rfl)
theorem dX2_best_9 : decode cX2_best 9 = .ok (.ireturn, 1) := dk_172 (dk_at dksX2_best_0 9 rfl rfl)
theorem dX2_best_10 : decode cX2_best 10 = .ok (.iload_n 2, 1) := dk_28 (dk_at dksX2_best_0 10 rfl rfl)
theorem dX2_best_11 : decode cX2_best 11 = .ok (.i2l, 1) := dk_133 (dk_at dksX2_best_0 11 rfl rfl)
theorem dX2_best_12 : decode cX2_best 12 = .ok (.lconst 0, 1) := dk_9 (dk_at dksX2_best_0 12 rfl rfl)
theorem dX2_best_13 : decode cX2_best 13 = .ok (.lconst 1, 1) := dk_10 (dk_at dksX2_best_0 13 rfl rfl)
theorem dX2_best_14 : decode cX2_best 14 = .ok (.invokestatic 81, 3) := dk_184 0 81 (dk_at dksX2_best_0 14 rfl rfl)
theorem dX2_best_17 : decode cX2_best 17 = .ok (.ifCond .ne 6, 3) := dk_154 0 6 (dk_at dksX2_best_0 17 rfl rfl)
theorem dX2_best_20 : decode cX2_best 20 = .ok (.bipush (-2), 2) := dk_16 254 (dk_at dksX2_best_0 20 rfl rfl)
theorem dX2_best_22 : decode cX2_best 22 = .ok (.ireturn, 1) := dk_172 (dk_at dksX2_best_0 22 rfl rfl)
theorem dX2_best_23 : decode cX2_best 23 = .ok (.aload_n 0, 1) := dk_42 (dk_at dksX2_best_0 23 rfl rfl)
theorem dX2_best_24 : decode cX2_best 24 = .ok (.iload_n 1, 1) := dk_27 (dk_at dksX2_best_1 0 rfl rfl)
theorem dX2_best_25 : decode cX2_best 25 = .ok (.invokevirtual 189, 3) := dk_182 0 189 (dk_at dksX2_best_1 1 rfl rfl)
theorem dX2_best_28 : decode cX2_best 28 = .ok (.istore_n 3, 1) := dk_62 (dk_at dksX2_best_1 4 rfl rfl)
theorem dX2_best_29 : decode cX2_best 29 = .ok (.iload_n 3, 1) := dk_29 (dk_at dksX2_best_1 5 rfl rfl)
theorem dX2_best_30 : decode cX2_best 30 = .ok (.ifCond .ge 8, 3) := dk_156 0 8 (dk_at dksX2_best_1 6 rfl rfl)
theorem dX2_best_33 : decode cX2_best 33 = .ok (.bipush (-9), 2) := dk_16 247 (dk_at dksX2_best_1 9 rfl rfl)
theorem dX2_best_35 : decode cX2_best 35 = .ok (.goto 17, 3) := dk_167 0 17 (dk_at dksX2_best_1 11 rfl rfl)
theorem dX2_best_38 : decode cX2_best 38 = .ok (.iload_n 2, 1) := dk_28 (dk_at dksX2_best_1 14 rfl rfl)
theorem dX2_best_39 : decode cX2_best 39 = .ok (.ifCond .ne 7, 3) := dk_154 0 7 (dk_at dksX2_best_1 15 rfl rfl)
theorem dX2_best_42 : decode cX2_best 42 = .ok (.iload_n 3, 1) := dk_29 (dk_at dksX2_best_1 18 rfl rfl)
theorem dX2_best_43 : decode cX2_best 43 = .ok (.goto 9, 3) := dk_167 0 9 (dk_at dksX2_best_1 19 rfl rfl)
theorem dX2_best_46 : decode cX2_best 46 = .ok (.aload_n 0, 1) := dk_42 (dk_at dksX2_best_1 22 rfl rfl)
theorem dX2_best_47 : decode cX2_best 47 = .ok (.iload_n 1, 1) := dk_27 (dk_at dksX2_best_1 23 rfl rfl)
theorem dX2_best_48 : decode cX2_best 48 = .ok (.iload_n 3, 1) := dk_29 (dk_at dksX2_best_2 0 rfl rfl)
theorem dX2_best_49 : decode cX2_best 49 = .ok (.invokevirtual 177, 3) := dk_182 0 177 (dk_at dksX2_best_2 1 rfl rfl)
theorem dX2_best_52 : decode cX2_best 52 = .ok (.ireturn, 1) := dk_172 (dk_at dksX2_best_2 4 rfl rfl)
abbrev cX2_bestOf : ByteArray := prog_8_method_35_code
def yX2_bestOf : MethodName := ⟨RX2, "bestOf", "(I)I"⟩
def dkwX2_bestOf_4 : List UInt8 := [132, 3, 1, 167, 255, 165, 28, 172]
abbrev dktX2_bestOf_4 : List UInt8 := dkwX2_bestOf_4 ++ []
def dkwX2_bestOf_3 : List UInt8 := [21, 5, 154, 0, 18, 29, 184, 0, 171, 28, 184, 0, 171, 162, 0, 7, 29, 167, 0, 4, 28, 61]
abbrev dktX2_bestOf_3 : List UInt8 := dkwX2_bestOf_3 ++ dktX2_bestOf_4
def dkwX2_bestOf_2 : List UInt8 := [153, 0, 45, 42, 27, 28, 182, 0, 177, 42, 27, 29, 182, 0, 177, 100, 54, 5, 21, 5, 157, 0, 19]
abbrev dktX2_bestOf_2 : List UInt8 := dkwX2_bestOf_2 ++ dktX2_bestOf_3
def dkwX2_bestOf_1 : List UInt8 := [46, 161, 0, 7, 4, 167, 0, 4, 3, 54, 4, 21, 4, 153, 0, 9, 28, 156, 0, 5, 29, 61, 21, 4]
abbrev dktX2_bestOf_1 : List UInt8 := dkwX2_bestOf_1 ++ dktX2_bestOf_2
def dkwX2_bestOf_0 : List UInt8 := [16, 247, 61, 3, 62, 29, 4, 42, 180, 0, 78, 120, 162, 0, 87, 29, 184, 0, 171, 42, 180, 0, 22, 27]
abbrev dktX2_bestOf_0 : List UInt8 := dkwX2_bestOf_0 ++ dktX2_bestOf_1
theorem dksX2_bestOf_0 : cX2_bestOf.data.toList.drop 0 = dktX2_bestOf_0 := by decide +kernel
theorem dksX2_bestOf_1 : cX2_bestOf.data.toList.drop 24 = dktX2_bestOf_1 := dk_seg dksX2_bestOf_0 24 rfl rfl
theorem dksX2_bestOf_2 : cX2_bestOf.data.toList.drop 48 = dktX2_bestOf_2 := dk_seg dksX2_bestOf_1 24 rfl rfl
theorem dksX2_bestOf_3 : cX2_bestOf.data.toList.drop 71 = dktX2_bestOf_3 := dk_seg dksX2_bestOf_2 23 rfl rfl
theorem dksX2_bestOf_4 : cX2_bestOf.data.toList.drop 93 = dktX2_bestOf_4 := dk_seg dksX2_bestOf_3 22 rfl rfl
theorem dX2_bestOf_0 : decode cX2_bestOf 0 = .ok (.bipush (-9), 2) := dk_16 247 (dk_at dksX2_bestOf_0 0 rfl rfl)
theorem dX2_bestOf_2 : decode cX2_bestOf 2 = .ok (.istore_n 2, 1) := dk_61 (dk_at dksX2_bestOf_0 2 rfl rfl)
theorem dX2_bestOf_3 : decode cX2_bestOf 3 = .ok (.iconst 0, 1) := dk_3 (dk_at dksX2_bestOf_0 3 rfl rfl)
theorem dX2_bestOf_4 : decode cX2_bestOf 4 = .ok (.istore_n 3, 1) := dk_62 (dk_at dksX2_bestOf_0 4 rfl rfl)
theorem dX2_bestOf_5 : decode cX2_bestOf 5 = .ok (.iload_n 3, 1) := dk_29 (dk_at dksX2_bestOf_0 5 rfl rfl)
theorem dX2_bestOf_6 : decode cX2_bestOf 6 = .ok (.iconst 1, 1) := dk_4 (dk_at dksX2_bestOf_0 6 rfl rfl)
theorem dX2_bestOf_7 : decode cX2_bestOf 7 = .ok (.aload_n 0, 1) := dk_42 (dk_at dksX2_bestOf_0 7 rfl rfl)
theorem dX2_bestOf_8 : decode cX2_bestOf 8 = .ok (.getfield 78, 3) := dk_180 0 78 (dk_at dksX2_bestOf_0 8 rfl rfl)
theorem dX2_bestOf_11 : decode cX2_bestOf 11 = .ok (.ishl, 1) := dk_120 (dk_at dksX2_bestOf_0 11 rfl rfl)
theorem dX2_bestOf_12 : decode cX2_bestOf 12 = .ok (.if_icmp .ge 87, 3) := dk_162 0 87 (dk_at dksX2_bestOf_0 12 rfl rfl)
theorem dX2_bestOf_15 : decode cX2_bestOf 15 = .ok (.iload_n 3, 1) := dk_29 (dk_at dksX2_bestOf_0 15 rfl rfl)
theorem dX2_bestOf_16 : decode cX2_bestOf 16 = .ok (.invokestatic 171, 3) := dk_184 0 171 (dk_at dksX2_bestOf_0 16 rfl rfl)
theorem dX2_bestOf_19 : decode cX2_bestOf 19 = .ok (.aload_n 0, 1) := dk_42 (dk_at dksX2_bestOf_0 19 rfl rfl)
theorem dX2_bestOf_20 : decode cX2_bestOf 20 = .ok (.getfield 22, 3) := dk_180 0 22 (dk_at dksX2_bestOf_0 20 rfl rfl)
theorem dX2_bestOf_23 : decode cX2_bestOf 23 = .ok (.iload_n 1, 1) := dk_27 (dk_at dksX2_bestOf_0 23 rfl rfl)
theorem dX2_bestOf_24 : decode cX2_bestOf 24 = .ok (.iaload, 1) := dk_46 (dk_at dksX2_bestOf_1 0 rfl rfl)
theorem dX2_bestOf_25 : decode cX2_bestOf 25 = .ok (.if_icmp .lt 7, 3) := dk_161 0 7 (dk_at dksX2_bestOf_1 1 rfl rfl)
theorem dX2_bestOf_28 : decode cX2_bestOf 28 = .ok (.iconst 1, 1) := dk_4 (dk_at dksX2_bestOf_1 4 rfl rfl)
theorem dX2_bestOf_29 : decode cX2_bestOf 29 = .ok (.goto 4, 3) := dk_167 0 4 (dk_at dksX2_bestOf_1 5 rfl rfl)
theorem dX2_bestOf_32 : decode cX2_bestOf 32 = .ok (.iconst 0, 1) := dk_3 (dk_at dksX2_bestOf_1 8 rfl rfl)
theorem dX2_bestOf_33 : decode cX2_bestOf 33 = .ok (.istore 4, 2) := dk_54 4 (dk_at dksX2_bestOf_1 9 rfl rfl)
theorem dX2_bestOf_35 : decode cX2_bestOf 35 = .ok (.iload 4, 2) := dk_21 4 (dk_at dksX2_bestOf_1 11 rfl rfl)
theorem dX2_bestOf_37 : decode cX2_bestOf 37 = .ok (.ifCond .eq 9, 3) := dk_153 0 9 (dk_at dksX2_bestOf_1 13 rfl rfl)
theorem dX2_bestOf_40 : decode cX2_bestOf 40 = .ok (.iload_n 2, 1) := dk_28 (dk_at dksX2_bestOf_1 16 rfl rfl)
theorem dX2_bestOf_41 : decode cX2_bestOf 41 = .ok (.ifCond .ge 5, 3) := dk_156 0 5 (dk_at dksX2_bestOf_1 17 rfl rfl)
theorem dX2_bestOf_44 : decode cX2_bestOf 44 = .ok (.iload_n 3, 1) := dk_29 (dk_at dksX2_bestOf_1 20 rfl rfl)
theorem dX2_bestOf_45 : decode cX2_bestOf 45 = .ok (.istore_n 2, 1) := dk_61 (dk_at dksX2_bestOf_1 21 rfl rfl)
theorem dX2_bestOf_46 : decode cX2_bestOf 46 = .ok (.iload 4, 2) := dk_21 4 (dk_at dksX2_bestOf_1 22 rfl rfl)
theorem dX2_bestOf_48 : decode cX2_bestOf 48 = .ok (.ifCond .eq 45, 3) := dk_153 0 45 (dk_at dksX2_bestOf_2 0 rfl rfl)
theorem dX2_bestOf_51 : decode cX2_bestOf 51 = .ok (.aload_n 0, 1) := dk_42 (dk_at dksX2_bestOf_2 3 rfl rfl)
theorem dX2_bestOf_52 : decode cX2_bestOf 52 = .ok (.iload_n 1, 1) := dk_27 (dk_at dksX2_bestOf_2 4 rfl rfl)
theorem dX2_bestOf_53 : decode cX2_bestOf 53 = .ok (.iload_n 2, 1) := dk_28 (dk_at dksX2_bestOf_2 5 rfl rfl)
theorem dX2_bestOf_54 : decode cX2_bestOf 54 = .ok (.invokevirtual 177, 3) := dk_182 0 177 (dk_at dksX2_bestOf_2 6 rfl rfl)
theorem dX2_bestOf_57 : decode cX2_bestOf 57 = .ok (.aload_n 0, 1) := dk_42 (dk_at dksX2_bestOf_2 9 rfl rfl)
theorem dX2_bestOf_58 : decode cX2_bestOf 58 = .ok (.iload_n 1, 1) := dk_27 (dk_at dksX2_bestOf_2 10 rfl rfl)
theorem dX2_bestOf_59 : decode cX2_bestOf 59 = .ok (.iload_n 3, 1) := dk_29 (dk_at dksX2_bestOf_2 11 rfl rfl)
theorem dX2_bestOf_60 : decode cX2_bestOf 60 = .ok (.invokevirtual 177, 3) := dk_182 0 177 (dk_at dksX2_bestOf_2 12 rfl rfl)
theorem dX2_bestOf_63 : decode cX2_bestOf 63 = .ok (.isub, 1) := dk_100 (dk_at dksX2_bestOf_2 15 rfl rfl)
theorem dX2_bestOf_64 : decode cX2_bestOf 64 = .ok (.istore 5, 2) := dk_54 5 (dk_at dksX2_bestOf_2 16 rfl rfl)
theorem dX2_bestOf_66 : decode cX2_bestOf 66 = .ok (.iload 5, 2) := dk_21 5 (dk_at dksX2_bestOf_2 18 rfl rfl)
theorem dX2_bestOf_68 : decode cX2_bestOf 68 = .ok (.ifCond .gt 19, 3) := dk_157 0 19 (dk_at dksX2_bestOf_2 20 rfl rfl)
theorem dX2_bestOf_71 : decode cX2_bestOf 71 = .ok (.iload 5, 2) := dk_21 5 (dk_at dksX2_bestOf_3 0 rfl rfl)
theorem dX2_bestOf_73 : decode cX2_bestOf 73 = .ok (.ifCond .ne 18, 3) := dk_154 0 18 (dk_at dksX2_bestOf_3 2 rfl rfl)
theorem dX2_bestOf_76 : decode cX2_bestOf 76 = .ok (.iload_n 3, 1) := dk_29 (dk_at dksX2_bestOf_3 5 rfl rfl)
theorem dX2_bestOf_77 : decode cX2_bestOf 77 = .ok (.invokestatic 171, 3) := dk_184 0 171 (dk_at dksX2_bestOf_3 6 rfl rfl)
theorem dX2_bestOf_80 : decode cX2_bestOf 80 = .ok (.iload_n 2, 1) := dk_28 (dk_at dksX2_bestOf_3 9 rfl rfl)
theorem dX2_bestOf_81 : decode cX2_bestOf 81 = .ok (.invokestatic 171, 3) := dk_184 0 171 (dk_at dksX2_bestOf_3 10 rfl rfl)
theorem dX2_bestOf_84 : decode cX2_bestOf 84 = .ok (.if_icmp .ge 7, 3) := dk_162 0 7 (dk_at dksX2_bestOf_3 13 rfl rfl)
theorem dX2_bestOf_87 : decode cX2_bestOf 87 = .ok (.iload_n 3, 1) := dk_29 (dk_at dksX2_bestOf_3 16 rfl rfl)
theorem dX2_bestOf_88 : decode cX2_bestOf 88 = .ok (.goto 4, 3) := dk_167 0 4 (dk_at dksX2_bestOf_3 17 rfl rfl)
theorem dX2_bestOf_91 : decode cX2_bestOf 91 = .ok (.iload_n 2, 1) := dk_28 (dk_at dksX2_bestOf_3 20 rfl rfl)
theorem dX2_bestOf_92 : decode cX2_bestOf 92 = .ok (.istore_n 2, 1) := dk_61 (dk_at dksX2_bestOf_3 21 rfl rfl)
theorem dX2_bestOf_93 : decode cX2_bestOf 93 = .ok (.iinc 3 1, 3) := dk_132 3 1 (dk_at dksX2_bestOf_4 0 rfl rfl)
theorem dX2_bestOf_96 : decode cX2_bestOf 96 = .ok (.goto (-91), 3) := dk_167 255 165 (dk_at dksX2_bestOf_4 3 rfl rfl)
theorem dX2_bestOf_99 : decode cX2_bestOf 99 = .ok (.iload_n 2, 1) := dk_28 (dk_at dksX2_bestOf_4 6 rfl rfl)
theorem dX2_bestOf_100 : decode cX2_bestOf 100 = .ok (.ireturn, 1) := dk_172 (dk_at dksX2_bestOf_4 7 rfl rfl)
abbrev cX2_village : ByteArray := prog_8_method_38_code
def yX2_village : MethodName := ⟨RX2, "village", "()I"⟩
def dkwX2_village_0 : List UInt8 := [42, 180, 0, 85, 154, 0, 8, 16, 253, 167, 0, 7, 42, 182, 0, 192, 172]
abbrev dktX2_village_0 : List UInt8 := dkwX2_village_0 ++ []
theorem dksX2_village_0 : cX2_village.data.toList.drop 0 = dktX2_village_0 := by decide +kernel
theorem dX2_village_0 : decode cX2_village 0 = .ok (.aload_n 0, 1) := dk_42 (dk_at dksX2_village_0 0 rfl rfl)
theorem dX2_village_1 : decode cX2_village 1 = .ok (.getfield 85, 3) := dk_180 0 85 (dk_at dksX2_village_0 1 rfl rfl)
theorem dX2_village_4 : decode cX2_village 4 = .ok (.ifCond .ne 8, 3) := dk_154 0 8 (dk_at dksX2_village_0 4 rfl rfl)
theorem dX2_village_7 : decode cX2_village 7 = .ok (.bipush (-3), 2) := dk_16 253 (dk_at dksX2_village_0 7 rfl rfl)
theorem dX2_village_9 : decode cX2_village 9 = .ok (.goto 7, 3) := dk_167 0 7 (dk_at dksX2_village_0 9 rfl rfl)
theorem dX2_village_12 : decode cX2_village 12 = .ok (.aload_n 0, 1) := dk_42 (dk_at dksX2_village_0 12 rfl rfl)
theorem dX2_village_13 : decode cX2_village 13 = .ok (.invokevirtual 192, 3) := dk_182 0 192 (dk_at dksX2_village_0 13 rfl rfl)
theorem dX2_village_16 : decode cX2_village 16 = .ok (.ireturn, 1) := dk_172 (dk_at dksX2_village_0 16 rfl rfl)
abbrev cX2_villageNow : ByteArray := prog_8_method_37_code
def yX2_villageNow : MethodName := ⟨RX2, "villageNow", "()I"⟩
def dkwX2_villageNow_3 : List UInt8 := [16, 247, 172]
abbrev dktX2_villageNow_3 : List UInt8 := dkwX2_villageNow_3 ++ []
def dkwX2_villageNow_2 : List UInt8 := [182, 0, 177, 167, 0, 4, 3, 96, 60, 132, 3, 1, 167, 255, 205, 28, 153, 0, 7, 27, 167, 0, 5]
abbrev dktX2_villageNow_2 : List UInt8 := dkwX2_villageNow_2 ++ dktX2_villageNow_3
def dkwX2_villageNow_1 : List UInt8 := [54, 4, 21, 4, 155, 0, 7, 4, 167, 0, 4, 3, 61, 27, 28, 153, 0, 13, 42, 29, 21, 4]
abbrev dktX2_villageNow_1 : List UInt8 := dkwX2_villageNow_1 ++ dktX2_villageNow_2
def dkwX2_villageNow_0 : List UInt8 := [3, 60, 4, 61, 3, 62, 29, 42, 180, 0, 85, 162, 0, 49, 28, 153, 0, 45, 42, 29, 182, 0, 189]
abbrev dktX2_villageNow_0 : List UInt8 := dkwX2_villageNow_0 ++ dktX2_villageNow_1
theorem dksX2_villageNow_0 : cX2_villageNow.data.toList.drop 0 = dktX2_villageNow_0 := by decide +kernel
theorem dksX2_villageNow_1 : cX2_villageNow.data.toList.drop 23 = dktX2_villageNow_1 := dk_seg dksX2_villageNow_0 23 rfl rfl
theorem dksX2_villageNow_2 : cX2_villageNow.data.toList.drop 45 = dktX2_villageNow_2 := dk_seg dksX2_villageNow_1 22 rfl rfl
theorem dksX2_villageNow_3 : cX2_villageNow.data.toList.drop 68 = dktX2_villageNow_3 := dk_seg dksX2_villageNow_2 23 rfl rfl
theorem dX2_villageNow_0 : decode cX2_villageNow 0 = .ok (.iconst 0, 1) := dk_3 (dk_at dksX2_villageNow_0 0 rfl rfl)
theorem dX2_villageNow_1 : decode cX2_villageNow 1 = .ok (.istore_n 1, 1) := dk_60 (dk_at dksX2_villageNow_0 1 rfl rfl)
theorem dX2_villageNow_2 : decode cX2_villageNow 2 = .ok (.iconst 1, 1) := dk_4 (dk_at dksX2_villageNow_0 2 rfl rfl)
theorem dX2_villageNow_3 : decode cX2_villageNow 3 = .ok (.istore_n 2, 1) := dk_61 (dk_at dksX2_villageNow_0 3 rfl rfl)
theorem dX2_villageNow_4 : decode cX2_villageNow 4 = .ok (.iconst 0, 1) := dk_3 (dk_at dksX2_villageNow_0 4 rfl rfl)
theorem dX2_villageNow_5 : decode cX2_villageNow 5 = .ok (.istore_n 3, 1) := dk_62 (dk_at dksX2_villageNow_0 5 rfl rfl)
theorem dX2_villageNow_6 : decode cX2_villageNow 6 = .ok (.iload_n 3, 1) := dk_29 (dk_at dksX2_villageNow_0 6 rfl rfl)
theorem dX2_villageNow_7 : decode cX2_villageNow 7 = .ok (.aload_n 0, 1) := dk_42 (dk_at dksX2_villageNow_0 7 rfl rfl)
theorem dX2_villageNow_8 : decode cX2_villageNow 8 = .ok (.getfield 85, 3) := dk_180 0 85 (dk_at dksX2_villageNow_0 8 rfl rfl)
theorem dX2_villageNow_11 : decode cX2_villageNow 11 = .ok (.if_icmp .ge 49, 3) := dk_162 0 49 (dk_at dksX2_villageNow_0 11 rfl rfl)
theorem dX2_villageNow_14 : decode cX2_villageNow 14 = .ok (.iload_n 2, 1) := dk_28 (dk_at dksX2_villageNow_0 14 rfl rfl)
theorem dX2_villageNow_15 : decode cX2_villageNow 15 = .ok (.ifCond .eq 45, 3) := dk_153 0 45 (dk_at dksX2_villageNow_0 15 rfl rfl)
theorem dX2_villageNow_18 : decode cX2_villageNow 18 = .ok (.aload_n 0, 1) := dk_42 (dk_at dksX2_villageNow_0 18 rfl rfl)
theorem dX2_villageNow_19 : decode cX2_villageNow 19 = .ok (.iload_n 3, 1) := dk_29 (dk_at dksX2_villageNow_0 19 rfl rfl)
theorem dX2_villageNow_20 : decode cX2_villageNow 20 = .ok (.invokevirtual 189, 3) := dk_182 0 189 (dk_at dksX2_villageNow_0 20 rfl rfl)
theorem dX2_villageNow_23 : decode cX2_villageNow 23 = .ok (.istore 4, 2) := dk_54 4 (dk_at dksX2_villageNow_1 0 rfl rfl)
theorem dX2_villageNow_25 : decode cX2_villageNow 25 = .ok (.iload 4, 2) := dk_21 4 (dk_at dksX2_villageNow_1 2 rfl rfl)
theorem dX2_villageNow_27 : decode cX2_villageNow 27 = .ok (.ifCond .lt 7, 3) := dk_155 0 7 (dk_at dksX2_villageNow_1 4 rfl rfl)
theorem dX2_villageNow_30 : decode cX2_villageNow 30 = .ok (.iconst 1, 1) := dk_4 (dk_at dksX2_villageNow_1 7 rfl rfl)
theorem dX2_villageNow_31 : decode cX2_villageNow 31 = .ok (.goto 4, 3) := dk_167 0 4 (dk_at dksX2_villageNow_1 8 rfl rfl)
theorem dX2_villageNow_34 : decode cX2_villageNow 34 = .ok (.iconst 0, 1) := dk_3 (dk_at dksX2_villageNow_1 11 rfl rfl)
theorem dX2_villageNow_35 : decode cX2_villageNow 35 = .ok (.istore_n 2, 1) := dk_61 (dk_at dksX2_villageNow_1 12 rfl rfl)
theorem dX2_villageNow_36 : decode cX2_villageNow 36 = .ok (.iload_n 1, 1) := dk_27 (dk_at dksX2_villageNow_1 13 rfl rfl)
theorem dX2_villageNow_37 : decode cX2_villageNow 37 = .ok (.iload_n 2, 1) := dk_28 (dk_at dksX2_villageNow_1 14 rfl rfl)
theorem dX2_villageNow_38 : decode cX2_villageNow 38 = .ok (.ifCond .eq 13, 3) := dk_153 0 13 (dk_at dksX2_villageNow_1 15 rfl rfl)
theorem dX2_villageNow_41 : decode cX2_villageNow 41 = .ok (.aload_n 0, 1) := dk_42 (dk_at dksX2_villageNow_1 18 rfl rfl)
theorem dX2_villageNow_42 : decode cX2_villageNow 42 = .ok (.iload_n 3, 1) := dk_29 (dk_at dksX2_villageNow_1 19 rfl rfl)
theorem dX2_villageNow_43 : decode cX2_villageNow 43 = .ok (.iload 4, 2) := dk_21 4 (dk_at dksX2_villageNow_1 20 rfl rfl)
theorem dX2_villageNow_45 : decode cX2_villageNow 45 = .ok (.invokevirtual 177, 3) := dk_182 0 177 (dk_at dksX2_villageNow_2 0 rfl rfl)
theorem dX2_villageNow_48 : decode cX2_villageNow 48 = .ok (.goto 4, 3) := dk_167 0 4 (dk_at dksX2_villageNow_2 3 rfl rfl)
theorem dX2_villageNow_51 : decode cX2_villageNow 51 = .ok (.iconst 0, 1) := dk_3 (dk_at dksX2_villageNow_2 6 rfl rfl)
theorem dX2_villageNow_52 : decode cX2_villageNow 52 = .ok (.iadd, 1) := dk_96 (dk_at dksX2_villageNow_2 7 rfl rfl)
theorem dX2_villageNow_53 : decode cX2_villageNow 53 = .ok (.istore_n 1, 1) := dk_60 (dk_at dksX2_villageNow_2 8 rfl rfl)
theorem dX2_villageNow_54 : decode cX2_villageNow 54 = .ok (.iinc 3 1, 3) := dk_132 3 1 (dk_at dksX2_villageNow_2 9 rfl rfl)
theorem dX2_villageNow_57 : decode cX2_villageNow 57 = .ok (.goto (-51), 3) := dk_167 255 205 (dk_at dksX2_villageNow_2 12 rfl rfl)
theorem dX2_villageNow_60 : decode cX2_villageNow 60 = .ok (.iload_n 2, 1) := dk_28 (dk_at dksX2_villageNow_2 15 rfl rfl)
theorem dX2_villageNow_61 : decode cX2_villageNow 61 = .ok (.ifCond .eq 7, 3) := dk_153 0 7 (dk_at dksX2_villageNow_2 16 rfl rfl)
theorem dX2_villageNow_64 : decode cX2_villageNow 64 = .ok (.iload_n 1, 1) := dk_27 (dk_at dksX2_villageNow_2 19 rfl rfl)
theorem dX2_villageNow_65 : decode cX2_villageNow 65 = .ok (.goto 5, 3) := dk_167 0 5 (dk_at dksX2_villageNow_2 20 rfl rfl)
theorem dX2_villageNow_68 : decode cX2_villageNow 68 = .ok (.bipush (-9), 2) := dk_16 247 (dk_at dksX2_villageNow_3 0 rfl rfl)
theorem dX2_villageNow_70 : decode cX2_villageNow 70 = .ok (.ireturn, 1) := dk_172 (dk_at dksX2_villageNow_3 2 rfl rfl)
abbrev cX2_smile : ByteArray := prog_8_method_39_code
def yX2_smile : MethodName := ⟨RX2, "smile", "(I)I"⟩
def dkwX2_smile_5 : List UInt8 := [132, 5, 1, 167, 255, 174, 42, 16, 247, 181, 0, 25, 27, 154, 0, 7, 29, 167, 0, 5, 21, 4, 172]
abbrev dktX2_smile_5 : List UInt8 := dkwX2_smile_5 ++ []
def dkwX2_smile_4 : List UInt8 := [153, 0, 8, 21, 5, 167, 0, 4, 29, 62, 21, 7, 153, 0, 8, 21, 6, 167, 0, 5, 21, 4, 54, 4]
abbrev dktX2_smile_4 : List UInt8 := dkwX2_smile_4 ++ dktX2_smile_5
def dkwX2_smile_3 : List UInt8 := [155, 0, 18, 29, 155, 0, 10, 21, 6, 21, 4, 162, 0, 7, 4, 167, 0, 4, 3, 54, 7, 21, 7]
abbrev dktX2_smile_3 : List UInt8 := dkwX2_smile_3 ++ dktX2_smile_4
def dkwX2_smile_2 : List UInt8 := [21, 5, 184, 0, 158, 153, 0, 64, 42, 21, 5, 181, 0, 25, 42, 182, 0, 192, 54, 6, 21, 6]
abbrev dktX2_smile_2 : List UInt8 := dkwX2_smile_2 ++ dktX2_smile_3
def dkwX2_smile_1 : List UInt8 := [182, 0, 164, 61, 16, 247, 62, 16, 247, 54, 4, 3, 54, 5, 21, 5, 42, 180, 0, 78, 162, 0, 79, 28]
abbrev dktX2_smile_1 : List UInt8 := dkwX2_smile_1 ++ dktX2_smile_2
def dkwX2_smile_0 : List UInt8 := [27, 133, 9, 10, 184, 0, 81, 154, 0, 6, 16, 254, 172, 42, 180, 0, 85, 154, 0, 6, 16, 253, 172, 42]
abbrev dktX2_smile_0 : List UInt8 := dkwX2_smile_0 ++ dktX2_smile_1
theorem dksX2_smile_0 : cX2_smile.data.toList.drop 0 = dktX2_smile_0 := by decide +kernel
theorem dksX2_smile_1 : cX2_smile.data.toList.drop 24 = dktX2_smile_1 := dk_seg dksX2_smile_0 24 rfl rfl
theorem dksX2_smile_2 : cX2_smile.data.toList.drop 48 = dktX2_smile_2 := dk_seg dksX2_smile_1 24 rfl rfl
theorem dksX2_smile_3 : cX2_smile.data.toList.drop 70 = dktX2_smile_3 := dk_seg dksX2_smile_2 22 rfl rfl
theorem dksX2_smile_4 : cX2_smile.data.toList.drop 93 = dktX2_smile_4 := dk_seg dksX2_smile_3 23 rfl rfl
theorem dksX2_smile_5 : cX2_smile.data.toList.drop 117 = dktX2_smile_5 := dk_seg dksX2_smile_4 24 rfl rfl
theorem dX2_smile_0 : decode cX2_smile 0 = .ok (.iload_n 1, 1) := dk_27 (dk_at dksX2_smile_0 0 rfl rfl)
theorem dX2_smile_1 : decode cX2_smile 1 = .ok (.i2l, 1) := dk_133 (dk_at dksX2_smile_0 1 rfl rfl)
theorem dX2_smile_2 : decode cX2_smile 2 = .ok (.lconst 0, 1) := dk_9 (dk_at dksX2_smile_0 2 rfl rfl)
theorem dX2_smile_3 : decode cX2_smile 3 = .ok (.lconst 1, 1) := dk_10 (dk_at dksX2_smile_0 3 rfl rfl)
theorem dX2_smile_4 : decode cX2_smile 4 = .ok (.invokestatic 81, 3) := dk_184 0 81 (dk_at dksX2_smile_0 4 rfl rfl)
theorem dX2_smile_7 : decode cX2_smile 7 = .ok (.ifCond .ne 6, 3) := dk_154 0 6 (dk_at dksX2_smile_0 7 rfl rfl)
theorem dX2_smile_10 : decode cX2_smile 10 = .ok (.bipush (-2), 2) := dk_16 254 (dk_at dksX2_smile_0 10 rfl rfl)
theorem dX2_smile_12 : decode cX2_smile 12 = .ok (.ireturn, 1) := dk_172 (dk_at dksX2_smile_0 12 rfl rfl)
theorem dX2_smile_13 : decode cX2_smile 13 = .ok (.aload_n 0, 1) := dk_42 (dk_at dksX2_smile_0 13 rfl rfl)
theorem dX2_smile_14 : decode cX2_smile 14 = .ok (.getfield 85, 3) := dk_180 0 85 (dk_at dksX2_smile_0 14 rfl rfl)
theorem dX2_smile_17 : decode cX2_smile 17 = .ok (.ifCond .ne 6, 3) := dk_154 0 6 (dk_at dksX2_smile_0 17 rfl rfl)
theorem dX2_smile_20 : decode cX2_smile 20 = .ok (.bipush (-3), 2) := dk_16 253 (dk_at dksX2_smile_0 20 rfl rfl)
theorem dX2_smile_22 : decode cX2_smile 22 = .ok (.ireturn, 1) := dk_172 (dk_at dksX2_smile_0 22 rfl rfl)
theorem dX2_smile_23 : decode cX2_smile 23 = .ok (.aload_n 0, 1) := dk_42 (dk_at dksX2_smile_0 23 rfl rfl)
theorem dX2_smile_24 : decode cX2_smile 24 = .ok (.invokevirtual 164, 3) := dk_182 0 164 (dk_at dksX2_smile_1 0 rfl rfl)
theorem dX2_smile_27 : decode cX2_smile 27 = .ok (.istore_n 2, 1) := dk_61 (dk_at dksX2_smile_1 3 rfl rfl)
theorem dX2_smile_28 : decode cX2_smile 28 = .ok (.bipush (-9), 2) := dk_16 247 (dk_at dksX2_smile_1 4 rfl rfl)
theorem dX2_smile_30 : decode cX2_smile 30 = .ok (.istore_n 3, 1) := dk_62 (dk_at dksX2_smile_1 6 rfl rfl)
theorem dX2_smile_31 : decode cX2_smile 31 = .ok (.bipush (-9), 2) := dk_16 247 (dk_at dksX2_smile_1 7 rfl rfl)
theorem dX2_smile_33 : decode cX2_smile 33 = .ok (.istore 4, 2) := dk_54 4 (dk_at dksX2_smile_1 9 rfl rfl)
theorem dX2_smile_35 : decode cX2_smile 35 = .ok (.iconst 0, 1) := dk_3 (dk_at dksX2_smile_1 11 rfl rfl)
theorem dX2_smile_36 : decode cX2_smile 36 = .ok (.istore 5, 2) := dk_54 5 (dk_at dksX2_smile_1 12 rfl rfl)
theorem dX2_smile_38 : decode cX2_smile 38 = .ok (.iload 5, 2) := dk_21 5 (dk_at dksX2_smile_1 14 rfl rfl)
theorem dX2_smile_40 : decode cX2_smile 40 = .ok (.aload_n 0, 1) := dk_42 (dk_at dksX2_smile_1 16 rfl rfl)
theorem dX2_smile_41 : decode cX2_smile 41 = .ok (.getfield 78, 3) := dk_180 0 78 (dk_at dksX2_smile_1 17 rfl rfl)
theorem dX2_smile_44 : decode cX2_smile 44 = .ok (.if_icmp .ge 79, 3) := dk_162 0 79 (dk_at dksX2_smile_1 20 rfl rfl)
theorem dX2_smile_47 : decode cX2_smile 47 = .ok (.iload_n 2, 1) := dk_28 (dk_at dksX2_smile_1 23 rfl rfl)
theorem dX2_smile_48 : decode cX2_smile 48 = .ok (.iload 5, 2) := dk_21 5 (dk_at dksX2_smile_2 0 rfl rfl)
theorem dX2_smile_50 : decode cX2_smile 50 = .ok (.invokestatic 158, 3) := dk_184 0 158 (dk_at dksX2_smile_2 2 rfl rfl)
theorem dX2_smile_53 : decode cX2_smile 53 = .ok (.ifCond .eq 64, 3) := dk_153 0 64 (dk_at dksX2_smile_2 5 rfl rfl)
theorem dX2_smile_56 : decode cX2_smile 56 = .ok (.aload_n 0, 1) := dk_42 (dk_at dksX2_smile_2 8 rfl rfl)
theorem dX2_smile_57 : decode cX2_smile 57 = .ok (.iload 5, 2) := dk_21 5 (dk_at dksX2_smile_2 9 rfl rfl)
theorem dX2_smile_59 : decode cX2_smile 59 = .ok (.putfield 25, 3) := dk_181 0 25 (dk_at dksX2_smile_2 11 rfl rfl)
theorem dX2_smile_62 : decode cX2_smile 62 = .ok (.aload_n 0, 1) := dk_42 (dk_at dksX2_smile_2 14 rfl rfl)
theorem dX2_smile_63 : decode cX2_smile 63 = .ok (.invokevirtual 192, 3) := dk_182 0 192 (dk_at dksX2_smile_2 15 rfl rfl)
theorem dX2_smile_66 : decode cX2_smile 66 = .ok (.istore 6, 2) := dk_54 6 (dk_at dksX2_smile_2 18 rfl rfl)
theorem dX2_smile_68 : decode cX2_smile 68 = .ok (.iload 6, 2) := dk_21 6 (dk_at dksX2_smile_2 20 rfl rfl)
theorem dX2_smile_70 : decode cX2_smile 70 = .ok (.ifCond .lt 18, 3) := dk_155 0 18 (dk_at dksX2_smile_3 0 rfl rfl)
theorem dX2_smile_73 : decode cX2_smile 73 = .ok (.iload_n 3, 1) := dk_29 (dk_at dksX2_smile_3 3 rfl rfl)
theorem dX2_smile_74 : decode cX2_smile 74 = .ok (.ifCond .lt 10, 3) := dk_155 0 10 (dk_at dksX2_smile_3 4 rfl rfl)
theorem dX2_smile_77 : decode cX2_smile 77 = .ok (.iload 6, 2) := dk_21 6 (dk_at dksX2_smile_3 7 rfl rfl)
theorem dX2_smile_79 : decode cX2_smile 79 = .ok (.iload 4, 2) := dk_21 4 (dk_at dksX2_smile_3 9 rfl rfl)
theorem dX2_smile_81 : decode cX2_smile 81 = .ok (.if_icmp .ge 7, 3) := dk_162 0 7 (dk_at dksX2_smile_3 11 rfl rfl)
theorem dX2_smile_84 : decode cX2_smile 84 = .ok (.iconst 1, 1) := dk_4 (dk_at dksX2_smile_3 14 rfl rfl)
theorem dX2_smile_85 : decode cX2_smile 85 = .ok (.goto 4, 3) := dk_167 0 4 (dk_at dksX2_smile_3 15 rfl rfl)
theorem dX2_smile_88 : decode cX2_smile 88 = .ok (.iconst 0, 1) := dk_3 (dk_at dksX2_smile_3 18 rfl rfl)
theorem dX2_smile_89 : decode cX2_smile 89 = .ok (.istore 7, 2) := dk_54 7 (dk_at dksX2_smile_3 19 rfl rfl)
theorem dX2_smile_91 : decode cX2_smile 91 = .ok (.iload 7, 2) := dk_21 7 (dk_at dksX2_smile_3 21 rfl rfl)
theorem dX2_smile_93 : decode cX2_smile 93 = .ok (.ifCond .eq 8, 3) := dk_153 0 8 (dk_at dksX2_smile_4 0 rfl rfl)
theorem dX2_smile_96 : decode cX2_smile 96 = .ok (.iload 5, 2) := dk_21 5 (dk_at dksX2_smile_4 3 rfl rfl)
theorem dX2_smile_98 : decode cX2_smile 98 = .ok (.goto 4, 3) := dk_167 0 4 (dk_at dksX2_smile_4 5 rfl rfl)
theorem dX2_smile_101 : decode cX2_smile 101 = .ok (.iload_n 3, 1) := dk_29 (dk_at dksX2_smile_4 8 rfl rfl)
theorem dX2_smile_102 : decode cX2_smile 102 = .ok (.istore_n 3, 1) := dk_62 (dk_at dksX2_smile_4 9 rfl rfl)
theorem dX2_smile_103 : decode cX2_smile 103 = .ok (.iload 7, 2) := dk_21 7 (dk_at dksX2_smile_4 10 rfl rfl)
theorem dX2_smile_105 : decode cX2_smile 105 = .ok (.ifCond .eq 8, 3) := dk_153 0 8 (dk_at dksX2_smile_4 12 rfl rfl)
theorem dX2_smile_108 : decode cX2_smile 108 = .ok (.iload 6, 2) := dk_21 6 (dk_at dksX2_smile_4 15 rfl rfl)
theorem dX2_smile_110 : decode cX2_smile 110 = .ok (.goto 5, 3) := dk_167 0 5 (dk_at dksX2_smile_4 17 rfl rfl)
theorem dX2_smile_113 : decode cX2_smile 113 = .ok (.iload 4, 2) := dk_21 4 (dk_at dksX2_smile_4 20 rfl rfl)
theorem dX2_smile_115 : decode cX2_smile 115 = .ok (.istore 4, 2) := dk_54 4 (dk_at dksX2_smile_4 22 rfl rfl)
theorem dX2_smile_117 : decode cX2_smile 117 = .ok (.iinc 5 1, 3) := dk_132 5 1 (dk_at dksX2_smile_5 0 rfl rfl)
theorem dX2_smile_120 : decode cX2_smile 120 = .ok (.goto (-82), 3) := dk_167 255 174 (dk_at dksX2_smile_5 3 rfl rfl)
theorem dX2_smile_123 : decode cX2_smile 123 = .ok (.aload_n 0, 1) := dk_42 (dk_at dksX2_smile_5 6 rfl rfl)
theorem dX2_smile_124 : decode cX2_smile 124 = .ok (.bipush (-9), 2) := dk_16 247 (dk_at dksX2_smile_5 7 rfl rfl)
theorem dX2_smile_126 : decode cX2_smile 126 = .ok (.putfield 25, 3) := dk_181 0 25 (dk_at dksX2_smile_5 9 rfl rfl)
theorem dX2_smile_129 : decode cX2_smile 129 = .ok (.iload_n 1, 1) := dk_27 (dk_at dksX2_smile_5 12 rfl rfl)
theorem dX2_smile_130 : decode cX2_smile 130 = .ok (.ifCond .ne 7, 3) := dk_154 0 7 (dk_at dksX2_smile_5 13 rfl rfl)
theorem dX2_smile_133 : decode cX2_smile 133 = .ok (.iload_n 3, 1) := dk_29 (dk_at dksX2_smile_5 16 rfl rfl)
theorem dX2_smile_134 : decode cX2_smile 134 = .ok (.goto 5, 3) := dk_167 0 5 (dk_at dksX2_smile_5 17 rfl rfl)
theorem dX2_smile_137 : decode cX2_smile 137 = .ok (.iload 4, 2) := dk_21 4 (dk_at dksX2_smile_5 20 rfl rfl)
theorem dX2_smile_139 : decode cX2_smile 139 = .ok (.ireturn, 1) := dk_172 (dk_at dksX2_smile_5 22 rfl rfl)
abbrev cX2_reading : ByteArray := prog_8_method_40_code
def yX2_reading : MethodName := ⟨RX2, "reading", "(IIIZ)I"⟩
def dkwX2_reading_4 : List UInt8 := [180, 0, 142, 4, 100, 172]
abbrev dktX2_reading_4 : List UInt8 := dkwX2_reading_4 ++ []
def dkwX2_reading_3 : List UInt8 := [29, 79, 42, 180, 0, 53, 42, 180, 0, 142, 21, 4, 84, 42, 89, 180, 0, 142, 4, 96, 181, 0, 142, 42]
abbrev dktX2_reading_3 : List UInt8 := dkwX2_reading_3 ++ dktX2_reading_4
def dkwX2_reading_2 : List UInt8 := [42, 180, 0, 142, 27, 79, 42, 180, 0, 47, 42, 180, 0, 142, 28, 79, 42, 180, 0, 50, 42, 180, 0, 142]
abbrev dktX2_reading_2 : List UInt8 := dkwX2_reading_2 ++ dktX2_reading_3
def dkwX2_reading_1 : List UInt8 := [182, 0, 151, 153, 0, 5, 2, 172, 42, 180, 0, 142, 16, 8, 160, 0, 6, 16, 252, 172, 42, 180, 0, 44]
abbrev dktX2_reading_1 : List UInt8 := dkwX2_reading_1 ++ dktX2_reading_2
def dkwX2_reading_0 : List UInt8 := [42, 27, 182, 0, 145, 153, 0, 5, 2, 172, 42, 28, 182, 0, 174, 153, 0, 6, 16, 254, 172, 42, 29]
abbrev dktX2_reading_0 : List UInt8 := dkwX2_reading_0 ++ dktX2_reading_1
theorem dksX2_reading_0 : cX2_reading.data.toList.drop 0 = dktX2_reading_0 := by decide +kernel
theorem dksX2_reading_1 : cX2_reading.data.toList.drop 23 = dktX2_reading_1 := dk_seg dksX2_reading_0 23 rfl rfl
theorem dksX2_reading_2 : cX2_reading.data.toList.drop 47 = dktX2_reading_2 := dk_seg dksX2_reading_1 24 rfl rfl
theorem dksX2_reading_3 : cX2_reading.data.toList.drop 71 = dktX2_reading_3 := dk_seg dksX2_reading_2 24 rfl rfl
theorem dksX2_reading_4 : cX2_reading.data.toList.drop 95 = dktX2_reading_4 := dk_seg dksX2_reading_3 24 rfl rfl
theorem dX2_reading_0 : decode cX2_reading 0 = .ok (.aload_n 0, 1) := dk_42 (dk_at dksX2_reading_0 0 rfl rfl)
theorem dX2_reading_1 : decode cX2_reading 1 = .ok (.iload_n 1, 1) := dk_27 (dk_at dksX2_reading_0 1 rfl rfl)
theorem dX2_reading_2 : decode cX2_reading 2 = .ok (.invokevirtual 145, 3) := dk_182 0 145 (dk_at dksX2_reading_0 2 rfl rfl)
theorem dX2_reading_5 : decode cX2_reading 5 = .ok (.ifCond .eq 5, 3) := dk_153 0 5 (dk_at dksX2_reading_0 5 rfl rfl)
theorem dX2_reading_8 : decode cX2_reading 8 = .ok (.iconst (-1), 1) := dk_2 (dk_at dksX2_reading_0 8 rfl rfl)
theorem dX2_reading_9 : decode cX2_reading 9 = .ok (.ireturn, 1) := dk_172 (dk_at dksX2_reading_0 9 rfl rfl)
theorem dX2_reading_10 : decode cX2_reading 10 = .ok (.aload_n 0, 1) := dk_42 (dk_at dksX2_reading_0 10 rfl rfl)
theorem dX2_reading_11 : decode cX2_reading 11 = .ok (.iload_n 2, 1) := dk_28 (dk_at dksX2_reading_0 11 rfl rfl)
theorem dX2_reading_12 : decode cX2_reading 12 = .ok (.invokevirtual 174, 3) := dk_182 0 174 (dk_at dksX2_reading_0 12 rfl rfl)
theorem dX2_reading_15 : decode cX2_reading 15 = .ok (.ifCond .eq 6, 3) := dk_153 0 6 (dk_at dksX2_reading_0 15 rfl rfl)
theorem dX2_reading_18 : decode cX2_reading 18 = .ok (.bipush (-2), 2) := dk_16 254 (dk_at dksX2_reading_0 18 rfl rfl)
theorem dX2_reading_20 : decode cX2_reading 20 = .ok (.ireturn, 1) := dk_172 (dk_at dksX2_reading_0 20 rfl rfl)
theorem dX2_reading_21 : decode cX2_reading 21 = .ok (.aload_n 0, 1) := dk_42 (dk_at dksX2_reading_0 21 rfl rfl)
theorem dX2_reading_22 : decode cX2_reading 22 = .ok (.iload_n 3, 1) := dk_29 (dk_at dksX2_reading_0 22 rfl rfl)
theorem dX2_reading_23 : decode cX2_reading 23 = .ok (.invokevirtual 151, 3) := dk_182 0 151 (dk_at dksX2_reading_1 0 rfl rfl)
theorem dX2_reading_26 : decode cX2_reading 26 = .ok (.ifCond .eq 5, 3) := dk_153 0 5 (dk_at dksX2_reading_1 3 rfl rfl)
theorem dX2_reading_29 : decode cX2_reading 29 = .ok (.iconst (-1), 1) := dk_2 (dk_at dksX2_reading_1 6 rfl rfl)
theorem dX2_reading_30 : decode cX2_reading 30 = .ok (.ireturn, 1) := dk_172 (dk_at dksX2_reading_1 7 rfl rfl)
theorem dX2_reading_31 : decode cX2_reading 31 = .ok (.aload_n 0, 1) := dk_42 (dk_at dksX2_reading_1 8 rfl rfl)
theorem dX2_reading_32 : decode cX2_reading 32 = .ok (.getfield 142, 3) := dk_180 0 142 (dk_at dksX2_reading_1 9 rfl rfl)
theorem dX2_reading_35 : decode cX2_reading 35 = .ok (.bipush 8, 2) := dk_16 8 (dk_at dksX2_reading_1 12 rfl rfl)
theorem dX2_reading_37 : decode cX2_reading 37 = .ok (.if_icmp .ne 6, 3) := dk_160 0 6 (dk_at dksX2_reading_1 14 rfl rfl)
theorem dX2_reading_40 : decode cX2_reading 40 = .ok (.bipush (-4), 2) := dk_16 252 (dk_at dksX2_reading_1 17 rfl rfl)
theorem dX2_reading_42 : decode cX2_reading 42 = .ok (.ireturn, 1) := dk_172 (dk_at dksX2_reading_1 19 rfl rfl)
theorem dX2_reading_43 : decode cX2_reading 43 = .ok (.aload_n 0, 1) := dk_42 (dk_at dksX2_reading_1 20 rfl rfl)
theorem dX2_reading_44 : decode cX2_reading 44 = .ok (.getfield 44, 3) := dk_180 0 44 (dk_at dksX2_reading_1 21 rfl rfl)
theorem dX2_reading_47 : decode cX2_reading 47 = .ok (.aload_n 0, 1) := dk_42 (dk_at dksX2_reading_2 0 rfl rfl)
theorem dX2_reading_48 : decode cX2_reading 48 = .ok (.getfield 142, 3) := dk_180 0 142 (dk_at dksX2_reading_2 1 rfl rfl)
theorem dX2_reading_51 : decode cX2_reading 51 = .ok (.iload_n 1, 1) := dk_27 (dk_at dksX2_reading_2 4 rfl rfl)
theorem dX2_reading_52 : decode cX2_reading 52 = .ok (.iastore, 1) := dk_79 (dk_at dksX2_reading_2 5 rfl rfl)
theorem dX2_reading_53 : decode cX2_reading 53 = .ok (.aload_n 0, 1) := dk_42 (dk_at dksX2_reading_2 6 rfl rfl)
theorem dX2_reading_54 : decode cX2_reading 54 = .ok (.getfield 47, 3) := dk_180 0 47 (dk_at dksX2_reading_2 7 rfl rfl)
theorem dX2_reading_57 : decode cX2_reading 57 = .ok (.aload_n 0, 1) := dk_42 (dk_at dksX2_reading_2 10 rfl rfl)
theorem dX2_reading_58 : decode cX2_reading 58 = .ok (.getfield 142, 3) := dk_180 0 142 (dk_at dksX2_reading_2 11 rfl rfl)
theorem dX2_reading_61 : decode cX2_reading 61 = .ok (.iload_n 2, 1) := dk_28 (dk_at dksX2_reading_2 14 rfl rfl)
theorem dX2_reading_62 : decode cX2_reading 62 = .ok (.iastore, 1) := dk_79 (dk_at dksX2_reading_2 15 rfl rfl)
theorem dX2_reading_63 : decode cX2_reading 63 = .ok (.aload_n 0, 1) := dk_42 (dk_at dksX2_reading_2 16 rfl rfl)
theorem dX2_reading_64 : decode cX2_reading 64 = .ok (.getfield 50, 3) := dk_180 0 50 (dk_at dksX2_reading_2 17 rfl rfl)
theorem dX2_reading_67 : decode cX2_reading 67 = .ok (.aload_n 0, 1) := dk_42 (dk_at dksX2_reading_2 20 rfl rfl)
theorem dX2_reading_68 : decode cX2_reading 68 = .ok (.getfield 142, 3) := dk_180 0 142 (dk_at dksX2_reading_2 21 rfl rfl)
theorem dX2_reading_71 : decode cX2_reading 71 = .ok (.iload_n 3, 1) := dk_29 (dk_at dksX2_reading_3 0 rfl rfl)
theorem dX2_reading_72 : decode cX2_reading 72 = .ok (.iastore, 1) := dk_79 (dk_at dksX2_reading_3 1 rfl rfl)
theorem dX2_reading_73 : decode cX2_reading 73 = .ok (.aload_n 0, 1) := dk_42 (dk_at dksX2_reading_3 2 rfl rfl)
theorem dX2_reading_74 : decode cX2_reading 74 = .ok (.getfield 53, 3) := dk_180 0 53 (dk_at dksX2_reading_3 3 rfl rfl)
theorem dX2_reading_77 : decode cX2_reading 77 = .ok (.aload_n 0, 1) := dk_42 (dk_at dksX2_reading_3 6 rfl rfl)
theorem dX2_reading_78 : decode cX2_reading 78 = .ok (.getfield 142, 3) := dk_180 0 142 (dk_at dksX2_reading_3 7 rfl rfl)
theorem dX2_reading_81 : decode cX2_reading 81 = .ok (.iload 4, 2) := dk_21 4 (dk_at dksX2_reading_3 10 rfl rfl)
theorem dX2_reading_83 : decode cX2_reading 83 = .ok (.bastore, 1) := dk_84 (dk_at dksX2_reading_3 12 rfl rfl)
theorem dX2_reading_84 : decode cX2_reading 84 = .ok (.aload_n 0, 1) := dk_42 (dk_at dksX2_reading_3 13 rfl rfl)
theorem dX2_reading_85 : decode cX2_reading 85 = .ok (.dup, 1) := dk_89 (dk_at dksX2_reading_3 14 rfl rfl)
theorem dX2_reading_86 : decode cX2_reading 86 = .ok (.getfield 142, 3) := dk_180 0 142 (dk_at dksX2_reading_3 15 rfl rfl)
theorem dX2_reading_89 : decode cX2_reading 89 = .ok (.iconst 1, 1) := dk_4 (dk_at dksX2_reading_3 18 rfl rfl)
theorem dX2_reading_90 : decode cX2_reading 90 = .ok (.iadd, 1) := dk_96 (dk_at dksX2_reading_3 19 rfl rfl)
theorem dX2_reading_91 : decode cX2_reading 91 = .ok (.putfield 142, 3) := dk_181 0 142 (dk_at dksX2_reading_3 20 rfl rfl)
theorem dX2_reading_94 : decode cX2_reading 94 = .ok (.aload_n 0, 1) := dk_42 (dk_at dksX2_reading_3 23 rfl rfl)
theorem dX2_reading_95 : decode cX2_reading 95 = .ok (.getfield 142, 3) := dk_180 0 142 (dk_at dksX2_reading_4 0 rfl rfl)
theorem dX2_reading_98 : decode cX2_reading 98 = .ok (.iconst 1, 1) := dk_4 (dk_at dksX2_reading_4 3 rfl rfl)
theorem dX2_reading_99 : decode cX2_reading 99 = .ok (.isub, 1) := dk_100 (dk_at dksX2_reading_4 4 rfl rfl)
theorem dX2_reading_100 : decode cX2_reading 100 = .ok (.ireturn, 1) := dk_172 (dk_at dksX2_reading_4 5 rfl rfl)
abbrev cX2_back : ByteArray := prog_8_method_41_code
def yX2_back : MethodName := ⟨RX2, "back", "(I)I"⟩
def dkwX2_back_1 : List UInt8 := [181, 0, 142, 42, 180, 0, 142, 172]
abbrev dktX2_back_1 : List UInt8 := dkwX2_back_1 ++ []
def dkwX2_back_0 : List UInt8 := [27, 133, 9, 42, 180, 0, 142, 133, 184, 0, 81, 154, 0, 6, 16, 254, 172, 42, 89, 180, 0, 142, 27, 100]
abbrev dktX2_back_0 : List UInt8 := dkwX2_back_0 ++ dktX2_back_1
theorem dksX2_back_0 : cX2_back.data.toList.drop 0 = dktX2_back_0 := by decide +kernel
theorem dksX2_back_1 : cX2_back.data.toList.drop 24 = dktX2_back_1 := dk_seg dksX2_back_0 24 rfl rfl
theorem dX2_back_0 : decode cX2_back 0 = .ok (.iload_n 1, 1) := dk_27 (dk_at dksX2_back_0 0 rfl rfl)
theorem dX2_back_1 : decode cX2_back 1 = .ok (.i2l, 1) := dk_133 (dk_at dksX2_back_0 1 rfl rfl)
theorem dX2_back_2 : decode cX2_back 2 = .ok (.lconst 0, 1) := dk_9 (dk_at dksX2_back_0 2 rfl rfl)
theorem dX2_back_3 : decode cX2_back 3 = .ok (.aload_n 0, 1) := dk_42 (dk_at dksX2_back_0 3 rfl rfl)
theorem dX2_back_4 : decode cX2_back 4 = .ok (.getfield 142, 3) := dk_180 0 142 (dk_at dksX2_back_0 4 rfl rfl)
theorem dX2_back_7 : decode cX2_back 7 = .ok (.i2l, 1) := dk_133 (dk_at dksX2_back_0 7 rfl rfl)
theorem dX2_back_8 : decode cX2_back 8 = .ok (.invokestatic 81, 3) := dk_184 0 81 (dk_at dksX2_back_0 8 rfl rfl)
theorem dX2_back_11 : decode cX2_back 11 = .ok (.ifCond .ne 6, 3) := dk_154 0 6 (dk_at dksX2_back_0 11 rfl rfl)
theorem dX2_back_14 : decode cX2_back 14 = .ok (.bipush (-2), 2) := dk_16 254 (dk_at dksX2_back_0 14 rfl rfl)
theorem dX2_back_16 : decode cX2_back 16 = .ok (.ireturn, 1) := dk_172 (dk_at dksX2_back_0 16 rfl rfl)
theorem dX2_back_17 : decode cX2_back 17 = .ok (.aload_n 0, 1) := dk_42 (dk_at dksX2_back_0 17 rfl rfl)
theorem dX2_back_18 : decode cX2_back 18 = .ok (.dup, 1) := dk_89 (dk_at dksX2_back_0 18 rfl rfl)
theorem dX2_back_19 : decode cX2_back 19 = .ok (.getfield 142, 3) := dk_180 0 142 (dk_at dksX2_back_0 19 rfl rfl)
theorem dX2_back_22 : decode cX2_back 22 = .ok (.iload_n 1, 1) := dk_27 (dk_at dksX2_back_0 22 rfl rfl)
theorem dX2_back_23 : decode cX2_back 23 = .ok (.isub, 1) := dk_100 (dk_at dksX2_back_0 23 rfl rfl)
theorem dX2_back_24 : decode cX2_back 24 = .ok (.putfield 142, 3) := dk_181 0 142 (dk_at dksX2_back_1 0 rfl rfl)
theorem dX2_back_27 : decode cX2_back 27 = .ok (.aload_n 0, 1) := dk_42 (dk_at dksX2_back_1 3 rfl rfl)
theorem dX2_back_28 : decode cX2_back 28 = .ok (.getfield 142, 3) := dk_180 0 142 (dk_at dksX2_back_1 4 rfl rfl)
theorem dX2_back_31 : decode cX2_back 31 = .ok (.ireturn, 1) := dk_172 (dk_at dksX2_back_1 7 rfl rfl)
abbrev cX2_stays : ByteArray := prog_8_method_43_code
def yX2_stays : MethodName := ⟨RX2, "stays", "(I)I"⟩
def dkwX2_stays_2 : List UInt8 := [120, 167, 0, 4, 3, 128, 62, 132, 4, 1, 167, 255, 220, 42, 180, 0, 16, 27, 28, 79, 29, 172]
abbrev dktX2_stays_2 : List UInt8 := dkwX2_stays_2 ++ []
def dkwX2_stays_1 : List UInt8 := [16, 6, 162, 0, 35, 42, 180, 0, 16, 27, 21, 4, 79, 29, 42, 182, 0, 195, 153, 0, 10, 4, 21, 4]
abbrev dktX2_stays_1 : List UInt8 := dkwX2_stays_1 ++ dktX2_stays_2
def dkwX2_stays_0 : List UInt8 := [42, 27, 182, 0, 145, 153, 0, 5, 2, 172, 42, 180, 0, 16, 27, 46, 61, 3, 62, 3, 54, 4, 21, 4]
abbrev dktX2_stays_0 : List UInt8 := dkwX2_stays_0 ++ dktX2_stays_1
theorem dksX2_stays_0 : cX2_stays.data.toList.drop 0 = dktX2_stays_0 := by decide +kernel
theorem dksX2_stays_1 : cX2_stays.data.toList.drop 24 = dktX2_stays_1 := dk_seg dksX2_stays_0 24 rfl rfl
theorem dksX2_stays_2 : cX2_stays.data.toList.drop 48 = dktX2_stays_2 := dk_seg dksX2_stays_1 24 rfl rfl
theorem dX2_stays_0 : decode cX2_stays 0 = .ok (.aload_n 0, 1) := dk_42 (dk_at dksX2_stays_0 0 rfl rfl)
theorem dX2_stays_1 : decode cX2_stays 1 = .ok (.iload_n 1, 1) := dk_27 (dk_at dksX2_stays_0 1 rfl rfl)
theorem dX2_stays_2 : decode cX2_stays 2 = .ok (.invokevirtual 145, 3) := dk_182 0 145 (dk_at dksX2_stays_0 2 rfl rfl)
theorem dX2_stays_5 : decode cX2_stays 5 = .ok (.ifCond .eq 5, 3) := dk_153 0 5 (dk_at dksX2_stays_0 5 rfl rfl)
theorem dX2_stays_8 : decode cX2_stays 8 = .ok (.iconst (-1), 1) := dk_2 (dk_at dksX2_stays_0 8 rfl rfl)
theorem dX2_stays_9 : decode cX2_stays 9 = .ok (.ireturn, 1) := dk_172 (dk_at dksX2_stays_0 9 rfl rfl)
theorem dX2_stays_10 : decode cX2_stays 10 = .ok (.aload_n 0, 1) := dk_42 (dk_at dksX2_stays_0 10 rfl rfl)
theorem dX2_stays_11 : decode cX2_stays 11 = .ok (.getfield 16, 3) := dk_180 0 16 (dk_at dksX2_stays_0 11 rfl rfl)
theorem dX2_stays_14 : decode cX2_stays 14 = .ok (.iload_n 1, 1) := dk_27 (dk_at dksX2_stays_0 14 rfl rfl)
theorem dX2_stays_15 : decode cX2_stays 15 = .ok (.iaload, 1) := dk_46 (dk_at dksX2_stays_0 15 rfl rfl)
theorem dX2_stays_16 : decode cX2_stays 16 = .ok (.istore_n 2, 1) := dk_61 (dk_at dksX2_stays_0 16 rfl rfl)
theorem dX2_stays_17 : decode cX2_stays 17 = .ok (.iconst 0, 1) := dk_3 (dk_at dksX2_stays_0 17 rfl rfl)
theorem dX2_stays_18 : decode cX2_stays 18 = .ok (.istore_n 3, 1) := dk_62 (dk_at dksX2_stays_0 18 rfl rfl)
theorem dX2_stays_19 : decode cX2_stays 19 = .ok (.iconst 0, 1) := dk_3 (dk_at dksX2_stays_0 19 rfl rfl)
theorem dX2_stays_20 : decode cX2_stays 20 = .ok (.istore 4, 2) := dk_54 4 (dk_at dksX2_stays_0 20 rfl rfl)
theorem dX2_stays_22 : decode cX2_stays 22 = .ok (.iload 4, 2) := dk_21 4 (dk_at dksX2_stays_0 22 rfl rfl)
theorem dX2_stays_24 : decode cX2_stays 24 = .ok (.bipush 6, 2) := dk_16 6 (dk_at dksX2_stays_1 0 rfl rfl)
theorem dX2_stays_26 : decode cX2_stays 26 = .ok (.if_icmp .ge 35, 3) := dk_162 0 35 (dk_at dksX2_stays_1 2 rfl rfl)
theorem dX2_stays_29 : decode cX2_stays 29 = .ok (.aload_n 0, 1) := dk_42 (dk_at dksX2_stays_1 5 rfl rfl)
theorem dX2_stays_30 : decode cX2_stays 30 = .ok (.getfield 16, 3) := dk_180 0 16 (dk_at dksX2_stays_1 6 rfl rfl)
theorem dX2_stays_33 : decode cX2_stays 33 = .ok (.iload_n 1, 1) := dk_27 (dk_at dksX2_stays_1 9 rfl rfl)
theorem dX2_stays_34 : decode cX2_stays 34 = .ok (.iload 4, 2) := dk_21 4 (dk_at dksX2_stays_1 10 rfl rfl)
theorem dX2_stays_36 : decode cX2_stays 36 = .ok (.iastore, 1) := dk_79 (dk_at dksX2_stays_1 12 rfl rfl)
theorem dX2_stays_37 : decode cX2_stays 37 = .ok (.iload_n 3, 1) := dk_29 (dk_at dksX2_stays_1 13 rfl rfl)
theorem dX2_stays_38 : decode cX2_stays 38 = .ok (.aload_n 0, 1) := dk_42 (dk_at dksX2_stays_1 14 rfl rfl)
theorem dX2_stays_39 : decode cX2_stays 39 = .ok (.invokevirtual 195, 3) := dk_182 0 195 (dk_at dksX2_stays_1 15 rfl rfl)
theorem dX2_stays_42 : decode cX2_stays 42 = .ok (.ifCond .eq 10, 3) := dk_153 0 10 (dk_at dksX2_stays_1 18 rfl rfl)
theorem dX2_stays_45 : decode cX2_stays 45 = .ok (.iconst 1, 1) := dk_4 (dk_at dksX2_stays_1 21 rfl rfl)
theorem dX2_stays_46 : decode cX2_stays 46 = .ok (.iload 4, 2) := dk_21 4 (dk_at dksX2_stays_1 22 rfl rfl)
theorem dX2_stays_48 : decode cX2_stays 48 = .ok (.ishl, 1) := dk_120 (dk_at dksX2_stays_2 0 rfl rfl)
theorem dX2_stays_49 : decode cX2_stays 49 = .ok (.goto 4, 3) := dk_167 0 4 (dk_at dksX2_stays_2 1 rfl rfl)
theorem dX2_stays_52 : decode cX2_stays 52 = .ok (.iconst 0, 1) := dk_3 (dk_at dksX2_stays_2 4 rfl rfl)
theorem dX2_stays_53 : decode cX2_stays 53 = .ok (.ior, 1) := dk_128 (dk_at dksX2_stays_2 5 rfl rfl)
theorem dX2_stays_54 : decode cX2_stays 54 = .ok (.istore_n 3, 1) := dk_62 (dk_at dksX2_stays_2 6 rfl rfl)
theorem dX2_stays_55 : decode cX2_stays 55 = .ok (.iinc 4 1, 3) := dk_132 4 1 (dk_at dksX2_stays_2 7 rfl rfl)
theorem dX2_stays_58 : decode cX2_stays 58 = .ok (.goto (-36), 3) := dk_167 255 220 (dk_at dksX2_stays_2 10 rfl rfl)
theorem dX2_stays_61 : decode cX2_stays 61 = .ok (.aload_n 0, 1) := dk_42 (dk_at dksX2_stays_2 13 rfl rfl)
theorem dX2_stays_62 : decode cX2_stays 62 = .ok (.getfield 16, 3) := dk_180 0 16 (dk_at dksX2_stays_2 14 rfl rfl)
theorem dX2_stays_65 : decode cX2_stays 65 = .ok (.iload_n 1, 1) := dk_27 (dk_at dksX2_stays_2 17 rfl rfl)
theorem dX2_stays_66 : decode cX2_stays 66 = .ok (.iload_n 2, 1) := dk_28 (dk_at dksX2_stays_2 18 rfl rfl)
theorem dX2_stays_67 : decode cX2_stays 67 = .ok (.iastore, 1) := dk_79 (dk_at dksX2_stays_2 19 rfl rfl)
theorem dX2_stays_68 : decode cX2_stays 68 = .ok (.iload_n 3, 1) := dk_29 (dk_at dksX2_stays_2 20 rfl rfl)
theorem dX2_stays_69 : decode cX2_stays 69 = .ok (.ireturn, 1) := dk_172 (dk_at dksX2_stays_2 21 rfl rfl)
abbrev cX2_areSo : ByteArray := prog_8_method_42_code
def yX2_areSo : MethodName := ⟨RX2, "areSo", "()Z"⟩
def dkwX2_areSo_2 : List UInt8 := [160, 0, 7, 4, 167, 0, 4, 3, 60, 132, 2, 1, 167, 255, 201, 27, 172]
abbrev dktX2_areSo_2 : List UInt8 := dkwX2_areSo_2 ++ []
def dkwX2_areSo_1 : List UInt8 := [180, 0, 47, 28, 46, 182, 0, 168, 42, 180, 0, 50, 28, 46, 184, 0, 158, 42, 180, 0, 53, 28, 51]
abbrev dktX2_areSo_1 : List UInt8 := dkwX2_areSo_1 ++ dktX2_areSo_2
def dkwX2_areSo_0 : List UInt8 := [4, 60, 3, 61, 28, 42, 180, 0, 142, 162, 0, 53, 27, 153, 0, 41, 42, 42, 180, 0, 44, 28, 46, 42]
abbrev dktX2_areSo_0 : List UInt8 := dkwX2_areSo_0 ++ dktX2_areSo_1
theorem dksX2_areSo_0 : cX2_areSo.data.toList.drop 0 = dktX2_areSo_0 := by decide +kernel
theorem dksX2_areSo_1 : cX2_areSo.data.toList.drop 24 = dktX2_areSo_1 := dk_seg dksX2_areSo_0 24 rfl rfl
theorem dksX2_areSo_2 : cX2_areSo.data.toList.drop 47 = dktX2_areSo_2 := dk_seg dksX2_areSo_1 23 rfl rfl
theorem dX2_areSo_0 : decode cX2_areSo 0 = .ok (.iconst 1, 1) := dk_4 (dk_at dksX2_areSo_0 0 rfl rfl)
theorem dX2_areSo_1 : decode cX2_areSo 1 = .ok (.istore_n 1, 1) := dk_60 (dk_at dksX2_areSo_0 1 rfl rfl)
theorem dX2_areSo_2 : decode cX2_areSo 2 = .ok (.iconst 0, 1) := dk_3 (dk_at dksX2_areSo_0 2 rfl rfl)
theorem dX2_areSo_3 : decode cX2_areSo 3 = .ok (.istore_n 2, 1) := dk_61 (dk_at dksX2_areSo_0 3 rfl rfl)
theorem dX2_areSo_4 : decode cX2_areSo 4 = .ok (.iload_n 2, 1) := dk_28 (dk_at dksX2_areSo_0 4 rfl rfl)
theorem dX2_areSo_5 : decode cX2_areSo 5 = .ok (.aload_n 0, 1) := dk_42 (dk_at dksX2_areSo_0 5 rfl rfl)
theorem dX2_areSo_6 : decode cX2_areSo 6 = .ok (.getfield 142, 3) := dk_180 0 142 (dk_at dksX2_areSo_0 6 rfl rfl)
theorem dX2_areSo_9 : decode cX2_areSo 9 = .ok (.if_icmp .ge 53, 3) := dk_162 0 53 (dk_at dksX2_areSo_0 9 rfl rfl)
theorem dX2_areSo_12 : decode cX2_areSo 12 = .ok (.iload_n 1, 1) := dk_27 (dk_at dksX2_areSo_0 12 rfl rfl)
theorem dX2_areSo_13 : decode cX2_areSo 13 = .ok (.ifCond .eq 41, 3) := dk_153 0 41 (dk_at dksX2_areSo_0 13 rfl rfl)
theorem dX2_areSo_16 : decode cX2_areSo 16 = .ok (.aload_n 0, 1) := dk_42 (dk_at dksX2_areSo_0 16 rfl rfl)
theorem dX2_areSo_17 : decode cX2_areSo 17 = .ok (.aload_n 0, 1) := dk_42 (dk_at dksX2_areSo_0 17 rfl rfl)
theorem dX2_areSo_18 : decode cX2_areSo 18 = .ok (.getfield 44, 3) := dk_180 0 44 (dk_at dksX2_areSo_0 18 rfl rfl)
theorem dX2_areSo_21 : decode cX2_areSo 21 = .ok (.iload_n 2, 1) := dk_28 (dk_at dksX2_areSo_0 21 rfl rfl)
theorem dX2_areSo_22 : decode cX2_areSo 22 = .ok (.iaload, 1) := dk_46 (dk_at dksX2_areSo_0 22 rfl rfl)
theorem dX2_areSo_23 : decode cX2_areSo 23 = .ok (.aload_n 0, 1) := dk_42 (dk_at dksX2_areSo_0 23 rfl rfl)
theorem dX2_areSo_24 : decode cX2_areSo 24 = .ok (.getfield 47, 3) := dk_180 0 47 (dk_at dksX2_areSo_1 0 rfl rfl)
theorem dX2_areSo_27 : decode cX2_areSo 27 = .ok (.iload_n 2, 1) := dk_28 (dk_at dksX2_areSo_1 3 rfl rfl)
theorem dX2_areSo_28 : decode cX2_areSo 28 = .ok (.iaload, 1) := dk_46 (dk_at dksX2_areSo_1 4 rfl rfl)
theorem dX2_areSo_29 : decode cX2_areSo 29 = .ok (.invokevirtual 168, 3) := dk_182 0 168 (dk_at dksX2_areSo_1 5 rfl rfl)
theorem dX2_areSo_32 : decode cX2_areSo 32 = .ok (.aload_n 0, 1) := dk_42 (dk_at dksX2_areSo_1 8 rfl rfl)
theorem dX2_areSo_33 : decode cX2_areSo 33 = .ok (.getfield 50, 3) := dk_180 0 50 (dk_at dksX2_areSo_1 9 rfl rfl)
theorem dX2_areSo_36 : decode cX2_areSo 36 = .ok (.iload_n 2, 1) := dk_28 (dk_at dksX2_areSo_1 12 rfl rfl)
theorem dX2_areSo_37 : decode cX2_areSo 37 = .ok (.iaload, 1) := dk_46 (dk_at dksX2_areSo_1 13 rfl rfl)
theorem dX2_areSo_38 : decode cX2_areSo 38 = .ok (.invokestatic 158, 3) := dk_184 0 158 (dk_at dksX2_areSo_1 14 rfl rfl)
theorem dX2_areSo_41 : decode cX2_areSo 41 = .ok (.aload_n 0, 1) := dk_42 (dk_at dksX2_areSo_1 17 rfl rfl)
theorem dX2_areSo_42 : decode cX2_areSo 42 = .ok (.getfield 53, 3) := dk_180 0 53 (dk_at dksX2_areSo_1 18 rfl rfl)
theorem dX2_areSo_45 : decode cX2_areSo 45 = .ok (.iload_n 2, 1) := dk_28 (dk_at dksX2_areSo_1 21 rfl rfl)
theorem dX2_areSo_46 : decode cX2_areSo 46 = .ok (.baload, 1) := dk_51 (dk_at dksX2_areSo_1 22 rfl rfl)
theorem dX2_areSo_47 : decode cX2_areSo 47 = .ok (.if_icmp .ne 7, 3) := dk_160 0 7 (dk_at dksX2_areSo_2 0 rfl rfl)
theorem dX2_areSo_50 : decode cX2_areSo 50 = .ok (.iconst 1, 1) := dk_4 (dk_at dksX2_areSo_2 3 rfl rfl)
theorem dX2_areSo_51 : decode cX2_areSo 51 = .ok (.goto 4, 3) := dk_167 0 4 (dk_at dksX2_areSo_2 4 rfl rfl)
theorem dX2_areSo_54 : decode cX2_areSo 54 = .ok (.iconst 0, 1) := dk_3 (dk_at dksX2_areSo_2 7 rfl rfl)
theorem dX2_areSo_55 : decode cX2_areSo 55 = .ok (.istore_n 1, 1) := dk_60 (dk_at dksX2_areSo_2 8 rfl rfl)
theorem dX2_areSo_56 : decode cX2_areSo 56 = .ok (.iinc 2 1, 3) := dk_132 2 1 (dk_at dksX2_areSo_2 9 rfl rfl)
theorem dX2_areSo_59 : decode cX2_areSo 59 = .ok (.goto (-55), 3) := dk_167 255 201 (dk_at dksX2_areSo_2 12 rfl rfl)
theorem dX2_areSo_62 : decode cX2_areSo 62 = .ok (.iload_n 1, 1) := dk_27 (dk_at dksX2_areSo_2 15 rfl rfl)
theorem dX2_areSo_63 : decode cX2_areSo 63 = .ok (.ireturn, 1) := dk_172 (dk_at dksX2_areSo_2 16 rfl rfl)
abbrev cX2_kinds : ByteArray := prog_8_method_44_code
def yX2_kinds : MethodName := ⟨RX2, "kinds", "(I)I"⟩
def dkwX2_kinds_2 : List UInt8 := [167, 0, 4, 3, 128, 62, 132, 4, 1, 167, 255, 221, 42, 180, 0, 13, 27, 28, 79, 29, 172]
abbrev dktX2_kinds_2 : List UInt8 := dkwX2_kinds_2 ++ []
def dkwX2_kinds_1 : List UInt8 := [6, 162, 0, 35, 42, 180, 0, 13, 27, 21, 4, 79, 29, 42, 182, 0, 195, 153, 0, 10, 4, 21, 4, 120]
abbrev dktX2_kinds_1 : List UInt8 := dkwX2_kinds_1 ++ dktX2_kinds_2
def dkwX2_kinds_0 : List UInt8 := [42, 27, 182, 0, 145, 153, 0, 5, 2, 172, 42, 180, 0, 13, 27, 46, 61, 3, 62, 3, 54, 4, 21, 4]
abbrev dktX2_kinds_0 : List UInt8 := dkwX2_kinds_0 ++ dktX2_kinds_1
theorem dksX2_kinds_0 : cX2_kinds.data.toList.drop 0 = dktX2_kinds_0 := by decide +kernel
theorem dksX2_kinds_1 : cX2_kinds.data.toList.drop 24 = dktX2_kinds_1 := dk_seg dksX2_kinds_0 24 rfl rfl
theorem dksX2_kinds_2 : cX2_kinds.data.toList.drop 48 = dktX2_kinds_2 := dk_seg dksX2_kinds_1 24 rfl rfl
theorem dX2_kinds_0 : decode cX2_kinds 0 = .ok (.aload_n 0, 1) := dk_42 (dk_at dksX2_kinds_0 0 rfl rfl)
theorem dX2_kinds_1 : decode cX2_kinds 1 = .ok (.iload_n 1, 1) := dk_27 (dk_at dksX2_kinds_0 1 rfl rfl)
theorem dX2_kinds_2 : decode cX2_kinds 2 = .ok (.invokevirtual 145, 3) := dk_182 0 145 (dk_at dksX2_kinds_0 2 rfl rfl)
theorem dX2_kinds_5 : decode cX2_kinds 5 = .ok (.ifCond .eq 5, 3) := dk_153 0 5 (dk_at dksX2_kinds_0 5 rfl rfl)
theorem dX2_kinds_8 : decode cX2_kinds 8 = .ok (.iconst (-1), 1) := dk_2 (dk_at dksX2_kinds_0 8 rfl rfl)
theorem dX2_kinds_9 : decode cX2_kinds 9 = .ok (.ireturn, 1) := dk_172 (dk_at dksX2_kinds_0 9 rfl rfl)
theorem dX2_kinds_10 : decode cX2_kinds 10 = .ok (.aload_n 0, 1) := dk_42 (dk_at dksX2_kinds_0 10 rfl rfl)
theorem dX2_kinds_11 : decode cX2_kinds 11 = .ok (.getfield 13, 3) := dk_180 0 13 (dk_at dksX2_kinds_0 11 rfl rfl)
theorem dX2_kinds_14 : decode cX2_kinds 14 = .ok (.iload_n 1, 1) := dk_27 (dk_at dksX2_kinds_0 14 rfl rfl)
theorem dX2_kinds_15 : decode cX2_kinds 15 = .ok (.iaload, 1) := dk_46 (dk_at dksX2_kinds_0 15 rfl rfl)
theorem dX2_kinds_16 : decode cX2_kinds 16 = .ok (.istore_n 2, 1) := dk_61 (dk_at dksX2_kinds_0 16 rfl rfl)
theorem dX2_kinds_17 : decode cX2_kinds 17 = .ok (.iconst 0, 1) := dk_3 (dk_at dksX2_kinds_0 17 rfl rfl)
theorem dX2_kinds_18 : decode cX2_kinds 18 = .ok (.istore_n 3, 1) := dk_62 (dk_at dksX2_kinds_0 18 rfl rfl)
theorem dX2_kinds_19 : decode cX2_kinds 19 = .ok (.iconst 0, 1) := dk_3 (dk_at dksX2_kinds_0 19 rfl rfl)
theorem dX2_kinds_20 : decode cX2_kinds 20 = .ok (.istore 4, 2) := dk_54 4 (dk_at dksX2_kinds_0 20 rfl rfl)
theorem dX2_kinds_22 : decode cX2_kinds 22 = .ok (.iload 4, 2) := dk_21 4 (dk_at dksX2_kinds_0 22 rfl rfl)
theorem dX2_kinds_24 : decode cX2_kinds 24 = .ok (.iconst 3, 1) := dk_6 (dk_at dksX2_kinds_1 0 rfl rfl)
theorem dX2_kinds_25 : decode cX2_kinds 25 = .ok (.if_icmp .ge 35, 3) := dk_162 0 35 (dk_at dksX2_kinds_1 1 rfl rfl)
theorem dX2_kinds_28 : decode cX2_kinds 28 = .ok (.aload_n 0, 1) := dk_42 (dk_at dksX2_kinds_1 4 rfl rfl)
theorem dX2_kinds_29 : decode cX2_kinds 29 = .ok (.getfield 13, 3) := dk_180 0 13 (dk_at dksX2_kinds_1 5 rfl rfl)
theorem dX2_kinds_32 : decode cX2_kinds 32 = .ok (.iload_n 1, 1) := dk_27 (dk_at dksX2_kinds_1 8 rfl rfl)
theorem dX2_kinds_33 : decode cX2_kinds 33 = .ok (.iload 4, 2) := dk_21 4 (dk_at dksX2_kinds_1 9 rfl rfl)
theorem dX2_kinds_35 : decode cX2_kinds 35 = .ok (.iastore, 1) := dk_79 (dk_at dksX2_kinds_1 11 rfl rfl)
theorem dX2_kinds_36 : decode cX2_kinds 36 = .ok (.iload_n 3, 1) := dk_29 (dk_at dksX2_kinds_1 12 rfl rfl)
theorem dX2_kinds_37 : decode cX2_kinds 37 = .ok (.aload_n 0, 1) := dk_42 (dk_at dksX2_kinds_1 13 rfl rfl)
theorem dX2_kinds_38 : decode cX2_kinds 38 = .ok (.invokevirtual 195, 3) := dk_182 0 195 (dk_at dksX2_kinds_1 14 rfl rfl)
theorem dX2_kinds_41 : decode cX2_kinds 41 = .ok (.ifCond .eq 10, 3) := dk_153 0 10 (dk_at dksX2_kinds_1 17 rfl rfl)
theorem dX2_kinds_44 : decode cX2_kinds 44 = .ok (.iconst 1, 1) := dk_4 (dk_at dksX2_kinds_1 20 rfl rfl)
theorem dX2_kinds_45 : decode cX2_kinds 45 = .ok (.iload 4, 2) := dk_21 4 (dk_at dksX2_kinds_1 21 rfl rfl)
theorem dX2_kinds_47 : decode cX2_kinds 47 = .ok (.ishl, 1) := dk_120 (dk_at dksX2_kinds_1 23 rfl rfl)
theorem dX2_kinds_48 : decode cX2_kinds 48 = .ok (.goto 4, 3) := dk_167 0 4 (dk_at dksX2_kinds_2 0 rfl rfl)
theorem dX2_kinds_51 : decode cX2_kinds 51 = .ok (.iconst 0, 1) := dk_3 (dk_at dksX2_kinds_2 3 rfl rfl)
theorem dX2_kinds_52 : decode cX2_kinds 52 = .ok (.ior, 1) := dk_128 (dk_at dksX2_kinds_2 4 rfl rfl)
theorem dX2_kinds_53 : decode cX2_kinds 53 = .ok (.istore_n 3, 1) := dk_62 (dk_at dksX2_kinds_2 5 rfl rfl)
theorem dX2_kinds_54 : decode cX2_kinds 54 = .ok (.iinc 4 1, 3) := dk_132 4 1 (dk_at dksX2_kinds_2 6 rfl rfl)
theorem dX2_kinds_57 : decode cX2_kinds 57 = .ok (.goto (-35), 3) := dk_167 255 221 (dk_at dksX2_kinds_2 9 rfl rfl)
theorem dX2_kinds_60 : decode cX2_kinds 60 = .ok (.aload_n 0, 1) := dk_42 (dk_at dksX2_kinds_2 12 rfl rfl)
theorem dX2_kinds_61 : decode cX2_kinds 61 = .ok (.getfield 13, 3) := dk_180 0 13 (dk_at dksX2_kinds_2 13 rfl rfl)
theorem dX2_kinds_64 : decode cX2_kinds 64 = .ok (.iload_n 1, 1) := dk_27 (dk_at dksX2_kinds_2 16 rfl rfl)
theorem dX2_kinds_65 : decode cX2_kinds 65 = .ok (.iload_n 2, 1) := dk_28 (dk_at dksX2_kinds_2 17 rfl rfl)
theorem dX2_kinds_66 : decode cX2_kinds 66 = .ok (.iastore, 1) := dk_79 (dk_at dksX2_kinds_2 18 rfl rfl)
theorem dX2_kinds_67 : decode cX2_kinds 67 = .ok (.iload_n 3, 1) := dk_29 (dk_at dksX2_kinds_2 19 rfl rfl)
theorem dX2_kinds_68 : decode cX2_kinds 68 = .ok (.ireturn, 1) := dk_172 (dk_at dksX2_kinds_2 20 rfl rfl)
abbrev cX2_sours : ByteArray := prog_8_method_45_code
def yX2_sours : MethodName := ⟨RX2, "sours", "()I"⟩
def dkwX2_sours_2 : List UInt8 := [61, 132, 3, 1, 167, 255, 225, 42, 27, 181, 0, 139, 28, 172]
abbrev dktX2_sours_2 : List UInt8 := dkwX2_sours_2 ++ []
def dkwX2_sours_1 : List UInt8 := [162, 0, 31, 42, 29, 181, 0, 139, 28, 42, 182, 0, 195, 153, 0, 9, 4, 29, 120, 167, 0, 4, 3, 128]
abbrev dktX2_sours_1 : List UInt8 := dkwX2_sours_1 ++ dktX2_sours_2
def dkwX2_sours_0 : List UInt8 := [42, 180, 0, 85, 154, 0, 6, 16, 253, 172, 42, 180, 0, 139, 60, 3, 61, 3, 62, 29, 16, 10]
abbrev dktX2_sours_0 : List UInt8 := dkwX2_sours_0 ++ dktX2_sours_1
theorem dksX2_sours_0 : cX2_sours.data.toList.drop 0 = dktX2_sours_0 := by decide +kernel
theorem dksX2_sours_1 : cX2_sours.data.toList.drop 22 = dktX2_sours_1 := dk_seg dksX2_sours_0 22 rfl rfl
theorem dksX2_sours_2 : cX2_sours.data.toList.drop 46 = dktX2_sours_2 := dk_seg dksX2_sours_1 24 rfl rfl
theorem dX2_sours_0 : decode cX2_sours 0 = .ok (.aload_n 0, 1) := dk_42 (dk_at dksX2_sours_0 0 rfl rfl)
theorem dX2_sours_1 : decode cX2_sours 1 = .ok (.getfield 85, 3) := dk_180 0 85 (dk_at dksX2_sours_0 1 rfl rfl)
theorem dX2_sours_4 : decode cX2_sours 4 = .ok (.ifCond .ne 6, 3) := dk_154 0 6 (dk_at dksX2_sours_0 4 rfl rfl)
theorem dX2_sours_7 : decode cX2_sours 7 = .ok (.bipush (-3), 2) := dk_16 253 (dk_at dksX2_sours_0 7 rfl rfl)
theorem dX2_sours_9 : decode cX2_sours 9 = .ok (.ireturn, 1) := dk_172 (dk_at dksX2_sours_0 9 rfl rfl)
theorem dX2_sours_10 : decode cX2_sours 10 = .ok (.aload_n 0, 1) := dk_42 (dk_at dksX2_sours_0 10 rfl rfl)
theorem dX2_sours_11 : decode cX2_sours 11 = .ok (.getfield 139, 3) := dk_180 0 139 (dk_at dksX2_sours_0 11 rfl rfl)
theorem dX2_sours_14 : decode cX2_sours 14 = .ok (.istore_n 1, 1) := dk_60 (dk_at dksX2_sours_0 14 rfl rfl)
theorem dX2_sours_15 : decode cX2_sours 15 = .ok (.iconst 0, 1) := dk_3 (dk_at dksX2_sours_0 15 rfl rfl)
theorem dX2_sours_16 : decode cX2_sours 16 = .ok (.istore_n 2, 1) := dk_61 (dk_at dksX2_sours_0 16 rfl rfl)
theorem dX2_sours_17 : decode cX2_sours 17 = .ok (.iconst 0, 1) := dk_3 (dk_at dksX2_sours_0 17 rfl rfl)
theorem dX2_sours_18 : decode cX2_sours 18 = .ok (.istore_n 3, 1) := dk_62 (dk_at dksX2_sours_0 18 rfl rfl)
theorem dX2_sours_19 : decode cX2_sours 19 = .ok (.iload_n 3, 1) := dk_29 (dk_at dksX2_sours_0 19 rfl rfl)
theorem dX2_sours_20 : decode cX2_sours 20 = .ok (.bipush 10, 2) := dk_16 10 (dk_at dksX2_sours_0 20 rfl rfl)
theorem dX2_sours_22 : decode cX2_sours 22 = .ok (.if_icmp .ge 31, 3) := dk_162 0 31 (dk_at dksX2_sours_1 0 rfl rfl)
theorem dX2_sours_25 : decode cX2_sours 25 = .ok (.aload_n 0, 1) := dk_42 (dk_at dksX2_sours_1 3 rfl rfl)
theorem dX2_sours_26 : decode cX2_sours 26 = .ok (.iload_n 3, 1) := dk_29 (dk_at dksX2_sours_1 4 rfl rfl)
theorem dX2_sours_27 : decode cX2_sours 27 = .ok (.putfield 139, 3) := dk_181 0 139 (dk_at dksX2_sours_1 5 rfl rfl)
theorem dX2_sours_30 : decode cX2_sours 30 = .ok (.iload_n 2, 1) := dk_28 (dk_at dksX2_sours_1 8 rfl rfl)
theorem dX2_sours_31 : decode cX2_sours 31 = .ok (.aload_n 0, 1) := dk_42 (dk_at dksX2_sours_1 9 rfl rfl)
theorem dX2_sours_32 : decode cX2_sours 32 = .ok (.invokevirtual 195, 3) := dk_182 0 195 (dk_at dksX2_sours_1 10 rfl rfl)
theorem dX2_sours_35 : decode cX2_sours 35 = .ok (.ifCond .eq 9, 3) := dk_153 0 9 (dk_at dksX2_sours_1 13 rfl rfl)
theorem dX2_sours_38 : decode cX2_sours 38 = .ok (.iconst 1, 1) := dk_4 (dk_at dksX2_sours_1 16 rfl rfl)
theorem dX2_sours_39 : decode cX2_sours 39 = .ok (.iload_n 3, 1) := dk_29 (dk_at dksX2_sours_1 17 rfl rfl)
theorem dX2_sours_40 : decode cX2_sours 40 = .ok (.ishl, 1) := dk_120 (dk_at dksX2_sours_1 18 rfl rfl)
theorem dX2_sours_41 : decode cX2_sours 41 = .ok (.goto 4, 3) := dk_167 0 4 (dk_at dksX2_sours_1 19 rfl rfl)
theorem dX2_sours_44 : decode cX2_sours 44 = .ok (.iconst 0, 1) := dk_3 (dk_at dksX2_sours_1 22 rfl rfl)
theorem dX2_sours_45 : decode cX2_sours 45 = .ok (.ior, 1) := dk_128 (dk_at dksX2_sours_1 23 rfl rfl)
theorem dX2_sours_46 : decode cX2_sours 46 = .ok (.istore_n 2, 1) := dk_61 (dk_at dksX2_sours_2 0 rfl rfl)
theorem dX2_sours_47 : decode cX2_sours 47 = .ok (.iinc 3 1, 3) := dk_132 3 1 (dk_at dksX2_sours_2 1 rfl rfl)
theorem dX2_sours_50 : decode cX2_sours 50 = .ok (.goto (-31), 3) := dk_167 255 225 (dk_at dksX2_sours_2 4 rfl rfl)
theorem dX2_sours_53 : decode cX2_sours 53 = .ok (.aload_n 0, 1) := dk_42 (dk_at dksX2_sours_2 7 rfl rfl)
theorem dX2_sours_54 : decode cX2_sours 54 = .ok (.iload_n 1, 1) := dk_27 (dk_at dksX2_sours_2 8 rfl rfl)
theorem dX2_sours_55 : decode cX2_sours 55 = .ok (.putfield 139, 3) := dk_181 0 139 (dk_at dksX2_sours_2 9 rfl rfl)
theorem dX2_sours_58 : decode cX2_sours 58 = .ok (.iload_n 2, 1) := dk_28 (dk_at dksX2_sours_2 12 rfl rfl)
theorem dX2_sours_59 : decode cX2_sours 59 = .ok (.ireturn, 1) := dk_172 (dk_at dksX2_sours_2 13 rfl rfl)
abbrev cX2_odds : ByteArray := prog_8_method_46_code
def yX2_odds : MethodName := ⟨RX2, "odds", "(III)J"⟩
def dkwX2_odds_3 : List UInt8 := [55, 5, 132, 7, 1, 167, 255, 224, 22, 5, 10, 42, 180, 0, 78, 121, 29, 184, 0, 199, 173]
abbrev dktX2_odds_3 : List UInt8 := dkwX2_odds_3 ++ []
def dkwX2_odds_2 : List UInt8 := [42, 180, 0, 78, 120, 162, 0, 27, 22, 5, 21, 4, 21, 7, 126, 154, 0, 7, 10, 167, 0, 4, 9, 97]
abbrev dktX2_odds_2 : List UInt8 := dkwX2_odds_2 ++ dktX2_odds_3
def dkwX2_odds_1 : List UInt8 := [154, 0, 7, 184, 0, 74, 173, 42, 27, 28, 182, 0, 161, 54, 4, 9, 55, 5, 3, 54, 7, 21, 7, 4]
abbrev dktX2_odds_1 : List UInt8 := dkwX2_odds_1 ++ dktX2_odds_2
def dkwX2_odds_0 : List UInt8 := [42, 27, 182, 0, 145, 154, 0, 21, 42, 28, 182, 0, 174, 154, 0, 13, 29, 133, 9, 10, 184, 0, 81]
abbrev dktX2_odds_0 : List UInt8 := dkwX2_odds_0 ++ dktX2_odds_1
theorem dksX2_odds_0 : cX2_odds.data.toList.drop 0 = dktX2_odds_0 := by decide +kernel
theorem dksX2_odds_1 : cX2_odds.data.toList.drop 23 = dktX2_odds_1 := dk_seg dksX2_odds_0 23 rfl rfl
theorem dksX2_odds_2 : cX2_odds.data.toList.drop 47 = dktX2_odds_2 := dk_seg dksX2_odds_1 24 rfl rfl
theorem dksX2_odds_3 : cX2_odds.data.toList.drop 71 = dktX2_odds_3 := dk_seg dksX2_odds_2 24 rfl rfl
theorem dX2_odds_0 : decode cX2_odds 0 = .ok (.aload_n 0, 1) := dk_42 (dk_at dksX2_odds_0 0 rfl rfl)
theorem dX2_odds_1 : decode cX2_odds 1 = .ok (.iload_n 1, 1) := dk_27 (dk_at dksX2_odds_0 1 rfl rfl)
theorem dX2_odds_2 : decode cX2_odds 2 = .ok (.invokevirtual 145, 3) := dk_182 0 145 (dk_at dksX2_odds_0 2 rfl rfl)
theorem dX2_odds_5 : decode cX2_odds 5 = .ok (.ifCond .ne 21, 3) := dk_154 0 21 (dk_at dksX2_odds_0 5 rfl rfl)
theorem dX2_odds_8 : decode cX2_odds 8 = .ok (.aload_n 0, 1) := dk_42 (dk_at dksX2_odds_0 8 rfl rfl)
theorem dX2_odds_9 : decode cX2_odds 9 = .ok (.iload_n 2, 1) := dk_28 (dk_at dksX2_odds_0 9 rfl rfl)
theorem dX2_odds_10 : decode cX2_odds 10 = .ok (.invokevirtual 174, 3) := dk_182 0 174 (dk_at dksX2_odds_0 10 rfl rfl)
theorem dX2_odds_13 : decode cX2_odds 13 = .ok (.ifCond .ne 13, 3) := dk_154 0 13 (dk_at dksX2_odds_0 13 rfl rfl)
theorem dX2_odds_16 : decode cX2_odds 16 = .ok (.iload_n 3, 1) := dk_29 (dk_at dksX2_odds_0 16 rfl rfl)
theorem dX2_odds_17 : decode cX2_odds 17 = .ok (.i2l, 1) := dk_133 (dk_at dksX2_odds_0 17 rfl rfl)
theorem dX2_odds_18 : decode cX2_odds 18 = .ok (.lconst 0, 1) := dk_9 (dk_at dksX2_odds_0 18 rfl rfl)
theorem dX2_odds_19 : decode cX2_odds 19 = .ok (.lconst 1, 1) := dk_10 (dk_at dksX2_odds_0 19 rfl rfl)
theorem dX2_odds_20 : decode cX2_odds 20 = .ok (.invokestatic 81, 3) := dk_184 0 81 (dk_at dksX2_odds_0 20 rfl rfl)
theorem dX2_odds_23 : decode cX2_odds 23 = .ok (.ifCond .ne 7, 3) := dk_154 0 7 (dk_at dksX2_odds_1 0 rfl rfl)
theorem dX2_odds_26 : decode cX2_odds 26 = .ok (.invokestatic 74, 3) := dk_184 0 74 (dk_at dksX2_odds_1 3 rfl rfl)
theorem dX2_odds_29 : decode cX2_odds 29 = .ok (.lreturn, 1) := dk_173 (dk_at dksX2_odds_1 6 rfl rfl)
theorem dX2_odds_30 : decode cX2_odds 30 = .ok (.aload_n 0, 1) := dk_42 (dk_at dksX2_odds_1 7 rfl rfl)
theorem dX2_odds_31 : decode cX2_odds 31 = .ok (.iload_n 1, 1) := dk_27 (dk_at dksX2_odds_1 8 rfl rfl)
theorem dX2_odds_32 : decode cX2_odds 32 = .ok (.iload_n 2, 1) := dk_28 (dk_at dksX2_odds_1 9 rfl rfl)
theorem dX2_odds_33 : decode cX2_odds 33 = .ok (.invokevirtual 161, 3) := dk_182 0 161 (dk_at dksX2_odds_1 10 rfl rfl)
theorem dX2_odds_36 : decode cX2_odds 36 = .ok (.istore 4, 2) := dk_54 4 (dk_at dksX2_odds_1 13 rfl rfl)
theorem dX2_odds_38 : decode cX2_odds 38 = .ok (.lconst 0, 1) := dk_9 (dk_at dksX2_odds_1 15 rfl rfl)
theorem dX2_odds_39 : decode cX2_odds 39 = .ok (.lstore 5, 2) := dk_55 5 (dk_at dksX2_odds_1 16 rfl rfl)
theorem dX2_odds_41 : decode cX2_odds 41 = .ok (.iconst 0, 1) := dk_3 (dk_at dksX2_odds_1 18 rfl rfl)
theorem dX2_odds_42 : decode cX2_odds 42 = .ok (.istore 7, 2) := dk_54 7 (dk_at dksX2_odds_1 19 rfl rfl)
theorem dX2_odds_44 : decode cX2_odds 44 = .ok (.iload 7, 2) := dk_21 7 (dk_at dksX2_odds_1 21 rfl rfl)
theorem dX2_odds_46 : decode cX2_odds 46 = .ok (.iconst 1, 1) := dk_4 (dk_at dksX2_odds_1 23 rfl rfl)
theorem dX2_odds_47 : decode cX2_odds 47 = .ok (.aload_n 0, 1) := dk_42 (dk_at dksX2_odds_2 0 rfl rfl)
theorem dX2_odds_48 : decode cX2_odds 48 = .ok (.getfield 78, 3) := dk_180 0 78 (dk_at dksX2_odds_2 1 rfl rfl)
theorem dX2_odds_51 : decode cX2_odds 51 = .ok (.ishl, 1) := dk_120 (dk_at dksX2_odds_2 4 rfl rfl)
theorem dX2_odds_52 : decode cX2_odds 52 = .ok (.if_icmp .ge 27, 3) := dk_162 0 27 (dk_at dksX2_odds_2 5 rfl rfl)
theorem dX2_odds_55 : decode cX2_odds 55 = .ok (.lload 5, 2) := dk_22 5 (dk_at dksX2_odds_2 8 rfl rfl)
theorem dX2_odds_57 : decode cX2_odds 57 = .ok (.iload 4, 2) := dk_21 4 (dk_at dksX2_odds_2 10 rfl rfl)
theorem dX2_odds_59 : decode cX2_odds 59 = .ok (.iload 7, 2) := dk_21 7 (dk_at dksX2_odds_2 12 rfl rfl)
theorem dX2_odds_61 : decode cX2_odds 61 = .ok (.iand, 1) := dk_126 (dk_at dksX2_odds_2 14 rfl rfl)
theorem dX2_odds_62 : decode cX2_odds 62 = .ok (.ifCond .ne 7, 3) := dk_154 0 7 (dk_at dksX2_odds_2 15 rfl rfl)
theorem dX2_odds_65 : decode cX2_odds 65 = .ok (.lconst 1, 1) := dk_10 (dk_at dksX2_odds_2 18 rfl rfl)
theorem dX2_odds_66 : decode cX2_odds 66 = .ok (.goto 4, 3) := dk_167 0 4 (dk_at dksX2_odds_2 19 rfl rfl)
theorem dX2_odds_69 : decode cX2_odds 69 = .ok (.lconst 0, 1) := dk_9 (dk_at dksX2_odds_2 22 rfl rfl)
theorem dX2_odds_70 : decode cX2_odds 70 = .ok (.ladd, 1) := dk_97 (dk_at dksX2_odds_2 23 rfl rfl)
theorem dX2_odds_71 : decode cX2_odds 71 = .ok (.lstore 5, 2) := dk_55 5 (dk_at dksX2_odds_3 0 rfl rfl)
theorem dX2_odds_73 : decode cX2_odds 73 = .ok (.iinc 7 1, 3) := dk_132 7 1 (dk_at dksX2_odds_3 2 rfl rfl)
theorem dX2_odds_76 : decode cX2_odds 76 = .ok (.goto (-32), 3) := dk_167 255 224 (dk_at dksX2_odds_3 5 rfl rfl)
theorem dX2_odds_79 : decode cX2_odds 79 = .ok (.lload 5, 2) := dk_22 5 (dk_at dksX2_odds_3 8 rfl rfl)
theorem dX2_odds_81 : decode cX2_odds 81 = .ok (.lconst 1, 1) := dk_10 (dk_at dksX2_odds_3 10 rfl rfl)
theorem dX2_odds_82 : decode cX2_odds 82 = .ok (.aload_n 0, 1) := dk_42 (dk_at dksX2_odds_3 11 rfl rfl)
theorem dX2_odds_83 : decode cX2_odds 83 = .ok (.getfield 78, 3) := dk_180 0 78 (dk_at dksX2_odds_3 12 rfl rfl)
theorem dX2_odds_86 : decode cX2_odds 86 = .ok (.lshl, 1) := dk_121 (dk_at dksX2_odds_3 15 rfl rfl)
theorem dX2_odds_87 : decode cX2_odds 87 = .ok (.iload_n 3, 1) := dk_29 (dk_at dksX2_odds_3 16 rfl rfl)
theorem dX2_odds_88 : decode cX2_odds 88 = .ok (.invokestatic 199, 3) := dk_184 0 199 (dk_at dksX2_odds_3 17 rfl rfl)
theorem dX2_odds_91 : decode cX2_odds 91 = .ok (.lreturn, 1) := dk_173 (dk_at dksX2_odds_3 20 rfl rfl)
abbrev cX2_lost : ByteArray := prog_8_method_3_code
def yX2_lost : MethodName := ⟨RX2, "lost", "()J"⟩
theorem dX2_lost_0 : decode cX2_lost 0 = .ok (.ldc2_w 69, 3) := by decide +kernel
theorem dX2_lost_3 : decode cX2_lost 3 = .ok (.lreturn, 1) := by decide +kernel
abbrev cX2_share : ByteArray := prog_8_method_6_code
def yX2_share : MethodName := ⟨RX2, "share", "(JJI)J"⟩
def dkwX2_share_1 : List UInt8 := [22, 9, 55, 7, 167, 255, 234, 21, 4, 154, 0, 7, 30, 167, 0, 4, 32, 22, 5, 109, 173]
abbrev dktX2_share_1 : List UInt8 := dkwX2_share_1 ++ []
def dkwX2_share_0 : List UInt8 := [30, 55, 5, 32, 55, 7, 22, 7, 9, 148, 153, 0, 21, 22, 5, 22, 7, 113, 55, 9, 22, 7, 55, 5]
abbrev dktX2_share_0 : List UInt8 := dkwX2_share_0 ++ dktX2_share_1
theorem dksX2_share_0 : cX2_share.data.toList.drop 0 = dktX2_share_0 := by decide +kernel
theorem dksX2_share_1 : cX2_share.data.toList.drop 24 = dktX2_share_1 := dk_seg dksX2_share_0 24 rfl rfl
theorem dX2_share_0 : decode cX2_share 0 = .ok (.lload_n 0, 1) := dk_30 (dk_at dksX2_share_0 0 rfl rfl)
theorem dX2_share_1 : decode cX2_share 1 = .ok (.lstore 5, 2) := dk_55 5 (dk_at dksX2_share_0 1 rfl rfl)
theorem dX2_share_3 : decode cX2_share 3 = .ok (.lload_n 2, 1) := dk_32 (dk_at dksX2_share_0 3 rfl rfl)
theorem dX2_share_4 : decode cX2_share 4 = .ok (.lstore 7, 2) := dk_55 7 (dk_at dksX2_share_0 4 rfl rfl)
theorem dX2_share_6 : decode cX2_share 6 = .ok (.lload 7, 2) := dk_22 7 (dk_at dksX2_share_0 6 rfl rfl)
theorem dX2_share_8 : decode cX2_share 8 = .ok (.lconst 0, 1) := dk_9 (dk_at dksX2_share_0 8 rfl rfl)
theorem dX2_share_9 : decode cX2_share 9 = .ok (.lcmp, 1) := dk_148 (dk_at dksX2_share_0 9 rfl rfl)
theorem dX2_share_10 : decode cX2_share 10 = .ok (.ifCond .eq 21, 3) := dk_153 0 21 (dk_at dksX2_share_0 10 rfl rfl)
theorem dX2_share_13 : decode cX2_share 13 = .ok (.lload 5, 2) := dk_22 5 (dk_at dksX2_share_0 13 rfl rfl)
theorem dX2_share_15 : decode cX2_share 15 = .ok (.lload 7, 2) := dk_22 7 (dk_at dksX2_share_0 15 rfl rfl)
theorem dX2_share_17 : decode cX2_share 17 = .ok (.lrem, 1) := dk_113 (dk_at dksX2_share_0 17 rfl rfl)
theorem dX2_share_18 : decode cX2_share 18 = .ok (.lstore 9, 2) := dk_55 9 (dk_at dksX2_share_0 18 rfl rfl)
theorem dX2_share_20 : decode cX2_share 20 = .ok (.lload 7, 2) := dk_22 7 (dk_at dksX2_share_0 20 rfl rfl)
theorem dX2_share_22 : decode cX2_share 22 = .ok (.lstore 5, 2) := dk_55 5 (dk_at dksX2_share_0 22 rfl rfl)
theorem dX2_share_24 : decode cX2_share 24 = .ok (.lload 9, 2) := dk_22 9 (dk_at dksX2_share_1 0 rfl rfl)
theorem dX2_share_26 : decode cX2_share 26 = .ok (.lstore 7, 2) := dk_55 7 (dk_at dksX2_share_1 2 rfl rfl)
theorem dX2_share_28 : decode cX2_share 28 = .ok (.goto (-22), 3) := dk_167 255 234 (dk_at dksX2_share_1 4 rfl rfl)
theorem dX2_share_31 : decode cX2_share 31 = .ok (.iload 4, 2) := dk_21 4 (dk_at dksX2_share_1 7 rfl rfl)
theorem dX2_share_33 : decode cX2_share 33 = .ok (.ifCond .ne 7, 3) := dk_154 0 7 (dk_at dksX2_share_1 9 rfl rfl)
theorem dX2_share_36 : decode cX2_share 36 = .ok (.lload_n 0, 1) := dk_30 (dk_at dksX2_share_1 12 rfl rfl)
theorem dX2_share_37 : decode cX2_share 37 = .ok (.goto 4, 3) := dk_167 0 4 (dk_at dksX2_share_1 13 rfl rfl)
theorem dX2_share_40 : decode cX2_share 40 = .ok (.lload_n 2, 1) := dk_32 (dk_at dksX2_share_1 16 rfl rfl)
theorem dX2_share_41 : decode cX2_share 41 = .ok (.lload 5, 2) := dk_22 5 (dk_at dksX2_share_1 17 rfl rfl)
theorem dX2_share_43 : decode cX2_share 43 = .ok (.ldiv, 1) := dk_109 (dk_at dksX2_share_1 19 rfl rfl)
theorem dX2_share_44 : decode cX2_share 44 = .ok (.lreturn, 1) := dk_173 (dk_at dksX2_share_1 20 rfl rfl)
abbrev cX2_sheet : ByteArray := prog_8_method_48_code
def yX2_sheet : MethodName := ⟨RX2, "sheet", "(III)I"⟩
def dkwX2_sheet_4 : List UInt8 := [182, 0, 127, 172]
abbrev dktX2_sheet_4 : List UInt8 := dkwX2_sheet_4 ++ []
def dkwX2_sheet_3 : List UInt8 := [162, 0, 22, 42, 180, 0, 63, 16, 60, 27, 104, 21, 4, 96, 3, 79, 132, 4, 1, 167, 255, 234, 42, 4]
abbrev dktX2_sheet_3 : List UInt8 := dkwX2_sheet_3 ++ dktX2_sheet_4
def dkwX2_sheet_2 : List UInt8 := [182, 0, 115, 172, 42, 180, 0, 57, 27, 29, 79, 42, 180, 0, 60, 27, 28, 79, 3, 54, 4, 21, 4, 29]
abbrev dktX2_sheet_2 : List UInt8 := dkwX2_sheet_2 ++ dktX2_sheet_3
def dkwX2_sheet_1 : List UInt8 := [153, 0, 9, 29, 16, 60, 164, 0, 10, 42, 16, 254, 182, 0, 127, 172, 29, 156, 0, 9, 42, 7]
abbrev dktX2_sheet_1 : List UInt8 := dkwX2_sheet_1 ++ dktX2_sheet_2
def dkwX2_sheet_0 : List UInt8 := [27, 184, 0, 123, 153, 0, 9, 42, 2, 182, 0, 127, 172, 28, 133, 9, 20, 0, 130, 184, 0, 81]
abbrev dktX2_sheet_0 : List UInt8 := dkwX2_sheet_0 ++ dktX2_sheet_1
theorem dksX2_sheet_0 : cX2_sheet.data.toList.drop 0 = dktX2_sheet_0 := by decide +kernel
theorem dksX2_sheet_1 : cX2_sheet.data.toList.drop 22 = dktX2_sheet_1 := dk_seg dksX2_sheet_0 22 rfl rfl
theorem dksX2_sheet_2 : cX2_sheet.data.toList.drop 44 = dktX2_sheet_2 := dk_seg dksX2_sheet_1 22 rfl rfl
theorem dksX2_sheet_3 : cX2_sheet.data.toList.drop 68 = dktX2_sheet_3 := dk_seg dksX2_sheet_2 24 rfl rfl
theorem dksX2_sheet_4 : cX2_sheet.data.toList.drop 92 = dktX2_sheet_4 := dk_seg dksX2_sheet_3 24 rfl rfl
theorem dX2_sheet_0 : decode cX2_sheet 0 = .ok (.iload_n 1, 1) := dk_27 (dk_at dksX2_sheet_0 0 rfl rfl)
theorem dX2_sheet_1 : decode cX2_sheet 1 = .ok (.invokestatic 123, 3) := dk_184 0 123 (dk_at dksX2_sheet_0 1 rfl rfl)
theorem dX2_sheet_4 : decode cX2_sheet 4 = .ok (.ifCond .eq 9, 3) := dk_153 0 9 (dk_at dksX2_sheet_0 4 rfl rfl)
theorem dX2_sheet_7 : decode cX2_sheet 7 = .ok (.aload_n 0, 1) := dk_42 (dk_at dksX2_sheet_0 7 rfl rfl)
theorem dX2_sheet_8 : decode cX2_sheet 8 = .ok (.iconst (-1), 1) := dk_2 (dk_at dksX2_sheet_0 8 rfl rfl)
theorem dX2_sheet_9 : decode cX2_sheet 9 = .ok (.invokevirtual 127, 3) := dk_182 0 127 (dk_at dksX2_sheet_0 9 rfl rfl)
theorem dX2_sheet_12 : decode cX2_sheet 12 = .ok (.ireturn, 1) := dk_172 (dk_at dksX2_sheet_0 12 rfl rfl)
theorem dX2_sheet_13 : decode cX2_sheet 13 = .ok (.iload_n 2, 1) := dk_28 (dk_at dksX2_sheet_0 13 rfl rfl)
theorem dX2_sheet_14 : decode cX2_sheet 14 = .ok (.i2l, 1) := dk_133 (dk_at dksX2_sheet_0 14 rfl rfl)
theorem dX2_sheet_15 : decode cX2_sheet 15 = .ok (.lconst 0, 1) := dk_9 (dk_at dksX2_sheet_0 15 rfl rfl)
theorem dX2_sheet_16 : decode cX2_sheet 16 = .ok (.ldc2_w 130, 3) := dk_20 0 130 (dk_at dksX2_sheet_0 16 rfl rfl)
theorem dX2_sheet_19 : decode cX2_sheet 19 = .ok (.invokestatic 81, 3) := dk_184 0 81 (dk_at dksX2_sheet_0 19 rfl rfl)
theorem dX2_sheet_22 : decode cX2_sheet 22 = .ok (.ifCond .eq 9, 3) := dk_153 0 9 (dk_at dksX2_sheet_1 0 rfl rfl)
theorem dX2_sheet_25 : decode cX2_sheet 25 = .ok (.iload_n 3, 1) := dk_29 (dk_at dksX2_sheet_1 3 rfl rfl)
theorem dX2_sheet_26 : decode cX2_sheet 26 = .ok (.bipush 60, 2) := dk_16 60 (dk_at dksX2_sheet_1 4 rfl rfl)
theorem dX2_sheet_28 : decode cX2_sheet 28 = .ok (.if_icmp .le 10, 3) := dk_164 0 10 (dk_at dksX2_sheet_1 6 rfl rfl)
theorem dX2_sheet_31 : decode cX2_sheet 31 = .ok (.aload_n 0, 1) := dk_42 (dk_at dksX2_sheet_1 9 rfl rfl)
theorem dX2_sheet_32 : decode cX2_sheet 32 = .ok (.bipush (-2), 2) := dk_16 254 (dk_at dksX2_sheet_1 10 rfl rfl)
theorem dX2_sheet_34 : decode cX2_sheet 34 = .ok (.invokevirtual 127, 3) := dk_182 0 127 (dk_at dksX2_sheet_1 12 rfl rfl)
theorem dX2_sheet_37 : decode cX2_sheet 37 = .ok (.ireturn, 1) := dk_172 (dk_at dksX2_sheet_1 15 rfl rfl)
theorem dX2_sheet_38 : decode cX2_sheet 38 = .ok (.iload_n 3, 1) := dk_29 (dk_at dksX2_sheet_1 16 rfl rfl)
theorem dX2_sheet_39 : decode cX2_sheet 39 = .ok (.ifCond .ge 9, 3) := dk_156 0 9 (dk_at dksX2_sheet_1 17 rfl rfl)
theorem dX2_sheet_42 : decode cX2_sheet 42 = .ok (.aload_n 0, 1) := dk_42 (dk_at dksX2_sheet_1 20 rfl rfl)
theorem dX2_sheet_43 : decode cX2_sheet 43 = .ok (.iconst 4, 1) := dk_7 (dk_at dksX2_sheet_1 21 rfl rfl)
theorem dX2_sheet_44 : decode cX2_sheet 44 = .ok (.invokevirtual 115, 3) := dk_182 0 115 (dk_at dksX2_sheet_2 0 rfl rfl)
theorem dX2_sheet_47 : decode cX2_sheet 47 = .ok (.ireturn, 1) := dk_172 (dk_at dksX2_sheet_2 3 rfl rfl)
theorem dX2_sheet_48 : decode cX2_sheet 48 = .ok (.aload_n 0, 1) := dk_42 (dk_at dksX2_sheet_2 4 rfl rfl)
theorem dX2_sheet_49 : decode cX2_sheet 49 = .ok (.getfield 57, 3) := dk_180 0 57 (dk_at dksX2_sheet_2 5 rfl rfl)
theorem dX2_sheet_52 : decode cX2_sheet 52 = .ok (.iload_n 1, 1) := dk_27 (dk_at dksX2_sheet_2 8 rfl rfl)
theorem dX2_sheet_53 : decode cX2_sheet 53 = .ok (.iload_n 3, 1) := dk_29 (dk_at dksX2_sheet_2 9 rfl rfl)
theorem dX2_sheet_54 : decode cX2_sheet 54 = .ok (.iastore, 1) := dk_79 (dk_at dksX2_sheet_2 10 rfl rfl)
theorem dX2_sheet_55 : decode cX2_sheet 55 = .ok (.aload_n 0, 1) := dk_42 (dk_at dksX2_sheet_2 11 rfl rfl)
theorem dX2_sheet_56 : decode cX2_sheet 56 = .ok (.getfield 60, 3) := dk_180 0 60 (dk_at dksX2_sheet_2 12 rfl rfl)
theorem dX2_sheet_59 : decode cX2_sheet 59 = .ok (.iload_n 1, 1) := dk_27 (dk_at dksX2_sheet_2 15 rfl rfl)
theorem dX2_sheet_60 : decode cX2_sheet 60 = .ok (.iload_n 2, 1) := dk_28 (dk_at dksX2_sheet_2 16 rfl rfl)
theorem dX2_sheet_61 : decode cX2_sheet 61 = .ok (.iastore, 1) := dk_79 (dk_at dksX2_sheet_2 17 rfl rfl)
theorem dX2_sheet_62 : decode cX2_sheet 62 = .ok (.iconst 0, 1) := dk_3 (dk_at dksX2_sheet_2 18 rfl rfl)
theorem dX2_sheet_63 : decode cX2_sheet 63 = .ok (.istore 4, 2) := dk_54 4 (dk_at dksX2_sheet_2 19 rfl rfl)
theorem dX2_sheet_65 : decode cX2_sheet 65 = .ok (.iload 4, 2) := dk_21 4 (dk_at dksX2_sheet_2 21 rfl rfl)
theorem dX2_sheet_67 : decode cX2_sheet 67 = .ok (.iload_n 3, 1) := dk_29 (dk_at dksX2_sheet_2 23 rfl rfl)
theorem dX2_sheet_68 : decode cX2_sheet 68 = .ok (.if_icmp .ge 22, 3) := dk_162 0 22 (dk_at dksX2_sheet_3 0 rfl rfl)
theorem dX2_sheet_71 : decode cX2_sheet 71 = .ok (.aload_n 0, 1) := dk_42 (dk_at dksX2_sheet_3 3 rfl rfl)
theorem dX2_sheet_72 : decode cX2_sheet 72 = .ok (.getfield 63, 3) := dk_180 0 63 (dk_at dksX2_sheet_3 4 rfl rfl)
theorem dX2_sheet_75 : decode cX2_sheet 75 = .ok (.bipush 60, 2) := dk_16 60 (dk_at dksX2_sheet_3 7 rfl rfl)
theorem dX2_sheet_77 : decode cX2_sheet 77 = .ok (.iload_n 1, 1) := dk_27 (dk_at dksX2_sheet_3 9 rfl rfl)
theorem dX2_sheet_78 : decode cX2_sheet 78 = .ok (.imul, 1) := dk_104 (dk_at dksX2_sheet_3 10 rfl rfl)
theorem dX2_sheet_79 : decode cX2_sheet 79 = .ok (.iload 4, 2) := dk_21 4 (dk_at dksX2_sheet_3 11 rfl rfl)
theorem dX2_sheet_81 : decode cX2_sheet 81 = .ok (.iadd, 1) := dk_96 (dk_at dksX2_sheet_3 13 rfl rfl)
theorem dX2_sheet_82 : decode cX2_sheet 82 = .ok (.iconst 0, 1) := dk_3 (dk_at dksX2_sheet_3 14 rfl rfl)
theorem dX2_sheet_83 : decode cX2_sheet 83 = .ok (.iastore, 1) := dk_79 (dk_at dksX2_sheet_3 15 rfl rfl)
theorem dX2_sheet_84 : decode cX2_sheet 84 = .ok (.iinc 4 1, 3) := dk_132 4 1 (dk_at dksX2_sheet_3 16 rfl rfl)
theorem dX2_sheet_87 : decode cX2_sheet 87 = .ok (.goto (-22), 3) := dk_167 255 234 (dk_at dksX2_sheet_3 19 rfl rfl)
theorem dX2_sheet_90 : decode cX2_sheet 90 = .ok (.aload_n 0, 1) := dk_42 (dk_at dksX2_sheet_3 22 rfl rfl)
theorem dX2_sheet_91 : decode cX2_sheet 91 = .ok (.iconst 1, 1) := dk_4 (dk_at dksX2_sheet_3 23 rfl rfl)
theorem dX2_sheet_92 : decode cX2_sheet 92 = .ok (.invokevirtual 127, 3) := dk_182 0 127 (dk_at dksX2_sheet_4 0 rfl rfl)
theorem dX2_sheet_95 : decode cX2_sheet 95 = .ok (.ireturn, 1) := dk_172 (dk_at dksX2_sheet_4 3 rfl rfl)
abbrev cX2_lose : ByteArray := prog_8_method_49_code
def yX2_lose : MethodName := ⟨RX2, "lose", "(I)I"⟩
def dkwX2_lose_1 : List UInt8 := [42, 180, 0, 57, 27, 2, 79, 28, 172]
abbrev dktX2_lose_1 : List UInt8 := dkwX2_lose_1 ++ []
def dkwX2_lose_0 : List UInt8 := [27, 184, 0, 123, 153, 0, 5, 2, 172, 42, 180, 0, 57, 27, 46, 156, 0, 7, 3, 167, 0, 4, 4, 61]
abbrev dktX2_lose_0 : List UInt8 := dkwX2_lose_0 ++ dktX2_lose_1
theorem dksX2_lose_0 : cX2_lose.data.toList.drop 0 = dktX2_lose_0 := by decide +kernel
theorem dksX2_lose_1 : cX2_lose.data.toList.drop 24 = dktX2_lose_1 := dk_seg dksX2_lose_0 24 rfl rfl
theorem dX2_lose_0 : decode cX2_lose 0 = .ok (.iload_n 1, 1) := dk_27 (dk_at dksX2_lose_0 0 rfl rfl)
theorem dX2_lose_1 : decode cX2_lose 1 = .ok (.invokestatic 123, 3) := dk_184 0 123 (dk_at dksX2_lose_0 1 rfl rfl)
theorem dX2_lose_4 : decode cX2_lose 4 = .ok (.ifCond .eq 5, 3) := dk_153 0 5 (dk_at dksX2_lose_0 4 rfl rfl)
theorem dX2_lose_7 : decode cX2_lose 7 = .ok (.iconst (-1), 1) := dk_2 (dk_at dksX2_lose_0 7 rfl rfl)
theorem dX2_lose_8 : decode cX2_lose 8 = .ok (.ireturn, 1) := dk_172 (dk_at dksX2_lose_0 8 rfl rfl)
theorem dX2_lose_9 : decode cX2_lose 9 = .ok (.aload_n 0, 1) := dk_42 (dk_at dksX2_lose_0 9 rfl rfl)
theorem dX2_lose_10 : decode cX2_lose 10 = .ok (.getfield 57, 3) := dk_180 0 57 (dk_at dksX2_lose_0 10 rfl rfl)
theorem dX2_lose_13 : decode cX2_lose 13 = .ok (.iload_n 1, 1) := dk_27 (dk_at dksX2_lose_0 13 rfl rfl)
theorem dX2_lose_14 : decode cX2_lose 14 = .ok (.iaload, 1) := dk_46 (dk_at dksX2_lose_0 14 rfl rfl)
theorem dX2_lose_15 : decode cX2_lose 15 = .ok (.ifCond .ge 7, 3) := dk_156 0 7 (dk_at dksX2_lose_0 15 rfl rfl)
theorem dX2_lose_18 : decode cX2_lose 18 = .ok (.iconst 0, 1) := dk_3 (dk_at dksX2_lose_0 18 rfl rfl)
theorem dX2_lose_19 : decode cX2_lose 19 = .ok (.goto 4, 3) := dk_167 0 4 (dk_at dksX2_lose_0 19 rfl rfl)
theorem dX2_lose_22 : decode cX2_lose 22 = .ok (.iconst 1, 1) := dk_4 (dk_at dksX2_lose_0 22 rfl rfl)
theorem dX2_lose_23 : decode cX2_lose 23 = .ok (.istore_n 2, 1) := dk_61 (dk_at dksX2_lose_0 23 rfl rfl)
theorem dX2_lose_24 : decode cX2_lose 24 = .ok (.aload_n 0, 1) := dk_42 (dk_at dksX2_lose_1 0 rfl rfl)
theorem dX2_lose_25 : decode cX2_lose 25 = .ok (.getfield 57, 3) := dk_180 0 57 (dk_at dksX2_lose_1 1 rfl rfl)
theorem dX2_lose_28 : decode cX2_lose 28 = .ok (.iload_n 1, 1) := dk_27 (dk_at dksX2_lose_1 4 rfl rfl)
theorem dX2_lose_29 : decode cX2_lose 29 = .ok (.iconst (-1), 1) := dk_2 (dk_at dksX2_lose_1 5 rfl rfl)
theorem dX2_lose_30 : decode cX2_lose 30 = .ok (.iastore, 1) := dk_79 (dk_at dksX2_lose_1 6 rfl rfl)
theorem dX2_lose_31 : decode cX2_lose 31 = .ok (.iload_n 2, 1) := dk_28 (dk_at dksX2_lose_1 7 rfl rfl)
theorem dX2_lose_32 : decode cX2_lose 32 = .ok (.ireturn, 1) := dk_172 (dk_at dksX2_lose_1 8 rfl rfl)
abbrev cX2_put : ByteArray := prog_8_method_51_code
def yX2_put : MethodName := ⟨RX2, "put", "(III)I"⟩
def dkwX2_put_3 : List UInt8 := [29, 79, 42, 4, 182, 0, 127, 172]
abbrev dktX2_put_3 : List UInt8 := dkwX2_put_3 ++ []
def dkwX2_put_2 : List UInt8 := [46, 154, 0, 8, 29, 145, 167, 0, 19, 42, 180, 0, 60, 27, 46, 4, 160, 0, 8, 29, 147, 167, 0, 4]
abbrev dktX2_put_2 : List UInt8 := dkwX2_put_2 ++ dktX2_put_3
def dkwX2_put_1 : List UInt8 := [27, 28, 182, 0, 203, 182, 0, 115, 172, 42, 180, 0, 63, 16, 60, 27, 104, 28, 96, 42, 180, 0, 60, 27]
abbrev dktX2_put_1 : List UInt8 := dkwX2_put_1 ++ dktX2_put_2
def dkwX2_put_0 : List UInt8 := [27, 184, 0, 123, 153, 0, 9, 42, 2, 182, 0, 127, 172, 42, 27, 28, 182, 0, 203, 158, 0, 14, 42, 42]
abbrev dktX2_put_0 : List UInt8 := dkwX2_put_0 ++ dktX2_put_1
theorem dksX2_put_0 : cX2_put.data.toList.drop 0 = dktX2_put_0 := by decide +kernel
theorem dksX2_put_1 : cX2_put.data.toList.drop 24 = dktX2_put_1 := dk_seg dksX2_put_0 24 rfl rfl
theorem dksX2_put_2 : cX2_put.data.toList.drop 48 = dktX2_put_2 := dk_seg dksX2_put_1 24 rfl rfl
theorem dksX2_put_3 : cX2_put.data.toList.drop 72 = dktX2_put_3 := dk_seg dksX2_put_2 24 rfl rfl
theorem dX2_put_0 : decode cX2_put 0 = .ok (.iload_n 1, 1) := dk_27 (dk_at dksX2_put_0 0 rfl rfl)
theorem dX2_put_1 : decode cX2_put 1 = .ok (.invokestatic 123, 3) := dk_184 0 123 (dk_at dksX2_put_0 1 rfl rfl)
theorem dX2_put_4 : decode cX2_put 4 = .ok (.ifCond .eq 9, 3) := dk_153 0 9 (dk_at dksX2_put_0 4 rfl rfl)
theorem dX2_put_7 : decode cX2_put 7 = .ok (.aload_n 0, 1) := dk_42 (dk_at dksX2_put_0 7 rfl rfl)
theorem dX2_put_8 : decode cX2_put 8 = .ok (.iconst (-1), 1) := dk_2 (dk_at dksX2_put_0 8 rfl rfl)
theorem dX2_put_9 : decode cX2_put 9 = .ok (.invokevirtual 127, 3) := dk_182 0 127 (dk_at dksX2_put_0 9 rfl rfl)
theorem dX2_put_12 : decode cX2_put 12 = .ok (.ireturn, 1) := dk_172 (dk_at dksX2_put_0 12 rfl rfl)
theorem dX2_put_13 : decode cX2_put 13 = .ok (.aload_n 0, 1) := dk_42 (dk_at dksX2_put_0 13 rfl rfl)
theorem dX2_put_14 : decode cX2_put 14 = .ok (.iload_n 1, 1) := dk_27 (dk_at dksX2_put_0 14 rfl rfl)
theorem dX2_put_15 : decode cX2_put 15 = .ok (.iload_n 2, 1) := dk_28 (dk_at dksX2_put_0 15 rfl rfl)
theorem dX2_put_16 : decode cX2_put 16 = .ok (.invokevirtual 203, 3) := dk_182 0 203 (dk_at dksX2_put_0 16 rfl rfl)
theorem dX2_put_19 : decode cX2_put 19 = .ok (.ifCond .le 14, 3) := dk_158 0 14 (dk_at dksX2_put_0 19 rfl rfl)
theorem dX2_put_22 : decode cX2_put 22 = .ok (.aload_n 0, 1) := dk_42 (dk_at dksX2_put_0 22 rfl rfl)
theorem dX2_put_23 : decode cX2_put 23 = .ok (.aload_n 0, 1) := dk_42 (dk_at dksX2_put_0 23 rfl rfl)
theorem dX2_put_24 : decode cX2_put 24 = .ok (.iload_n 1, 1) := dk_27 (dk_at dksX2_put_1 0 rfl rfl)
theorem dX2_put_25 : decode cX2_put 25 = .ok (.iload_n 2, 1) := dk_28 (dk_at dksX2_put_1 1 rfl rfl)
theorem dX2_put_26 : decode cX2_put 26 = .ok (.invokevirtual 203, 3) := dk_182 0 203 (dk_at dksX2_put_1 2 rfl rfl)
theorem dX2_put_29 : decode cX2_put 29 = .ok (.invokevirtual 115, 3) := dk_182 0 115 (dk_at dksX2_put_1 5 rfl rfl)
theorem dX2_put_32 : decode cX2_put 32 = .ok (.ireturn, 1) := dk_172 (dk_at dksX2_put_1 8 rfl rfl)
theorem dX2_put_33 : decode cX2_put 33 = .ok (.aload_n 0, 1) := dk_42 (dk_at dksX2_put_1 9 rfl rfl)
theorem dX2_put_34 : decode cX2_put 34 = .ok (.getfield 63, 3) := dk_180 0 63 (dk_at dksX2_put_1 10 rfl rfl)
theorem dX2_put_37 : decode cX2_put 37 = .ok (.bipush 60, 2) := dk_16 60 (dk_at dksX2_put_1 13 rfl rfl)
theorem dX2_put_39 : decode cX2_put 39 = .ok (.iload_n 1, 1) := dk_27 (dk_at dksX2_put_1 15 rfl rfl)
theorem dX2_put_40 : decode cX2_put 40 = .ok (.imul, 1) := dk_104 (dk_at dksX2_put_1 16 rfl rfl)
theorem dX2_put_41 : decode cX2_put 41 = .ok (.iload_n 2, 1) := dk_28 (dk_at dksX2_put_1 17 rfl rfl)
theorem dX2_put_42 : decode cX2_put 42 = .ok (.iadd, 1) := dk_96 (dk_at dksX2_put_1 18 rfl rfl)
theorem dX2_put_43 : decode cX2_put 43 = .ok (.aload_n 0, 1) := dk_42 (dk_at dksX2_put_1 19 rfl rfl)
theorem dX2_put_44 : decode cX2_put 44 = .ok (.getfield 60, 3) := dk_180 0 60 (dk_at dksX2_put_1 20 rfl rfl)
theorem dX2_put_47 : decode cX2_put 47 = .ok (.iload_n 1, 1) := dk_27 (dk_at dksX2_put_1 23 rfl rfl)
theorem dX2_put_48 : decode cX2_put 48 = .ok (.iaload, 1) := dk_46 (dk_at dksX2_put_2 0 rfl rfl)
theorem dX2_put_49 : decode cX2_put 49 = .ok (.ifCond .ne 8, 3) := dk_154 0 8 (dk_at dksX2_put_2 1 rfl rfl)
theorem dX2_put_52 : decode cX2_put 52 = .ok (.iload_n 3, 1) := dk_29 (dk_at dksX2_put_2 4 rfl rfl)
theorem dX2_put_53 : decode cX2_put 53 = .ok (.i2b, 1) := dk_145 (dk_at dksX2_put_2 5 rfl rfl)
theorem dX2_put_54 : decode cX2_put 54 = .ok (.goto 19, 3) := dk_167 0 19 (dk_at dksX2_put_2 6 rfl rfl)
theorem dX2_put_57 : decode cX2_put 57 = .ok (.aload_n 0, 1) := dk_42 (dk_at dksX2_put_2 9 rfl rfl)
theorem dX2_put_58 : decode cX2_put 58 = .ok (.getfield 60, 3) := dk_180 0 60 (dk_at dksX2_put_2 10 rfl rfl)
theorem dX2_put_61 : decode cX2_put 61 = .ok (.iload_n 1, 1) := dk_27 (dk_at dksX2_put_2 13 rfl rfl)
theorem dX2_put_62 : decode cX2_put 62 = .ok (.iaload, 1) := dk_46 (dk_at dksX2_put_2 14 rfl rfl)
theorem dX2_put_63 : decode cX2_put 63 = .ok (.iconst 1, 1) := dk_4 (dk_at dksX2_put_2 15 rfl rfl)
theorem dX2_put_64 : decode cX2_put 64 = .ok (.if_icmp .ne 8, 3) := dk_160 0 8 (dk_at dksX2_put_2 16 rfl rfl)
theorem dX2_put_67 : decode cX2_put 67 = .ok (.iload_n 3, 1) := dk_29 (dk_at dksX2_put_2 19 rfl rfl)
theorem dX2_put_68 : decode cX2_put 68 = .ok (.i2s, 1) := dk_147 (dk_at dksX2_put_2 20 rfl rfl)
theorem dX2_put_69 : decode cX2_put 69 = .ok (.goto 4, 3) := dk_167 0 4 (dk_at dksX2_put_2 21 rfl rfl)
theorem dX2_put_72 : decode cX2_put 72 = .ok (.iload_n 3, 1) := dk_29 (dk_at dksX2_put_3 0 rfl rfl)
theorem dX2_put_73 : decode cX2_put 73 = .ok (.iastore, 1) := dk_79 (dk_at dksX2_put_3 1 rfl rfl)
theorem dX2_put_74 : decode cX2_put 74 = .ok (.aload_n 0, 1) := dk_42 (dk_at dksX2_put_3 2 rfl rfl)
theorem dX2_put_75 : decode cX2_put 75 = .ok (.iconst 1, 1) := dk_4 (dk_at dksX2_put_3 3 rfl rfl)
theorem dX2_put_76 : decode cX2_put 76 = .ok (.invokevirtual 127, 3) := dk_182 0 127 (dk_at dksX2_put_3 4 rfl rfl)
theorem dX2_put_79 : decode cX2_put 79 = .ok (.ireturn, 1) := dk_172 (dk_at dksX2_put_3 7 rfl rfl)
abbrev cX2_noCell : ByteArray := prog_8_method_50_code
def yX2_noCell : MethodName := ⟨RX2, "noCell", "(II)I"⟩
def dkwX2_noCell_1 : List UInt8 := [101, 184, 0, 81, 153, 0, 7, 3, 167, 0, 4, 6, 172]
abbrev dktX2_noCell_1 : List UInt8 := dkwX2_noCell_1 ++ []
def dkwX2_noCell_0 : List UInt8 := [42, 180, 0, 57, 27, 46, 156, 0, 7, 4, 167, 0, 26, 28, 133, 9, 42, 180, 0, 57, 27, 46, 133, 10]
abbrev dktX2_noCell_0 : List UInt8 := dkwX2_noCell_0 ++ dktX2_noCell_1
theorem dksX2_noCell_0 : cX2_noCell.data.toList.drop 0 = dktX2_noCell_0 := by decide +kernel
theorem dksX2_noCell_1 : cX2_noCell.data.toList.drop 24 = dktX2_noCell_1 := dk_seg dksX2_noCell_0 24 rfl rfl
theorem dX2_noCell_0 : decode cX2_noCell 0 = .ok (.aload_n 0, 1) := dk_42 (dk_at dksX2_noCell_0 0 rfl rfl)
theorem dX2_noCell_1 : decode cX2_noCell 1 = .ok (.getfield 57, 3) := dk_180 0 57 (dk_at dksX2_noCell_0 1 rfl rfl)
theorem dX2_noCell_4 : decode cX2_noCell 4 = .ok (.iload_n 1, 1) := dk_27 (dk_at dksX2_noCell_0 4 rfl rfl)
theorem dX2_noCell_5 : decode cX2_noCell 5 = .ok (.iaload, 1) := dk_46 (dk_at dksX2_noCell_0 5 rfl rfl)
theorem dX2_noCell_6 : decode cX2_noCell 6 = .ok (.ifCond .ge 7, 3) := dk_156 0 7 (dk_at dksX2_noCell_0 6 rfl rfl)
theorem dX2_noCell_9 : decode cX2_noCell 9 = .ok (.iconst 1, 1) := dk_4 (dk_at dksX2_noCell_0 9 rfl rfl)
theorem dX2_noCell_10 : decode cX2_noCell 10 = .ok (.goto 26, 3) := dk_167 0 26 (dk_at dksX2_noCell_0 10 rfl rfl)
theorem dX2_noCell_13 : decode cX2_noCell 13 = .ok (.iload_n 2, 1) := dk_28 (dk_at dksX2_noCell_0 13 rfl rfl)
theorem dX2_noCell_14 : decode cX2_noCell 14 = .ok (.i2l, 1) := dk_133 (dk_at dksX2_noCell_0 14 rfl rfl)
theorem dX2_noCell_15 : decode cX2_noCell 15 = .ok (.lconst 0, 1) := dk_9 (dk_at dksX2_noCell_0 15 rfl rfl)
theorem dX2_noCell_16 : decode cX2_noCell 16 = .ok (.aload_n 0, 1) := dk_42 (dk_at dksX2_noCell_0 16 rfl rfl)
theorem dX2_noCell_17 : decode cX2_noCell 17 = .ok (.getfield 57, 3) := dk_180 0 57 (dk_at dksX2_noCell_0 17 rfl rfl)
theorem dX2_noCell_20 : decode cX2_noCell 20 = .ok (.iload_n 1, 1) := dk_27 (dk_at dksX2_noCell_0 20 rfl rfl)
theorem dX2_noCell_21 : decode cX2_noCell 21 = .ok (.iaload, 1) := dk_46 (dk_at dksX2_noCell_0 21 rfl rfl)
theorem dX2_noCell_22 : decode cX2_noCell 22 = .ok (.i2l, 1) := dk_133 (dk_at dksX2_noCell_0 22 rfl rfl)
theorem dX2_noCell_23 : decode cX2_noCell 23 = .ok (.lconst 1, 1) := dk_10 (dk_at dksX2_noCell_0 23 rfl rfl)
theorem dX2_noCell_24 : decode cX2_noCell 24 = .ok (.lsub, 1) := dk_101 (dk_at dksX2_noCell_1 0 rfl rfl)
theorem dX2_noCell_25 : decode cX2_noCell 25 = .ok (.invokestatic 81, 3) := dk_184 0 81 (dk_at dksX2_noCell_1 1 rfl rfl)
theorem dX2_noCell_28 : decode cX2_noCell 28 = .ok (.ifCond .eq 7, 3) := dk_153 0 7 (dk_at dksX2_noCell_1 4 rfl rfl)
theorem dX2_noCell_31 : decode cX2_noCell 31 = .ok (.iconst 0, 1) := dk_3 (dk_at dksX2_noCell_1 7 rfl rfl)
theorem dX2_noCell_32 : decode cX2_noCell 32 = .ok (.goto 4, 3) := dk_167 0 4 (dk_at dksX2_noCell_1 8 rfl rfl)
theorem dX2_noCell_35 : decode cX2_noCell 35 = .ok (.iconst 3, 1) := dk_6 (dk_at dksX2_noCell_1 11 rfl rfl)
theorem dX2_noCell_36 : decode cX2_noCell 36 = .ok (.ireturn, 1) := dk_172 (dk_at dksX2_noCell_1 12 rfl rfl)
abbrev cX2_cell : ByteArray := prog_8_method_52_code
def yX2_cell : MethodName := ⟨RX2, "cell", "(III)J"⟩
def dkwX2_cell_3 : List UInt8 := [167, 0, 15, 42, 180, 0, 63, 16, 60, 27, 104, 28, 96, 46, 133, 173]
abbrev dktX2_cell_3 : List UInt8 := dkwX2_cell_3 ++ []
def dkwX2_cell_2 : List UInt8 := [5, 182, 0, 206, 173, 42, 27, 28, 182, 0, 203, 158, 0, 16, 42, 42, 27, 28, 182, 0, 203, 182, 0, 206]
abbrev dktX2_cell_2 : List UInt8 := dkwX2_cell_2 ++ dktX2_cell_3
def dkwX2_cell_1 : List UInt8 := [184, 0, 74, 173, 42, 180, 0, 57, 27, 46, 155, 0, 19, 42, 180, 0, 60, 27, 46, 29, 159, 0, 9, 42]
abbrev dktX2_cell_1 : List UInt8 := dkwX2_cell_1 ++ dktX2_cell_2
def dkwX2_cell_0 : List UInt8 := [42, 3, 181, 0, 71, 27, 184, 0, 123, 154, 0, 15, 29, 133, 9, 20, 0, 130, 184, 0, 81, 154, 0, 7]
abbrev dktX2_cell_0 : List UInt8 := dkwX2_cell_0 ++ dktX2_cell_1
theorem dksX2_cell_0 : cX2_cell.data.toList.drop 0 = dktX2_cell_0 := by decide +kernel
theorem dksX2_cell_1 : cX2_cell.data.toList.drop 24 = dktX2_cell_1 := dk_seg dksX2_cell_0 24 rfl rfl
theorem dksX2_cell_2 : cX2_cell.data.toList.drop 48 = dktX2_cell_2 := dk_seg dksX2_cell_1 24 rfl rfl
theorem dksX2_cell_3 : cX2_cell.data.toList.drop 72 = dktX2_cell_3 := dk_seg dksX2_cell_2 24 rfl rfl
theorem dX2_cell_0 : decode cX2_cell 0 = .ok (.aload_n 0, 1) := dk_42 (dk_at dksX2_cell_0 0 rfl rfl)
theorem dX2_cell_1 : decode cX2_cell 1 = .ok (.iconst 0, 1) := dk_3 (dk_at dksX2_cell_0 1 rfl rfl)
theorem dX2_cell_2 : decode cX2_cell 2 = .ok (.putfield 71, 3) := dk_181 0 71 (dk_at dksX2_cell_0 2 rfl rfl)
theorem dX2_cell_5 : decode cX2_cell 5 = .ok (.iload_n 1, 1) := dk_27 (dk_at dksX2_cell_0 5 rfl rfl)
theorem dX2_cell_6 : decode cX2_cell 6 = .ok (.invokestatic 123, 3) := dk_184 0 123 (dk_at dksX2_cell_0 6 rfl rfl)
theorem dX2_cell_9 : decode cX2_cell 9 = .ok (.ifCond .ne 15, 3) := dk_154 0 15 (dk_at dksX2_cell_0 9 rfl rfl)
theorem dX2_cell_12 : decode cX2_cell 12 = .ok (.iload_n 3, 1) := dk_29 (dk_at dksX2_cell_0 12 rfl rfl)
theorem dX2_cell_13 : decode cX2_cell 13 = .ok (.i2l, 1) := dk_133 (dk_at dksX2_cell_0 13 rfl rfl)
theorem dX2_cell_14 : decode cX2_cell 14 = .ok (.lconst 0, 1) := dk_9 (dk_at dksX2_cell_0 14 rfl rfl)
theorem dX2_cell_15 : decode cX2_cell 15 = .ok (.ldc2_w 130, 3) := dk_20 0 130 (dk_at dksX2_cell_0 15 rfl rfl)
theorem dX2_cell_18 : decode cX2_cell 18 = .ok (.invokestatic 81, 3) := dk_184 0 81 (dk_at dksX2_cell_0 18 rfl rfl)
theorem dX2_cell_21 : decode cX2_cell 21 = .ok (.ifCond .ne 7, 3) := dk_154 0 7 (dk_at dksX2_cell_0 21 rfl rfl)
theorem dX2_cell_24 : decode cX2_cell 24 = .ok (.invokestatic 74, 3) := dk_184 0 74 (dk_at dksX2_cell_1 0 rfl rfl)
theorem dX2_cell_27 : decode cX2_cell 27 = .ok (.lreturn, 1) := dk_173 (dk_at dksX2_cell_1 3 rfl rfl)
theorem dX2_cell_28 : decode cX2_cell 28 = .ok (.aload_n 0, 1) := dk_42 (dk_at dksX2_cell_1 4 rfl rfl)
theorem dX2_cell_29 : decode cX2_cell 29 = .ok (.getfield 57, 3) := dk_180 0 57 (dk_at dksX2_cell_1 5 rfl rfl)
theorem dX2_cell_32 : decode cX2_cell 32 = .ok (.iload_n 1, 1) := dk_27 (dk_at dksX2_cell_1 8 rfl rfl)
theorem dX2_cell_33 : decode cX2_cell 33 = .ok (.iaload, 1) := dk_46 (dk_at dksX2_cell_1 9 rfl rfl)
theorem dX2_cell_34 : decode cX2_cell 34 = .ok (.ifCond .lt 19, 3) := dk_155 0 19 (dk_at dksX2_cell_1 10 rfl rfl)
theorem dX2_cell_37 : decode cX2_cell 37 = .ok (.aload_n 0, 1) := dk_42 (dk_at dksX2_cell_1 13 rfl rfl)
theorem dX2_cell_38 : decode cX2_cell 38 = .ok (.getfield 60, 3) := dk_180 0 60 (dk_at dksX2_cell_1 14 rfl rfl)
theorem dX2_cell_41 : decode cX2_cell 41 = .ok (.iload_n 1, 1) := dk_27 (dk_at dksX2_cell_1 17 rfl rfl)
theorem dX2_cell_42 : decode cX2_cell 42 = .ok (.iaload, 1) := dk_46 (dk_at dksX2_cell_1 18 rfl rfl)
theorem dX2_cell_43 : decode cX2_cell 43 = .ok (.iload_n 3, 1) := dk_29 (dk_at dksX2_cell_1 19 rfl rfl)
theorem dX2_cell_44 : decode cX2_cell 44 = .ok (.if_icmp .eq 9, 3) := dk_159 0 9 (dk_at dksX2_cell_1 20 rfl rfl)
theorem dX2_cell_47 : decode cX2_cell 47 = .ok (.aload_n 0, 1) := dk_42 (dk_at dksX2_cell_1 23 rfl rfl)
theorem dX2_cell_48 : decode cX2_cell 48 = .ok (.iconst 2, 1) := dk_5 (dk_at dksX2_cell_2 0 rfl rfl)
theorem dX2_cell_49 : decode cX2_cell 49 = .ok (.invokevirtual 206, 3) := dk_182 0 206 (dk_at dksX2_cell_2 1 rfl rfl)
theorem dX2_cell_52 : decode cX2_cell 52 = .ok (.lreturn, 1) := dk_173 (dk_at dksX2_cell_2 4 rfl rfl)
theorem dX2_cell_53 : decode cX2_cell 53 = .ok (.aload_n 0, 1) := dk_42 (dk_at dksX2_cell_2 5 rfl rfl)
theorem dX2_cell_54 : decode cX2_cell 54 = .ok (.iload_n 1, 1) := dk_27 (dk_at dksX2_cell_2 6 rfl rfl)
theorem dX2_cell_55 : decode cX2_cell 55 = .ok (.iload_n 2, 1) := dk_28 (dk_at dksX2_cell_2 7 rfl rfl)
theorem dX2_cell_56 : decode cX2_cell 56 = .ok (.invokevirtual 203, 3) := dk_182 0 203 (dk_at dksX2_cell_2 8 rfl rfl)
theorem dX2_cell_59 : decode cX2_cell 59 = .ok (.ifCond .le 16, 3) := dk_158 0 16 (dk_at dksX2_cell_2 11 rfl rfl)
theorem dX2_cell_62 : decode cX2_cell 62 = .ok (.aload_n 0, 1) := dk_42 (dk_at dksX2_cell_2 14 rfl rfl)
theorem dX2_cell_63 : decode cX2_cell 63 = .ok (.aload_n 0, 1) := dk_42 (dk_at dksX2_cell_2 15 rfl rfl)
theorem dX2_cell_64 : decode cX2_cell 64 = .ok (.iload_n 1, 1) := dk_27 (dk_at dksX2_cell_2 16 rfl rfl)
theorem dX2_cell_65 : decode cX2_cell 65 = .ok (.iload_n 2, 1) := dk_28 (dk_at dksX2_cell_2 17 rfl rfl)
theorem dX2_cell_66 : decode cX2_cell 66 = .ok (.invokevirtual 203, 3) := dk_182 0 203 (dk_at dksX2_cell_2 18 rfl rfl)
theorem dX2_cell_69 : decode cX2_cell 69 = .ok (.invokevirtual 206, 3) := dk_182 0 206 (dk_at dksX2_cell_2 21 rfl rfl)
theorem dX2_cell_72 : decode cX2_cell 72 = .ok (.goto 15, 3) := dk_167 0 15 (dk_at dksX2_cell_3 0 rfl rfl)
theorem dX2_cell_75 : decode cX2_cell 75 = .ok (.aload_n 0, 1) := dk_42 (dk_at dksX2_cell_3 3 rfl rfl)
theorem dX2_cell_76 : decode cX2_cell 76 = .ok (.getfield 63, 3) := dk_180 0 63 (dk_at dksX2_cell_3 4 rfl rfl)
theorem dX2_cell_79 : decode cX2_cell 79 = .ok (.bipush 60, 2) := dk_16 60 (dk_at dksX2_cell_3 7 rfl rfl)
theorem dX2_cell_81 : decode cX2_cell 81 = .ok (.iload_n 1, 1) := dk_27 (dk_at dksX2_cell_3 9 rfl rfl)
theorem dX2_cell_82 : decode cX2_cell 82 = .ok (.imul, 1) := dk_104 (dk_at dksX2_cell_3 10 rfl rfl)
theorem dX2_cell_83 : decode cX2_cell 83 = .ok (.iload_n 2, 1) := dk_28 (dk_at dksX2_cell_3 11 rfl rfl)
theorem dX2_cell_84 : decode cX2_cell 84 = .ok (.iadd, 1) := dk_96 (dk_at dksX2_cell_3 12 rfl rfl)
theorem dX2_cell_85 : decode cX2_cell 85 = .ok (.iaload, 1) := dk_46 (dk_at dksX2_cell_3 13 rfl rfl)
theorem dX2_cell_86 : decode cX2_cell 86 = .ok (.i2l, 1) := dk_133 (dk_at dksX2_cell_3 14 rfl rfl)
theorem dX2_cell_87 : decode cX2_cell 87 = .ok (.lreturn, 1) := dk_173 (dk_at dksX2_cell_3 15 rfl rfl)
abbrev cX2_failedLong : ByteArray := prog_8_method_9_code
def yX2_failedLong : MethodName := ⟨RX2, "failedLong", "(I)J"⟩
def dkwX2_failedLong_0 : List UInt8 := [42, 27, 181, 0, 71, 184, 0, 74, 173]
abbrev dktX2_failedLong_0 : List UInt8 := dkwX2_failedLong_0 ++ []
theorem dksX2_failedLong_0 : cX2_failedLong.data.toList.drop 0 = dktX2_failedLong_0 := by decide +kernel
theorem dX2_failedLong_0 : decode cX2_failedLong 0 = .ok (.aload_n 0, 1) := dk_42 (dk_at dksX2_failedLong_0 0 rfl rfl)
theorem dX2_failedLong_1 : decode cX2_failedLong 1 = .ok (.iload_n 1, 1) := dk_27 (dk_at dksX2_failedLong_0 1 rfl rfl)
theorem dX2_failedLong_2 : decode cX2_failedLong 2 = .ok (.putfield 71, 3) := dk_181 0 71 (dk_at dksX2_failedLong_0 2 rfl rfl)
theorem dX2_failedLong_5 : decode cX2_failedLong 5 = .ok (.invokestatic 74, 3) := dk_184 0 74 (dk_at dksX2_failedLong_0 5 rfl rfl)
theorem dX2_failedLong_8 : decode cX2_failedLong 8 = .ok (.lreturn, 1) := dk_173 (dk_at dksX2_failedLong_0 8 rfl rfl)
abbrev cX2_copy : ByteArray := prog_8_method_54_code
def yX2_copy : MethodName := ⟨RX2, "copy", "(IIIII)I"⟩
def dkwX2_copy_7 : List UInt8 := [21, 6, 96, 42, 180, 0, 66, 21, 6, 46, 79, 132, 6, 1, 167, 255, 224, 42, 21, 5, 182, 0, 127, 172]
abbrev dktX2_copy_7 : List UInt8 := dkwX2_copy_7 ++ []
def dkwX2_copy_6 : List UInt8 := [167, 255, 225, 3, 54, 6, 21, 6, 21, 5, 162, 0, 31, 42, 180, 0, 63, 16, 60, 29, 104, 21, 4, 96]
abbrev dktX2_copy_6 : List UInt8 := dkwX2_copy_6 ++ dktX2_copy_7
def dkwX2_copy_5 : List UInt8 := [180, 0, 66, 21, 6, 42, 180, 0, 63, 16, 60, 27, 104, 28, 96, 21, 6, 96, 46, 79, 132, 6, 1]
abbrev dktX2_copy_5 : List UInt8 := dkwX2_copy_5 ++ dktX2_copy_6
def dkwX2_copy_4 : List UInt8 := [184, 0, 119, 153, 0, 9, 42, 6, 182, 0, 115, 172, 3, 54, 6, 21, 6, 21, 5, 162, 0, 30, 42]
abbrev dktX2_copy_4 : List UInt8 := dkwX2_copy_4 ++ dktX2_copy_5
def dkwX2_copy_3 : List UInt8 := [180, 0, 57, 27, 46, 184, 0, 119, 154, 0, 20, 21, 4, 21, 5, 133, 42, 180, 0, 57, 29, 46]
abbrev dktX2_copy_3 : List UInt8 := dkwX2_copy_3 ++ dktX2_copy_4
def dkwX2_copy_2 : List UInt8 := [27, 46, 42, 180, 0, 60, 29, 46, 159, 0, 9, 42, 5, 182, 0, 115, 172, 28, 21, 5, 133, 42]
abbrev dktX2_copy_2 : List UInt8 := dkwX2_copy_2 ++ dktX2_copy_3
def dkwX2_copy_1 : List UInt8 := [27, 46, 155, 0, 12, 42, 180, 0, 57, 29, 46, 156, 0, 9, 42, 4, 182, 0, 115, 172, 42, 180, 0, 60]
abbrev dktX2_copy_1 : List UInt8 := dkwX2_copy_1 ++ dktX2_copy_2
def dkwX2_copy_0 : List UInt8 := [27, 184, 0, 123, 154, 0, 10, 29, 184, 0, 123, 153, 0, 9, 42, 2, 182, 0, 127, 172, 42, 180, 0, 57]
abbrev dktX2_copy_0 : List UInt8 := dkwX2_copy_0 ++ dktX2_copy_1
theorem dksX2_copy_0 : cX2_copy.data.toList.drop 0 = dktX2_copy_0 := by decide +kernel
theorem dksX2_copy_1 : cX2_copy.data.toList.drop 24 = dktX2_copy_1 := dk_seg dksX2_copy_0 24 rfl rfl
theorem dksX2_copy_2 : cX2_copy.data.toList.drop 48 = dktX2_copy_2 := dk_seg dksX2_copy_1 24 rfl rfl
theorem dksX2_copy_3 : cX2_copy.data.toList.drop 70 = dktX2_copy_3 := dk_seg dksX2_copy_2 22 rfl rfl
theorem dksX2_copy_4 : cX2_copy.data.toList.drop 92 = dktX2_copy_4 := dk_seg dksX2_copy_3 22 rfl rfl
theorem dksX2_copy_5 : cX2_copy.data.toList.drop 115 = dktX2_copy_5 := dk_seg dksX2_copy_4 23 rfl rfl
theorem dksX2_copy_6 : cX2_copy.data.toList.drop 138 = dktX2_copy_6 := dk_seg dksX2_copy_5 23 rfl rfl
theorem dksX2_copy_7 : cX2_copy.data.toList.drop 162 = dktX2_copy_7 := dk_seg dksX2_copy_6 24 rfl rfl
theorem dX2_copy_0 : decode cX2_copy 0 = .ok (.iload_n 1, 1) := dk_27 (dk_at dksX2_copy_0 0 rfl rfl)
theorem dX2_copy_1 : decode cX2_copy 1 = .ok (.invokestatic 123, 3) := dk_184 0 123 (dk_at dksX2_copy_0 1 rfl rfl)
theorem dX2_copy_4 : decode cX2_copy 4 = .ok (.ifCond .ne 10, 3) := dk_154 0 10 (dk_at dksX2_copy_0 4 rfl rfl)
theorem dX2_copy_7 : decode cX2_copy 7 = .ok (.iload_n 3, 1) := dk_29 (dk_at dksX2_copy_0 7 rfl rfl)
theorem dX2_copy_8 : decode cX2_copy 8 = .ok (.invokestatic 123, 3) := dk_184 0 123 (dk_at dksX2_copy_0 8 rfl rfl)
theorem dX2_copy_11 : decode cX2_copy 11 = .ok (.ifCond .eq 9, 3) := dk_153 0 9 (dk_at dksX2_copy_0 11 rfl rfl)
theorem dX2_copy_14 : decode cX2_copy 14 = .ok (.aload_n 0, 1) := dk_42 (dk_at dksX2_copy_0 14 rfl rfl)
theorem dX2_copy_15 : decode cX2_copy 15 = .ok (.iconst (-1), 1) := dk_2 (dk_at dksX2_copy_0 15 rfl rfl)
theorem dX2_copy_16 : decode cX2_copy 16 = .ok (.invokevirtual 127, 3) := dk_182 0 127 (dk_at dksX2_copy_0 16 rfl rfl)
theorem dX2_copy_19 : decode cX2_copy 19 = .ok (.ireturn, 1) := dk_172 (dk_at dksX2_copy_0 19 rfl rfl)
theorem dX2_copy_20 : decode cX2_copy 20 = .ok (.aload_n 0, 1) := dk_42 (dk_at dksX2_copy_0 20 rfl rfl)
theorem dX2_copy_21 : decode cX2_copy 21 = .ok (.getfield 57, 3) := dk_180 0 57 (dk_at dksX2_copy_0 21 rfl rfl)
theorem dX2_copy_24 : decode cX2_copy 24 = .ok (.iload_n 1, 1) := dk_27 (dk_at dksX2_copy_1 0 rfl rfl)
theorem dX2_copy_25 : decode cX2_copy 25 = .ok (.iaload, 1) := dk_46 (dk_at dksX2_copy_1 1 rfl rfl)
theorem dX2_copy_26 : decode cX2_copy 26 = .ok (.ifCond .lt 12, 3) := dk_155 0 12 (dk_at dksX2_copy_1 2 rfl rfl)
theorem dX2_copy_29 : decode cX2_copy 29 = .ok (.aload_n 0, 1) := dk_42 (dk_at dksX2_copy_1 5 rfl rfl)
theorem dX2_copy_30 : decode cX2_copy 30 = .ok (.getfield 57, 3) := dk_180 0 57 (dk_at dksX2_copy_1 6 rfl rfl)
theorem dX2_copy_33 : decode cX2_copy 33 = .ok (.iload_n 3, 1) := dk_29 (dk_at dksX2_copy_1 9 rfl rfl)
theorem dX2_copy_34 : decode cX2_copy 34 = .ok (.iaload, 1) := dk_46 (dk_at dksX2_copy_1 10 rfl rfl)
theorem dX2_copy_35 : decode cX2_copy 35 = .ok (.ifCond .ge 9, 3) := dk_156 0 9 (dk_at dksX2_copy_1 11 rfl rfl)
theorem dX2_copy_38 : decode cX2_copy 38 = .ok (.aload_n 0, 1) := dk_42 (dk_at dksX2_copy_1 14 rfl rfl)
theorem dX2_copy_39 : decode cX2_copy 39 = .ok (.iconst 1, 1) := dk_4 (dk_at dksX2_copy_1 15 rfl rfl)
theorem dX2_copy_40 : decode cX2_copy 40 = .ok (.invokevirtual 115, 3) := dk_182 0 115 (dk_at dksX2_copy_1 16 rfl rfl)
theorem dX2_copy_43 : decode cX2_copy 43 = .ok (.ireturn, 1) := dk_172 (dk_at dksX2_copy_1 19 rfl rfl)
theorem dX2_copy_44 : decode cX2_copy 44 = .ok (.aload_n 0, 1) := dk_42 (dk_at dksX2_copy_1 20 rfl rfl)
theorem dX2_copy_45 : decode cX2_copy 45 = .ok (.getfield 60, 3) := dk_180 0 60 (dk_at dksX2_copy_1 21 rfl rfl)
theorem dX2_copy_48 : decode cX2_copy 48 = .ok (.iload_n 1, 1) := dk_27 (dk_at dksX2_copy_2 0 rfl rfl)
theorem dX2_copy_49 : decode cX2_copy 49 = .ok (.iaload, 1) := dk_46 (dk_at dksX2_copy_2 1 rfl rfl)
theorem dX2_copy_50 : decode cX2_copy 50 = .ok (.aload_n 0, 1) := dk_42 (dk_at dksX2_copy_2 2 rfl rfl)
theorem dX2_copy_51 : decode cX2_copy 51 = .ok (.getfield 60, 3) := dk_180 0 60 (dk_at dksX2_copy_2 3 rfl rfl)
theorem dX2_copy_54 : decode cX2_copy 54 = .ok (.iload_n 3, 1) := dk_29 (dk_at dksX2_copy_2 6 rfl rfl)
theorem dX2_copy_55 : decode cX2_copy 55 = .ok (.iaload, 1) := dk_46 (dk_at dksX2_copy_2 7 rfl rfl)
theorem dX2_copy_56 : decode cX2_copy 56 = .ok (.if_icmp .eq 9, 3) := dk_159 0 9 (dk_at dksX2_copy_2 8 rfl rfl)
theorem dX2_copy_59 : decode cX2_copy 59 = .ok (.aload_n 0, 1) := dk_42 (dk_at dksX2_copy_2 11 rfl rfl)
theorem dX2_copy_60 : decode cX2_copy 60 = .ok (.iconst 2, 1) := dk_5 (dk_at dksX2_copy_2 12 rfl rfl)
theorem dX2_copy_61 : decode cX2_copy 61 = .ok (.invokevirtual 115, 3) := dk_182 0 115 (dk_at dksX2_copy_2 13 rfl rfl)
theorem dX2_copy_64 : decode cX2_copy 64 = .ok (.ireturn, 1) := dk_172 (dk_at dksX2_copy_2 16 rfl rfl)
theorem dX2_copy_65 : decode cX2_copy 65 = .ok (.iload_n 2, 1) := dk_28 (dk_at dksX2_copy_2 17 rfl rfl)
theorem dX2_copy_66 : decode cX2_copy 66 = .ok (.iload 5, 2) := dk_21 5 (dk_at dksX2_copy_2 18 rfl rfl)
theorem dX2_copy_68 : decode cX2_copy 68 = .ok (.i2l, 1) := dk_133 (dk_at dksX2_copy_2 20 rfl rfl)
theorem dX2_copy_69 : decode cX2_copy 69 = .ok (.aload_n 0, 1) := dk_42 (dk_at dksX2_copy_2 21 rfl rfl)
theorem dX2_copy_70 : decode cX2_copy 70 = .ok (.getfield 57, 3) := dk_180 0 57 (dk_at dksX2_copy_3 0 rfl rfl)
theorem dX2_copy_73 : decode cX2_copy 73 = .ok (.iload_n 1, 1) := dk_27 (dk_at dksX2_copy_3 3 rfl rfl)
theorem dX2_copy_74 : decode cX2_copy 74 = .ok (.iaload, 1) := dk_46 (dk_at dksX2_copy_3 4 rfl rfl)
theorem dX2_copy_75 : decode cX2_copy 75 = .ok (.invokestatic 119, 3) := dk_184 0 119 (dk_at dksX2_copy_3 5 rfl rfl)
theorem dX2_copy_78 : decode cX2_copy 78 = .ok (.ifCond .ne 20, 3) := dk_154 0 20 (dk_at dksX2_copy_3 8 rfl rfl)
theorem dX2_copy_81 : decode cX2_copy 81 = .ok (.iload 4, 2) := dk_21 4 (dk_at dksX2_copy_3 11 rfl rfl)
theorem dX2_copy_83 : decode cX2_copy 83 = .ok (.iload 5, 2) := dk_21 5 (dk_at dksX2_copy_3 13 rfl rfl)
theorem dX2_copy_85 : decode cX2_copy 85 = .ok (.i2l, 1) := dk_133 (dk_at dksX2_copy_3 15 rfl rfl)
theorem dX2_copy_86 : decode cX2_copy 86 = .ok (.aload_n 0, 1) := dk_42 (dk_at dksX2_copy_3 16 rfl rfl)
theorem dX2_copy_87 : decode cX2_copy 87 = .ok (.getfield 57, 3) := dk_180 0 57 (dk_at dksX2_copy_3 17 rfl rfl)
theorem dX2_copy_90 : decode cX2_copy 90 = .ok (.iload_n 3, 1) := dk_29 (dk_at dksX2_copy_3 20 rfl rfl)
theorem dX2_copy_91 : decode cX2_copy 91 = .ok (.iaload, 1) := dk_46 (dk_at dksX2_copy_3 21 rfl rfl)
theorem dX2_copy_92 : decode cX2_copy 92 = .ok (.invokestatic 119, 3) := dk_184 0 119 (dk_at dksX2_copy_4 0 rfl rfl)
theorem dX2_copy_95 : decode cX2_copy 95 = .ok (.ifCond .eq 9, 3) := dk_153 0 9 (dk_at dksX2_copy_4 3 rfl rfl)
theorem dX2_copy_98 : decode cX2_copy 98 = .ok (.aload_n 0, 1) := dk_42 (dk_at dksX2_copy_4 6 rfl rfl)
theorem dX2_copy_99 : decode cX2_copy 99 = .ok (.iconst 3, 1) := dk_6 (dk_at dksX2_copy_4 7 rfl rfl)
theorem dX2_copy_100 : decode cX2_copy 100 = .ok (.invokevirtual 115, 3) := dk_182 0 115 (dk_at dksX2_copy_4 8 rfl rfl)
theorem dX2_copy_103 : decode cX2_copy 103 = .ok (.ireturn, 1) := dk_172 (dk_at dksX2_copy_4 11 rfl rfl)
theorem dX2_copy_104 : decode cX2_copy 104 = .ok (.iconst 0, 1) := dk_3 (dk_at dksX2_copy_4 12 rfl rfl)
theorem dX2_copy_105 : decode cX2_copy 105 = .ok (.istore 6, 2) := dk_54 6 (dk_at dksX2_copy_4 13 rfl rfl)
theorem dX2_copy_107 : decode cX2_copy 107 = .ok (.iload 6, 2) := dk_21 6 (dk_at dksX2_copy_4 15 rfl rfl)
theorem dX2_copy_109 : decode cX2_copy 109 = .ok (.iload 5, 2) := dk_21 5 (dk_at dksX2_copy_4 17 rfl rfl)
theorem dX2_copy_111 : decode cX2_copy 111 = .ok (.if_icmp .ge 30, 3) := dk_162 0 30 (dk_at dksX2_copy_4 19 rfl rfl)
theorem dX2_copy_114 : decode cX2_copy 114 = .ok (.aload_n 0, 1) := dk_42 (dk_at dksX2_copy_4 22 rfl rfl)
theorem dX2_copy_115 : decode cX2_copy 115 = .ok (.getfield 66, 3) := dk_180 0 66 (dk_at dksX2_copy_5 0 rfl rfl)
theorem dX2_copy_118 : decode cX2_copy 118 = .ok (.iload 6, 2) := dk_21 6 (dk_at dksX2_copy_5 3 rfl rfl)
theorem dX2_copy_120 : decode cX2_copy 120 = .ok (.aload_n 0, 1) := dk_42 (dk_at dksX2_copy_5 5 rfl rfl)
theorem dX2_copy_121 : decode cX2_copy 121 = .ok (.getfield 63, 3) := dk_180 0 63 (dk_at dksX2_copy_5 6 rfl rfl)
theorem dX2_copy_124 : decode cX2_copy 124 = .ok (.bipush 60, 2) := dk_16 60 (dk_at dksX2_copy_5 9 rfl rfl)
theorem dX2_copy_126 : decode cX2_copy 126 = .ok (.iload_n 1, 1) := dk_27 (dk_at dksX2_copy_5 11 rfl rfl)
theorem dX2_copy_127 : decode cX2_copy 127 = .ok (.imul, 1) := dk_104 (dk_at dksX2_copy_5 12 rfl rfl)
theorem dX2_copy_128 : decode cX2_copy 128 = .ok (.iload_n 2, 1) := dk_28 (dk_at dksX2_copy_5 13 rfl rfl)
theorem dX2_copy_129 : decode cX2_copy 129 = .ok (.iadd, 1) := dk_96 (dk_at dksX2_copy_5 14 rfl rfl)
theorem dX2_copy_130 : decode cX2_copy 130 = .ok (.iload 6, 2) := dk_21 6 (dk_at dksX2_copy_5 15 rfl rfl)
theorem dX2_copy_132 : decode cX2_copy 132 = .ok (.iadd, 1) := dk_96 (dk_at dksX2_copy_5 17 rfl rfl)
theorem dX2_copy_133 : decode cX2_copy 133 = .ok (.iaload, 1) := dk_46 (dk_at dksX2_copy_5 18 rfl rfl)
theorem dX2_copy_134 : decode cX2_copy 134 = .ok (.iastore, 1) := dk_79 (dk_at dksX2_copy_5 19 rfl rfl)
theorem dX2_copy_135 : decode cX2_copy 135 = .ok (.iinc 6 1, 3) := dk_132 6 1 (dk_at dksX2_copy_5 20 rfl rfl)
theorem dX2_copy_138 : decode cX2_copy 138 = .ok (.goto (-31), 3) := dk_167 255 225 (dk_at dksX2_copy_6 0 rfl rfl)
theorem dX2_copy_141 : decode cX2_copy 141 = .ok (.iconst 0, 1) := dk_3 (dk_at dksX2_copy_6 3 rfl rfl)
theorem dX2_copy_142 : decode cX2_copy 142 = .ok (.istore 6, 2) := dk_54 6 (dk_at dksX2_copy_6 4 rfl rfl)
theorem dX2_copy_144 : decode cX2_copy 144 = .ok (.iload 6, 2) := dk_21 6 (dk_at dksX2_copy_6 6 rfl rfl)
theorem dX2_copy_146 : decode cX2_copy 146 = .ok (.iload 5, 2) := dk_21 5 (dk_at dksX2_copy_6 8 rfl rfl)
theorem dX2_copy_148 : decode cX2_copy 148 = .ok (.if_icmp .ge 31, 3) := dk_162 0 31 (dk_at dksX2_copy_6 10 rfl rfl)
theorem dX2_copy_151 : decode cX2_copy 151 = .ok (.aload_n 0, 1) := dk_42 (dk_at dksX2_copy_6 13 rfl rfl)
theorem dX2_copy_152 : decode cX2_copy 152 = .ok (.getfield 63, 3) := dk_180 0 63 (dk_at dksX2_copy_6 14 rfl rfl)
theorem dX2_copy_155 : decode cX2_copy 155 = .ok (.bipush 60, 2) := dk_16 60 (dk_at dksX2_copy_6 17 rfl rfl)
theorem dX2_copy_157 : decode cX2_copy 157 = .ok (.iload_n 3, 1) := dk_29 (dk_at dksX2_copy_6 19 rfl rfl)
theorem dX2_copy_158 : decode cX2_copy 158 = .ok (.imul, 1) := dk_104 (dk_at dksX2_copy_6 20 rfl rfl)
theorem dX2_copy_159 : decode cX2_copy 159 = .ok (.iload 4, 2) := dk_21 4 (dk_at dksX2_copy_6 21 rfl rfl)
theorem dX2_copy_161 : decode cX2_copy 161 = .ok (.iadd, 1) := dk_96 (dk_at dksX2_copy_6 23 rfl rfl)
theorem dX2_copy_162 : decode cX2_copy 162 = .ok (.iload 6, 2) := dk_21 6 (dk_at dksX2_copy_7 0 rfl rfl)
theorem dX2_copy_164 : decode cX2_copy 164 = .ok (.iadd, 1) := dk_96 (dk_at dksX2_copy_7 2 rfl rfl)
theorem dX2_copy_165 : decode cX2_copy 165 = .ok (.aload_n 0, 1) := dk_42 (dk_at dksX2_copy_7 3 rfl rfl)
theorem dX2_copy_166 : decode cX2_copy 166 = .ok (.getfield 66, 3) := dk_180 0 66 (dk_at dksX2_copy_7 4 rfl rfl)
theorem dX2_copy_169 : decode cX2_copy 169 = .ok (.iload 6, 2) := dk_21 6 (dk_at dksX2_copy_7 7 rfl rfl)
theorem dX2_copy_171 : decode cX2_copy 171 = .ok (.iaload, 1) := dk_46 (dk_at dksX2_copy_7 9 rfl rfl)
theorem dX2_copy_172 : decode cX2_copy 172 = .ok (.iastore, 1) := dk_79 (dk_at dksX2_copy_7 10 rfl rfl)
theorem dX2_copy_173 : decode cX2_copy 173 = .ok (.iinc 6 1, 3) := dk_132 6 1 (dk_at dksX2_copy_7 11 rfl rfl)
theorem dX2_copy_176 : decode cX2_copy 176 = .ok (.goto (-32), 3) := dk_167 255 224 (dk_at dksX2_copy_7 14 rfl rfl)
theorem dX2_copy_179 : decode cX2_copy 179 = .ok (.aload_n 0, 1) := dk_42 (dk_at dksX2_copy_7 17 rfl rfl)
theorem dX2_copy_180 : decode cX2_copy 180 = .ok (.iload 5, 2) := dk_21 5 (dk_at dksX2_copy_7 18 rfl rfl)
theorem dX2_copy_182 : decode cX2_copy 182 = .ok (.invokevirtual 127, 3) := dk_182 0 127 (dk_at dksX2_copy_7 20 rfl rfl)
theorem dX2_copy_185 : decode cX2_copy 185 = .ok (.ireturn, 1) := dk_172 (dk_at dksX2_copy_7 23 rfl rfl)
abbrev cX2_tell : ByteArray := prog_8_method_56_code
def yX2_tell : MethodName := ⟨RX2, "tell", "(I)I"⟩
def dkwX2_tell_3 : List UInt8 := [16, 100, 96, 167, 0, 9, 5, 29, 104, 16, 100, 96, 172]
abbrev dktX2_tell_3 : List UInt8 := dkwX2_tell_3 ++ []
def dkwX2_tell_2 : List UInt8 := [182, 0, 213, 42, 180, 0, 19, 27, 46, 62, 28, 154, 0, 7, 29, 167, 0, 21, 28, 4, 160, 0, 10, 29]
abbrev dktX2_tell_2 : List UInt8 := dkwX2_tell_2 ++ dktX2_tell_3
def dkwX2_tell_1 : List UInt8 := [182, 0, 213, 28, 158, 0, 8, 42, 5, 182, 0, 213, 42, 4, 182, 0, 213, 28, 5, 160, 0, 8, 42, 4]
abbrev dktX2_tell_1 : List UInt8 := dkwX2_tell_1 ++ dktX2_tell_2
def dkwX2_tell_0 : List UInt8 := [42, 27, 182, 0, 145, 153, 0, 5, 2, 172, 42, 180, 0, 13, 27, 46, 61, 28, 5, 160, 0, 8, 42, 6]
abbrev dktX2_tell_0 : List UInt8 := dkwX2_tell_0 ++ dktX2_tell_1
theorem dksX2_tell_0 : cX2_tell.data.toList.drop 0 = dktX2_tell_0 := by decide +kernel
theorem dksX2_tell_1 : cX2_tell.data.toList.drop 24 = dktX2_tell_1 := dk_seg dksX2_tell_0 24 rfl rfl
theorem dksX2_tell_2 : cX2_tell.data.toList.drop 48 = dktX2_tell_2 := dk_seg dksX2_tell_1 24 rfl rfl
theorem dksX2_tell_3 : cX2_tell.data.toList.drop 72 = dktX2_tell_3 := dk_seg dksX2_tell_2 24 rfl rfl
theorem dX2_tell_0 : decode cX2_tell 0 = .ok (.aload_n 0, 1) := dk_42 (dk_at dksX2_tell_0 0 rfl rfl)
theorem dX2_tell_1 : decode cX2_tell 1 = .ok (.iload_n 1, 1) := dk_27 (dk_at dksX2_tell_0 1 rfl rfl)
theorem dX2_tell_2 : decode cX2_tell 2 = .ok (.invokevirtual 145, 3) := dk_182 0 145 (dk_at dksX2_tell_0 2 rfl rfl)
theorem dX2_tell_5 : decode cX2_tell 5 = .ok (.ifCond .eq 5, 3) := dk_153 0 5 (dk_at dksX2_tell_0 5 rfl rfl)
theorem dX2_tell_8 : decode cX2_tell 8 = .ok (.iconst (-1), 1) := dk_2 (dk_at dksX2_tell_0 8 rfl rfl)
theorem dX2_tell_9 : decode cX2_tell 9 = .ok (.ireturn, 1) := dk_172 (dk_at dksX2_tell_0 9 rfl rfl)
theorem dX2_tell_10 : decode cX2_tell 10 = .ok (.aload_n 0, 1) := dk_42 (dk_at dksX2_tell_0 10 rfl rfl)
theorem dX2_tell_11 : decode cX2_tell 11 = .ok (.getfield 13, 3) := dk_180 0 13 (dk_at dksX2_tell_0 11 rfl rfl)
theorem dX2_tell_14 : decode cX2_tell 14 = .ok (.iload_n 1, 1) := dk_27 (dk_at dksX2_tell_0 14 rfl rfl)
theorem dX2_tell_15 : decode cX2_tell 15 = .ok (.iaload, 1) := dk_46 (dk_at dksX2_tell_0 15 rfl rfl)
theorem dX2_tell_16 : decode cX2_tell 16 = .ok (.istore_n 2, 1) := dk_61 (dk_at dksX2_tell_0 16 rfl rfl)
theorem dX2_tell_17 : decode cX2_tell 17 = .ok (.iload_n 2, 1) := dk_28 (dk_at dksX2_tell_0 17 rfl rfl)
theorem dX2_tell_18 : decode cX2_tell 18 = .ok (.iconst 2, 1) := dk_5 (dk_at dksX2_tell_0 18 rfl rfl)
theorem dX2_tell_19 : decode cX2_tell 19 = .ok (.if_icmp .ne 8, 3) := dk_160 0 8 (dk_at dksX2_tell_0 19 rfl rfl)
theorem dX2_tell_22 : decode cX2_tell 22 = .ok (.aload_n 0, 1) := dk_42 (dk_at dksX2_tell_0 22 rfl rfl)
theorem dX2_tell_23 : decode cX2_tell 23 = .ok (.iconst 3, 1) := dk_6 (dk_at dksX2_tell_0 23 rfl rfl)
theorem dX2_tell_24 : decode cX2_tell 24 = .ok (.invokevirtual 213, 3) := dk_182 0 213 (dk_at dksX2_tell_1 0 rfl rfl)
theorem dX2_tell_27 : decode cX2_tell 27 = .ok (.iload_n 2, 1) := dk_28 (dk_at dksX2_tell_1 3 rfl rfl)
theorem dX2_tell_28 : decode cX2_tell 28 = .ok (.ifCond .le 8, 3) := dk_158 0 8 (dk_at dksX2_tell_1 4 rfl rfl)
theorem dX2_tell_31 : decode cX2_tell 31 = .ok (.aload_n 0, 1) := dk_42 (dk_at dksX2_tell_1 7 rfl rfl)
theorem dX2_tell_32 : decode cX2_tell 32 = .ok (.iconst 2, 1) := dk_5 (dk_at dksX2_tell_1 8 rfl rfl)
theorem dX2_tell_33 : decode cX2_tell 33 = .ok (.invokevirtual 213, 3) := dk_182 0 213 (dk_at dksX2_tell_1 9 rfl rfl)
theorem dX2_tell_36 : decode cX2_tell 36 = .ok (.aload_n 0, 1) := dk_42 (dk_at dksX2_tell_1 12 rfl rfl)
theorem dX2_tell_37 : decode cX2_tell 37 = .ok (.iconst 1, 1) := dk_4 (dk_at dksX2_tell_1 13 rfl rfl)
theorem dX2_tell_38 : decode cX2_tell 38 = .ok (.invokevirtual 213, 3) := dk_182 0 213 (dk_at dksX2_tell_1 14 rfl rfl)
theorem dX2_tell_41 : decode cX2_tell 41 = .ok (.iload_n 2, 1) := dk_28 (dk_at dksX2_tell_1 17 rfl rfl)
theorem dX2_tell_42 : decode cX2_tell 42 = .ok (.iconst 2, 1) := dk_5 (dk_at dksX2_tell_1 18 rfl rfl)
theorem dX2_tell_43 : decode cX2_tell 43 = .ok (.if_icmp .ne 8, 3) := dk_160 0 8 (dk_at dksX2_tell_1 19 rfl rfl)
theorem dX2_tell_46 : decode cX2_tell 46 = .ok (.aload_n 0, 1) := dk_42 (dk_at dksX2_tell_1 22 rfl rfl)
theorem dX2_tell_47 : decode cX2_tell 47 = .ok (.iconst 1, 1) := dk_4 (dk_at dksX2_tell_1 23 rfl rfl)
theorem dX2_tell_48 : decode cX2_tell 48 = .ok (.invokevirtual 213, 3) := dk_182 0 213 (dk_at dksX2_tell_2 0 rfl rfl)
theorem dX2_tell_51 : decode cX2_tell 51 = .ok (.aload_n 0, 1) := dk_42 (dk_at dksX2_tell_2 3 rfl rfl)
theorem dX2_tell_52 : decode cX2_tell 52 = .ok (.getfield 19, 3) := dk_180 0 19 (dk_at dksX2_tell_2 4 rfl rfl)
theorem dX2_tell_55 : decode cX2_tell 55 = .ok (.iload_n 1, 1) := dk_27 (dk_at dksX2_tell_2 7 rfl rfl)
theorem dX2_tell_56 : decode cX2_tell 56 = .ok (.iaload, 1) := dk_46 (dk_at dksX2_tell_2 8 rfl rfl)
theorem dX2_tell_57 : decode cX2_tell 57 = .ok (.istore_n 3, 1) := dk_62 (dk_at dksX2_tell_2 9 rfl rfl)
theorem dX2_tell_58 : decode cX2_tell 58 = .ok (.iload_n 2, 1) := dk_28 (dk_at dksX2_tell_2 10 rfl rfl)
theorem dX2_tell_59 : decode cX2_tell 59 = .ok (.ifCond .ne 7, 3) := dk_154 0 7 (dk_at dksX2_tell_2 11 rfl rfl)
theorem dX2_tell_62 : decode cX2_tell 62 = .ok (.iload_n 3, 1) := dk_29 (dk_at dksX2_tell_2 14 rfl rfl)
theorem dX2_tell_63 : decode cX2_tell 63 = .ok (.goto 21, 3) := dk_167 0 21 (dk_at dksX2_tell_2 15 rfl rfl)
theorem dX2_tell_66 : decode cX2_tell 66 = .ok (.iload_n 2, 1) := dk_28 (dk_at dksX2_tell_2 18 rfl rfl)
theorem dX2_tell_67 : decode cX2_tell 67 = .ok (.iconst 1, 1) := dk_4 (dk_at dksX2_tell_2 19 rfl rfl)
theorem dX2_tell_68 : decode cX2_tell 68 = .ok (.if_icmp .ne 10, 3) := dk_160 0 10 (dk_at dksX2_tell_2 20 rfl rfl)
theorem dX2_tell_71 : decode cX2_tell 71 = .ok (.iload_n 3, 1) := dk_29 (dk_at dksX2_tell_2 23 rfl rfl)
theorem dX2_tell_72 : decode cX2_tell 72 = .ok (.bipush 100, 2) := dk_16 100 (dk_at dksX2_tell_3 0 rfl rfl)
theorem dX2_tell_74 : decode cX2_tell 74 = .ok (.iadd, 1) := dk_96 (dk_at dksX2_tell_3 2 rfl rfl)
theorem dX2_tell_75 : decode cX2_tell 75 = .ok (.goto 9, 3) := dk_167 0 9 (dk_at dksX2_tell_3 3 rfl rfl)
theorem dX2_tell_78 : decode cX2_tell 78 = .ok (.iconst 2, 1) := dk_5 (dk_at dksX2_tell_3 6 rfl rfl)
theorem dX2_tell_79 : decode cX2_tell 79 = .ok (.iload_n 3, 1) := dk_29 (dk_at dksX2_tell_3 7 rfl rfl)
theorem dX2_tell_80 : decode cX2_tell 80 = .ok (.imul, 1) := dk_104 (dk_at dksX2_tell_3 8 rfl rfl)
theorem dX2_tell_81 : decode cX2_tell 81 = .ok (.bipush 100, 2) := dk_16 100 (dk_at dksX2_tell_3 9 rfl rfl)
theorem dX2_tell_83 : decode cX2_tell 83 = .ok (.iadd, 1) := dk_96 (dk_at dksX2_tell_3 11 rfl rfl)
theorem dX2_tell_84 : decode cX2_tell 84 = .ok (.ireturn, 1) := dk_172 (dk_at dksX2_tell_3 12 rfl rfl)
abbrev cX2_traced : ByteArray := prog_8_method_55_code
def yX2_traced : MethodName := ⟨RX2, "traced", "(I)V"⟩
def dkwX2_traced_0 : List UInt8 := [42, 16, 31, 42, 180, 0, 210, 104, 27, 96, 181, 0, 210, 177]
abbrev dktX2_traced_0 : List UInt8 := dkwX2_traced_0 ++ []
theorem dksX2_traced_0 : cX2_traced.data.toList.drop 0 = dktX2_traced_0 := by decide +kernel
theorem dX2_traced_0 : decode cX2_traced 0 = .ok (.aload_n 0, 1) := dk_42 (dk_at dksX2_traced_0 0 rfl rfl)
theorem dX2_traced_1 : decode cX2_traced 1 = .ok (.bipush 31, 2) := dk_16 31 (dk_at dksX2_traced_0 1 rfl rfl)
theorem dX2_traced_3 : decode cX2_traced 3 = .ok (.aload_n 0, 1) := dk_42 (dk_at dksX2_traced_0 3 rfl rfl)
theorem dX2_traced_4 : decode cX2_traced 4 = .ok (.getfield 210, 3) := dk_180 0 210 (dk_at dksX2_traced_0 4 rfl rfl)
theorem dX2_traced_7 : decode cX2_traced 7 = .ok (.imul, 1) := dk_104 (dk_at dksX2_traced_0 7 rfl rfl)
theorem dX2_traced_8 : decode cX2_traced 8 = .ok (.iload_n 1, 1) := dk_27 (dk_at dksX2_traced_0 8 rfl rfl)
theorem dX2_traced_9 : decode cX2_traced 9 = .ok (.iadd, 1) := dk_96 (dk_at dksX2_traced_0 9 rfl rfl)
theorem dX2_traced_10 : decode cX2_traced 10 = .ok (.putfield 210, 3) := dk_181 0 210 (dk_at dksX2_traced_0 10 rfl rfl)
theorem dX2_traced_13 : decode cX2_traced 13 = .ok (.return_, 1) := dk_177 (dk_at dksX2_traced_0 13 rfl rfl)
abbrev cX2_sniff : ByteArray := prog_8_method_57_code
def yX2_sniff : MethodName := ⟨RX2, "sniff", "(I)I"⟩
def dkwX2_sniff_1 : List UInt8 := [167, 0, 4, 7, 182, 0, 213, 42, 180, 0, 13, 27, 46, 5, 160, 0, 8, 16, 40, 167, 0, 4, 27, 172]
abbrev dktX2_sniff_1 : List UInt8 := dkwX2_sniff_1 ++ []
def dkwX2_sniff_0 : List UInt8 := [42, 27, 182, 0, 145, 153, 0, 5, 2, 172, 42, 42, 180, 0, 13, 27, 46, 5, 160, 0, 7, 8]
abbrev dktX2_sniff_0 : List UInt8 := dkwX2_sniff_0 ++ dktX2_sniff_1
theorem dksX2_sniff_0 : cX2_sniff.data.toList.drop 0 = dktX2_sniff_0 := by decide +kernel
theorem dksX2_sniff_1 : cX2_sniff.data.toList.drop 22 = dktX2_sniff_1 := dk_seg dksX2_sniff_0 22 rfl rfl
theorem dX2_sniff_0 : decode cX2_sniff 0 = .ok (.aload_n 0, 1) := dk_42 (dk_at dksX2_sniff_0 0 rfl rfl)
theorem dX2_sniff_1 : decode cX2_sniff 1 = .ok (.iload_n 1, 1) := dk_27 (dk_at dksX2_sniff_0 1 rfl rfl)
theorem dX2_sniff_2 : decode cX2_sniff 2 = .ok (.invokevirtual 145, 3) := dk_182 0 145 (dk_at dksX2_sniff_0 2 rfl rfl)
theorem dX2_sniff_5 : decode cX2_sniff 5 = .ok (.ifCond .eq 5, 3) := dk_153 0 5 (dk_at dksX2_sniff_0 5 rfl rfl)
theorem dX2_sniff_8 : decode cX2_sniff 8 = .ok (.iconst (-1), 1) := dk_2 (dk_at dksX2_sniff_0 8 rfl rfl)
theorem dX2_sniff_9 : decode cX2_sniff 9 = .ok (.ireturn, 1) := dk_172 (dk_at dksX2_sniff_0 9 rfl rfl)
theorem dX2_sniff_10 : decode cX2_sniff 10 = .ok (.aload_n 0, 1) := dk_42 (dk_at dksX2_sniff_0 10 rfl rfl)
theorem dX2_sniff_11 : decode cX2_sniff 11 = .ok (.aload_n 0, 1) := dk_42 (dk_at dksX2_sniff_0 11 rfl rfl)
theorem dX2_sniff_12 : decode cX2_sniff 12 = .ok (.getfield 13, 3) := dk_180 0 13 (dk_at dksX2_sniff_0 12 rfl rfl)
theorem dX2_sniff_15 : decode cX2_sniff 15 = .ok (.iload_n 1, 1) := dk_27 (dk_at dksX2_sniff_0 15 rfl rfl)
theorem dX2_sniff_16 : decode cX2_sniff 16 = .ok (.iaload, 1) := dk_46 (dk_at dksX2_sniff_0 16 rfl rfl)
theorem dX2_sniff_17 : decode cX2_sniff 17 = .ok (.iconst 2, 1) := dk_5 (dk_at dksX2_sniff_0 17 rfl rfl)
theorem dX2_sniff_18 : decode cX2_sniff 18 = .ok (.if_icmp .ne 7, 3) := dk_160 0 7 (dk_at dksX2_sniff_0 18 rfl rfl)
theorem dX2_sniff_21 : decode cX2_sniff 21 = .ok (.iconst 5, 1) := dk_8 (dk_at dksX2_sniff_0 21 rfl rfl)
theorem dX2_sniff_22 : decode cX2_sniff 22 = .ok (.goto 4, 3) := dk_167 0 4 (dk_at dksX2_sniff_1 0 rfl rfl)
theorem dX2_sniff_25 : decode cX2_sniff 25 = .ok (.iconst 4, 1) := dk_7 (dk_at dksX2_sniff_1 3 rfl rfl)
theorem dX2_sniff_26 : decode cX2_sniff 26 = .ok (.invokevirtual 213, 3) := dk_182 0 213 (dk_at dksX2_sniff_1 4 rfl rfl)
theorem dX2_sniff_29 : decode cX2_sniff 29 = .ok (.aload_n 0, 1) := dk_42 (dk_at dksX2_sniff_1 7 rfl rfl)
theorem dX2_sniff_30 : decode cX2_sniff 30 = .ok (.getfield 13, 3) := dk_180 0 13 (dk_at dksX2_sniff_1 8 rfl rfl)
theorem dX2_sniff_33 : decode cX2_sniff 33 = .ok (.iload_n 1, 1) := dk_27 (dk_at dksX2_sniff_1 11 rfl rfl)
theorem dX2_sniff_34 : decode cX2_sniff 34 = .ok (.iaload, 1) := dk_46 (dk_at dksX2_sniff_1 12 rfl rfl)
theorem dX2_sniff_35 : decode cX2_sniff 35 = .ok (.iconst 2, 1) := dk_5 (dk_at dksX2_sniff_1 13 rfl rfl)
theorem dX2_sniff_36 : decode cX2_sniff 36 = .ok (.if_icmp .ne 8, 3) := dk_160 0 8 (dk_at dksX2_sniff_1 14 rfl rfl)
theorem dX2_sniff_39 : decode cX2_sniff 39 = .ok (.bipush 40, 2) := dk_16 40 (dk_at dksX2_sniff_1 17 rfl rfl)
theorem dX2_sniff_41 : decode cX2_sniff 41 = .ok (.goto 4, 3) := dk_167 0 4 (dk_at dksX2_sniff_1 19 rfl rfl)
theorem dX2_sniff_44 : decode cX2_sniff 44 = .ok (.iload_n 1, 1) := dk_27 (dk_at dksX2_sniff_1 22 rfl rfl)
theorem dX2_sniff_45 : decode cX2_sniff 45 = .ok (.ireturn, 1) := dk_172 (dk_at dksX2_sniff_1 23 rfl rfl)
abbrev cX2_as : ByteArray := prog_8_method_58_code
def yX2_as : MethodName := ⟨RX2, "as", "(II)I"⟩
def dkwX2_as_2 : List UInt8 := [182, 0, 127, 167, 0, 8, 42, 5, 182, 0, 115, 172]
abbrev dktX2_as_2 : List UInt8 := dkwX2_as_2 ++ []
def dkwX2_as_1 : List UInt8 := [154, 0, 10, 42, 16, 254, 182, 0, 127, 172, 42, 180, 0, 13, 27, 46, 28, 161, 0, 11, 42, 4]
abbrev dktX2_as_1 : List UInt8 := dkwX2_as_1 ++ dktX2_as_2
def dkwX2_as_0 : List UInt8 := [42, 27, 182, 0, 145, 153, 0, 9, 42, 2, 182, 0, 127, 172, 28, 133, 9, 20, 0, 130, 184, 0, 81]
abbrev dktX2_as_0 : List UInt8 := dkwX2_as_0 ++ dktX2_as_1
theorem dksX2_as_0 : cX2_as.data.toList.drop 0 = dktX2_as_0 := by decide +kernel
theorem dksX2_as_1 : cX2_as.data.toList.drop 23 = dktX2_as_1 := dk_seg dksX2_as_0 23 rfl rfl
theorem dksX2_as_2 : cX2_as.data.toList.drop 45 = dktX2_as_2 := dk_seg dksX2_as_1 22 rfl rfl
theorem dX2_as_0 : decode cX2_as 0 = .ok (.aload_n 0, 1) := dk_42 (dk_at dksX2_as_0 0 rfl rfl)
theorem dX2_as_1 : decode cX2_as 1 = .ok (.iload_n 1, 1) := dk_27 (dk_at dksX2_as_0 1 rfl rfl)
theorem dX2_as_2 : decode cX2_as 2 = .ok (.invokevirtual 145, 3) := dk_182 0 145 (dk_at dksX2_as_0 2 rfl rfl)
theorem dX2_as_5 : decode cX2_as 5 = .ok (.ifCond .eq 9, 3) := dk_153 0 9 (dk_at dksX2_as_0 5 rfl rfl)
theorem dX2_as_8 : decode cX2_as 8 = .ok (.aload_n 0, 1) := dk_42 (dk_at dksX2_as_0 8 rfl rfl)
theorem dX2_as_9 : decode cX2_as 9 = .ok (.iconst (-1), 1) := dk_2 (dk_at dksX2_as_0 9 rfl rfl)
theorem dX2_as_10 : decode cX2_as 10 = .ok (.invokevirtual 127, 3) := dk_182 0 127 (dk_at dksX2_as_0 10 rfl rfl)
theorem dX2_as_13 : decode cX2_as 13 = .ok (.ireturn, 1) := dk_172 (dk_at dksX2_as_0 13 rfl rfl)
theorem dX2_as_14 : decode cX2_as 14 = .ok (.iload_n 2, 1) := dk_28 (dk_at dksX2_as_0 14 rfl rfl)
theorem dX2_as_15 : decode cX2_as 15 = .ok (.i2l, 1) := dk_133 (dk_at dksX2_as_0 15 rfl rfl)
theorem dX2_as_16 : decode cX2_as 16 = .ok (.lconst 0, 1) := dk_9 (dk_at dksX2_as_0 16 rfl rfl)
theorem dX2_as_17 : decode cX2_as 17 = .ok (.ldc2_w 130, 3) := dk_20 0 130 (dk_at dksX2_as_0 17 rfl rfl)
theorem dX2_as_20 : decode cX2_as 20 = .ok (.invokestatic 81, 3) := dk_184 0 81 (dk_at dksX2_as_0 20 rfl rfl)
theorem dX2_as_23 : decode cX2_as 23 = .ok (.ifCond .ne 10, 3) := dk_154 0 10 (dk_at dksX2_as_1 0 rfl rfl)
theorem dX2_as_26 : decode cX2_as 26 = .ok (.aload_n 0, 1) := dk_42 (dk_at dksX2_as_1 3 rfl rfl)
theorem dX2_as_27 : decode cX2_as 27 = .ok (.bipush (-2), 2) := dk_16 254 (dk_at dksX2_as_1 4 rfl rfl)
theorem dX2_as_29 : decode cX2_as 29 = .ok (.invokevirtual 127, 3) := dk_182 0 127 (dk_at dksX2_as_1 6 rfl rfl)
theorem dX2_as_32 : decode cX2_as 32 = .ok (.ireturn, 1) := dk_172 (dk_at dksX2_as_1 9 rfl rfl)
theorem dX2_as_33 : decode cX2_as 33 = .ok (.aload_n 0, 1) := dk_42 (dk_at dksX2_as_1 10 rfl rfl)
theorem dX2_as_34 : decode cX2_as 34 = .ok (.getfield 13, 3) := dk_180 0 13 (dk_at dksX2_as_1 11 rfl rfl)
theorem dX2_as_37 : decode cX2_as 37 = .ok (.iload_n 1, 1) := dk_27 (dk_at dksX2_as_1 14 rfl rfl)
theorem dX2_as_38 : decode cX2_as 38 = .ok (.iaload, 1) := dk_46 (dk_at dksX2_as_1 15 rfl rfl)
theorem dX2_as_39 : decode cX2_as 39 = .ok (.iload_n 2, 1) := dk_28 (dk_at dksX2_as_1 16 rfl rfl)
theorem dX2_as_40 : decode cX2_as 40 = .ok (.if_icmp .lt 11, 3) := dk_161 0 11 (dk_at dksX2_as_1 17 rfl rfl)
theorem dX2_as_43 : decode cX2_as 43 = .ok (.aload_n 0, 1) := dk_42 (dk_at dksX2_as_1 20 rfl rfl)
theorem dX2_as_44 : decode cX2_as 44 = .ok (.iconst 1, 1) := dk_4 (dk_at dksX2_as_1 21 rfl rfl)
theorem dX2_as_45 : decode cX2_as 45 = .ok (.invokevirtual 127, 3) := dk_182 0 127 (dk_at dksX2_as_2 0 rfl rfl)
theorem dX2_as_48 : decode cX2_as 48 = .ok (.goto 8, 3) := dk_167 0 8 (dk_at dksX2_as_2 3 rfl rfl)
theorem dX2_as_51 : decode cX2_as 51 = .ok (.aload_n 0, 1) := dk_42 (dk_at dksX2_as_2 6 rfl rfl)
theorem dX2_as_52 : decode cX2_as 52 = .ok (.iconst 2, 1) := dk_5 (dk_at dksX2_as_2 7 rfl rfl)
theorem dX2_as_53 : decode cX2_as 53 = .ok (.invokevirtual 115, 3) := dk_182 0 115 (dk_at dksX2_as_2 8 rfl rfl)
theorem dX2_as_56 : decode cX2_as 56 = .ok (.ireturn, 1) := dk_172 (dk_at dksX2_as_2 11 rfl rfl)
abbrev cX2_trace : ByteArray := prog_8_method_59_code
def yX2_trace : MethodName := ⟨RX2, "trace", "()I"⟩
theorem dX2_trace_0 : decode cX2_trace 0 = .ok (.aload_n 0, 1) := by decide +kernel
theorem dX2_trace_1 : decode cX2_trace 1 = .ok (.getfield 210, 3) := by decide +kernel
theorem dX2_trace_4 : decode cX2_trace 4 = .ok (.ireturn, 1) := by decide +kernel
abbrev cX2_fault : ByteArray := prog_8_method_60_code
def yX2_fault : MethodName := ⟨RX2, "fault", "()I"⟩
theorem dX2_fault_0 : decode cX2_fault 0 = .ok (.aload_n 0, 1) := by decide +kernel
theorem dX2_fault_1 : decode cX2_fault 1 = .ok (.getfield 71, 3) := by decide +kernel
theorem dX2_fault_4 : decode cX2_fault 4 = .ok (.ireturn, 1) := by decide +kernel
abbrev cX2_many : ByteArray := prog_8_method_61_code
def yX2_many : MethodName := ⟨RX2, "many", "(I)I"⟩
def dkwX2_many_2 : List UInt8 := [42, 180, 0, 85, 172, 42, 180, 0, 78, 172, 42, 180, 0, 139, 172, 42, 180, 0, 142, 172, 16, 254, 172]
abbrev dktX2_many_2 : List UInt8 := dkwX2_many_2 ++ []
def dkwX2_many_1 : List UInt8 := [170, 0, 0, 0, 0, 0, 51, 0, 0, 0, 0, 0, 0, 0, 3, 0, 0, 0, 31, 0, 0, 0, 36, 0, 0, 0, 41, 0, 0, 0, 46]
abbrev dktX2_many_1 : List UInt8 := dkwX2_many_1 ++ dktX2_many_2
def dkwX2_many_0 : List UInt8 := [27]
abbrev dktX2_many_0 : List UInt8 := dkwX2_many_0 ++ dktX2_many_1
theorem dksX2_many_0 : cX2_many.data.toList.drop 0 = dktX2_many_0 := by decide +kernel
theorem dksX2_many_1 : cX2_many.data.toList.drop 1 = dktX2_many_1 := dk_seg dksX2_many_0 1 rfl rfl
theorem dksX2_many_2 : cX2_many.data.toList.drop 32 = dktX2_many_2 := dk_seg dksX2_many_1 31 rfl rfl
theorem dX2_many_0 : decode cX2_many 0 = .ok (.iload_n 1, 1) := dk_27 (dk_at dksX2_many_0 0 rfl rfl)
theorem dX2_many_1 : decode cX2_many 1 = .ok (.tableswitch 51 0 3 #[31, 36, 41, 46], 31) := by decide +kernel
theorem dX2_many_32 : decode cX2_many 32 = .ok (.aload_n 0, 1) := dk_42 (dk_at dksX2_many_2 0 rfl rfl)
theorem dX2_many_33 : decode cX2_many 33 = .ok (.getfield 85, 3) := dk_180 0 85 (dk_at dksX2_many_2 1 rfl rfl)
theorem dX2_many_36 : decode cX2_many 36 = .ok (.ireturn, 1) := dk_172 (dk_at dksX2_many_2 4 rfl rfl)
theorem dX2_many_37 : decode cX2_many 37 = .ok (.aload_n 0, 1) := dk_42 (dk_at dksX2_many_2 5 rfl rfl)
theorem dX2_many_38 : decode cX2_many 38 = .ok (.getfield 78, 3) := dk_180 0 78 (dk_at dksX2_many_2 6 rfl rfl)
theorem dX2_many_41 : decode cX2_many 41 = .ok (.ireturn, 1) := dk_172 (dk_at dksX2_many_2 9 rfl rfl)
theorem dX2_many_42 : decode cX2_many 42 = .ok (.aload_n 0, 1) := dk_42 (dk_at dksX2_many_2 10 rfl rfl)
theorem dX2_many_43 : decode cX2_many 43 = .ok (.getfield 139, 3) := dk_180 0 139 (dk_at dksX2_many_2 11 rfl rfl)
theorem dX2_many_46 : decode cX2_many 46 = .ok (.ireturn, 1) := dk_172 (dk_at dksX2_many_2 14 rfl rfl)
theorem dX2_many_47 : decode cX2_many 47 = .ok (.aload_n 0, 1) := dk_42 (dk_at dksX2_many_2 15 rfl rfl)
theorem dX2_many_48 : decode cX2_many 48 = .ok (.getfield 142, 3) := dk_180 0 142 (dk_at dksX2_many_2 16 rfl rfl)
theorem dX2_many_51 : decode cX2_many 51 = .ok (.ireturn, 1) := dk_172 (dk_at dksX2_many_2 19 rfl rfl)
theorem dX2_many_52 : decode cX2_many 52 = .ok (.bipush (-2), 2) := dk_16 254 (dk_at dksX2_many_2 20 rfl rfl)
theorem dX2_many_54 : decode cX2_many 54 = .ok (.ireturn, 1) := dk_172 (dk_at dksX2_many_2 22 rfl rfl)
theorem q56 : (Jvm.Cond.initialized "MustardFastModel") ∈ lw_all := lw_g (lw_at lw_m1 6 rfl) rfl
theorem q514 : (Jvm.Cond.selects "MustardFastModel" ({ cls := "java/lang/Object", name := "getClass", desc := "()Ljava/lang/Class;" } : Jvm.MethodName) ({ cls := "java/lang/Object", name := "getClass", desc := "()Ljava/lang/Class;" } : Jvm.MethodName)) ∈ lw_all := lw_g (lw_at lw_m2 224 rfl) rfl
theorem q899 : (Jvm.Cond.instantiable "MustardFastModel" (29 : Nat)) ∈ lw_all := lw_g (lw_at lw_m4 129 rfl) rfl
theorem q901 : (Jvm.Cond.instanceMethod ({ cls := "MustardFastModel", name := "<init>", desc := "()V" } : Jvm.MethodName)) ∈ lw_all := lw_g (lw_at lw_m4 131 rfl) rfl
theorem q902 : (Jvm.Cond.code ({ cls := "MustardFastModel", name := "<init>", desc := "()V" } : Jvm.MethodName) prog_8_method_1_code (2 : Nat) (Option.none : Option Jvm.ClassFile.FieldType)) ∈ lw_all := lw_g (lw_at lw_m4 132 rfl) rfl
theorem q903 : (Jvm.Cond.methodLink "MustardFastModel" (1 : Nat) ({ cls := "java/lang/Object", name := "<init>", desc := "()V" } : Jvm.MethodName)) ∈ lw_all := lw_g (lw_at lw_m4 133 rfl) rfl
theorem q904 : (Jvm.Cond.fieldLink "MustardFastModel" (71 : Nat) "MustardFastModel" "fault" "I") ∈ lw_all := lw_g (lw_at lw_m4 134 rfl) rfl
theorem q905 : (Jvm.Cond.fieldLink "MustardFastModel" (139 : Nat) "MustardFastModel" "sourNow" "I") ∈ lw_all := lw_g (lw_at lw_m4 135 rfl) rfl
theorem q906 : (Jvm.Cond.fieldLink "MustardFastModel" (78 : Nat) "MustardFastModel" "days" "I") ∈ lw_all := lw_g (lw_at lw_m4 136 rfl) rfl
theorem q907 : (Jvm.Cond.fieldLink "MustardFastModel" (7 : Nat) "MustardFastModel" "lookOf" "[I") ∈ lw_all := lw_g (lw_at lw_m4 137 rfl) rfl
theorem q908 : (Jvm.Cond.fieldLink "MustardFastModel" (85 : Nat) "MustardFastModel" "eaters" "I") ∈ lw_all := lw_g (lw_at lw_m4 138 rfl) rfl
theorem q909 : (Jvm.Cond.fieldLink "MustardFastModel" (13 : Nat) "MustardFastModel" "kindOf" "[I") ∈ lw_all := lw_g (lw_at lw_m4 139 rfl) rfl
theorem q910 : (Jvm.Cond.fieldLink "MustardFastModel" (16 : Nat) "MustardFastModel" "stayOf" "[I") ∈ lw_all := lw_g (lw_at lw_m4 140 rfl) rfl
theorem q911 : (Jvm.Cond.fieldLink "MustardFastModel" (19 : Nat) "MustardFastModel" "spoonsOf" "[I") ∈ lw_all := lw_g (lw_at lw_m4 141 rfl) rfl
theorem q912 : (Jvm.Cond.fieldLink "MustardFastModel" (22 : Nat) "MustardFastModel" "needOf" "[I") ∈ lw_all := lw_g (lw_at lw_m4 142 rfl) rfl
theorem q913 : (Jvm.Cond.fieldLink "MustardFastModel" (25 : Nat) "MustardFastModel" "smiled" "I") ∈ lw_all := lw_g (lw_at lw_m4 143 rfl) rfl
theorem q914 : (Jvm.Cond.fieldLink "MustardFastModel" (88 : Nat) "MustardFastModel" "readAt" "I") ∈ lw_all := lw_g (lw_at lw_m4 144 rfl) rfl
theorem q915 : (Jvm.Cond.fieldLink "MustardFastModel" (105 : Nat) "MustardFastModel" "readSour" "I") ∈ lw_all := lw_g (lw_at lw_m4 145 rfl) rfl
theorem q916 : (Jvm.Cond.fieldLink "MustardFastModel" (95 : Nat) "MustardFastModel" "readDays" "I") ∈ lw_all := lw_g (lw_at lw_m4 146 rfl) rfl
theorem q917 : (Jvm.Cond.fieldLink "MustardFastModel" (102 : Nat) "MustardFastModel" "readEaters" "I") ∈ lw_all := lw_g (lw_at lw_m4 147 rfl) rfl
theorem q918 : (Jvm.Cond.fieldLink "MustardFastModel" (29 : Nat) "MustardFastModel" "readLook" "[I") ∈ lw_all := lw_g (lw_at lw_m4 148 rfl) rfl
theorem q919 : (Jvm.Cond.fieldLink "MustardFastModel" (32 : Nat) "MustardFastModel" "readKind" "[I") ∈ lw_all := lw_g (lw_at lw_m4 149 rfl) rfl
theorem q920 : (Jvm.Cond.fieldLink "MustardFastModel" (35 : Nat) "MustardFastModel" "readStay" "[I") ∈ lw_all := lw_g (lw_at lw_m4 150 rfl) rfl
theorem q921 : (Jvm.Cond.fieldLink "MustardFastModel" (38 : Nat) "MustardFastModel" "readSpoons" "[I") ∈ lw_all := lw_g (lw_at lw_m4 151 rfl) rfl
theorem q922 : (Jvm.Cond.fieldLink "MustardFastModel" (41 : Nat) "MustardFastModel" "readNeed" "[I") ∈ lw_all := lw_g (lw_at lw_m4 152 rfl) rfl
theorem q923 : (Jvm.Cond.fieldLink "MustardFastModel" (142 : Nat) "MustardFastModel" "readings" "I") ∈ lw_all := lw_g (lw_at lw_m4 153 rfl) rfl
theorem q924 : (Jvm.Cond.fieldLink "MustardFastModel" (44 : Nat) "MustardFastModel" "readingOf" "[I") ∈ lw_all := lw_g (lw_at lw_m4 154 rfl) rfl
theorem q925 : (Jvm.Cond.fieldLink "MustardFastModel" (47 : Nat) "MustardFastModel" "readingBy" "[I") ∈ lw_all := lw_g (lw_at lw_m4 155 rfl) rfl
theorem q926 : (Jvm.Cond.fieldLink "MustardFastModel" (50 : Nat) "MustardFastModel" "readingOn" "[I") ∈ lw_all := lw_g (lw_at lw_m4 156 rfl) rfl
theorem q927 : (Jvm.Cond.fieldLink "MustardFastModel" (53 : Nat) "MustardFastModel" "readingWas" "[Z") ∈ lw_all := lw_g (lw_at lw_m4 157 rfl) rfl
theorem q928 : (Jvm.Cond.fieldLink "MustardFastModel" (57 : Nat) "MustardFastModel" "sheetSize" "[I") ∈ lw_all := lw_g (lw_at lw_m4 158 rfl) rfl
theorem q929 : (Jvm.Cond.fieldLink "MustardFastModel" (60 : Nat) "MustardFastModel" "sheetLane" "[I") ∈ lw_all := lw_g (lw_at lw_m4 159 rfl) rfl
theorem q930 : (Jvm.Cond.fieldLink "MustardFastModel" (63 : Nat) "MustardFastModel" "sheet" "[I") ∈ lw_all := lw_g (lw_at lw_m4 160 rfl) rfl
theorem q931 : (Jvm.Cond.fieldLink "MustardFastModel" (66 : Nat) "MustardFastModel" "hands" "[I") ∈ lw_all := lw_g (lw_at lw_m4 161 rfl) rfl
theorem q932 : (Jvm.Cond.fieldLink "MustardFastModel" (210 : Nat) "MustardFastModel" "traceNow" "I") ∈ lw_all := lw_g (lw_at lw_m4 162 rfl) rfl
theorem q933 : (Jvm.Cond.lays "MustardFastModel" "MustardFastModel" "fault" "I") ∈ lw_all := lw_g (lw_at lw_m4 163 rfl) rfl
theorem q934 : (Jvm.Cond.soleField "MustardFastModel" "fault") ∈ lw_all := lw_g (lw_at lw_m4 164 rfl) rfl
theorem q935 : (Jvm.Cond.lays "MustardFastModel" "MustardFastModel" "sourNow" "I") ∈ lw_all := lw_g (lw_at lw_m4 165 rfl) rfl
theorem q936 : (Jvm.Cond.soleField "MustardFastModel" "sourNow") ∈ lw_all := lw_g (lw_at lw_m4 166 rfl) rfl
theorem q937 : (Jvm.Cond.lays "MustardFastModel" "MustardFastModel" "days" "I") ∈ lw_all := lw_g (lw_at lw_m4 167 rfl) rfl
theorem q938 : (Jvm.Cond.soleField "MustardFastModel" "days") ∈ lw_all := lw_g (lw_at lw_m4 168 rfl) rfl
theorem q939 : (Jvm.Cond.laysFinal "MustardFastModel" "MustardFastModel" "lookOf" "[I") ∈ lw_all := lw_g (lw_at lw_m4 169 rfl) rfl
theorem q940 : (Jvm.Cond.soleField "MustardFastModel" "lookOf") ∈ lw_all := lw_g (lw_at lw_m4 170 rfl) rfl
theorem q941 : (Jvm.Cond.lays "MustardFastModel" "MustardFastModel" "eaters" "I") ∈ lw_all := lw_g (lw_at lw_m4 171 rfl) rfl
theorem q942 : (Jvm.Cond.soleField "MustardFastModel" "eaters") ∈ lw_all := lw_g (lw_at lw_m4 172 rfl) rfl
theorem q943 : (Jvm.Cond.laysFinal "MustardFastModel" "MustardFastModel" "kindOf" "[I") ∈ lw_all := lw_g (lw_at lw_m4 173 rfl) rfl
theorem q944 : (Jvm.Cond.soleField "MustardFastModel" "kindOf") ∈ lw_all := lw_g (lw_at lw_m4 174 rfl) rfl
theorem q945 : (Jvm.Cond.laysFinal "MustardFastModel" "MustardFastModel" "stayOf" "[I") ∈ lw_all := lw_g (lw_at lw_m4 175 rfl) rfl
theorem q946 : (Jvm.Cond.soleField "MustardFastModel" "stayOf") ∈ lw_all := lw_g (lw_at lw_m4 176 rfl) rfl
theorem q947 : (Jvm.Cond.laysFinal "MustardFastModel" "MustardFastModel" "spoonsOf" "[I") ∈ lw_all := lw_g (lw_at lw_m4 177 rfl) rfl
theorem q948 : (Jvm.Cond.soleField "MustardFastModel" "spoonsOf") ∈ lw_all := lw_g (lw_at lw_m4 178 rfl) rfl
theorem q949 : (Jvm.Cond.laysFinal "MustardFastModel" "MustardFastModel" "needOf" "[I") ∈ lw_all := lw_g (lw_at lw_m4 179 rfl) rfl
theorem q950 : (Jvm.Cond.soleField "MustardFastModel" "needOf") ∈ lw_all := lw_g (lw_at lw_m4 180 rfl) rfl
theorem q951 : (Jvm.Cond.lays "MustardFastModel" "MustardFastModel" "smiled" "I") ∈ lw_all := lw_g (lw_at lw_m4 181 rfl) rfl
theorem q952 : (Jvm.Cond.soleField "MustardFastModel" "smiled") ∈ lw_all := lw_g (lw_at lw_m4 182 rfl) rfl
theorem q953 : (Jvm.Cond.lays "MustardFastModel" "MustardFastModel" "readAt" "I") ∈ lw_all := lw_g (lw_at lw_m4 183 rfl) rfl
theorem q954 : (Jvm.Cond.soleField "MustardFastModel" "readAt") ∈ lw_all := lw_g (lw_at lw_m4 184 rfl) rfl
theorem q955 : (Jvm.Cond.lays "MustardFastModel" "MustardFastModel" "readSour" "I") ∈ lw_all := lw_g (lw_at lw_m4 185 rfl) rfl
theorem q956 : (Jvm.Cond.soleField "MustardFastModel" "readSour") ∈ lw_all := lw_g (lw_at lw_m4 186 rfl) rfl
theorem q957 : (Jvm.Cond.lays "MustardFastModel" "MustardFastModel" "readDays" "I") ∈ lw_all := lw_g (lw_at lw_m4 187 rfl) rfl
theorem q958 : (Jvm.Cond.soleField "MustardFastModel" "readDays") ∈ lw_all := lw_g (lw_at lw_m4 188 rfl) rfl
theorem q959 : (Jvm.Cond.lays "MustardFastModel" "MustardFastModel" "readEaters" "I") ∈ lw_all := lw_g (lw_at lw_m4 189 rfl) rfl
theorem q960 : (Jvm.Cond.soleField "MustardFastModel" "readEaters") ∈ lw_all := lw_g (lw_at lw_m4 190 rfl) rfl
theorem q961 : (Jvm.Cond.laysFinal "MustardFastModel" "MustardFastModel" "readLook" "[I") ∈ lw_all := lw_g (lw_at lw_m4 191 rfl) rfl
theorem q962 : (Jvm.Cond.soleField "MustardFastModel" "readLook") ∈ lw_all := lw_g (lw_at lw_m4 192 rfl) rfl
theorem q963 : (Jvm.Cond.laysFinal "MustardFastModel" "MustardFastModel" "readKind" "[I") ∈ lw_all := lw_g (lw_at lw_m4 193 rfl) rfl
theorem q964 : (Jvm.Cond.soleField "MustardFastModel" "readKind") ∈ lw_all := lw_g (lw_at lw_m4 194 rfl) rfl
theorem q965 : (Jvm.Cond.laysFinal "MustardFastModel" "MustardFastModel" "readStay" "[I") ∈ lw_all := lw_g (lw_at lw_m4 195 rfl) rfl
theorem q966 : (Jvm.Cond.soleField "MustardFastModel" "readStay") ∈ lw_all := lw_g (lw_at lw_m4 196 rfl) rfl
theorem q967 : (Jvm.Cond.laysFinal "MustardFastModel" "MustardFastModel" "readSpoons" "[I") ∈ lw_all := lw_g (lw_at lw_m4 197 rfl) rfl
theorem q968 : (Jvm.Cond.soleField "MustardFastModel" "readSpoons") ∈ lw_all := lw_g (lw_at lw_m4 198 rfl) rfl
theorem q969 : (Jvm.Cond.laysFinal "MustardFastModel" "MustardFastModel" "readNeed" "[I") ∈ lw_all := lw_g (lw_at lw_m4 199 rfl) rfl
theorem q970 : (Jvm.Cond.soleField "MustardFastModel" "readNeed") ∈ lw_all := lw_g (lw_at lw_m4 200 rfl) rfl
theorem q971 : (Jvm.Cond.lays "MustardFastModel" "MustardFastModel" "readings" "I") ∈ lw_all := lw_g (lw_at lw_m4 201 rfl) rfl
theorem q972 : (Jvm.Cond.soleField "MustardFastModel" "readings") ∈ lw_all := lw_g (lw_at lw_m4 202 rfl) rfl
theorem q973 : (Jvm.Cond.laysFinal "MustardFastModel" "MustardFastModel" "readingOf" "[I") ∈ lw_all := lw_g (lw_at lw_m4 203 rfl) rfl
theorem q974 : (Jvm.Cond.soleField "MustardFastModel" "readingOf") ∈ lw_all := lw_g (lw_at lw_m4 204 rfl) rfl
theorem q975 : (Jvm.Cond.laysFinal "MustardFastModel" "MustardFastModel" "readingBy" "[I") ∈ lw_all := lw_g (lw_at lw_m4 205 rfl) rfl
theorem q976 : (Jvm.Cond.soleField "MustardFastModel" "readingBy") ∈ lw_all := lw_g (lw_at lw_m4 206 rfl) rfl
theorem q977 : (Jvm.Cond.laysFinal "MustardFastModel" "MustardFastModel" "readingOn" "[I") ∈ lw_all := lw_g (lw_at lw_m4 207 rfl) rfl
theorem q978 : (Jvm.Cond.soleField "MustardFastModel" "readingOn") ∈ lw_all := lw_g (lw_at lw_m4 208 rfl) rfl
theorem q979 : (Jvm.Cond.laysFinal "MustardFastModel" "MustardFastModel" "readingWas" "[Z") ∈ lw_all := lw_g (lw_at lw_m4 209 rfl) rfl
theorem q980 : (Jvm.Cond.soleField "MustardFastModel" "readingWas") ∈ lw_all := lw_g (lw_at lw_m4 210 rfl) rfl
theorem q981 : (Jvm.Cond.laysFinal "MustardFastModel" "MustardFastModel" "sheetSize" "[I") ∈ lw_all := lw_g (lw_at lw_m4 211 rfl) rfl
theorem q982 : (Jvm.Cond.soleField "MustardFastModel" "sheetSize") ∈ lw_all := lw_g (lw_at lw_m4 212 rfl) rfl
theorem q983 : (Jvm.Cond.laysFinal "MustardFastModel" "MustardFastModel" "sheetLane" "[I") ∈ lw_all := lw_g (lw_at lw_m4 213 rfl) rfl
theorem q984 : (Jvm.Cond.soleField "MustardFastModel" "sheetLane") ∈ lw_all := lw_g (lw_at lw_m4 214 rfl) rfl
theorem q985 : (Jvm.Cond.laysFinal "MustardFastModel" "MustardFastModel" "sheet" "[I") ∈ lw_all := lw_g (lw_at lw_m4 215 rfl) rfl
theorem q986 : (Jvm.Cond.soleField "MustardFastModel" "sheet") ∈ lw_all := lw_g (lw_at lw_m4 216 rfl) rfl
theorem q987 : (Jvm.Cond.laysFinal "MustardFastModel" "MustardFastModel" "hands" "[I") ∈ lw_all := lw_g (lw_at lw_m4 217 rfl) rfl
theorem q988 : (Jvm.Cond.soleField "MustardFastModel" "hands") ∈ lw_all := lw_g (lw_at lw_m4 218 rfl) rfl
theorem q989 : (Jvm.Cond.lays "MustardFastModel" "MustardFastModel" "traceNow" "I") ∈ lw_all := lw_g (lw_at lw_m4 219 rfl) rfl
theorem q990 : (Jvm.Cond.soleField "MustardFastModel" "traceNow") ∈ lw_all := lw_g (lw_at lw_m4 220 rfl) rfl
theorem q991 : (Jvm.Cond.superclass "MustardFastModel" "java/lang/Object") ∈ lw_all := lw_g (lw_at lw_m4 221 rfl) rfl
theorem q993 : (Jvm.Cond.instanceMethod ({ cls := "MustardFastModel", name := "duchy", desc := "(IIII)I" } : Jvm.MethodName)) ∈ lw_all := lw_g (lw_at lw_m4 223 rfl) rfl
theorem q994 : (Jvm.Cond.selects "MustardFastModel" ({ cls := "MustardFastModel", name := "duchy", desc := "(IIII)I" } : Jvm.MethodName) ({ cls := "MustardFastModel", name := "duchy", desc := "(IIII)I" } : Jvm.MethodName)) ∈ lw_all := lw_g (lw_at lw_m4 224 rfl) rfl
theorem q995 : (Jvm.Cond.code ({ cls := "MustardFastModel", name := "duchy", desc := "(IIII)I" } : Jvm.MethodName) prog_8_method_19_code (7 : Nat) (Option.some Jvm.ClassFile.FieldType.int)) ∈ lw_all := lw_g (lw_at lw_m4 225 rfl) rfl
theorem q996 : (Jvm.Cond.methodLink "MustardFastModel" (123 : Nat) ({ cls := "MustardFastModel", name := "noSheet", desc := "(I)Z" } : Jvm.MethodName)) ∈ lw_all := lw_g (lw_at lw_m4 226 rfl) rfl
theorem q997 : (Jvm.Cond.static ({ cls := "MustardFastModel", name := "noSheet", desc := "(I)Z" } : Jvm.MethodName)) ∈ lw_all := lw_g (lw_at lw_m4 227 rfl) rfl
theorem q998 : (Jvm.Cond.code ({ cls := "MustardFastModel", name := "noSheet", desc := "(I)Z" } : Jvm.MethodName) prog_8_method_47_code (1 : Nat) (Option.some Jvm.ClassFile.FieldType.boolean)) ∈ lw_all := lw_g (lw_at lw_m4 228 rfl) rfl
theorem q999 : (Jvm.Cond.constantLong "MustardFastModel" (180 : Nat) (3 : Int64)) ∈ lw_all := lw_g (lw_at lw_m4 229 rfl) rfl
theorem q1000 : (Jvm.Cond.methodLink "MustardFastModel" (81 : Nat) ({ cls := "MustardFastModel", name := "in", desc := "(JJJ)Z" } : Jvm.MethodName)) ∈ lw_all := lw_g (lw_at lw_m4 230 rfl) rfl
theorem q1001 : (Jvm.Cond.static ({ cls := "MustardFastModel", name := "in", desc := "(JJJ)Z" } : Jvm.MethodName)) ∈ lw_all := lw_g (lw_at lw_m4 231 rfl) rfl
theorem q1002 : (Jvm.Cond.code ({ cls := "MustardFastModel", name := "in", desc := "(JJJ)Z" } : Jvm.MethodName) prog_8_method_2_code (6 : Nat) (Option.some Jvm.ClassFile.FieldType.boolean)) ∈ lw_all := lw_g (lw_at lw_m4 232 rfl) rfl
theorem q1003 : (Jvm.Cond.methodLink "MustardFastModel" (127 : Nat) ({ cls := "MustardFastModel", name := "refused", desc := "(I)I" } : Jvm.MethodName)) ∈ lw_all := lw_g (lw_at lw_m4 233 rfl) rfl
theorem q1004 : (Jvm.Cond.privateMethod ({ cls := "MustardFastModel", name := "refused", desc := "(I)I" } : Jvm.MethodName)) ∈ lw_tbl := lw_at lw_m4 234 rfl
theorem q1005 : (Jvm.Cond.instanceMethod ({ cls := "MustardFastModel", name := "refused", desc := "(I)I" } : Jvm.MethodName)) ∈ lw_all := lw_g (lw_at lw_m4 235 rfl) rfl
theorem q1006 : (Jvm.Cond.code ({ cls := "MustardFastModel", name := "refused", desc := "(I)I" } : Jvm.MethodName) prog_8_method_7_code (2 : Nat) (Option.some Jvm.ClassFile.FieldType.int)) ∈ lw_all := lw_g (lw_at lw_m4 236 rfl) rfl
theorem q1007 : (Jvm.Cond.constantLong "MustardFastModel" (130 : Nat) (2 : Int64)) ∈ lw_all := lw_g (lw_at lw_m4 237 rfl) rfl
theorem q1008 : (Jvm.Cond.methodLink "MustardFastModel" (132 : Nat) ({ cls := "MustardFastModel", name := "cellsBarred", desc := "(IIIJ)I" } : Jvm.MethodName)) ∈ lw_all := lw_g (lw_at lw_m4 238 rfl) rfl
theorem q1009 : (Jvm.Cond.privateMethod ({ cls := "MustardFastModel", name := "cellsBarred", desc := "(IIIJ)I" } : Jvm.MethodName)) ∈ lw_tbl := lw_at lw_m4 239 rfl
theorem q1010 : (Jvm.Cond.instanceMethod ({ cls := "MustardFastModel", name := "cellsBarred", desc := "(IIIJ)I" } : Jvm.MethodName)) ∈ lw_all := lw_g (lw_at lw_m5 0 rfl) rfl
theorem q1011 : (Jvm.Cond.code ({ cls := "MustardFastModel", name := "cellsBarred", desc := "(IIIJ)I" } : Jvm.MethodName) prog_8_method_18_code (6 : Nat) (Option.some Jvm.ClassFile.FieldType.int)) ∈ lw_all := lw_g (lw_at lw_m5 1 rfl) rfl
theorem q1012 : (Jvm.Cond.methodLink "MustardFastModel" (115 : Nat) ({ cls := "MustardFastModel", name := "failed", desc := "(I)I" } : Jvm.MethodName)) ∈ lw_all := lw_g (lw_at lw_m5 2 rfl) rfl
theorem q1013 : (Jvm.Cond.privateMethod ({ cls := "MustardFastModel", name := "failed", desc := "(I)I" } : Jvm.MethodName)) ∈ lw_tbl := lw_at lw_m5 3 rfl
theorem q1014 : (Jvm.Cond.instanceMethod ({ cls := "MustardFastModel", name := "failed", desc := "(I)I" } : Jvm.MethodName)) ∈ lw_all := lw_g (lw_at lw_m5 4 rfl) rfl
theorem q1015 : (Jvm.Cond.code ({ cls := "MustardFastModel", name := "failed", desc := "(I)I" } : Jvm.MethodName) prog_8_method_8_code (2 : Nat) (Option.some Jvm.ClassFile.FieldType.int)) ∈ lw_all := lw_g (lw_at lw_m5 5 rfl) rfl
theorem q1016 : (Jvm.Cond.methodLink "MustardFastModel" (119 : Nat) ({ cls := "MustardFastModel", name := "isBeyond", desc := "(IJI)Z" } : Jvm.MethodName)) ∈ lw_all := lw_g (lw_at lw_m5 6 rfl) rfl
theorem q1017 : (Jvm.Cond.static ({ cls := "MustardFastModel", name := "isBeyond", desc := "(IJI)Z" } : Jvm.MethodName)) ∈ lw_all := lw_g (lw_at lw_m5 7 rfl) rfl
theorem q1018 : (Jvm.Cond.code ({ cls := "MustardFastModel", name := "isBeyond", desc := "(IJI)Z" } : Jvm.MethodName) prog_8_method_53_code (4 : Nat) (Option.some Jvm.ClassFile.FieldType.boolean)) ∈ lw_all := lw_g (lw_at lw_m5 8 rfl) rfl
theorem q1019 : (Jvm.Cond.methodLink "MustardFastModel" (136 : Nat) ({ cls := "MustardFastModel", name := "readsDuchy", desc := "(II)Z" } : Jvm.MethodName)) ∈ lw_all := lw_g (lw_at lw_m5 9 rfl) rfl
theorem q1020 : (Jvm.Cond.privateMethod ({ cls := "MustardFastModel", name := "readsDuchy", desc := "(II)Z" } : Jvm.MethodName)) ∈ lw_tbl := lw_at lw_m5 10 rfl
theorem q1021 : (Jvm.Cond.instanceMethod ({ cls := "MustardFastModel", name := "readsDuchy", desc := "(II)Z" } : Jvm.MethodName)) ∈ lw_all := lw_g (lw_at lw_m5 11 rfl) rfl
theorem q1022 : (Jvm.Cond.code ({ cls := "MustardFastModel", name := "readsDuchy", desc := "(II)Z" } : Jvm.MethodName) prog_8_method_17_code (4 : Nat) (Option.some Jvm.ClassFile.FieldType.boolean)) ∈ lw_all := lw_g (lw_at lw_m5 12 rfl) rfl
theorem q1023 : (Jvm.Cond.methodLink "MustardFastModel" (91 : Nat) ({ cls := "MustardFastModel", name := "codeAt", desc := "(II)I" } : Jvm.MethodName)) ∈ lw_all := lw_g (lw_at lw_m5 13 rfl) rfl
theorem q1024 : (Jvm.Cond.privateMethod ({ cls := "MustardFastModel", name := "codeAt", desc := "(II)I" } : Jvm.MethodName)) ∈ lw_tbl := lw_at lw_m5 14 rfl
theorem q1025 : (Jvm.Cond.instanceMethod ({ cls := "MustardFastModel", name := "codeAt", desc := "(II)I" } : Jvm.MethodName)) ∈ lw_all := lw_g (lw_at lw_m5 15 rfl) rfl
theorem q1026 : (Jvm.Cond.code ({ cls := "MustardFastModel", name := "codeAt", desc := "(II)I" } : Jvm.MethodName) prog_8_method_13_code (3 : Nat) (Option.some Jvm.ClassFile.FieldType.int)) ∈ lw_all := lw_g (lw_at lw_m5 16 rfl) rfl
theorem q1027 : (Jvm.Cond.methodLink "MustardFastModel" (98 : Nat) ({ cls := "MustardFastModel", name := "figure", desc := "(IIII)I" } : Jvm.MethodName)) ∈ lw_all := lw_g (lw_at lw_m5 17 rfl) rfl
theorem q1028 : (Jvm.Cond.privateMethod ({ cls := "MustardFastModel", name := "figure", desc := "(IIII)I" } : Jvm.MethodName)) ∈ lw_tbl := lw_at lw_m5 18 rfl
theorem q1029 : (Jvm.Cond.instanceMethod ({ cls := "MustardFastModel", name := "figure", desc := "(IIII)I" } : Jvm.MethodName)) ∈ lw_all := lw_g (lw_at lw_m5 19 rfl) rfl
theorem q1030 : (Jvm.Cond.code ({ cls := "MustardFastModel", name := "figure", desc := "(IIII)I" } : Jvm.MethodName) prog_8_method_14_code (7 : Nat) (Option.some Jvm.ClassFile.FieldType.int)) ∈ lw_all := lw_g (lw_at lw_m5 20 rfl) rfl
theorem q1031 : (Jvm.Cond.methodLink "MustardFastModel" (108 : Nat) ({ cls := "MustardFastModel", name := "readsDays", desc := "(II)Z" } : Jvm.MethodName)) ∈ lw_all := lw_g (lw_at lw_m5 21 rfl) rfl
theorem q1032 : (Jvm.Cond.privateMethod ({ cls := "MustardFastModel", name := "readsDays", desc := "(II)Z" } : Jvm.MethodName)) ∈ lw_tbl := lw_at lw_m5 22 rfl
theorem q1033 : (Jvm.Cond.instanceMethod ({ cls := "MustardFastModel", name := "readsDays", desc := "(II)Z" } : Jvm.MethodName)) ∈ lw_all := lw_g (lw_at lw_m5 23 rfl) rfl
theorem q1034 : (Jvm.Cond.code ({ cls := "MustardFastModel", name := "readsDays", desc := "(II)Z" } : Jvm.MethodName) prog_8_method_15_code (5 : Nat) (Option.some Jvm.ClassFile.FieldType.boolean)) ∈ lw_all := lw_g (lw_at lw_m5 24 rfl) rfl
theorem q1035 : (Jvm.Cond.methodLink "MustardFastModel" (112 : Nat) ({ cls := "MustardFastModel", name := "readsEater", desc := "(II)Z" } : Jvm.MethodName)) ∈ lw_all := lw_g (lw_at lw_m5 25 rfl) rfl
theorem q1036 : (Jvm.Cond.privateMethod ({ cls := "MustardFastModel", name := "readsEater", desc := "(II)Z" } : Jvm.MethodName)) ∈ lw_tbl := lw_at lw_m5 26 rfl
theorem q1037 : (Jvm.Cond.instanceMethod ({ cls := "MustardFastModel", name := "readsEater", desc := "(II)Z" } : Jvm.MethodName)) ∈ lw_all := lw_g (lw_at lw_m5 27 rfl) rfl
theorem q1038 : (Jvm.Cond.code ({ cls := "MustardFastModel", name := "readsEater", desc := "(II)Z" } : Jvm.MethodName) prog_8_method_16_code (7 : Nat) (Option.some Jvm.ClassFile.FieldType.boolean)) ∈ lw_all := lw_g (lw_at lw_m5 28 rfl) rfl
theorem q1040 : (Jvm.Cond.instanceMethod ({ cls := "MustardFastModel", name := "ofEater", desc := "(II)I" } : Jvm.MethodName)) ∈ lw_all := lw_g (lw_at lw_m5 30 rfl) rfl
theorem q1041 : (Jvm.Cond.selects "MustardFastModel" ({ cls := "MustardFastModel", name := "ofEater", desc := "(II)I" } : Jvm.MethodName) ({ cls := "MustardFastModel", name := "ofEater", desc := "(II)I" } : Jvm.MethodName)) ∈ lw_all := lw_g (lw_at lw_m5 31 rfl) rfl
theorem q1042 : (Jvm.Cond.code ({ cls := "MustardFastModel", name := "ofEater", desc := "(II)I" } : Jvm.MethodName) prog_8_method_21_code (3 : Nat) (Option.some Jvm.ClassFile.FieldType.int)) ∈ lw_all := lw_g (lw_at lw_m5 32 rfl) rfl
theorem q1043 : (Jvm.Cond.methodLink "MustardFastModel" (145 : Nat) ({ cls := "MustardFastModel", name := "noEater", desc := "(I)Z" } : Jvm.MethodName)) ∈ lw_all := lw_g (lw_at lw_m5 33 rfl) rfl
theorem q1044 : (Jvm.Cond.privateMethod ({ cls := "MustardFastModel", name := "noEater", desc := "(I)Z" } : Jvm.MethodName)) ∈ lw_tbl := lw_at lw_m5 34 rfl
theorem q1045 : (Jvm.Cond.instanceMethod ({ cls := "MustardFastModel", name := "noEater", desc := "(I)Z" } : Jvm.MethodName)) ∈ lw_all := lw_g (lw_at lw_m5 35 rfl) rfl
theorem q1046 : (Jvm.Cond.code ({ cls := "MustardFastModel", name := "noEater", desc := "(I)Z" } : Jvm.MethodName) prog_8_method_11_code (2 : Nat) (Option.some Jvm.ClassFile.FieldType.boolean)) ∈ lw_all := lw_g (lw_at lw_m5 36 rfl) rfl
theorem q1047 : (Jvm.Cond.methodLink "MustardFastModel" (148 : Nat) ({ cls := "MustardFastModel", name := "lastsOf", desc := "(I)I" } : Jvm.MethodName)) ∈ lw_all := lw_g (lw_at lw_m5 37 rfl) rfl
theorem q1048 : (Jvm.Cond.privateMethod ({ cls := "MustardFastModel", name := "lastsOf", desc := "(I)I" } : Jvm.MethodName)) ∈ lw_tbl := lw_at lw_m5 38 rfl
theorem q1049 : (Jvm.Cond.instanceMethod ({ cls := "MustardFastModel", name := "lastsOf", desc := "(I)I" } : Jvm.MethodName)) ∈ lw_all := lw_g (lw_at lw_m5 39 rfl) rfl
theorem q1050 : (Jvm.Cond.code ({ cls := "MustardFastModel", name := "lastsOf", desc := "(I)I" } : Jvm.MethodName) prog_8_method_20_code (3 : Nat) (Option.some Jvm.ClassFile.FieldType.int)) ∈ lw_all := lw_g (lw_at lw_m5 40 rfl) rfl
theorem q1052 : (Jvm.Cond.instanceMethod ({ cls := "MustardFastModel", name := "look", desc := "(I)I" } : Jvm.MethodName)) ∈ lw_all := lw_g (lw_at lw_m5 42 rfl) rfl
theorem q1053 : (Jvm.Cond.selects "MustardFastModel" ({ cls := "MustardFastModel", name := "look", desc := "(I)I" } : Jvm.MethodName) ({ cls := "MustardFastModel", name := "look", desc := "(I)I" } : Jvm.MethodName)) ∈ lw_all := lw_g (lw_at lw_m5 43 rfl) rfl
theorem q1054 : (Jvm.Cond.code ({ cls := "MustardFastModel", name := "look", desc := "(I)I" } : Jvm.MethodName) prog_8_method_22_code (2 : Nat) (Option.some Jvm.ClassFile.FieldType.int)) ∈ lw_all := lw_g (lw_at lw_m5 44 rfl) rfl
theorem q1055 : (Jvm.Cond.methodLink "MustardFastModel" (151 : Nat) ({ cls := "MustardFastModel", name := "noDay", desc := "(I)Z" } : Jvm.MethodName)) ∈ lw_all := lw_g (lw_at lw_m5 45 rfl) rfl
theorem q1056 : (Jvm.Cond.privateMethod ({ cls := "MustardFastModel", name := "noDay", desc := "(I)Z" } : Jvm.MethodName)) ∈ lw_tbl := lw_at lw_m5 46 rfl
theorem q1057 : (Jvm.Cond.instanceMethod ({ cls := "MustardFastModel", name := "noDay", desc := "(I)Z" } : Jvm.MethodName)) ∈ lw_all := lw_g (lw_at lw_m5 47 rfl) rfl
theorem q1058 : (Jvm.Cond.code ({ cls := "MustardFastModel", name := "noDay", desc := "(I)Z" } : Jvm.MethodName) prog_8_method_10_code (2 : Nat) (Option.some Jvm.ClassFile.FieldType.boolean)) ∈ lw_all := lw_g (lw_at lw_m5 48 rfl) rfl
theorem q1060 : (Jvm.Cond.instanceMethod ({ cls := "MustardFastModel", name := "pull", desc := "(II)I" } : Jvm.MethodName)) ∈ lw_all := lw_g (lw_at lw_m5 50 rfl) rfl
theorem q1061 : (Jvm.Cond.selects "MustardFastModel" ({ cls := "MustardFastModel", name := "pull", desc := "(II)I" } : Jvm.MethodName) ({ cls := "MustardFastModel", name := "pull", desc := "(II)I" } : Jvm.MethodName)) ∈ lw_all := lw_g (lw_at lw_m5 51 rfl) rfl
theorem q1062 : (Jvm.Cond.code ({ cls := "MustardFastModel", name := "pull", desc := "(II)I" } : Jvm.MethodName) prog_8_method_23_code (4 : Nat) (Option.some Jvm.ClassFile.FieldType.int)) ∈ lw_all := lw_g (lw_at lw_m5 52 rfl) rfl
theorem q1063 : (Jvm.Cond.constantLong "MustardFastModel" (154 : Nat) (9 : Int64)) ∈ lw_all := lw_g (lw_at lw_m5 53 rfl) rfl
theorem q1065 : (Jvm.Cond.instanceMethod ({ cls := "MustardFastModel", name := "sour", desc := "(I)I" } : Jvm.MethodName)) ∈ lw_all := lw_g (lw_at lw_m5 55 rfl) rfl
theorem q1066 : (Jvm.Cond.selects "MustardFastModel" ({ cls := "MustardFastModel", name := "sour", desc := "(I)I" } : Jvm.MethodName) ({ cls := "MustardFastModel", name := "sour", desc := "(I)I" } : Jvm.MethodName)) ∈ lw_all := lw_g (lw_at lw_m5 56 rfl) rfl
theorem q1067 : (Jvm.Cond.code ({ cls := "MustardFastModel", name := "sour", desc := "(I)I" } : Jvm.MethodName) prog_8_method_24_code (3 : Nat) (Option.some Jvm.ClassFile.FieldType.int)) ∈ lw_all := lw_g (lw_at lw_m5 57 rfl) rfl
theorem q1069 : (Jvm.Cond.instanceMethod ({ cls := "MustardFastModel", name := "crave", desc := "(II)I" } : Jvm.MethodName)) ∈ lw_all := lw_g (lw_at lw_m5 59 rfl) rfl
theorem q1070 : (Jvm.Cond.selects "MustardFastModel" ({ cls := "MustardFastModel", name := "crave", desc := "(II)I" } : Jvm.MethodName) ({ cls := "MustardFastModel", name := "crave", desc := "(II)I" } : Jvm.MethodName)) ∈ lw_all := lw_g (lw_at lw_m5 60 rfl) rfl
theorem q1071 : (Jvm.Cond.code ({ cls := "MustardFastModel", name := "crave", desc := "(II)I" } : Jvm.MethodName) prog_8_method_25_code (4 : Nat) (Option.some Jvm.ClassFile.FieldType.int)) ∈ lw_all := lw_g (lw_at lw_m5 61 rfl) rfl
theorem q1072 : (Jvm.Cond.constantLong "MustardFastModel" (156 : Nat) (6 : Int64)) ∈ lw_all := lw_g (lw_at lw_m5 62 rfl) rfl
theorem q1074 : (Jvm.Cond.instanceMethod ({ cls := "MustardFastModel", name := "fasts", desc := "()I" } : Jvm.MethodName)) ∈ lw_all := lw_g (lw_at lw_m5 64 rfl) rfl
theorem q1075 : (Jvm.Cond.selects "MustardFastModel" ({ cls := "MustardFastModel", name := "fasts", desc := "()I" } : Jvm.MethodName) ({ cls := "MustardFastModel", name := "fasts", desc := "()I" } : Jvm.MethodName)) ∈ lw_all := lw_g (lw_at lw_m5 65 rfl) rfl
theorem q1076 : (Jvm.Cond.code ({ cls := "MustardFastModel", name := "fasts", desc := "()I" } : Jvm.MethodName) prog_8_method_30_code (1 : Nat) (Option.some Jvm.ClassFile.FieldType.int)) ∈ lw_all := lw_g (lw_at lw_m5 66 rfl) rfl
theorem q1077 : (Jvm.Cond.methodLink "MustardFastModel" (164 : Nat) ({ cls := "MustardFastModel", name := "fastsNow", desc := "()I" } : Jvm.MethodName)) ∈ lw_all := lw_g (lw_at lw_m5 67 rfl) rfl
theorem q1078 : (Jvm.Cond.privateMethod ({ cls := "MustardFastModel", name := "fastsNow", desc := "()I" } : Jvm.MethodName)) ∈ lw_tbl := lw_at lw_m5 68 rfl
theorem q1079 : (Jvm.Cond.instanceMethod ({ cls := "MustardFastModel", name := "fastsNow", desc := "()I" } : Jvm.MethodName)) ∈ lw_all := lw_g (lw_at lw_m5 69 rfl) rfl
theorem q1080 : (Jvm.Cond.code ({ cls := "MustardFastModel", name := "fastsNow", desc := "()I" } : Jvm.MethodName) prog_8_method_26_code (3 : Nat) (Option.some Jvm.ClassFile.FieldType.int)) ∈ lw_all := lw_g (lw_at lw_m5 70 rfl) rfl
theorem q1082 : (Jvm.Cond.instanceMethod ({ cls := "MustardFastModel", name := "yellow", desc := "(II)I" } : Jvm.MethodName)) ∈ lw_all := lw_g (lw_at lw_m5 72 rfl) rfl
theorem q1083 : (Jvm.Cond.selects "MustardFastModel" ({ cls := "MustardFastModel", name := "yellow", desc := "(II)I" } : Jvm.MethodName) ({ cls := "MustardFastModel", name := "yellow", desc := "(II)I" } : Jvm.MethodName)) ∈ lw_all := lw_g (lw_at lw_m5 73 rfl) rfl
theorem q1084 : (Jvm.Cond.code ({ cls := "MustardFastModel", name := "yellow", desc := "(II)I" } : Jvm.MethodName) prog_8_method_31_code (3 : Nat) (Option.some Jvm.ClassFile.FieldType.int)) ∈ lw_all := lw_g (lw_at lw_m5 74 rfl) rfl
theorem q1085 : (Jvm.Cond.methodLink "MustardFastModel" (174 : Nat) ({ cls := "MustardFastModel", name := "noSet", desc := "(I)Z" } : Jvm.MethodName)) ∈ lw_all := lw_g (lw_at lw_m5 75 rfl) rfl
theorem q1086 : (Jvm.Cond.privateMethod ({ cls := "MustardFastModel", name := "noSet", desc := "(I)Z" } : Jvm.MethodName)) ∈ lw_tbl := lw_at lw_m5 76 rfl
theorem q1087 : (Jvm.Cond.instanceMethod ({ cls := "MustardFastModel", name := "noSet", desc := "(I)Z" } : Jvm.MethodName)) ∈ lw_all := lw_g (lw_at lw_m5 77 rfl) rfl
theorem q1088 : (Jvm.Cond.code ({ cls := "MustardFastModel", name := "noSet", desc := "(I)Z" } : Jvm.MethodName) prog_8_method_12_code (2 : Nat) (Option.some Jvm.ClassFile.FieldType.boolean)) ∈ lw_all := lw_g (lw_at lw_m5 78 rfl) rfl
theorem q1089 : (Jvm.Cond.methodLink "MustardFastModel" (161 : Nat) ({ cls := "MustardFastModel", name := "yellowBy", desc := "(II)I" } : Jvm.MethodName)) ∈ lw_all := lw_g (lw_at lw_m5 79 rfl) rfl
theorem q1090 : (Jvm.Cond.privateMethod ({ cls := "MustardFastModel", name := "yellowBy", desc := "(II)I" } : Jvm.MethodName)) ∈ lw_tbl := lw_at lw_m5 80 rfl
theorem q1091 : (Jvm.Cond.instanceMethod ({ cls := "MustardFastModel", name := "yellowBy", desc := "(II)I" } : Jvm.MethodName)) ∈ lw_all := lw_g (lw_at lw_m5 81 rfl) rfl
theorem q1092 : (Jvm.Cond.code ({ cls := "MustardFastModel", name := "yellowBy", desc := "(II)I" } : Jvm.MethodName) prog_8_method_27_code (7 : Nat) (Option.some Jvm.ClassFile.FieldType.int)) ∈ lw_all := lw_g (lw_at lw_m5 82 rfl) rfl
theorem q1093 : (Jvm.Cond.methodLink "MustardFastModel" (158 : Nat) ({ cls := "MustardFastModel", name := "isIn", desc := "(II)Z" } : Jvm.MethodName)) ∈ lw_all := lw_g (lw_at lw_m5 83 rfl) rfl
theorem q1094 : (Jvm.Cond.static ({ cls := "MustardFastModel", name := "isIn", desc := "(II)Z" } : Jvm.MethodName)) ∈ lw_all := lw_g (lw_at lw_m5 84 rfl) rfl
theorem q1095 : (Jvm.Cond.code ({ cls := "MustardFastModel", name := "isIn", desc := "(II)Z" } : Jvm.MethodName) prog_8_method_4_code (2 : Nat) (Option.some Jvm.ClassFile.FieldType.boolean)) ∈ lw_all := lw_g (lw_at lw_m5 85 rfl) rfl
theorem q1097 : (Jvm.Cond.instanceMethod ({ cls := "MustardFastModel", name := "found", desc := "(III)I" } : Jvm.MethodName)) ∈ lw_all := lw_g (lw_at lw_m5 87 rfl) rfl
theorem q1098 : (Jvm.Cond.selects "MustardFastModel" ({ cls := "MustardFastModel", name := "found", desc := "(III)I" } : Jvm.MethodName) ({ cls := "MustardFastModel", name := "found", desc := "(III)I" } : Jvm.MethodName)) ∈ lw_all := lw_g (lw_at lw_m5 88 rfl) rfl
theorem q1099 : (Jvm.Cond.code ({ cls := "MustardFastModel", name := "found", desc := "(III)I" } : Jvm.MethodName) prog_8_method_32_code (4 : Nat) (Option.some Jvm.ClassFile.FieldType.int)) ∈ lw_all := lw_g (lw_at lw_m5 89 rfl) rfl
theorem q1100 : (Jvm.Cond.methodLink "MustardFastModel" (168 : Nat) ({ cls := "MustardFastModel", name := "foundBy", desc := "(II)I" } : Jvm.MethodName)) ∈ lw_all := lw_g (lw_at lw_m5 90 rfl) rfl
theorem q1101 : (Jvm.Cond.privateMethod ({ cls := "MustardFastModel", name := "foundBy", desc := "(II)I" } : Jvm.MethodName)) ∈ lw_tbl := lw_at lw_m5 91 rfl
theorem q1102 : (Jvm.Cond.instanceMethod ({ cls := "MustardFastModel", name := "foundBy", desc := "(II)I" } : Jvm.MethodName)) ∈ lw_all := lw_g (lw_at lw_m5 92 rfl) rfl
theorem q1103 : (Jvm.Cond.code ({ cls := "MustardFastModel", name := "foundBy", desc := "(II)I" } : Jvm.MethodName) prog_8_method_28_code (3 : Nat) (Option.some Jvm.ClassFile.FieldType.int)) ∈ lw_all := lw_g (lw_at lw_m5 93 rfl) rfl
theorem q1104 : (Jvm.Cond.methodLink "MustardFastModel" (177 : Nat) ({ cls := "MustardFastModel", name := "fineOf", desc := "(II)I" } : Jvm.MethodName)) ∈ lw_all := lw_g (lw_at lw_m5 94 rfl) rfl
theorem q1105 : (Jvm.Cond.privateMethod ({ cls := "MustardFastModel", name := "fineOf", desc := "(II)I" } : Jvm.MethodName)) ∈ lw_tbl := lw_at lw_m5 95 rfl
theorem q1106 : (Jvm.Cond.instanceMethod ({ cls := "MustardFastModel", name := "fineOf", desc := "(II)I" } : Jvm.MethodName)) ∈ lw_all := lw_g (lw_at lw_m5 96 rfl) rfl
theorem q1107 : (Jvm.Cond.code ({ cls := "MustardFastModel", name := "fineOf", desc := "(II)I" } : Jvm.MethodName) prog_8_method_29_code (3 : Nat) (Option.some Jvm.ClassFile.FieldType.int)) ∈ lw_all := lw_g (lw_at lw_m5 97 rfl) rfl
theorem q1108 : (Jvm.Cond.methodLink "MustardFastModel" (171 : Nat) ({ cls := "MustardFastModel", name := "bits", desc := "(I)I" } : Jvm.MethodName)) ∈ lw_all := lw_g (lw_at lw_m5 98 rfl) rfl
theorem q1109 : (Jvm.Cond.static ({ cls := "MustardFastModel", name := "bits", desc := "(I)I" } : Jvm.MethodName)) ∈ lw_all := lw_g (lw_at lw_m5 99 rfl) rfl
theorem q1110 : (Jvm.Cond.code ({ cls := "MustardFastModel", name := "bits", desc := "(I)I" } : Jvm.MethodName) prog_8_method_5_code (3 : Nat) (Option.some Jvm.ClassFile.FieldType.int)) ∈ lw_all := lw_g (lw_at lw_m5 100 rfl) rfl
theorem q1112 : (Jvm.Cond.instanceMethod ({ cls := "MustardFastModel", name := "plan", desc := "(IIIII)I" } : Jvm.MethodName)) ∈ lw_all := lw_g (lw_at lw_m5 102 rfl) rfl
theorem q1113 : (Jvm.Cond.selects "MustardFastModel" ({ cls := "MustardFastModel", name := "plan", desc := "(IIIII)I" } : Jvm.MethodName) ({ cls := "MustardFastModel", name := "plan", desc := "(IIIII)I" } : Jvm.MethodName)) ∈ lw_all := lw_g (lw_at lw_m5 103 rfl) rfl
theorem q1114 : (Jvm.Cond.code ({ cls := "MustardFastModel", name := "plan", desc := "(IIIII)I" } : Jvm.MethodName) prog_8_method_34_code (9 : Nat) (Option.some Jvm.ClassFile.FieldType.int)) ∈ lw_all := lw_g (lw_at lw_m5 104 rfl) rfl
theorem q1115 : (Jvm.Cond.constantLong "MustardFastModel" (182 : Nat) (10 : Int64)) ∈ lw_all := lw_g (lw_at lw_m5 105 rfl) rfl
theorem q1116 : (Jvm.Cond.constantLong "MustardFastModel" (184 : Nat) (15 : Int64)) ∈ lw_all := lw_g (lw_at lw_m5 106 rfl) rfl
theorem q1117 : (Jvm.Cond.methodLink "MustardFastModel" (186 : Nat) ({ cls := "MustardFastModel", name := "planBy", desc := "(II)I" } : Jvm.MethodName)) ∈ lw_all := lw_g (lw_at lw_m5 107 rfl) rfl
theorem q1118 : (Jvm.Cond.privateMethod ({ cls := "MustardFastModel", name := "planBy", desc := "(II)I" } : Jvm.MethodName)) ∈ lw_tbl := lw_at lw_m5 108 rfl
theorem q1119 : (Jvm.Cond.instanceMethod ({ cls := "MustardFastModel", name := "planBy", desc := "(II)I" } : Jvm.MethodName)) ∈ lw_all := lw_g (lw_at lw_m5 109 rfl) rfl
theorem q1120 : (Jvm.Cond.code ({ cls := "MustardFastModel", name := "planBy", desc := "(II)I" } : Jvm.MethodName) prog_8_method_33_code (12 : Nat) (Option.some Jvm.ClassFile.FieldType.int)) ∈ lw_all := lw_g (lw_at lw_m5 110 rfl) rfl
theorem q1122 : (Jvm.Cond.instanceMethod ({ cls := "MustardFastModel", name := "best", desc := "(II)I" } : Jvm.MethodName)) ∈ lw_all := lw_g (lw_at lw_m5 112 rfl) rfl
theorem q1123 : (Jvm.Cond.selects "MustardFastModel" ({ cls := "MustardFastModel", name := "best", desc := "(II)I" } : Jvm.MethodName) ({ cls := "MustardFastModel", name := "best", desc := "(II)I" } : Jvm.MethodName)) ∈ lw_all := lw_g (lw_at lw_m5 113 rfl) rfl
theorem q1124 : (Jvm.Cond.code ({ cls := "MustardFastModel", name := "best", desc := "(II)I" } : Jvm.MethodName) prog_8_method_36_code (4 : Nat) (Option.some Jvm.ClassFile.FieldType.int)) ∈ lw_all := lw_g (lw_at lw_m5 114 rfl) rfl
theorem q1125 : (Jvm.Cond.methodLink "MustardFastModel" (189 : Nat) ({ cls := "MustardFastModel", name := "bestOf", desc := "(I)I" } : Jvm.MethodName)) ∈ lw_all := lw_g (lw_at lw_m5 115 rfl) rfl
theorem q1126 : (Jvm.Cond.privateMethod ({ cls := "MustardFastModel", name := "bestOf", desc := "(I)I" } : Jvm.MethodName)) ∈ lw_tbl := lw_at lw_m5 116 rfl
theorem q1127 : (Jvm.Cond.instanceMethod ({ cls := "MustardFastModel", name := "bestOf", desc := "(I)I" } : Jvm.MethodName)) ∈ lw_all := lw_g (lw_at lw_m5 117 rfl) rfl
theorem q1128 : (Jvm.Cond.code ({ cls := "MustardFastModel", name := "bestOf", desc := "(I)I" } : Jvm.MethodName) prog_8_method_35_code (6 : Nat) (Option.some Jvm.ClassFile.FieldType.int)) ∈ lw_all := lw_g (lw_at lw_m5 118 rfl) rfl
theorem q1130 : (Jvm.Cond.instanceMethod ({ cls := "MustardFastModel", name := "village", desc := "()I" } : Jvm.MethodName)) ∈ lw_all := lw_g (lw_at lw_m5 120 rfl) rfl
theorem q1131 : (Jvm.Cond.selects "MustardFastModel" ({ cls := "MustardFastModel", name := "village", desc := "()I" } : Jvm.MethodName) ({ cls := "MustardFastModel", name := "village", desc := "()I" } : Jvm.MethodName)) ∈ lw_all := lw_g (lw_at lw_m5 121 rfl) rfl
theorem q1132 : (Jvm.Cond.code ({ cls := "MustardFastModel", name := "village", desc := "()I" } : Jvm.MethodName) prog_8_method_38_code (1 : Nat) (Option.some Jvm.ClassFile.FieldType.int)) ∈ lw_all := lw_g (lw_at lw_m5 122 rfl) rfl
theorem q1133 : (Jvm.Cond.methodLink "MustardFastModel" (192 : Nat) ({ cls := "MustardFastModel", name := "villageNow", desc := "()I" } : Jvm.MethodName)) ∈ lw_all := lw_g (lw_at lw_m5 123 rfl) rfl
theorem q1134 : (Jvm.Cond.privateMethod ({ cls := "MustardFastModel", name := "villageNow", desc := "()I" } : Jvm.MethodName)) ∈ lw_tbl := lw_at lw_m5 124 rfl
theorem q1135 : (Jvm.Cond.instanceMethod ({ cls := "MustardFastModel", name := "villageNow", desc := "()I" } : Jvm.MethodName)) ∈ lw_all := lw_g (lw_at lw_m5 125 rfl) rfl
theorem q1136 : (Jvm.Cond.code ({ cls := "MustardFastModel", name := "villageNow", desc := "()I" } : Jvm.MethodName) prog_8_method_37_code (5 : Nat) (Option.some Jvm.ClassFile.FieldType.int)) ∈ lw_all := lw_g (lw_at lw_m5 126 rfl) rfl
theorem q1138 : (Jvm.Cond.instanceMethod ({ cls := "MustardFastModel", name := "smile", desc := "(I)I" } : Jvm.MethodName)) ∈ lw_all := lw_g (lw_at lw_m5 128 rfl) rfl
theorem q1139 : (Jvm.Cond.selects "MustardFastModel" ({ cls := "MustardFastModel", name := "smile", desc := "(I)I" } : Jvm.MethodName) ({ cls := "MustardFastModel", name := "smile", desc := "(I)I" } : Jvm.MethodName)) ∈ lw_all := lw_g (lw_at lw_m5 129 rfl) rfl
theorem q1140 : (Jvm.Cond.code ({ cls := "MustardFastModel", name := "smile", desc := "(I)I" } : Jvm.MethodName) prog_8_method_39_code (8 : Nat) (Option.some Jvm.ClassFile.FieldType.int)) ∈ lw_all := lw_g (lw_at lw_m5 130 rfl) rfl
theorem q1142 : (Jvm.Cond.instanceMethod ({ cls := "MustardFastModel", name := "reading", desc := "(IIIZ)I" } : Jvm.MethodName)) ∈ lw_all := lw_g (lw_at lw_m5 132 rfl) rfl
theorem q1143 : (Jvm.Cond.selects "MustardFastModel" ({ cls := "MustardFastModel", name := "reading", desc := "(IIIZ)I" } : Jvm.MethodName) ({ cls := "MustardFastModel", name := "reading", desc := "(IIIZ)I" } : Jvm.MethodName)) ∈ lw_all := lw_g (lw_at lw_m5 133 rfl) rfl
theorem q1144 : (Jvm.Cond.code ({ cls := "MustardFastModel", name := "reading", desc := "(IIIZ)I" } : Jvm.MethodName) prog_8_method_40_code (5 : Nat) (Option.some Jvm.ClassFile.FieldType.int)) ∈ lw_all := lw_g (lw_at lw_m5 134 rfl) rfl
theorem q1146 : (Jvm.Cond.instanceMethod ({ cls := "MustardFastModel", name := "back", desc := "(I)I" } : Jvm.MethodName)) ∈ lw_all := lw_g (lw_at lw_m5 136 rfl) rfl
theorem q1147 : (Jvm.Cond.selects "MustardFastModel" ({ cls := "MustardFastModel", name := "back", desc := "(I)I" } : Jvm.MethodName) ({ cls := "MustardFastModel", name := "back", desc := "(I)I" } : Jvm.MethodName)) ∈ lw_all := lw_g (lw_at lw_m5 137 rfl) rfl
theorem q1148 : (Jvm.Cond.code ({ cls := "MustardFastModel", name := "back", desc := "(I)I" } : Jvm.MethodName) prog_8_method_41_code (2 : Nat) (Option.some Jvm.ClassFile.FieldType.int)) ∈ lw_all := lw_g (lw_at lw_m5 138 rfl) rfl
theorem q1150 : (Jvm.Cond.instanceMethod ({ cls := "MustardFastModel", name := "stays", desc := "(I)I" } : Jvm.MethodName)) ∈ lw_all := lw_g (lw_at lw_m5 140 rfl) rfl
theorem q1151 : (Jvm.Cond.selects "MustardFastModel" ({ cls := "MustardFastModel", name := "stays", desc := "(I)I" } : Jvm.MethodName) ({ cls := "MustardFastModel", name := "stays", desc := "(I)I" } : Jvm.MethodName)) ∈ lw_all := lw_g (lw_at lw_m5 141 rfl) rfl
theorem q1152 : (Jvm.Cond.code ({ cls := "MustardFastModel", name := "stays", desc := "(I)I" } : Jvm.MethodName) prog_8_method_43_code (5 : Nat) (Option.some Jvm.ClassFile.FieldType.int)) ∈ lw_all := lw_g (lw_at lw_m5 142 rfl) rfl
theorem q1153 : (Jvm.Cond.methodLink "MustardFastModel" (195 : Nat) ({ cls := "MustardFastModel", name := "areSo", desc := "()Z" } : Jvm.MethodName)) ∈ lw_all := lw_g (lw_at lw_m5 143 rfl) rfl
theorem q1154 : (Jvm.Cond.privateMethod ({ cls := "MustardFastModel", name := "areSo", desc := "()Z" } : Jvm.MethodName)) ∈ lw_tbl := lw_at lw_m5 144 rfl
theorem q1155 : (Jvm.Cond.instanceMethod ({ cls := "MustardFastModel", name := "areSo", desc := "()Z" } : Jvm.MethodName)) ∈ lw_all := lw_g (lw_at lw_m5 145 rfl) rfl
theorem q1156 : (Jvm.Cond.code ({ cls := "MustardFastModel", name := "areSo", desc := "()Z" } : Jvm.MethodName) prog_8_method_42_code (3 : Nat) (Option.some Jvm.ClassFile.FieldType.boolean)) ∈ lw_all := lw_g (lw_at lw_m5 146 rfl) rfl
theorem q1158 : (Jvm.Cond.instanceMethod ({ cls := "MustardFastModel", name := "kinds", desc := "(I)I" } : Jvm.MethodName)) ∈ lw_all := lw_g (lw_at lw_m5 148 rfl) rfl
theorem q1159 : (Jvm.Cond.selects "MustardFastModel" ({ cls := "MustardFastModel", name := "kinds", desc := "(I)I" } : Jvm.MethodName) ({ cls := "MustardFastModel", name := "kinds", desc := "(I)I" } : Jvm.MethodName)) ∈ lw_all := lw_g (lw_at lw_m5 149 rfl) rfl
theorem q1160 : (Jvm.Cond.code ({ cls := "MustardFastModel", name := "kinds", desc := "(I)I" } : Jvm.MethodName) prog_8_method_44_code (5 : Nat) (Option.some Jvm.ClassFile.FieldType.int)) ∈ lw_all := lw_g (lw_at lw_m5 150 rfl) rfl
theorem q1162 : (Jvm.Cond.instanceMethod ({ cls := "MustardFastModel", name := "sours", desc := "()I" } : Jvm.MethodName)) ∈ lw_all := lw_g (lw_at lw_m5 152 rfl) rfl
theorem q1163 : (Jvm.Cond.selects "MustardFastModel" ({ cls := "MustardFastModel", name := "sours", desc := "()I" } : Jvm.MethodName) ({ cls := "MustardFastModel", name := "sours", desc := "()I" } : Jvm.MethodName)) ∈ lw_all := lw_g (lw_at lw_m5 153 rfl) rfl
theorem q1164 : (Jvm.Cond.code ({ cls := "MustardFastModel", name := "sours", desc := "()I" } : Jvm.MethodName) prog_8_method_45_code (4 : Nat) (Option.some Jvm.ClassFile.FieldType.int)) ∈ lw_all := lw_g (lw_at lw_m5 154 rfl) rfl
theorem q1166 : (Jvm.Cond.instanceMethod ({ cls := "MustardFastModel", name := "odds", desc := "(III)J" } : Jvm.MethodName)) ∈ lw_all := lw_g (lw_at lw_m5 156 rfl) rfl
theorem q1167 : (Jvm.Cond.selects "MustardFastModel" ({ cls := "MustardFastModel", name := "odds", desc := "(III)J" } : Jvm.MethodName) ({ cls := "MustardFastModel", name := "odds", desc := "(III)J" } : Jvm.MethodName)) ∈ lw_all := lw_g (lw_at lw_m5 157 rfl) rfl
theorem q1168 : (Jvm.Cond.code ({ cls := "MustardFastModel", name := "odds", desc := "(III)J" } : Jvm.MethodName) prog_8_method_46_code (8 : Nat) (Option.some Jvm.ClassFile.FieldType.long)) ∈ lw_all := lw_g (lw_at lw_m5 158 rfl) rfl
theorem q1169 : (Jvm.Cond.methodLink "MustardFastModel" (74 : Nat) ({ cls := "MustardFastModel", name := "lost", desc := "()J" } : Jvm.MethodName)) ∈ lw_all := lw_g (lw_at lw_m5 159 rfl) rfl
theorem q1170 : (Jvm.Cond.static ({ cls := "MustardFastModel", name := "lost", desc := "()J" } : Jvm.MethodName)) ∈ lw_all := lw_g (lw_at lw_m5 160 rfl) rfl
theorem q1171 : (Jvm.Cond.code ({ cls := "MustardFastModel", name := "lost", desc := "()J" } : Jvm.MethodName) prog_8_method_3_code (0 : Nat) (Option.some Jvm.ClassFile.FieldType.long)) ∈ lw_all := lw_g (lw_at lw_m5 161 rfl) rfl
theorem q1172 : (Jvm.Cond.constantLong "MustardFastModel" (69 : Nat) (-9223372036854775808 : Int64)) ∈ lw_all := lw_g (lw_at lw_m5 162 rfl) rfl
theorem q1173 : (Jvm.Cond.methodLink "MustardFastModel" (199 : Nat) ({ cls := "MustardFastModel", name := "share", desc := "(JJI)J" } : Jvm.MethodName)) ∈ lw_all := lw_g (lw_at lw_m5 163 rfl) rfl
theorem q1174 : (Jvm.Cond.static ({ cls := "MustardFastModel", name := "share", desc := "(JJI)J" } : Jvm.MethodName)) ∈ lw_all := lw_g (lw_at lw_m5 164 rfl) rfl
theorem q1175 : (Jvm.Cond.code ({ cls := "MustardFastModel", name := "share", desc := "(JJI)J" } : Jvm.MethodName) prog_8_method_6_code (11 : Nat) (Option.some Jvm.ClassFile.FieldType.long)) ∈ lw_all := lw_g (lw_at lw_m5 165 rfl) rfl
theorem q1177 : (Jvm.Cond.instanceMethod ({ cls := "MustardFastModel", name := "sheet", desc := "(III)I" } : Jvm.MethodName)) ∈ lw_all := lw_g (lw_at lw_m5 167 rfl) rfl
theorem q1178 : (Jvm.Cond.selects "MustardFastModel" ({ cls := "MustardFastModel", name := "sheet", desc := "(III)I" } : Jvm.MethodName) ({ cls := "MustardFastModel", name := "sheet", desc := "(III)I" } : Jvm.MethodName)) ∈ lw_all := lw_g (lw_at lw_m5 168 rfl) rfl
theorem q1179 : (Jvm.Cond.code ({ cls := "MustardFastModel", name := "sheet", desc := "(III)I" } : Jvm.MethodName) prog_8_method_48_code (5 : Nat) (Option.some Jvm.ClassFile.FieldType.int)) ∈ lw_all := lw_g (lw_at lw_m5 169 rfl) rfl
theorem q1181 : (Jvm.Cond.instanceMethod ({ cls := "MustardFastModel", name := "lose", desc := "(I)I" } : Jvm.MethodName)) ∈ lw_all := lw_g (lw_at lw_m5 171 rfl) rfl
theorem q1182 : (Jvm.Cond.selects "MustardFastModel" ({ cls := "MustardFastModel", name := "lose", desc := "(I)I" } : Jvm.MethodName) ({ cls := "MustardFastModel", name := "lose", desc := "(I)I" } : Jvm.MethodName)) ∈ lw_all := lw_g (lw_at lw_m5 172 rfl) rfl
theorem q1183 : (Jvm.Cond.code ({ cls := "MustardFastModel", name := "lose", desc := "(I)I" } : Jvm.MethodName) prog_8_method_49_code (3 : Nat) (Option.some Jvm.ClassFile.FieldType.int)) ∈ lw_all := lw_g (lw_at lw_m5 173 rfl) rfl
theorem q1185 : (Jvm.Cond.instanceMethod ({ cls := "MustardFastModel", name := "put", desc := "(III)I" } : Jvm.MethodName)) ∈ lw_all := lw_g (lw_at lw_m5 175 rfl) rfl
theorem q1186 : (Jvm.Cond.selects "MustardFastModel" ({ cls := "MustardFastModel", name := "put", desc := "(III)I" } : Jvm.MethodName) ({ cls := "MustardFastModel", name := "put", desc := "(III)I" } : Jvm.MethodName)) ∈ lw_all := lw_g (lw_at lw_m5 176 rfl) rfl
theorem q1187 : (Jvm.Cond.code ({ cls := "MustardFastModel", name := "put", desc := "(III)I" } : Jvm.MethodName) prog_8_method_51_code (4 : Nat) (Option.some Jvm.ClassFile.FieldType.int)) ∈ lw_all := lw_g (lw_at lw_m5 177 rfl) rfl
theorem q1188 : (Jvm.Cond.methodLink "MustardFastModel" (203 : Nat) ({ cls := "MustardFastModel", name := "noCell", desc := "(II)I" } : Jvm.MethodName)) ∈ lw_all := lw_g (lw_at lw_m5 178 rfl) rfl
theorem q1189 : (Jvm.Cond.privateMethod ({ cls := "MustardFastModel", name := "noCell", desc := "(II)I" } : Jvm.MethodName)) ∈ lw_tbl := lw_at lw_m5 179 rfl
theorem q1190 : (Jvm.Cond.instanceMethod ({ cls := "MustardFastModel", name := "noCell", desc := "(II)I" } : Jvm.MethodName)) ∈ lw_all := lw_g (lw_at lw_m5 180 rfl) rfl
theorem q1191 : (Jvm.Cond.code ({ cls := "MustardFastModel", name := "noCell", desc := "(II)I" } : Jvm.MethodName) prog_8_method_50_code (3 : Nat) (Option.some Jvm.ClassFile.FieldType.int)) ∈ lw_all := lw_g (lw_at lw_m5 181 rfl) rfl
theorem q1193 : (Jvm.Cond.instanceMethod ({ cls := "MustardFastModel", name := "cell", desc := "(III)J" } : Jvm.MethodName)) ∈ lw_all := lw_g (lw_at lw_m5 183 rfl) rfl
theorem q1194 : (Jvm.Cond.selects "MustardFastModel" ({ cls := "MustardFastModel", name := "cell", desc := "(III)J" } : Jvm.MethodName) ({ cls := "MustardFastModel", name := "cell", desc := "(III)J" } : Jvm.MethodName)) ∈ lw_all := lw_g (lw_at lw_m5 184 rfl) rfl
theorem q1195 : (Jvm.Cond.code ({ cls := "MustardFastModel", name := "cell", desc := "(III)J" } : Jvm.MethodName) prog_8_method_52_code (4 : Nat) (Option.some Jvm.ClassFile.FieldType.long)) ∈ lw_all := lw_g (lw_at lw_m5 185 rfl) rfl
theorem q1196 : (Jvm.Cond.methodLink "MustardFastModel" (206 : Nat) ({ cls := "MustardFastModel", name := "failedLong", desc := "(I)J" } : Jvm.MethodName)) ∈ lw_all := lw_g (lw_at lw_m5 186 rfl) rfl
theorem q1197 : (Jvm.Cond.privateMethod ({ cls := "MustardFastModel", name := "failedLong", desc := "(I)J" } : Jvm.MethodName)) ∈ lw_tbl := lw_at lw_m5 187 rfl
theorem q1198 : (Jvm.Cond.instanceMethod ({ cls := "MustardFastModel", name := "failedLong", desc := "(I)J" } : Jvm.MethodName)) ∈ lw_all := lw_g (lw_at lw_m5 188 rfl) rfl
theorem q1199 : (Jvm.Cond.code ({ cls := "MustardFastModel", name := "failedLong", desc := "(I)J" } : Jvm.MethodName) prog_8_method_9_code (2 : Nat) (Option.some Jvm.ClassFile.FieldType.long)) ∈ lw_all := lw_g (lw_at lw_m5 189 rfl) rfl
theorem q1201 : (Jvm.Cond.instanceMethod ({ cls := "MustardFastModel", name := "copy", desc := "(IIIII)I" } : Jvm.MethodName)) ∈ lw_all := lw_g (lw_at lw_m5 191 rfl) rfl
theorem q1202 : (Jvm.Cond.selects "MustardFastModel" ({ cls := "MustardFastModel", name := "copy", desc := "(IIIII)I" } : Jvm.MethodName) ({ cls := "MustardFastModel", name := "copy", desc := "(IIIII)I" } : Jvm.MethodName)) ∈ lw_all := lw_g (lw_at lw_m5 192 rfl) rfl
theorem q1203 : (Jvm.Cond.code ({ cls := "MustardFastModel", name := "copy", desc := "(IIIII)I" } : Jvm.MethodName) prog_8_method_54_code (7 : Nat) (Option.some Jvm.ClassFile.FieldType.int)) ∈ lw_all := lw_g (lw_at lw_m5 193 rfl) rfl
theorem q1205 : (Jvm.Cond.instanceMethod ({ cls := "MustardFastModel", name := "tell", desc := "(I)I" } : Jvm.MethodName)) ∈ lw_all := lw_g (lw_at lw_m5 195 rfl) rfl
theorem q1206 : (Jvm.Cond.selects "MustardFastModel" ({ cls := "MustardFastModel", name := "tell", desc := "(I)I" } : Jvm.MethodName) ({ cls := "MustardFastModel", name := "tell", desc := "(I)I" } : Jvm.MethodName)) ∈ lw_all := lw_g (lw_at lw_m5 196 rfl) rfl
theorem q1207 : (Jvm.Cond.code ({ cls := "MustardFastModel", name := "tell", desc := "(I)I" } : Jvm.MethodName) prog_8_method_56_code (4 : Nat) (Option.some Jvm.ClassFile.FieldType.int)) ∈ lw_all := lw_g (lw_at lw_m5 197 rfl) rfl
theorem q1208 : (Jvm.Cond.methodLink "MustardFastModel" (213 : Nat) ({ cls := "MustardFastModel", name := "traced", desc := "(I)V" } : Jvm.MethodName)) ∈ lw_all := lw_g (lw_at lw_m5 198 rfl) rfl
theorem q1209 : (Jvm.Cond.privateMethod ({ cls := "MustardFastModel", name := "traced", desc := "(I)V" } : Jvm.MethodName)) ∈ lw_tbl := lw_at lw_m5 199 rfl
theorem q1210 : (Jvm.Cond.instanceMethod ({ cls := "MustardFastModel", name := "traced", desc := "(I)V" } : Jvm.MethodName)) ∈ lw_all := lw_g (lw_at lw_m5 200 rfl) rfl
theorem q1211 : (Jvm.Cond.code ({ cls := "MustardFastModel", name := "traced", desc := "(I)V" } : Jvm.MethodName) prog_8_method_55_code (2 : Nat) (Option.none : Option Jvm.ClassFile.FieldType)) ∈ lw_all := lw_g (lw_at lw_m5 201 rfl) rfl
theorem q1213 : (Jvm.Cond.instanceMethod ({ cls := "MustardFastModel", name := "sniff", desc := "(I)I" } : Jvm.MethodName)) ∈ lw_all := lw_g (lw_at lw_m5 203 rfl) rfl
theorem q1214 : (Jvm.Cond.selects "MustardFastModel" ({ cls := "MustardFastModel", name := "sniff", desc := "(I)I" } : Jvm.MethodName) ({ cls := "MustardFastModel", name := "sniff", desc := "(I)I" } : Jvm.MethodName)) ∈ lw_all := lw_g (lw_at lw_m5 204 rfl) rfl
theorem q1215 : (Jvm.Cond.code ({ cls := "MustardFastModel", name := "sniff", desc := "(I)I" } : Jvm.MethodName) prog_8_method_57_code (2 : Nat) (Option.some Jvm.ClassFile.FieldType.int)) ∈ lw_all := lw_g (lw_at lw_m5 205 rfl) rfl
theorem q1217 : (Jvm.Cond.instanceMethod ({ cls := "MustardFastModel", name := "as", desc := "(II)I" } : Jvm.MethodName)) ∈ lw_all := lw_g (lw_at lw_m5 207 rfl) rfl
theorem q1218 : (Jvm.Cond.selects "MustardFastModel" ({ cls := "MustardFastModel", name := "as", desc := "(II)I" } : Jvm.MethodName) ({ cls := "MustardFastModel", name := "as", desc := "(II)I" } : Jvm.MethodName)) ∈ lw_all := lw_g (lw_at lw_m5 208 rfl) rfl
theorem q1219 : (Jvm.Cond.code ({ cls := "MustardFastModel", name := "as", desc := "(II)I" } : Jvm.MethodName) prog_8_method_58_code (3 : Nat) (Option.some Jvm.ClassFile.FieldType.int)) ∈ lw_all := lw_g (lw_at lw_m5 209 rfl) rfl
theorem q1221 : (Jvm.Cond.instanceMethod ({ cls := "MustardFastModel", name := "trace", desc := "()I" } : Jvm.MethodName)) ∈ lw_all := lw_g (lw_at lw_m5 211 rfl) rfl
theorem q1222 : (Jvm.Cond.selects "MustardFastModel" ({ cls := "MustardFastModel", name := "trace", desc := "()I" } : Jvm.MethodName) ({ cls := "MustardFastModel", name := "trace", desc := "()I" } : Jvm.MethodName)) ∈ lw_all := lw_g (lw_at lw_m5 212 rfl) rfl
theorem q1223 : (Jvm.Cond.code ({ cls := "MustardFastModel", name := "trace", desc := "()I" } : Jvm.MethodName) prog_8_method_59_code (1 : Nat) (Option.some Jvm.ClassFile.FieldType.int)) ∈ lw_all := lw_g (lw_at lw_m5 213 rfl) rfl
theorem q1225 : (Jvm.Cond.instanceMethod ({ cls := "MustardFastModel", name := "fault", desc := "()I" } : Jvm.MethodName)) ∈ lw_all := lw_g (lw_at lw_m5 215 rfl) rfl
theorem q1226 : (Jvm.Cond.selects "MustardFastModel" ({ cls := "MustardFastModel", name := "fault", desc := "()I" } : Jvm.MethodName) ({ cls := "MustardFastModel", name := "fault", desc := "()I" } : Jvm.MethodName)) ∈ lw_all := lw_g (lw_at lw_m5 216 rfl) rfl
theorem q1227 : (Jvm.Cond.code ({ cls := "MustardFastModel", name := "fault", desc := "()I" } : Jvm.MethodName) prog_8_method_60_code (1 : Nat) (Option.some Jvm.ClassFile.FieldType.int)) ∈ lw_all := lw_g (lw_at lw_m5 217 rfl) rfl
theorem q1229 : (Jvm.Cond.instanceMethod ({ cls := "MustardFastModel", name := "many", desc := "(I)I" } : Jvm.MethodName)) ∈ lw_all := lw_g (lw_at lw_m5 219 rfl) rfl
theorem q1230 : (Jvm.Cond.selects "MustardFastModel" ({ cls := "MustardFastModel", name := "many", desc := "(I)I" } : Jvm.MethodName) ({ cls := "MustardFastModel", name := "many", desc := "(I)I" } : Jvm.MethodName)) ∈ lw_all := lw_g (lw_at lw_m5 220 rfl) rfl
theorem q1231 : (Jvm.Cond.code ({ cls := "MustardFastModel", name := "many", desc := "(I)I" } : Jvm.MethodName) prog_8_method_61_code (2 : Nat) (Option.some Jvm.ClassFile.FieldType.int)) ∈ lw_all := lw_g (lw_at lw_m5 221 rfl) rfl
theorem q1246 : (Jvm.Cond.castable "MustardFastModel" "java/lang/Object") ∈ lw_tbl := lw_at lw_m5 236 rfl
theorem in_X2 : ∀ w ∈ wsX20, w ∈ lw_all := lw_in wsX20 [933, 935, 937, 939, 941, 943, 945, 947, 949, 951, 953, 955, 957, 959, 961, 963, 965, 967, 969, 971, 973, 975, 977, 979, 981, 983, 985, 987, 989] (by decide +kernel) (by decide +kernel)
