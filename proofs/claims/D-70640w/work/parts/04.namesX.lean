/-! MustardFast -/
set_option maxRecDepth 100000
def RX0 : String := "MustardFast"
def TX0 : u_T := fun k => match k with
  | 0 => ("MustardFast", "fault", "I", false)
  | 1 => ("MustardFast", "trace", "I", false)
  | 2 => ("MustardFast", "eaters", "Ljava/util/List;", true)
  | 3 => ("MustardFast", "sourNow", "I", false)
  | 4 => ("MustardFast", "days", "I", false)
  | 5 => ("MustardFast", "looks", "[I", true)
  | 6 => ("MustardFast", "changed", "I", false)
  | 7 => ("MustardFast", "changedKind", "I", false)
  | 8 => ("MustardFast", "at", "I", false)
  | 9 => ("MustardFast", "readSour", "I", false)
  | 10 => ("MustardFast", "readDays", "I", false)
  | 11 => ("MustardFast", "readMany", "I", false)
  | 12 => ("MustardFast", "readLook", "[I", true)
  | 13 => ("MustardFast", "read", "[I", true)
  | 14 => ("MustardFast", "readings", "I", false)
  | 15 => ("MustardFast", "readWho", "[I", true)
  | 16 => ("MustardFast", "readMeals", "[I", true)
  | 17 => ("MustardFast", "readDay", "[I", true)
  | 18 => ("MustardFast", "readWas", "[Z", true)
  | _ => ("MustardFast", "sheets", "[LMustardFast$Place;", true)
def tyX0 : Nat → FieldType := fun k => match k with
  | 0 => .int
  | 1 => .int
  | 2 => .object "java/util/List"
  | 3 => .int
  | 4 => .int
  | 5 => .array .int
  | 6 => .int
  | 7 => .int
  | 8 => .int
  | 9 => .int
  | 10 => .int
  | 11 => .int
  | 12 => .array .int
  | 13 => .array .int
  | 14 => .int
  | 15 => .array .int
  | 16 => .array .int
  | 17 => .array .int
  | 18 => .array .boolean
  | _ => .array (.object "MustardFast$Place")
abbrev wsX00 : List Cond := u_ws RX0 TX0 20
set_option maxRecDepth 100000 in
theorem nmX0 : ∀ a, a < 20 → ∀ b, b < 20 → a ≠ b → (TX0 a).2.1 ≠ (TX0 b).2.1 := by decide +kernel
set_option maxRecDepth 100000 in
theorem tyX0_ok : ∀ k, k < 20 → parseFieldDescriptor (TX0 k).2.2.1 = some (tyX0 k) := by decide +kernel
abbrev cX0_init : ByteArray := prog_1_method_1_code
def yX0_init : MethodName := ⟨RX0, "<init>", "()V"⟩
def dkwX0_init_3 : List UInt8 := [188, 4, 181, 0, 41, 42, 7, 184, 0, 45, 181, 0, 49, 177]
abbrev dktX0_init_3 : List UInt8 := dkwX0_init_3 ++ []
def dkwX0_init_2 : List UInt8 := [188, 10, 181, 0, 32, 42, 16, 8, 188, 10, 181, 0, 35, 42, 16, 8, 188, 10, 181, 0, 38, 42, 16, 8]
abbrev dktX0_init_2 : List UInt8 := dkwX0_init_2 ++ dktX0_init_3
def dkwX0_init_1 : List UInt8 := [16, 247, 181, 0, 22, 42, 16, 6, 188, 10, 181, 0, 26, 42, 16, 16, 188, 10, 181, 0, 29, 42, 16, 8]
abbrev dktX0_init_1 : List UInt8 := dkwX0_init_1 ++ dktX0_init_2
def dkwX0_init_0 : List UInt8 := [42, 183, 0, 3, 42, 187, 0, 9, 89, 183, 0, 11, 181, 0, 12, 42, 16, 6, 188, 10, 181, 0, 18, 42]
abbrev dktX0_init_0 : List UInt8 := dkwX0_init_0 ++ dktX0_init_1
theorem dksX0_init_0 : cX0_init.data.toList.drop 0 = dktX0_init_0 := by decide +kernel
theorem dksX0_init_1 : cX0_init.data.toList.drop 24 = dktX0_init_1 := dk_seg dksX0_init_0 24 rfl rfl
theorem dksX0_init_2 : cX0_init.data.toList.drop 48 = dktX0_init_2 := dk_seg dksX0_init_1 24 rfl rfl
theorem dksX0_init_3 : cX0_init.data.toList.drop 72 = dktX0_init_3 := dk_seg dksX0_init_2 24 rfl rfl
theorem dX0_init_0 : decode cX0_init 0 = .ok (.aload_n 0, 1) := dk_42 (dk_at dksX0_init_0 0 rfl rfl)
theorem dX0_init_1 : decode cX0_init 1 = .ok (.invokespecial 3, 3) := dk_183 0 3 (dk_at dksX0_init_0 1 rfl rfl)
theorem dX0_init_4 : decode cX0_init 4 = .ok (.aload_n 0, 1) := dk_42 (dk_at dksX0_init_0 4 rfl rfl)
theorem dX0_init_5 : decode cX0_init 5 = .ok (.new 9, 3) := dk_187 0 9 (dk_at dksX0_init_0 5 rfl rfl)
theorem dX0_init_8 : decode cX0_init 8 = .ok (.dup, 1) := dk_89 (dk_at dksX0_init_0 8 rfl rfl)
theorem dX0_init_9 : decode cX0_init 9 = .ok (.invokespecial 11, 3) := dk_183 0 11 (dk_at dksX0_init_0 9 rfl rfl)
theorem dX0_init_12 : decode cX0_init 12 = .ok (.putfield 12, 3) := dk_181 0 12 (dk_at dksX0_init_0 12 rfl rfl)
theorem dX0_init_15 : decode cX0_init 15 = .ok (.aload_n 0, 1) := dk_42 (dk_at dksX0_init_0 15 rfl rfl)
theorem dX0_init_16 : decode cX0_init 16 = .ok (.bipush 6, 2) := dk_16 6 (dk_at dksX0_init_0 16 rfl rfl)
theorem dX0_init_18 : decode cX0_init 18 = .ok (.newarray .int, 2) := dk_188_10 (dk_at dksX0_init_0 18 rfl rfl)
theorem dX0_init_20 : decode cX0_init 20 = .ok (.putfield 18, 3) := dk_181 0 18 (dk_at dksX0_init_0 20 rfl rfl)
theorem dX0_init_23 : decode cX0_init 23 = .ok (.aload_n 0, 1) := dk_42 (dk_at dksX0_init_0 23 rfl rfl)
theorem dX0_init_24 : decode cX0_init 24 = .ok (.bipush (-9), 2) := dk_16 247 (dk_at dksX0_init_1 0 rfl rfl)
theorem dX0_init_26 : decode cX0_init 26 = .ok (.putfield 22, 3) := dk_181 0 22 (dk_at dksX0_init_1 2 rfl rfl)
theorem dX0_init_29 : decode cX0_init 29 = .ok (.aload_n 0, 1) := dk_42 (dk_at dksX0_init_1 5 rfl rfl)
theorem dX0_init_30 : decode cX0_init 30 = .ok (.bipush 6, 2) := dk_16 6 (dk_at dksX0_init_1 6 rfl rfl)
theorem dX0_init_32 : decode cX0_init 32 = .ok (.newarray .int, 2) := dk_188_10 (dk_at dksX0_init_1 8 rfl rfl)
theorem dX0_init_34 : decode cX0_init 34 = .ok (.putfield 26, 3) := dk_181 0 26 (dk_at dksX0_init_1 10 rfl rfl)
theorem dX0_init_37 : decode cX0_init 37 = .ok (.aload_n 0, 1) := dk_42 (dk_at dksX0_init_1 13 rfl rfl)
theorem dX0_init_38 : decode cX0_init 38 = .ok (.bipush 16, 2) := dk_16 16 (dk_at dksX0_init_1 14 rfl rfl)
theorem dX0_init_40 : decode cX0_init 40 = .ok (.newarray .int, 2) := dk_188_10 (dk_at dksX0_init_1 16 rfl rfl)
theorem dX0_init_42 : decode cX0_init 42 = .ok (.putfield 29, 3) := dk_181 0 29 (dk_at dksX0_init_1 18 rfl rfl)
theorem dX0_init_45 : decode cX0_init 45 = .ok (.aload_n 0, 1) := dk_42 (dk_at dksX0_init_1 21 rfl rfl)
theorem dX0_init_46 : decode cX0_init 46 = .ok (.bipush 8, 2) := dk_16 8 (dk_at dksX0_init_1 22 rfl rfl)
theorem dX0_init_48 : decode cX0_init 48 = .ok (.newarray .int, 2) := dk_188_10 (dk_at dksX0_init_2 0 rfl rfl)
theorem dX0_init_50 : decode cX0_init 50 = .ok (.putfield 32, 3) := dk_181 0 32 (dk_at dksX0_init_2 2 rfl rfl)
theorem dX0_init_53 : decode cX0_init 53 = .ok (.aload_n 0, 1) := dk_42 (dk_at dksX0_init_2 5 rfl rfl)
theorem dX0_init_54 : decode cX0_init 54 = .ok (.bipush 8, 2) := dk_16 8 (dk_at dksX0_init_2 6 rfl rfl)
theorem dX0_init_56 : decode cX0_init 56 = .ok (.newarray .int, 2) := dk_188_10 (dk_at dksX0_init_2 8 rfl rfl)
theorem dX0_init_58 : decode cX0_init 58 = .ok (.putfield 35, 3) := dk_181 0 35 (dk_at dksX0_init_2 10 rfl rfl)
theorem dX0_init_61 : decode cX0_init 61 = .ok (.aload_n 0, 1) := dk_42 (dk_at dksX0_init_2 13 rfl rfl)
theorem dX0_init_62 : decode cX0_init 62 = .ok (.bipush 8, 2) := dk_16 8 (dk_at dksX0_init_2 14 rfl rfl)
theorem dX0_init_64 : decode cX0_init 64 = .ok (.newarray .int, 2) := dk_188_10 (dk_at dksX0_init_2 16 rfl rfl)
theorem dX0_init_66 : decode cX0_init 66 = .ok (.putfield 38, 3) := dk_181 0 38 (dk_at dksX0_init_2 18 rfl rfl)
theorem dX0_init_69 : decode cX0_init 69 = .ok (.aload_n 0, 1) := dk_42 (dk_at dksX0_init_2 21 rfl rfl)
theorem dX0_init_70 : decode cX0_init 70 = .ok (.bipush 8, 2) := dk_16 8 (dk_at dksX0_init_2 22 rfl rfl)
theorem dX0_init_72 : decode cX0_init 72 = .ok (.newarray .boolean, 2) := dk_188_4 (dk_at dksX0_init_3 0 rfl rfl)
theorem dX0_init_74 : decode cX0_init 74 = .ok (.putfield 41, 3) := dk_181 0 41 (dk_at dksX0_init_3 2 rfl rfl)
theorem dX0_init_77 : decode cX0_init 77 = .ok (.aload_n 0, 1) := dk_42 (dk_at dksX0_init_3 5 rfl rfl)
theorem dX0_init_78 : decode cX0_init 78 = .ok (.iconst 4, 1) := dk_7 (dk_at dksX0_init_3 6 rfl rfl)
theorem dX0_init_79 : decode cX0_init 79 = .ok (.invokestatic 45, 3) := dk_184 0 45 (dk_at dksX0_init_3 7 rfl rfl)
theorem dX0_init_82 : decode cX0_init 82 = .ok (.putfield 49, 3) := dk_181 0 49 (dk_at dksX0_init_3 10 rfl rfl)
theorem dX0_init_85 : decode cX0_init 85 = .ok (.return_, 1) := dk_177 (dk_at dksX0_init_3 13 rfl rfl)
abbrev cX0_places : ByteArray := prog_1_method_49_code
def yX0_places : MethodName := ⟨RX0, "places", "(I)[LMustardFast$Place;"⟩
def dkwX0_places_1 : List UInt8 := [132, 2, 1, 167, 255, 238, 43, 176]
abbrev dktX0_places_1 : List UInt8 := dkwX0_places_1 ++ []
def dkwX0_places_0 : List UInt8 := [26, 189, 0, 159, 76, 3, 61, 28, 26, 162, 0, 19, 43, 28, 187, 0, 159, 89, 183, 1, 23, 83]
abbrev dktX0_places_0 : List UInt8 := dkwX0_places_0 ++ dktX0_places_1
theorem dksX0_places_0 : cX0_places.data.toList.drop 0 = dktX0_places_0 := by decide +kernel
theorem dksX0_places_1 : cX0_places.data.toList.drop 22 = dktX0_places_1 := dk_seg dksX0_places_0 22 rfl rfl
theorem dX0_places_0 : decode cX0_places 0 = .ok (.iload_n 0, 1) := dk_26 (dk_at dksX0_places_0 0 rfl rfl)
theorem dX0_places_1 : decode cX0_places 1 = .ok (.anewarray 159, 3) := dk_189 0 159 (dk_at dksX0_places_0 1 rfl rfl)
theorem dX0_places_4 : decode cX0_places 4 = .ok (.astore_n 1, 1) := dk_76 (dk_at dksX0_places_0 4 rfl rfl)
theorem dX0_places_5 : decode cX0_places 5 = .ok (.iconst 0, 1) := dk_3 (dk_at dksX0_places_0 5 rfl rfl)
theorem dX0_places_6 : decode cX0_places 6 = .ok (.istore_n 2, 1) := dk_61 (dk_at dksX0_places_0 6 rfl rfl)
theorem dX0_places_7 : decode cX0_places 7 = .ok (.iload_n 2, 1) := dk_28 (dk_at dksX0_places_0 7 rfl rfl)
theorem dX0_places_8 : decode cX0_places 8 = .ok (.iload_n 0, 1) := dk_26 (dk_at dksX0_places_0 8 rfl rfl)
theorem dX0_places_9 : decode cX0_places 9 = .ok (.if_icmp .ge 19, 3) := dk_162 0 19 (dk_at dksX0_places_0 9 rfl rfl)
theorem dX0_places_12 : decode cX0_places 12 = .ok (.aload_n 1, 1) := dk_43 (dk_at dksX0_places_0 12 rfl rfl)
theorem dX0_places_13 : decode cX0_places 13 = .ok (.iload_n 2, 1) := dk_28 (dk_at dksX0_places_0 13 rfl rfl)
theorem dX0_places_14 : decode cX0_places 14 = .ok (.new 159, 3) := dk_187 0 159 (dk_at dksX0_places_0 14 rfl rfl)
theorem dX0_places_17 : decode cX0_places 17 = .ok (.dup, 1) := dk_89 (dk_at dksX0_places_0 17 rfl rfl)
theorem dX0_places_18 : decode cX0_places 18 = .ok (.invokespecial 279, 3) := dk_183 1 23 (dk_at dksX0_places_0 18 rfl rfl)
theorem dX0_places_21 : decode cX0_places 21 = .ok (.aastore, 1) := dk_83 (dk_at dksX0_places_0 21 rfl rfl)
theorem dX0_places_22 : decode cX0_places 22 = .ok (.iinc 2 1, 3) := dk_132 2 1 (dk_at dksX0_places_1 0 rfl rfl)
theorem dX0_places_25 : decode cX0_places 25 = .ok (.goto (-18), 3) := dk_167 255 238 (dk_at dksX0_places_1 3 rfl rfl)
theorem dX0_places_28 : decode cX0_places 28 = .ok (.aload_n 1, 1) := dk_43 (dk_at dksX0_places_1 6 rfl rfl)
theorem dX0_places_29 : decode cX0_places 29 = .ok (.areturn, 1) := dk_176 (dk_at dksX0_places_1 7 rfl rfl)
abbrev cX0_duchy : ByteArray := prog_1_method_22_code
def yX0_duchy : MethodName := ⟨RX0, "duchy", "(IIII)I"⟩
def dkwX0_duchy_3 : List UInt8 := [58, 5, 42, 6, 182, 0, 178, 172]
abbrev dktX0_duchy_3 : List UInt8 := dkwX0_duchy_3 ++ []
def dkwX0_duchy_2 : List UInt8 := [58, 5, 42, 5, 182, 0, 178, 172, 58, 5, 42, 4, 182, 0, 178, 172, 58, 5, 42, 7, 182, 0, 178, 172]
abbrev dktX0_duchy_2 : List UInt8 := dkwX0_duchy_2 ++ dktX0_duchy_3
def dkwX0_duchy_1 : List UInt8 := [42, 42, 180, 0, 49, 27, 50, 180, 0, 158, 28, 184, 0, 164, 29, 21, 4, 184, 0, 168, 182, 0, 172, 172]
abbrev dktX0_duchy_1 : List UInt8 := dkwX0_duchy_1 ++ dktX0_duchy_2
def dkwX0_duchy_0 : List UInt8 := [42, 3, 181, 0, 59, 27, 184, 0, 151, 154, 0, 5, 2, 172, 28, 184, 0, 155, 154, 0, 6, 16, 254, 172]
abbrev dktX0_duchy_0 : List UInt8 := dkwX0_duchy_0 ++ dktX0_duchy_1
theorem dksX0_duchy_0 : cX0_duchy.data.toList.drop 0 = dktX0_duchy_0 := by decide +kernel
theorem dksX0_duchy_1 : cX0_duchy.data.toList.drop 24 = dktX0_duchy_1 := dk_seg dksX0_duchy_0 24 rfl rfl
theorem dksX0_duchy_2 : cX0_duchy.data.toList.drop 48 = dktX0_duchy_2 := dk_seg dksX0_duchy_1 24 rfl rfl
theorem dksX0_duchy_3 : cX0_duchy.data.toList.drop 72 = dktX0_duchy_3 := dk_seg dksX0_duchy_2 24 rfl rfl
theorem dX0_duchy_0 : decode cX0_duchy 0 = .ok (.aload_n 0, 1) := dk_42 (dk_at dksX0_duchy_0 0 rfl rfl)
theorem dX0_duchy_1 : decode cX0_duchy 1 = .ok (.iconst 0, 1) := dk_3 (dk_at dksX0_duchy_0 1 rfl rfl)
theorem dX0_duchy_2 : decode cX0_duchy 2 = .ok (.putfield 59, 3) := dk_181 0 59 (dk_at dksX0_duchy_0 2 rfl rfl)
theorem dX0_duchy_5 : decode cX0_duchy 5 = .ok (.iload_n 1, 1) := dk_27 (dk_at dksX0_duchy_0 5 rfl rfl)
theorem dX0_duchy_6 : decode cX0_duchy 6 = .ok (.invokestatic 151, 3) := dk_184 0 151 (dk_at dksX0_duchy_0 6 rfl rfl)
theorem dX0_duchy_9 : decode cX0_duchy 9 = .ok (.ifCond .ne 5, 3) := dk_154 0 5 (dk_at dksX0_duchy_0 9 rfl rfl)
theorem dX0_duchy_12 : decode cX0_duchy 12 = .ok (.iconst (-1), 1) := dk_2 (dk_at dksX0_duchy_0 12 rfl rfl)
theorem dX0_duchy_13 : decode cX0_duchy 13 = .ok (.ireturn, 1) := dk_172 (dk_at dksX0_duchy_0 13 rfl rfl)
theorem dX0_duchy_14 : decode cX0_duchy 14 = .ok (.iload_n 2, 1) := dk_28 (dk_at dksX0_duchy_0 14 rfl rfl)
theorem dX0_duchy_15 : decode cX0_duchy 15 = .ok (.invokestatic 155, 3) := dk_184 0 155 (dk_at dksX0_duchy_0 15 rfl rfl)
theorem dX0_duchy_18 : decode cX0_duchy 18 = .ok (.ifCond .ne 6, 3) := dk_154 0 6 (dk_at dksX0_duchy_0 18 rfl rfl)
theorem dX0_duchy_21 : decode cX0_duchy 21 = .ok (.bipush (-2), 2) := dk_16 254 (dk_at dksX0_duchy_0 21 rfl rfl)
theorem dX0_duchy_23 : decode cX0_duchy 23 = .ok (.ireturn, 1) := dk_172 (dk_at dksX0_duchy_0 23 rfl rfl)
theorem dX0_duchy_24 : decode cX0_duchy 24 = .ok (.aload_n 0, 1) := dk_42 (dk_at dksX0_duchy_1 0 rfl rfl)
theorem dX0_duchy_25 : decode cX0_duchy 25 = .ok (.aload_n 0, 1) := dk_42 (dk_at dksX0_duchy_1 1 rfl rfl)
theorem dX0_duchy_26 : decode cX0_duchy 26 = .ok (.getfield 49, 3) := dk_180 0 49 (dk_at dksX0_duchy_1 2 rfl rfl)
theorem dX0_duchy_29 : decode cX0_duchy 29 = .ok (.iload_n 1, 1) := dk_27 (dk_at dksX0_duchy_1 5 rfl rfl)
theorem dX0_duchy_30 : decode cX0_duchy 30 = .ok (.aaload, 1) := dk_50 (dk_at dksX0_duchy_1 6 rfl rfl)
theorem dX0_duchy_31 : decode cX0_duchy 31 = .ok (.getfield 158, 3) := dk_180 0 158 (dk_at dksX0_duchy_1 7 rfl rfl)
theorem dX0_duchy_34 : decode cX0_duchy 34 = .ok (.iload_n 2, 1) := dk_28 (dk_at dksX0_duchy_1 10 rfl rfl)
theorem dX0_duchy_35 : decode cX0_duchy 35 = .ok (.invokestatic 164, 3) := dk_184 0 164 (dk_at dksX0_duchy_1 11 rfl rfl)
theorem dX0_duchy_38 : decode cX0_duchy 38 = .ok (.iload_n 3, 1) := dk_29 (dk_at dksX0_duchy_1 14 rfl rfl)
theorem dX0_duchy_39 : decode cX0_duchy 39 = .ok (.iload 4, 2) := dk_21 4 (dk_at dksX0_duchy_1 15 rfl rfl)
theorem dX0_duchy_41 : decode cX0_duchy 41 = .ok (.invokestatic 168, 3) := dk_184 0 168 (dk_at dksX0_duchy_1 17 rfl rfl)
theorem dX0_duchy_44 : decode cX0_duchy 44 = .ok (.invokevirtual 172, 3) := dk_182 0 172 (dk_at dksX0_duchy_1 20 rfl rfl)
theorem dX0_duchy_47 : decode cX0_duchy 47 = .ok (.ireturn, 1) := dk_172 (dk_at dksX0_duchy_1 23 rfl rfl)
theorem dX0_duchy_48 : decode cX0_duchy 48 = .ok (.astore 5, 2) := dk_58 5 (dk_at dksX0_duchy_2 0 rfl rfl)
theorem dX0_duchy_50 : decode cX0_duchy 50 = .ok (.aload_n 0, 1) := dk_42 (dk_at dksX0_duchy_2 2 rfl rfl)
theorem dX0_duchy_51 : decode cX0_duchy 51 = .ok (.iconst 2, 1) := dk_5 (dk_at dksX0_duchy_2 3 rfl rfl)
theorem dX0_duchy_52 : decode cX0_duchy 52 = .ok (.invokevirtual 178, 3) := dk_182 0 178 (dk_at dksX0_duchy_2 4 rfl rfl)
theorem dX0_duchy_55 : decode cX0_duchy 55 = .ok (.ireturn, 1) := dk_172 (dk_at dksX0_duchy_2 7 rfl rfl)
theorem dX0_duchy_56 : decode cX0_duchy 56 = .ok (.astore 5, 2) := dk_58 5 (dk_at dksX0_duchy_2 8 rfl rfl)
theorem dX0_duchy_58 : decode cX0_duchy 58 = .ok (.aload_n 0, 1) := dk_42 (dk_at dksX0_duchy_2 10 rfl rfl)
theorem dX0_duchy_59 : decode cX0_duchy 59 = .ok (.iconst 1, 1) := dk_4 (dk_at dksX0_duchy_2 11 rfl rfl)
theorem dX0_duchy_60 : decode cX0_duchy 60 = .ok (.invokevirtual 178, 3) := dk_182 0 178 (dk_at dksX0_duchy_2 12 rfl rfl)
theorem dX0_duchy_63 : decode cX0_duchy 63 = .ok (.ireturn, 1) := dk_172 (dk_at dksX0_duchy_2 15 rfl rfl)
theorem dX0_duchy_64 : decode cX0_duchy 64 = .ok (.astore 5, 2) := dk_58 5 (dk_at dksX0_duchy_2 16 rfl rfl)
theorem dX0_duchy_66 : decode cX0_duchy 66 = .ok (.aload_n 0, 1) := dk_42 (dk_at dksX0_duchy_2 18 rfl rfl)
theorem dX0_duchy_67 : decode cX0_duchy 67 = .ok (.iconst 4, 1) := dk_7 (dk_at dksX0_duchy_2 19 rfl rfl)
theorem dX0_duchy_68 : decode cX0_duchy 68 = .ok (.invokevirtual 178, 3) := dk_182 0 178 (dk_at dksX0_duchy_2 20 rfl rfl)
theorem dX0_duchy_71 : decode cX0_duchy 71 = .ok (.ireturn, 1) := dk_172 (dk_at dksX0_duchy_2 23 rfl rfl)
theorem dX0_duchy_72 : decode cX0_duchy 72 = .ok (.astore 5, 2) := dk_58 5 (dk_at dksX0_duchy_3 0 rfl rfl)
theorem dX0_duchy_74 : decode cX0_duchy 74 = .ok (.aload_n 0, 1) := dk_42 (dk_at dksX0_duchy_3 2 rfl rfl)
theorem dX0_duchy_75 : decode cX0_duchy 75 = .ok (.iconst 3, 1) := dk_6 (dk_at dksX0_duchy_3 3 rfl rfl)
theorem dX0_duchy_76 : decode cX0_duchy 76 = .ok (.invokevirtual 178, 3) := dk_182 0 178 (dk_at dksX0_duchy_3 4 rfl rfl)
theorem dX0_duchy_79 : decode cX0_duchy 79 = .ok (.ireturn, 1) := dk_172 (dk_at dksX0_duchy_3 7 rfl rfl)
abbrev cX0_isSheet : ByteArray := prog_1_method_50_code
def yX0_isSheet : MethodName := ⟨RX0, "isSheet", "(I)Z"⟩
def dkwX0_isSheet_0 : List UInt8 := [26, 133, 9, 20, 0, 254, 184, 0, 55, 172]
abbrev dktX0_isSheet_0 : List UInt8 := dkwX0_isSheet_0 ++ []
theorem dksX0_isSheet_0 : cX0_isSheet.data.toList.drop 0 = dktX0_isSheet_0 := by decide +kernel
theorem dX0_isSheet_0 : decode cX0_isSheet 0 = .ok (.iload_n 0, 1) := dk_26 (dk_at dksX0_isSheet_0 0 rfl rfl)
theorem dX0_isSheet_1 : decode cX0_isSheet 1 = .ok (.i2l, 1) := dk_133 (dk_at dksX0_isSheet_0 1 rfl rfl)
theorem dX0_isSheet_2 : decode cX0_isSheet 2 = .ok (.lconst 0, 1) := dk_9 (dk_at dksX0_isSheet_0 2 rfl rfl)
theorem dX0_isSheet_3 : decode cX0_isSheet 3 = .ok (.ldc2_w 254, 3) := dk_20 0 254 (dk_at dksX0_isSheet_0 3 rfl rfl)
theorem dX0_isSheet_6 : decode cX0_isSheet 6 = .ok (.invokestatic 55, 3) := dk_184 0 55 (dk_at dksX0_isSheet_0 6 rfl rfl)
theorem dX0_isSheet_9 : decode cX0_isSheet 9 = .ok (.ireturn, 1) := dk_172 (dk_at dksX0_isSheet_0 9 rfl rfl)
abbrev cX0_isIn : ByteArray := prog_1_method_2_code
def yX0_isIn : MethodName := ⟨RX0, "isIn", "(JJJ)Z"⟩
def dkwX0_isIn_0 : List UInt8 := [30, 32, 148, 155, 0, 14, 30, 22, 4, 148, 157, 0, 7, 4, 167, 0, 4, 3, 172]
abbrev dktX0_isIn_0 : List UInt8 := dkwX0_isIn_0 ++ []
theorem dksX0_isIn_0 : cX0_isIn.data.toList.drop 0 = dktX0_isIn_0 := by decide +kernel
theorem dX0_isIn_0 : decode cX0_isIn 0 = .ok (.lload_n 0, 1) := dk_30 (dk_at dksX0_isIn_0 0 rfl rfl)
theorem dX0_isIn_1 : decode cX0_isIn 1 = .ok (.lload_n 2, 1) := dk_32 (dk_at dksX0_isIn_0 1 rfl rfl)
theorem dX0_isIn_2 : decode cX0_isIn 2 = .ok (.lcmp, 1) := dk_148 (dk_at dksX0_isIn_0 2 rfl rfl)
theorem dX0_isIn_3 : decode cX0_isIn 3 = .ok (.ifCond .lt 14, 3) := dk_155 0 14 (dk_at dksX0_isIn_0 3 rfl rfl)
theorem dX0_isIn_6 : decode cX0_isIn 6 = .ok (.lload_n 0, 1) := dk_30 (dk_at dksX0_isIn_0 6 rfl rfl)
theorem dX0_isIn_7 : decode cX0_isIn 7 = .ok (.lload 4, 2) := dk_22 4 (dk_at dksX0_isIn_0 7 rfl rfl)
theorem dX0_isIn_9 : decode cX0_isIn 9 = .ok (.lcmp, 1) := dk_148 (dk_at dksX0_isIn_0 9 rfl rfl)
theorem dX0_isIn_10 : decode cX0_isIn 10 = .ok (.ifCond .gt 7, 3) := dk_157 0 7 (dk_at dksX0_isIn_0 10 rfl rfl)
theorem dX0_isIn_13 : decode cX0_isIn 13 = .ok (.iconst 1, 1) := dk_4 (dk_at dksX0_isIn_0 13 rfl rfl)
theorem dX0_isIn_14 : decode cX0_isIn 14 = .ok (.goto 4, 3) := dk_167 0 4 (dk_at dksX0_isIn_0 14 rfl rfl)
theorem dX0_isIn_17 : decode cX0_isIn 17 = .ok (.iconst 0, 1) := dk_3 (dk_at dksX0_isIn_0 17 rfl rfl)
theorem dX0_isIn_18 : decode cX0_isIn 18 = .ok (.ireturn, 1) := dk_172 (dk_at dksX0_isIn_0 18 rfl rfl)
abbrev cX0_isLane : ByteArray := prog_1_method_51_code
def yX0_isLane : MethodName := ⟨RX0, "isLane", "(I)Z"⟩
def dkwX0_isLane_0 : List UInt8 := [26, 133, 9, 20, 1, 24, 184, 0, 55, 172]
abbrev dktX0_isLane_0 : List UInt8 := dkwX0_isLane_0 ++ []
theorem dksX0_isLane_0 : cX0_isLane.data.toList.drop 0 = dktX0_isLane_0 := by decide +kernel
theorem dX0_isLane_0 : decode cX0_isLane 0 = .ok (.iload_n 0, 1) := dk_26 (dk_at dksX0_isLane_0 0 rfl rfl)
theorem dX0_isLane_1 : decode cX0_isLane 1 = .ok (.i2l, 1) := dk_133 (dk_at dksX0_isLane_0 1 rfl rfl)
theorem dX0_isLane_2 : decode cX0_isLane 2 = .ok (.lconst 0, 1) := dk_9 (dk_at dksX0_isLane_0 2 rfl rfl)
theorem dX0_isLane_3 : decode cX0_isLane 3 = .ok (.ldc2_w 280, 3) := dk_20 1 24 (dk_at dksX0_isLane_0 3 rfl rfl)
theorem dX0_isLane_6 : decode cX0_isLane 6 = .ok (.invokestatic 55, 3) := dk_184 0 55 (dk_at dksX0_isLane_0 6 rfl rfl)
theorem dX0_isLane_9 : decode cX0_isLane 9 = .ok (.ireturn, 1) := dk_172 (dk_at dksX0_isLane_0 9 rfl rfl)
abbrev cX0_asLane : ByteArray := prog_1_method_52_code
def yX0_asLane : MethodName := ⟨RX0, "asLane", "(Ljava/lang/Object;I)Ljava/lang/Object;"⟩
def dkwX0_asLane_2 : List UInt8 := [42, 192, 1, 26, 176, 42, 192, 1, 28, 176, 42, 192, 1, 30, 176]
abbrev dktX0_asLane_2 : List UInt8 := dkwX0_asLane_2 ++ []
def dkwX0_asLane_1 : List UInt8 := [171, 0, 0, 0, 0, 0, 37, 0, 0, 0, 2, 0, 0, 0, 0, 0, 0, 0, 27, 0, 0, 0, 1, 0, 0, 0, 32]
abbrev dktX0_asLane_1 : List UInt8 := dkwX0_asLane_1 ++ dktX0_asLane_2
def dkwX0_asLane_0 : List UInt8 := [27]
abbrev dktX0_asLane_0 : List UInt8 := dkwX0_asLane_0 ++ dktX0_asLane_1
theorem dksX0_asLane_0 : cX0_asLane.data.toList.drop 0 = dktX0_asLane_0 := by decide +kernel
theorem dksX0_asLane_1 : cX0_asLane.data.toList.drop 1 = dktX0_asLane_1 := dk_seg dksX0_asLane_0 1 rfl rfl
theorem dksX0_asLane_2 : cX0_asLane.data.toList.drop 28 = dktX0_asLane_2 := dk_seg dksX0_asLane_1 27 rfl rfl
theorem dX0_asLane_0 : decode cX0_asLane 0 = .ok (.iload_n 1, 1) := dk_27 (dk_at dksX0_asLane_0 0 rfl rfl)
theorem dX0_asLane_1 : decode cX0_asLane 1 = .ok (.lookupswitch 37 #[(0, 27), (1, 32)], 27) := by decide +kernel
theorem dX0_asLane_28 : decode cX0_asLane 28 = .ok (.aload_n 0, 1) := dk_42 (dk_at dksX0_asLane_2 0 rfl rfl)
theorem dX0_asLane_29 : decode cX0_asLane 29 = .ok (.checkcast 282, 3) := dk_192 1 26 (dk_at dksX0_asLane_2 1 rfl rfl)
theorem dX0_asLane_32 : decode cX0_asLane 32 = .ok (.areturn, 1) := dk_176 (dk_at dksX0_asLane_2 4 rfl rfl)
theorem dX0_asLane_33 : decode cX0_asLane 33 = .ok (.aload_n 0, 1) := dk_42 (dk_at dksX0_asLane_2 5 rfl rfl)
theorem dX0_asLane_34 : decode cX0_asLane 34 = .ok (.checkcast 284, 3) := dk_192 1 28 (dk_at dksX0_asLane_2 6 rfl rfl)
theorem dX0_asLane_37 : decode cX0_asLane 37 = .ok (.areturn, 1) := dk_176 (dk_at dksX0_asLane_2 9 rfl rfl)
theorem dX0_asLane_38 : decode cX0_asLane 38 = .ok (.aload_n 0, 1) := dk_42 (dk_at dksX0_asLane_2 10 rfl rfl)
theorem dX0_asLane_39 : decode cX0_asLane 39 = .ok (.checkcast 286, 3) := dk_192 1 30 (dk_at dksX0_asLane_2 11 rfl rfl)
theorem dX0_asLane_42 : decode cX0_asLane 42 = .ok (.areturn, 1) := dk_176 (dk_at dksX0_asLane_2 14 rfl rfl)
abbrev cX0_rowOf : ByteArray := prog_1_method_60_code
def yX0_rowOf : MethodName := ⟨RX0, "rowOf", "(Ljava/lang/Object;II)[I"⟩
def dkwX0_rowOf_2 : List UInt8 := [42, 27, 21, 5, 96, 184, 1, 31, 79, 132, 5, 1, 167, 255, 234, 25, 4, 176]
abbrev dktX0_rowOf_2 : List UInt8 := dkwX0_rowOf_2 ++ []
def dkwX0_rowOf_1 : List UInt8 := [164, 0, 11, 187, 0, 186, 89, 183, 1, 50, 191, 3, 54, 5, 21, 5, 28, 162, 0, 22, 25, 4, 21, 5]
abbrev dktX0_rowOf_1 : List UInt8 := dkwX0_rowOf_1 ++ dktX0_rowOf_2
def dkwX0_rowOf_0 : List UInt8 := [42, 184, 1, 43, 62, 28, 16, 61, 184, 1, 47, 188, 10, 58, 4, 27, 155, 0, 10, 27, 29, 28, 100]
abbrev dktX0_rowOf_0 : List UInt8 := dkwX0_rowOf_0 ++ dktX0_rowOf_1
theorem dksX0_rowOf_0 : cX0_rowOf.data.toList.drop 0 = dktX0_rowOf_0 := by decide +kernel
theorem dksX0_rowOf_1 : cX0_rowOf.data.toList.drop 23 = dktX0_rowOf_1 := dk_seg dksX0_rowOf_0 23 rfl rfl
theorem dksX0_rowOf_2 : cX0_rowOf.data.toList.drop 47 = dktX0_rowOf_2 := dk_seg dksX0_rowOf_1 24 rfl rfl
theorem dX0_rowOf_0 : decode cX0_rowOf 0 = .ok (.aload_n 0, 1) := dk_42 (dk_at dksX0_rowOf_0 0 rfl rfl)
theorem dX0_rowOf_1 : decode cX0_rowOf 1 = .ok (.invokestatic 299, 3) := dk_184 1 43 (dk_at dksX0_rowOf_0 1 rfl rfl)
theorem dX0_rowOf_4 : decode cX0_rowOf 4 = .ok (.istore_n 3, 1) := dk_62 (dk_at dksX0_rowOf_0 4 rfl rfl)
theorem dX0_rowOf_5 : decode cX0_rowOf 5 = .ok (.iload_n 2, 1) := dk_28 (dk_at dksX0_rowOf_0 5 rfl rfl)
theorem dX0_rowOf_6 : decode cX0_rowOf 6 = .ok (.bipush 61, 2) := dk_16 61 (dk_at dksX0_rowOf_0 6 rfl rfl)
theorem dX0_rowOf_8 : decode cX0_rowOf 8 = .ok (.invokestatic 303, 3) := dk_184 1 47 (dk_at dksX0_rowOf_0 8 rfl rfl)
theorem dX0_rowOf_11 : decode cX0_rowOf 11 = .ok (.newarray .int, 2) := dk_188_10 (dk_at dksX0_rowOf_0 11 rfl rfl)
theorem dX0_rowOf_13 : decode cX0_rowOf 13 = .ok (.astore 4, 2) := dk_58 4 (dk_at dksX0_rowOf_0 13 rfl rfl)
theorem dX0_rowOf_15 : decode cX0_rowOf 15 = .ok (.iload_n 1, 1) := dk_27 (dk_at dksX0_rowOf_0 15 rfl rfl)
theorem dX0_rowOf_16 : decode cX0_rowOf 16 = .ok (.ifCond .lt 10, 3) := dk_155 0 10 (dk_at dksX0_rowOf_0 16 rfl rfl)
theorem dX0_rowOf_19 : decode cX0_rowOf 19 = .ok (.iload_n 1, 1) := dk_27 (dk_at dksX0_rowOf_0 19 rfl rfl)
theorem dX0_rowOf_20 : decode cX0_rowOf 20 = .ok (.iload_n 3, 1) := dk_29 (dk_at dksX0_rowOf_0 20 rfl rfl)
theorem dX0_rowOf_21 : decode cX0_rowOf 21 = .ok (.iload_n 2, 1) := dk_28 (dk_at dksX0_rowOf_0 21 rfl rfl)
theorem dX0_rowOf_22 : decode cX0_rowOf 22 = .ok (.isub, 1) := dk_100 (dk_at dksX0_rowOf_0 22 rfl rfl)
theorem dX0_rowOf_23 : decode cX0_rowOf 23 = .ok (.if_icmp .le 11, 3) := dk_164 0 11 (dk_at dksX0_rowOf_1 0 rfl rfl)
theorem dX0_rowOf_26 : decode cX0_rowOf 26 = .ok (.new 186, 3) := dk_187 0 186 (dk_at dksX0_rowOf_1 3 rfl rfl)
theorem dX0_rowOf_29 : decode cX0_rowOf 29 = .ok (.dup, 1) := dk_89 (dk_at dksX0_rowOf_1 6 rfl rfl)
theorem dX0_rowOf_30 : decode cX0_rowOf 30 = .ok (.invokespecial 306, 3) := dk_183 1 50 (dk_at dksX0_rowOf_1 7 rfl rfl)
theorem dX0_rowOf_33 : decode cX0_rowOf 33 = .ok (.athrow, 1) := dk_191 (dk_at dksX0_rowOf_1 10 rfl rfl)
theorem dX0_rowOf_34 : decode cX0_rowOf 34 = .ok (.iconst 0, 1) := dk_3 (dk_at dksX0_rowOf_1 11 rfl rfl)
theorem dX0_rowOf_35 : decode cX0_rowOf 35 = .ok (.istore 5, 2) := dk_54 5 (dk_at dksX0_rowOf_1 12 rfl rfl)
theorem dX0_rowOf_37 : decode cX0_rowOf 37 = .ok (.iload 5, 2) := dk_21 5 (dk_at dksX0_rowOf_1 14 rfl rfl)
theorem dX0_rowOf_39 : decode cX0_rowOf 39 = .ok (.iload_n 2, 1) := dk_28 (dk_at dksX0_rowOf_1 16 rfl rfl)
theorem dX0_rowOf_40 : decode cX0_rowOf 40 = .ok (.if_icmp .ge 22, 3) := dk_162 0 22 (dk_at dksX0_rowOf_1 17 rfl rfl)
theorem dX0_rowOf_43 : decode cX0_rowOf 43 = .ok (.aload 4, 2) := dk_25 4 (dk_at dksX0_rowOf_1 20 rfl rfl)
theorem dX0_rowOf_45 : decode cX0_rowOf 45 = .ok (.iload 5, 2) := dk_21 5 (dk_at dksX0_rowOf_1 22 rfl rfl)
theorem dX0_rowOf_47 : decode cX0_rowOf 47 = .ok (.aload_n 0, 1) := dk_42 (dk_at dksX0_rowOf_2 0 rfl rfl)
theorem dX0_rowOf_48 : decode cX0_rowOf 48 = .ok (.iload_n 1, 1) := dk_27 (dk_at dksX0_rowOf_2 1 rfl rfl)
theorem dX0_rowOf_49 : decode cX0_rowOf 49 = .ok (.iload 5, 2) := dk_21 5 (dk_at dksX0_rowOf_2 2 rfl rfl)
theorem dX0_rowOf_51 : decode cX0_rowOf 51 = .ok (.iadd, 1) := dk_96 (dk_at dksX0_rowOf_2 4 rfl rfl)
theorem dX0_rowOf_52 : decode cX0_rowOf 52 = .ok (.invokestatic 287, 3) := dk_184 1 31 (dk_at dksX0_rowOf_2 5 rfl rfl)
theorem dX0_rowOf_55 : decode cX0_rowOf 55 = .ok (.iastore, 1) := dk_79 (dk_at dksX0_rowOf_2 8 rfl rfl)
theorem dX0_rowOf_56 : decode cX0_rowOf 56 = .ok (.iinc 5 1, 3) := dk_132 5 1 (dk_at dksX0_rowOf_2 9 rfl rfl)
theorem dX0_rowOf_59 : decode cX0_rowOf 59 = .ok (.goto (-22), 3) := dk_167 255 234 (dk_at dksX0_rowOf_2 12 rfl rfl)
theorem dX0_rowOf_62 : decode cX0_rowOf 62 = .ok (.aload 4, 2) := dk_25 4 (dk_at dksX0_rowOf_2 15 rfl rfl)
theorem dX0_rowOf_64 : decode cX0_rowOf 64 = .ok (.areturn, 1) := dk_176 (dk_at dksX0_rowOf_2 17 rfl rfl)
abbrev cX0_lengthOf : ByteArray := prog_1_method_54_code
def yX0_lengthOf : MethodName := ⟨RX0, "lengthOf", "(Ljava/lang/Object;)I"⟩
def dkwX0_lengthOf_1 : List UInt8 := [192, 1, 28, 76, 43, 190, 172, 42, 192, 1, 30, 190, 172]
abbrev dktX0_lengthOf_1 : List UInt8 := dkwX0_lengthOf_1 ++ []
def dkwX0_lengthOf_0 : List UInt8 := [42, 193, 1, 26, 153, 0, 11, 42, 192, 1, 26, 76, 43, 190, 172, 42, 193, 1, 28, 153, 0, 11, 42]
abbrev dktX0_lengthOf_0 : List UInt8 := dkwX0_lengthOf_0 ++ dktX0_lengthOf_1
theorem dksX0_lengthOf_0 : cX0_lengthOf.data.toList.drop 0 = dktX0_lengthOf_0 := by decide +kernel
theorem dksX0_lengthOf_1 : cX0_lengthOf.data.toList.drop 23 = dktX0_lengthOf_1 := dk_seg dksX0_lengthOf_0 23 rfl rfl
theorem dX0_lengthOf_0 : decode cX0_lengthOf 0 = .ok (.aload_n 0, 1) := dk_42 (dk_at dksX0_lengthOf_0 0 rfl rfl)
theorem dX0_lengthOf_1 : decode cX0_lengthOf 1 = .ok (.instanceof 282, 3) := dk_193 1 26 (dk_at dksX0_lengthOf_0 1 rfl rfl)
theorem dX0_lengthOf_4 : decode cX0_lengthOf 4 = .ok (.ifCond .eq 11, 3) := dk_153 0 11 (dk_at dksX0_lengthOf_0 4 rfl rfl)
theorem dX0_lengthOf_7 : decode cX0_lengthOf 7 = .ok (.aload_n 0, 1) := dk_42 (dk_at dksX0_lengthOf_0 7 rfl rfl)
theorem dX0_lengthOf_8 : decode cX0_lengthOf 8 = .ok (.checkcast 282, 3) := dk_192 1 26 (dk_at dksX0_lengthOf_0 8 rfl rfl)
theorem dX0_lengthOf_11 : decode cX0_lengthOf 11 = .ok (.astore_n 1, 1) := dk_76 (dk_at dksX0_lengthOf_0 11 rfl rfl)
theorem dX0_lengthOf_12 : decode cX0_lengthOf 12 = .ok (.aload_n 1, 1) := dk_43 (dk_at dksX0_lengthOf_0 12 rfl rfl)
theorem dX0_lengthOf_13 : decode cX0_lengthOf 13 = .ok (.arraylength, 1) := dk_190 (dk_at dksX0_lengthOf_0 13 rfl rfl)
theorem dX0_lengthOf_14 : decode cX0_lengthOf 14 = .ok (.ireturn, 1) := dk_172 (dk_at dksX0_lengthOf_0 14 rfl rfl)
theorem dX0_lengthOf_15 : decode cX0_lengthOf 15 = .ok (.aload_n 0, 1) := dk_42 (dk_at dksX0_lengthOf_0 15 rfl rfl)
theorem dX0_lengthOf_16 : decode cX0_lengthOf 16 = .ok (.instanceof 284, 3) := dk_193 1 28 (dk_at dksX0_lengthOf_0 16 rfl rfl)
theorem dX0_lengthOf_19 : decode cX0_lengthOf 19 = .ok (.ifCond .eq 11, 3) := dk_153 0 11 (dk_at dksX0_lengthOf_0 19 rfl rfl)
theorem dX0_lengthOf_22 : decode cX0_lengthOf 22 = .ok (.aload_n 0, 1) := dk_42 (dk_at dksX0_lengthOf_0 22 rfl rfl)
theorem dX0_lengthOf_23 : decode cX0_lengthOf 23 = .ok (.checkcast 284, 3) := dk_192 1 28 (dk_at dksX0_lengthOf_1 0 rfl rfl)
theorem dX0_lengthOf_26 : decode cX0_lengthOf 26 = .ok (.astore_n 1, 1) := dk_76 (dk_at dksX0_lengthOf_1 3 rfl rfl)
theorem dX0_lengthOf_27 : decode cX0_lengthOf 27 = .ok (.aload_n 1, 1) := dk_43 (dk_at dksX0_lengthOf_1 4 rfl rfl)
theorem dX0_lengthOf_28 : decode cX0_lengthOf 28 = .ok (.arraylength, 1) := dk_190 (dk_at dksX0_lengthOf_1 5 rfl rfl)
theorem dX0_lengthOf_29 : decode cX0_lengthOf 29 = .ok (.ireturn, 1) := dk_172 (dk_at dksX0_lengthOf_1 6 rfl rfl)
theorem dX0_lengthOf_30 : decode cX0_lengthOf 30 = .ok (.aload_n 0, 1) := dk_42 (dk_at dksX0_lengthOf_1 7 rfl rfl)
theorem dX0_lengthOf_31 : decode cX0_lengthOf 31 = .ok (.checkcast 286, 3) := dk_192 1 30 (dk_at dksX0_lengthOf_1 8 rfl rfl)
theorem dX0_lengthOf_34 : decode cX0_lengthOf 34 = .ok (.arraylength, 1) := dk_190 (dk_at dksX0_lengthOf_1 11 rfl rfl)
theorem dX0_lengthOf_35 : decode cX0_lengthOf 35 = .ok (.ireturn, 1) := dk_172 (dk_at dksX0_lengthOf_1 12 rfl rfl)
abbrev cX0_cellOf : ByteArray := prog_1_method_53_code
def yX0_cellOf : MethodName := ⟨RX0, "cellOf", "(Ljava/lang/Object;I)I"⟩
def dkwX0_cellOf_1 : List UInt8 := [192, 1, 28, 77, 44, 27, 53, 172, 42, 192, 1, 30, 27, 46, 172]
abbrev dktX0_cellOf_1 : List UInt8 := dkwX0_cellOf_1 ++ []
def dkwX0_cellOf_0 : List UInt8 := [42, 193, 1, 26, 153, 0, 12, 42, 192, 1, 26, 77, 44, 27, 51, 172, 42, 193, 1, 28, 153, 0, 12, 42]
abbrev dktX0_cellOf_0 : List UInt8 := dkwX0_cellOf_0 ++ dktX0_cellOf_1
theorem dksX0_cellOf_0 : cX0_cellOf.data.toList.drop 0 = dktX0_cellOf_0 := by decide +kernel
theorem dksX0_cellOf_1 : cX0_cellOf.data.toList.drop 24 = dktX0_cellOf_1 := dk_seg dksX0_cellOf_0 24 rfl rfl
theorem dX0_cellOf_0 : decode cX0_cellOf 0 = .ok (.aload_n 0, 1) := dk_42 (dk_at dksX0_cellOf_0 0 rfl rfl)
theorem dX0_cellOf_1 : decode cX0_cellOf 1 = .ok (.instanceof 282, 3) := dk_193 1 26 (dk_at dksX0_cellOf_0 1 rfl rfl)
theorem dX0_cellOf_4 : decode cX0_cellOf 4 = .ok (.ifCond .eq 12, 3) := dk_153 0 12 (dk_at dksX0_cellOf_0 4 rfl rfl)
theorem dX0_cellOf_7 : decode cX0_cellOf 7 = .ok (.aload_n 0, 1) := dk_42 (dk_at dksX0_cellOf_0 7 rfl rfl)
theorem dX0_cellOf_8 : decode cX0_cellOf 8 = .ok (.checkcast 282, 3) := dk_192 1 26 (dk_at dksX0_cellOf_0 8 rfl rfl)
theorem dX0_cellOf_11 : decode cX0_cellOf 11 = .ok (.astore_n 2, 1) := dk_77 (dk_at dksX0_cellOf_0 11 rfl rfl)
theorem dX0_cellOf_12 : decode cX0_cellOf 12 = .ok (.aload_n 2, 1) := dk_44 (dk_at dksX0_cellOf_0 12 rfl rfl)
theorem dX0_cellOf_13 : decode cX0_cellOf 13 = .ok (.iload_n 1, 1) := dk_27 (dk_at dksX0_cellOf_0 13 rfl rfl)
theorem dX0_cellOf_14 : decode cX0_cellOf 14 = .ok (.baload, 1) := dk_51 (dk_at dksX0_cellOf_0 14 rfl rfl)
theorem dX0_cellOf_15 : decode cX0_cellOf 15 = .ok (.ireturn, 1) := dk_172 (dk_at dksX0_cellOf_0 15 rfl rfl)
theorem dX0_cellOf_16 : decode cX0_cellOf 16 = .ok (.aload_n 0, 1) := dk_42 (dk_at dksX0_cellOf_0 16 rfl rfl)
theorem dX0_cellOf_17 : decode cX0_cellOf 17 = .ok (.instanceof 284, 3) := dk_193 1 28 (dk_at dksX0_cellOf_0 17 rfl rfl)
theorem dX0_cellOf_20 : decode cX0_cellOf 20 = .ok (.ifCond .eq 12, 3) := dk_153 0 12 (dk_at dksX0_cellOf_0 20 rfl rfl)
theorem dX0_cellOf_23 : decode cX0_cellOf 23 = .ok (.aload_n 0, 1) := dk_42 (dk_at dksX0_cellOf_0 23 rfl rfl)
theorem dX0_cellOf_24 : decode cX0_cellOf 24 = .ok (.checkcast 284, 3) := dk_192 1 28 (dk_at dksX0_cellOf_1 0 rfl rfl)
theorem dX0_cellOf_27 : decode cX0_cellOf 27 = .ok (.astore_n 2, 1) := dk_77 (dk_at dksX0_cellOf_1 3 rfl rfl)
theorem dX0_cellOf_28 : decode cX0_cellOf 28 = .ok (.aload_n 2, 1) := dk_44 (dk_at dksX0_cellOf_1 4 rfl rfl)
theorem dX0_cellOf_29 : decode cX0_cellOf 29 = .ok (.iload_n 1, 1) := dk_27 (dk_at dksX0_cellOf_1 5 rfl rfl)
theorem dX0_cellOf_30 : decode cX0_cellOf 30 = .ok (.saload, 1) := dk_53 (dk_at dksX0_cellOf_1 6 rfl rfl)
theorem dX0_cellOf_31 : decode cX0_cellOf 31 = .ok (.ireturn, 1) := dk_172 (dk_at dksX0_cellOf_1 7 rfl rfl)
theorem dX0_cellOf_32 : decode cX0_cellOf 32 = .ok (.aload_n 0, 1) := dk_42 (dk_at dksX0_cellOf_1 8 rfl rfl)
theorem dX0_cellOf_33 : decode cX0_cellOf 33 = .ok (.checkcast 286, 3) := dk_192 1 30 (dk_at dksX0_cellOf_1 9 rfl rfl)
theorem dX0_cellOf_36 : decode cX0_cellOf 36 = .ok (.iload_n 1, 1) := dk_27 (dk_at dksX0_cellOf_1 12 rfl rfl)
theorem dX0_cellOf_37 : decode cX0_cellOf 37 = .ok (.iaload, 1) := dk_46 (dk_at dksX0_cellOf_1 13 rfl rfl)
theorem dX0_cellOf_38 : decode cX0_cellOf 38 = .ok (.ireturn, 1) := dk_172 (dk_at dksX0_cellOf_1 14 rfl rfl)
abbrev cX0_comesDuchy : ByteArray := prog_1_method_21_code
def yX0_comesDuchy : MethodName := ⟨RX0, "comesDuchy", "([I)I"⟩
def dkwX0_comesDuchy_4 : List UInt8 := [172]
abbrev dktX0_comesDuchy_4 : List UInt8 := dkwX0_comesDuchy_4 ++ []
def dkwX0_comesDuchy_3 : List UInt8 := [182, 0, 140, 185, 0, 144, 2, 0, 87, 132, 2, 1, 167, 255, 230, 42, 3, 181, 0, 148, 42, 180, 0, 108]
abbrev dktX0_comesDuchy_3 : List UInt8 := dkwX0_comesDuchy_3 ++ dktX0_comesDuchy_4
def dkwX0_comesDuchy_2 : List UInt8 := [180, 0, 12, 185, 0, 137, 1, 0, 3, 61, 28, 42, 180, 0, 108, 162, 0, 24, 42, 180, 0, 12, 42, 28]
abbrev dktX0_comesDuchy_2 : List UInt8 := dkwX0_comesDuchy_2 ++ dktX0_comesDuchy_3
def dkwX0_comesDuchy_1 : List UInt8 := [42, 42, 180, 0, 101, 181, 0, 84, 42, 180, 0, 26, 3, 42, 180, 0, 18, 3, 16, 6, 184, 0, 131, 42]
abbrev dktX0_comesDuchy_1 : List UInt8 := dkwX0_comesDuchy_1 ++ dktX0_comesDuchy_2
def dkwX0_comesDuchy_0 : List UInt8 := [42, 43, 182, 0, 125, 154, 0, 11, 16, 156, 42, 180, 0, 96, 100, 172, 42, 42, 180, 0, 115, 181, 0, 128]
abbrev dktX0_comesDuchy_0 : List UInt8 := dkwX0_comesDuchy_0 ++ dktX0_comesDuchy_1
theorem dksX0_comesDuchy_0 : cX0_comesDuchy.data.toList.drop 0 = dktX0_comesDuchy_0 := by decide +kernel
theorem dksX0_comesDuchy_1 : cX0_comesDuchy.data.toList.drop 24 = dktX0_comesDuchy_1 := dk_seg dksX0_comesDuchy_0 24 rfl rfl
theorem dksX0_comesDuchy_2 : cX0_comesDuchy.data.toList.drop 48 = dktX0_comesDuchy_2 := dk_seg dksX0_comesDuchy_1 24 rfl rfl
theorem dksX0_comesDuchy_3 : cX0_comesDuchy.data.toList.drop 72 = dktX0_comesDuchy_3 := dk_seg dksX0_comesDuchy_2 24 rfl rfl
theorem dksX0_comesDuchy_4 : cX0_comesDuchy.data.toList.drop 96 = dktX0_comesDuchy_4 := dk_seg dksX0_comesDuchy_3 24 rfl rfl
theorem dX0_comesDuchy_0 : decode cX0_comesDuchy 0 = .ok (.aload_n 0, 1) := dk_42 (dk_at dksX0_comesDuchy_0 0 rfl rfl)
theorem dX0_comesDuchy_1 : decode cX0_comesDuchy 1 = .ok (.aload_n 1, 1) := dk_43 (dk_at dksX0_comesDuchy_0 1 rfl rfl)
theorem dX0_comesDuchy_2 : decode cX0_comesDuchy 2 = .ok (.invokevirtual 125, 3) := dk_182 0 125 (dk_at dksX0_comesDuchy_0 2 rfl rfl)
theorem dX0_comesDuchy_5 : decode cX0_comesDuchy 5 = .ok (.ifCond .ne 11, 3) := dk_154 0 11 (dk_at dksX0_comesDuchy_0 5 rfl rfl)
theorem dX0_comesDuchy_8 : decode cX0_comesDuchy 8 = .ok (.bipush (-100), 2) := dk_16 156 (dk_at dksX0_comesDuchy_0 8 rfl rfl)
theorem dX0_comesDuchy_10 : decode cX0_comesDuchy 10 = .ok (.aload_n 0, 1) := dk_42 (dk_at dksX0_comesDuchy_0 10 rfl rfl)
theorem dX0_comesDuchy_11 : decode cX0_comesDuchy 11 = .ok (.getfield 96, 3) := dk_180 0 96 (dk_at dksX0_comesDuchy_0 11 rfl rfl)
theorem dX0_comesDuchy_14 : decode cX0_comesDuchy 14 = .ok (.isub, 1) := dk_100 (dk_at dksX0_comesDuchy_0 14 rfl rfl)
theorem dX0_comesDuchy_15 : decode cX0_comesDuchy 15 = .ok (.ireturn, 1) := dk_172 (dk_at dksX0_comesDuchy_0 15 rfl rfl)
theorem dX0_comesDuchy_16 : decode cX0_comesDuchy 16 = .ok (.aload_n 0, 1) := dk_42 (dk_at dksX0_comesDuchy_0 16 rfl rfl)
theorem dX0_comesDuchy_17 : decode cX0_comesDuchy 17 = .ok (.aload_n 0, 1) := dk_42 (dk_at dksX0_comesDuchy_0 17 rfl rfl)
theorem dX0_comesDuchy_18 : decode cX0_comesDuchy 18 = .ok (.getfield 115, 3) := dk_180 0 115 (dk_at dksX0_comesDuchy_0 18 rfl rfl)
theorem dX0_comesDuchy_21 : decode cX0_comesDuchy 21 = .ok (.putfield 128, 3) := dk_181 0 128 (dk_at dksX0_comesDuchy_0 21 rfl rfl)
theorem dX0_comesDuchy_24 : decode cX0_comesDuchy 24 = .ok (.aload_n 0, 1) := dk_42 (dk_at dksX0_comesDuchy_1 0 rfl rfl)
theorem dX0_comesDuchy_25 : decode cX0_comesDuchy 25 = .ok (.aload_n 0, 1) := dk_42 (dk_at dksX0_comesDuchy_1 1 rfl rfl)
theorem dX0_comesDuchy_26 : decode cX0_comesDuchy 26 = .ok (.getfield 101, 3) := dk_180 0 101 (dk_at dksX0_comesDuchy_1 2 rfl rfl)
theorem dX0_comesDuchy_29 : decode cX0_comesDuchy 29 = .ok (.putfield 84, 3) := dk_181 0 84 (dk_at dksX0_comesDuchy_1 5 rfl rfl)
theorem dX0_comesDuchy_32 : decode cX0_comesDuchy 32 = .ok (.aload_n 0, 1) := dk_42 (dk_at dksX0_comesDuchy_1 8 rfl rfl)
theorem dX0_comesDuchy_33 : decode cX0_comesDuchy 33 = .ok (.getfield 26, 3) := dk_180 0 26 (dk_at dksX0_comesDuchy_1 9 rfl rfl)
theorem dX0_comesDuchy_36 : decode cX0_comesDuchy 36 = .ok (.iconst 0, 1) := dk_3 (dk_at dksX0_comesDuchy_1 12 rfl rfl)
theorem dX0_comesDuchy_37 : decode cX0_comesDuchy 37 = .ok (.aload_n 0, 1) := dk_42 (dk_at dksX0_comesDuchy_1 13 rfl rfl)
theorem dX0_comesDuchy_38 : decode cX0_comesDuchy 38 = .ok (.getfield 18, 3) := dk_180 0 18 (dk_at dksX0_comesDuchy_1 14 rfl rfl)
theorem dX0_comesDuchy_41 : decode cX0_comesDuchy 41 = .ok (.iconst 0, 1) := dk_3 (dk_at dksX0_comesDuchy_1 17 rfl rfl)
theorem dX0_comesDuchy_42 : decode cX0_comesDuchy 42 = .ok (.bipush 6, 2) := dk_16 6 (dk_at dksX0_comesDuchy_1 18 rfl rfl)
theorem dX0_comesDuchy_44 : decode cX0_comesDuchy 44 = .ok (.invokestatic 131, 3) := dk_184 0 131 (dk_at dksX0_comesDuchy_1 20 rfl rfl)
theorem dX0_comesDuchy_47 : decode cX0_comesDuchy 47 = .ok (.aload_n 0, 1) := dk_42 (dk_at dksX0_comesDuchy_1 23 rfl rfl)
theorem dX0_comesDuchy_48 : decode cX0_comesDuchy 48 = .ok (.getfield 12, 3) := dk_180 0 12 (dk_at dksX0_comesDuchy_2 0 rfl rfl)
theorem dX0_comesDuchy_51 : decode cX0_comesDuchy 51 = .ok (.invokeinterface 137 1, 5) := by decide +kernel
theorem dX0_comesDuchy_56 : decode cX0_comesDuchy 56 = .ok (.iconst 0, 1) := dk_3 (dk_at dksX0_comesDuchy_2 8 rfl rfl)
theorem dX0_comesDuchy_57 : decode cX0_comesDuchy 57 = .ok (.istore_n 2, 1) := dk_61 (dk_at dksX0_comesDuchy_2 9 rfl rfl)
theorem dX0_comesDuchy_58 : decode cX0_comesDuchy 58 = .ok (.iload_n 2, 1) := dk_28 (dk_at dksX0_comesDuchy_2 10 rfl rfl)
theorem dX0_comesDuchy_59 : decode cX0_comesDuchy 59 = .ok (.aload_n 0, 1) := dk_42 (dk_at dksX0_comesDuchy_2 11 rfl rfl)
theorem dX0_comesDuchy_60 : decode cX0_comesDuchy 60 = .ok (.getfield 108, 3) := dk_180 0 108 (dk_at dksX0_comesDuchy_2 12 rfl rfl)
theorem dX0_comesDuchy_63 : decode cX0_comesDuchy 63 = .ok (.if_icmp .ge 24, 3) := dk_162 0 24 (dk_at dksX0_comesDuchy_2 15 rfl rfl)
theorem dX0_comesDuchy_66 : decode cX0_comesDuchy 66 = .ok (.aload_n 0, 1) := dk_42 (dk_at dksX0_comesDuchy_2 18 rfl rfl)
theorem dX0_comesDuchy_67 : decode cX0_comesDuchy 67 = .ok (.getfield 12, 3) := dk_180 0 12 (dk_at dksX0_comesDuchy_2 19 rfl rfl)
theorem dX0_comesDuchy_70 : decode cX0_comesDuchy 70 = .ok (.aload_n 0, 1) := dk_42 (dk_at dksX0_comesDuchy_2 22 rfl rfl)
theorem dX0_comesDuchy_71 : decode cX0_comesDuchy 71 = .ok (.iload_n 2, 1) := dk_28 (dk_at dksX0_comesDuchy_2 23 rfl rfl)
theorem dX0_comesDuchy_72 : decode cX0_comesDuchy 72 = .ok (.invokevirtual 140, 3) := dk_182 0 140 (dk_at dksX0_comesDuchy_3 0 rfl rfl)
theorem dX0_comesDuchy_75 : decode cX0_comesDuchy 75 = .ok (.invokeinterface 144 2, 5) := by decide +kernel
theorem dX0_comesDuchy_80 : decode cX0_comesDuchy 80 = .ok (.pop, 1) := dk_87 (dk_at dksX0_comesDuchy_3 8 rfl rfl)
theorem dX0_comesDuchy_81 : decode cX0_comesDuchy 81 = .ok (.iinc 2 1, 3) := dk_132 2 1 (dk_at dksX0_comesDuchy_3 9 rfl rfl)
theorem dX0_comesDuchy_84 : decode cX0_comesDuchy 84 = .ok (.goto (-26), 3) := dk_167 255 230 (dk_at dksX0_comesDuchy_3 12 rfl rfl)
theorem dX0_comesDuchy_87 : decode cX0_comesDuchy 87 = .ok (.aload_n 0, 1) := dk_42 (dk_at dksX0_comesDuchy_3 15 rfl rfl)
theorem dX0_comesDuchy_88 : decode cX0_comesDuchy 88 = .ok (.iconst 0, 1) := dk_3 (dk_at dksX0_comesDuchy_3 16 rfl rfl)
theorem dX0_comesDuchy_89 : decode cX0_comesDuchy 89 = .ok (.putfield 148, 3) := dk_181 0 148 (dk_at dksX0_comesDuchy_3 17 rfl rfl)
theorem dX0_comesDuchy_92 : decode cX0_comesDuchy 92 = .ok (.aload_n 0, 1) := dk_42 (dk_at dksX0_comesDuchy_3 20 rfl rfl)
theorem dX0_comesDuchy_93 : decode cX0_comesDuchy 93 = .ok (.getfield 108, 3) := dk_180 0 108 (dk_at dksX0_comesDuchy_3 21 rfl rfl)
theorem dX0_comesDuchy_96 : decode cX0_comesDuchy 96 = .ok (.ireturn, 1) := dk_172 (dk_at dksX0_comesDuchy_4 0 rfl rfl)
abbrev cX0_readAll : ByteArray := prog_1_method_20_code
def yX0_readAll : MethodName := ⟨RX0, "readAll", "([I)Z"⟩
def dkwX0_readAll_5 : List UInt8 := [167, 0, 4, 3, 172]
abbrev dktX0_readAll_5 : List UInt8 := dkwX0_readAll_5 ++ []
def dkwX0_readAll_4 : List UInt8 := [153, 0, 11, 42, 43, 182, 0, 122, 154, 255, 217, 3, 172, 42, 180, 0, 96, 43, 190, 160, 0, 7, 4]
abbrev dktX0_readAll_4 : List UInt8 := dkwX0_readAll_4 ++ dktX0_readAll_5
def dkwX0_readAll_3 : List UInt8 := [180, 0, 108, 7, 162, 0, 32, 42, 180, 0, 96, 43, 190, 162, 0, 23, 42, 43, 16, 59, 182, 0, 111]
abbrev dktX0_readAll_3 : List UInt8 := dkwX0_readAll_3 ++ dktX0_readAll_4
def dkwX0_readAll_2 : List UInt8 := [182, 0, 111, 153, 0, 11, 42, 43, 182, 0, 118, 154, 0, 5, 3, 172, 42, 180, 0, 108, 153, 0, 20, 42]
abbrev dktX0_readAll_2 : List UInt8 := dkwX0_readAll_2 ++ dktX0_readAll_3
def dkwX0_readAll_1 : List UInt8 := [43, 3, 16, 9, 182, 0, 104, 181, 0, 115, 42, 180, 0, 115, 16, 247, 159, 0, 21, 42, 43, 16, 44]
abbrev dktX0_readAll_1 : List UInt8 := dkwX0_readAll_1 ++ dktX0_readAll_2
def dkwX0_readAll_0 : List UInt8 := [42, 3, 181, 0, 96, 42, 3, 181, 0, 108, 42, 43, 16, 100, 182, 0, 111, 154, 0, 5, 3, 172, 42, 42]
abbrev dktX0_readAll_0 : List UInt8 := dkwX0_readAll_0 ++ dktX0_readAll_1
theorem dksX0_readAll_0 : cX0_readAll.data.toList.drop 0 = dktX0_readAll_0 := by decide +kernel
theorem dksX0_readAll_1 : cX0_readAll.data.toList.drop 24 = dktX0_readAll_1 := dk_seg dksX0_readAll_0 24 rfl rfl
theorem dksX0_readAll_2 : cX0_readAll.data.toList.drop 47 = dktX0_readAll_2 := dk_seg dksX0_readAll_1 23 rfl rfl
theorem dksX0_readAll_3 : cX0_readAll.data.toList.drop 71 = dktX0_readAll_3 := dk_seg dksX0_readAll_2 24 rfl rfl
theorem dksX0_readAll_4 : cX0_readAll.data.toList.drop 94 = dktX0_readAll_4 := dk_seg dksX0_readAll_3 23 rfl rfl
theorem dksX0_readAll_5 : cX0_readAll.data.toList.drop 117 = dktX0_readAll_5 := dk_seg dksX0_readAll_4 23 rfl rfl
theorem dX0_readAll_0 : decode cX0_readAll 0 = .ok (.aload_n 0, 1) := dk_42 (dk_at dksX0_readAll_0 0 rfl rfl)
theorem dX0_readAll_1 : decode cX0_readAll 1 = .ok (.iconst 0, 1) := dk_3 (dk_at dksX0_readAll_0 1 rfl rfl)
theorem dX0_readAll_2 : decode cX0_readAll 2 = .ok (.putfield 96, 3) := dk_181 0 96 (dk_at dksX0_readAll_0 2 rfl rfl)
theorem dX0_readAll_5 : decode cX0_readAll 5 = .ok (.aload_n 0, 1) := dk_42 (dk_at dksX0_readAll_0 5 rfl rfl)
theorem dX0_readAll_6 : decode cX0_readAll 6 = .ok (.iconst 0, 1) := dk_3 (dk_at dksX0_readAll_0 6 rfl rfl)
theorem dX0_readAll_7 : decode cX0_readAll 7 = .ok (.putfield 108, 3) := dk_181 0 108 (dk_at dksX0_readAll_0 7 rfl rfl)
theorem dX0_readAll_10 : decode cX0_readAll 10 = .ok (.aload_n 0, 1) := dk_42 (dk_at dksX0_readAll_0 10 rfl rfl)
theorem dX0_readAll_11 : decode cX0_readAll 11 = .ok (.aload_n 1, 1) := dk_43 (dk_at dksX0_readAll_0 11 rfl rfl)
theorem dX0_readAll_12 : decode cX0_readAll 12 = .ok (.bipush 100, 2) := dk_16 100 (dk_at dksX0_readAll_0 12 rfl rfl)
theorem dX0_readAll_14 : decode cX0_readAll 14 = .ok (.invokevirtual 111, 3) := dk_182 0 111 (dk_at dksX0_readAll_0 14 rfl rfl)
theorem dX0_readAll_17 : decode cX0_readAll 17 = .ok (.ifCond .ne 5, 3) := dk_154 0 5 (dk_at dksX0_readAll_0 17 rfl rfl)
theorem dX0_readAll_20 : decode cX0_readAll 20 = .ok (.iconst 0, 1) := dk_3 (dk_at dksX0_readAll_0 20 rfl rfl)
theorem dX0_readAll_21 : decode cX0_readAll 21 = .ok (.ireturn, 1) := dk_172 (dk_at dksX0_readAll_0 21 rfl rfl)
theorem dX0_readAll_22 : decode cX0_readAll 22 = .ok (.aload_n 0, 1) := dk_42 (dk_at dksX0_readAll_0 22 rfl rfl)
theorem dX0_readAll_23 : decode cX0_readAll 23 = .ok (.aload_n 0, 1) := dk_42 (dk_at dksX0_readAll_0 23 rfl rfl)
theorem dX0_readAll_24 : decode cX0_readAll 24 = .ok (.aload_n 1, 1) := dk_43 (dk_at dksX0_readAll_1 0 rfl rfl)
theorem dX0_readAll_25 : decode cX0_readAll 25 = .ok (.iconst 0, 1) := dk_3 (dk_at dksX0_readAll_1 1 rfl rfl)
theorem dX0_readAll_26 : decode cX0_readAll 26 = .ok (.bipush 9, 2) := dk_16 9 (dk_at dksX0_readAll_1 2 rfl rfl)
theorem dX0_readAll_28 : decode cX0_readAll 28 = .ok (.invokevirtual 104, 3) := dk_182 0 104 (dk_at dksX0_readAll_1 4 rfl rfl)
theorem dX0_readAll_31 : decode cX0_readAll 31 = .ok (.putfield 115, 3) := dk_181 0 115 (dk_at dksX0_readAll_1 7 rfl rfl)
theorem dX0_readAll_34 : decode cX0_readAll 34 = .ok (.aload_n 0, 1) := dk_42 (dk_at dksX0_readAll_1 10 rfl rfl)
theorem dX0_readAll_35 : decode cX0_readAll 35 = .ok (.getfield 115, 3) := dk_180 0 115 (dk_at dksX0_readAll_1 11 rfl rfl)
theorem dX0_readAll_38 : decode cX0_readAll 38 = .ok (.bipush (-9), 2) := dk_16 247 (dk_at dksX0_readAll_1 14 rfl rfl)
theorem dX0_readAll_40 : decode cX0_readAll 40 = .ok (.if_icmp .eq 21, 3) := dk_159 0 21 (dk_at dksX0_readAll_1 16 rfl rfl)
theorem dX0_readAll_43 : decode cX0_readAll 43 = .ok (.aload_n 0, 1) := dk_42 (dk_at dksX0_readAll_1 19 rfl rfl)
theorem dX0_readAll_44 : decode cX0_readAll 44 = .ok (.aload_n 1, 1) := dk_43 (dk_at dksX0_readAll_1 20 rfl rfl)
theorem dX0_readAll_45 : decode cX0_readAll 45 = .ok (.bipush 44, 2) := dk_16 44 (dk_at dksX0_readAll_1 21 rfl rfl)
theorem dX0_readAll_47 : decode cX0_readAll 47 = .ok (.invokevirtual 111, 3) := dk_182 0 111 (dk_at dksX0_readAll_2 0 rfl rfl)
theorem dX0_readAll_50 : decode cX0_readAll 50 = .ok (.ifCond .eq 11, 3) := dk_153 0 11 (dk_at dksX0_readAll_2 3 rfl rfl)
theorem dX0_readAll_53 : decode cX0_readAll 53 = .ok (.aload_n 0, 1) := dk_42 (dk_at dksX0_readAll_2 6 rfl rfl)
theorem dX0_readAll_54 : decode cX0_readAll 54 = .ok (.aload_n 1, 1) := dk_43 (dk_at dksX0_readAll_2 7 rfl rfl)
theorem dX0_readAll_55 : decode cX0_readAll 55 = .ok (.invokevirtual 118, 3) := dk_182 0 118 (dk_at dksX0_readAll_2 8 rfl rfl)
theorem dX0_readAll_58 : decode cX0_readAll 58 = .ok (.ifCond .ne 5, 3) := dk_154 0 5 (dk_at dksX0_readAll_2 11 rfl rfl)
theorem dX0_readAll_61 : decode cX0_readAll 61 = .ok (.iconst 0, 1) := dk_3 (dk_at dksX0_readAll_2 14 rfl rfl)
theorem dX0_readAll_62 : decode cX0_readAll 62 = .ok (.ireturn, 1) := dk_172 (dk_at dksX0_readAll_2 15 rfl rfl)
theorem dX0_readAll_63 : decode cX0_readAll 63 = .ok (.aload_n 0, 1) := dk_42 (dk_at dksX0_readAll_2 16 rfl rfl)
theorem dX0_readAll_64 : decode cX0_readAll 64 = .ok (.getfield 108, 3) := dk_180 0 108 (dk_at dksX0_readAll_2 17 rfl rfl)
theorem dX0_readAll_67 : decode cX0_readAll 67 = .ok (.ifCond .eq 20, 3) := dk_153 0 20 (dk_at dksX0_readAll_2 20 rfl rfl)
theorem dX0_readAll_70 : decode cX0_readAll 70 = .ok (.aload_n 0, 1) := dk_42 (dk_at dksX0_readAll_2 23 rfl rfl)
theorem dX0_readAll_71 : decode cX0_readAll 71 = .ok (.getfield 108, 3) := dk_180 0 108 (dk_at dksX0_readAll_3 0 rfl rfl)
theorem dX0_readAll_74 : decode cX0_readAll 74 = .ok (.iconst 4, 1) := dk_7 (dk_at dksX0_readAll_3 3 rfl rfl)
theorem dX0_readAll_75 : decode cX0_readAll 75 = .ok (.if_icmp .ge 32, 3) := dk_162 0 32 (dk_at dksX0_readAll_3 4 rfl rfl)
theorem dX0_readAll_78 : decode cX0_readAll 78 = .ok (.aload_n 0, 1) := dk_42 (dk_at dksX0_readAll_3 7 rfl rfl)
theorem dX0_readAll_79 : decode cX0_readAll 79 = .ok (.getfield 96, 3) := dk_180 0 96 (dk_at dksX0_readAll_3 8 rfl rfl)
theorem dX0_readAll_82 : decode cX0_readAll 82 = .ok (.aload_n 1, 1) := dk_43 (dk_at dksX0_readAll_3 11 rfl rfl)
theorem dX0_readAll_83 : decode cX0_readAll 83 = .ok (.arraylength, 1) := dk_190 (dk_at dksX0_readAll_3 12 rfl rfl)
theorem dX0_readAll_84 : decode cX0_readAll 84 = .ok (.if_icmp .ge 23, 3) := dk_162 0 23 (dk_at dksX0_readAll_3 13 rfl rfl)
theorem dX0_readAll_87 : decode cX0_readAll 87 = .ok (.aload_n 0, 1) := dk_42 (dk_at dksX0_readAll_3 16 rfl rfl)
theorem dX0_readAll_88 : decode cX0_readAll 88 = .ok (.aload_n 1, 1) := dk_43 (dk_at dksX0_readAll_3 17 rfl rfl)
theorem dX0_readAll_89 : decode cX0_readAll 89 = .ok (.bipush 59, 2) := dk_16 59 (dk_at dksX0_readAll_3 18 rfl rfl)
theorem dX0_readAll_91 : decode cX0_readAll 91 = .ok (.invokevirtual 111, 3) := dk_182 0 111 (dk_at dksX0_readAll_3 20 rfl rfl)
theorem dX0_readAll_94 : decode cX0_readAll 94 = .ok (.ifCond .eq 11, 3) := dk_153 0 11 (dk_at dksX0_readAll_4 0 rfl rfl)
theorem dX0_readAll_97 : decode cX0_readAll 97 = .ok (.aload_n 0, 1) := dk_42 (dk_at dksX0_readAll_4 3 rfl rfl)
theorem dX0_readAll_98 : decode cX0_readAll 98 = .ok (.aload_n 1, 1) := dk_43 (dk_at dksX0_readAll_4 4 rfl rfl)
theorem dX0_readAll_99 : decode cX0_readAll 99 = .ok (.invokevirtual 122, 3) := dk_182 0 122 (dk_at dksX0_readAll_4 5 rfl rfl)
theorem dX0_readAll_102 : decode cX0_readAll 102 = .ok (.ifCond .ne (-39), 3) := dk_154 255 217 (dk_at dksX0_readAll_4 8 rfl rfl)
theorem dX0_readAll_105 : decode cX0_readAll 105 = .ok (.iconst 0, 1) := dk_3 (dk_at dksX0_readAll_4 11 rfl rfl)
theorem dX0_readAll_106 : decode cX0_readAll 106 = .ok (.ireturn, 1) := dk_172 (dk_at dksX0_readAll_4 12 rfl rfl)
theorem dX0_readAll_107 : decode cX0_readAll 107 = .ok (.aload_n 0, 1) := dk_42 (dk_at dksX0_readAll_4 13 rfl rfl)
theorem dX0_readAll_108 : decode cX0_readAll 108 = .ok (.getfield 96, 3) := dk_180 0 96 (dk_at dksX0_readAll_4 14 rfl rfl)
theorem dX0_readAll_111 : decode cX0_readAll 111 = .ok (.aload_n 1, 1) := dk_43 (dk_at dksX0_readAll_4 17 rfl rfl)
theorem dX0_readAll_112 : decode cX0_readAll 112 = .ok (.arraylength, 1) := dk_190 (dk_at dksX0_readAll_4 18 rfl rfl)
theorem dX0_readAll_113 : decode cX0_readAll 113 = .ok (.if_icmp .ne 7, 3) := dk_160 0 7 (dk_at dksX0_readAll_4 19 rfl rfl)
theorem dX0_readAll_116 : decode cX0_readAll 116 = .ok (.iconst 1, 1) := dk_4 (dk_at dksX0_readAll_4 22 rfl rfl)
theorem dX0_readAll_117 : decode cX0_readAll 117 = .ok (.goto 4, 3) := dk_167 0 4 (dk_at dksX0_readAll_5 0 rfl rfl)
theorem dX0_readAll_120 : decode cX0_readAll 120 = .ok (.iconst 0, 1) := dk_3 (dk_at dksX0_readAll_5 3 rfl rfl)
theorem dX0_readAll_121 : decode cX0_readAll 121 = .ok (.ireturn, 1) := dk_172 (dk_at dksX0_readAll_5 4 rfl rfl)
abbrev cX0_isSign : ByteArray := prog_1_method_16_code
def yX0_isSign : MethodName := ⟨RX0, "isSign", "([II)Z"⟩
def dkwX0_isSign_1 : List UInt8 := [180, 0, 96, 4, 96, 181, 0, 96, 4, 172]
abbrev dktX0_isSign_1 : List UInt8 := dkwX0_isSign_1 ++ []
def dkwX0_isSign_0 : List UInt8 := [42, 180, 0, 96, 43, 190, 159, 0, 13, 43, 42, 180, 0, 96, 46, 28, 159, 0, 5, 3, 172, 42, 89]
abbrev dktX0_isSign_0 : List UInt8 := dkwX0_isSign_0 ++ dktX0_isSign_1
theorem dksX0_isSign_0 : cX0_isSign.data.toList.drop 0 = dktX0_isSign_0 := by decide +kernel
theorem dksX0_isSign_1 : cX0_isSign.data.toList.drop 23 = dktX0_isSign_1 := dk_seg dksX0_isSign_0 23 rfl rfl
theorem dX0_isSign_0 : decode cX0_isSign 0 = .ok (.aload_n 0, 1) := dk_42 (dk_at dksX0_isSign_0 0 rfl rfl)
theorem dX0_isSign_1 : decode cX0_isSign 1 = .ok (.getfield 96, 3) := dk_180 0 96 (dk_at dksX0_isSign_0 1 rfl rfl)
theorem dX0_isSign_4 : decode cX0_isSign 4 = .ok (.aload_n 1, 1) := dk_43 (dk_at dksX0_isSign_0 4 rfl rfl)
theorem dX0_isSign_5 : decode cX0_isSign 5 = .ok (.arraylength, 1) := dk_190 (dk_at dksX0_isSign_0 5 rfl rfl)
theorem dX0_isSign_6 : decode cX0_isSign 6 = .ok (.if_icmp .eq 13, 3) := dk_159 0 13 (dk_at dksX0_isSign_0 6 rfl rfl)
theorem dX0_isSign_9 : decode cX0_isSign 9 = .ok (.aload_n 1, 1) := dk_43 (dk_at dksX0_isSign_0 9 rfl rfl)
theorem dX0_isSign_10 : decode cX0_isSign 10 = .ok (.aload_n 0, 1) := dk_42 (dk_at dksX0_isSign_0 10 rfl rfl)
theorem dX0_isSign_11 : decode cX0_isSign 11 = .ok (.getfield 96, 3) := dk_180 0 96 (dk_at dksX0_isSign_0 11 rfl rfl)
theorem dX0_isSign_14 : decode cX0_isSign 14 = .ok (.iaload, 1) := dk_46 (dk_at dksX0_isSign_0 14 rfl rfl)
theorem dX0_isSign_15 : decode cX0_isSign 15 = .ok (.iload_n 2, 1) := dk_28 (dk_at dksX0_isSign_0 15 rfl rfl)
theorem dX0_isSign_16 : decode cX0_isSign 16 = .ok (.if_icmp .eq 5, 3) := dk_159 0 5 (dk_at dksX0_isSign_0 16 rfl rfl)
theorem dX0_isSign_19 : decode cX0_isSign 19 = .ok (.iconst 0, 1) := dk_3 (dk_at dksX0_isSign_0 19 rfl rfl)
theorem dX0_isSign_20 : decode cX0_isSign 20 = .ok (.ireturn, 1) := dk_172 (dk_at dksX0_isSign_0 20 rfl rfl)
theorem dX0_isSign_21 : decode cX0_isSign 21 = .ok (.aload_n 0, 1) := dk_42 (dk_at dksX0_isSign_0 21 rfl rfl)
theorem dX0_isSign_22 : decode cX0_isSign 22 = .ok (.dup, 1) := dk_89 (dk_at dksX0_isSign_0 22 rfl rfl)
theorem dX0_isSign_23 : decode cX0_isSign 23 = .ok (.getfield 96, 3) := dk_180 0 96 (dk_at dksX0_isSign_1 0 rfl rfl)
theorem dX0_isSign_26 : decode cX0_isSign 26 = .ok (.iconst 1, 1) := dk_4 (dk_at dksX0_isSign_1 3 rfl rfl)
theorem dX0_isSign_27 : decode cX0_isSign 27 = .ok (.iadd, 1) := dk_96 (dk_at dksX0_isSign_1 4 rfl rfl)
theorem dX0_isSign_28 : decode cX0_isSign 28 = .ok (.putfield 96, 3) := dk_181 0 96 (dk_at dksX0_isSign_1 5 rfl rfl)
theorem dX0_isSign_31 : decode cX0_isSign 31 = .ok (.iconst 1, 1) := dk_4 (dk_at dksX0_isSign_1 8 rfl rfl)
theorem dX0_isSign_32 : decode cX0_isSign 32 = .ok (.ireturn, 1) := dk_172 (dk_at dksX0_isSign_1 9 rfl rfl)
abbrev cX0_digit : ByteArray := prog_1_method_17_code
def yX0_digit : MethodName := ⟨RX0, "digit", "([III)I"⟩
def dkwX0_digit_2 : List UInt8 := [4, 100, 46, 16, 48, 100, 172]
abbrev dktX0_digit_2 : List UInt8 := dkwX0_digit_2 ++ []
def dkwX0_digit_1 : List UInt8 := [184, 0, 55, 154, 0, 6, 16, 247, 172, 42, 89, 180, 0, 96, 4, 96, 181, 0, 96, 43, 42, 180, 0, 96]
abbrev dktX0_digit_1 : List UInt8 := dkwX0_digit_1 ++ dktX0_digit_2
def dkwX0_digit_0 : List UInt8 := [42, 180, 0, 96, 43, 190, 159, 0, 24, 43, 42, 180, 0, 96, 46, 133, 20, 0, 99, 101, 28, 133, 29, 133]
abbrev dktX0_digit_0 : List UInt8 := dkwX0_digit_0 ++ dktX0_digit_1
theorem dksX0_digit_0 : cX0_digit.data.toList.drop 0 = dktX0_digit_0 := by decide +kernel
theorem dksX0_digit_1 : cX0_digit.data.toList.drop 24 = dktX0_digit_1 := dk_seg dksX0_digit_0 24 rfl rfl
theorem dksX0_digit_2 : cX0_digit.data.toList.drop 48 = dktX0_digit_2 := dk_seg dksX0_digit_1 24 rfl rfl
theorem dX0_digit_0 : decode cX0_digit 0 = .ok (.aload_n 0, 1) := dk_42 (dk_at dksX0_digit_0 0 rfl rfl)
theorem dX0_digit_1 : decode cX0_digit 1 = .ok (.getfield 96, 3) := dk_180 0 96 (dk_at dksX0_digit_0 1 rfl rfl)
theorem dX0_digit_4 : decode cX0_digit 4 = .ok (.aload_n 1, 1) := dk_43 (dk_at dksX0_digit_0 4 rfl rfl)
theorem dX0_digit_5 : decode cX0_digit 5 = .ok (.arraylength, 1) := dk_190 (dk_at dksX0_digit_0 5 rfl rfl)
theorem dX0_digit_6 : decode cX0_digit 6 = .ok (.if_icmp .eq 24, 3) := dk_159 0 24 (dk_at dksX0_digit_0 6 rfl rfl)
theorem dX0_digit_9 : decode cX0_digit 9 = .ok (.aload_n 1, 1) := dk_43 (dk_at dksX0_digit_0 9 rfl rfl)
theorem dX0_digit_10 : decode cX0_digit 10 = .ok (.aload_n 0, 1) := dk_42 (dk_at dksX0_digit_0 10 rfl rfl)
theorem dX0_digit_11 : decode cX0_digit 11 = .ok (.getfield 96, 3) := dk_180 0 96 (dk_at dksX0_digit_0 11 rfl rfl)
theorem dX0_digit_14 : decode cX0_digit 14 = .ok (.iaload, 1) := dk_46 (dk_at dksX0_digit_0 14 rfl rfl)
theorem dX0_digit_15 : decode cX0_digit 15 = .ok (.i2l, 1) := dk_133 (dk_at dksX0_digit_0 15 rfl rfl)
theorem dX0_digit_16 : decode cX0_digit 16 = .ok (.ldc2_w 99, 3) := dk_20 0 99 (dk_at dksX0_digit_0 16 rfl rfl)
theorem dX0_digit_19 : decode cX0_digit 19 = .ok (.lsub, 1) := dk_101 (dk_at dksX0_digit_0 19 rfl rfl)
theorem dX0_digit_20 : decode cX0_digit 20 = .ok (.iload_n 2, 1) := dk_28 (dk_at dksX0_digit_0 20 rfl rfl)
theorem dX0_digit_21 : decode cX0_digit 21 = .ok (.i2l, 1) := dk_133 (dk_at dksX0_digit_0 21 rfl rfl)
theorem dX0_digit_22 : decode cX0_digit 22 = .ok (.iload_n 3, 1) := dk_29 (dk_at dksX0_digit_0 22 rfl rfl)
theorem dX0_digit_23 : decode cX0_digit 23 = .ok (.i2l, 1) := dk_133 (dk_at dksX0_digit_0 23 rfl rfl)
theorem dX0_digit_24 : decode cX0_digit 24 = .ok (.invokestatic 55, 3) := dk_184 0 55 (dk_at dksX0_digit_1 0 rfl rfl)
theorem dX0_digit_27 : decode cX0_digit 27 = .ok (.ifCond .ne 6, 3) := dk_154 0 6 (dk_at dksX0_digit_1 3 rfl rfl)
theorem dX0_digit_30 : decode cX0_digit 30 = .ok (.bipush (-9), 2) := dk_16 247 (dk_at dksX0_digit_1 6 rfl rfl)
theorem dX0_digit_32 : decode cX0_digit 32 = .ok (.ireturn, 1) := dk_172 (dk_at dksX0_digit_1 8 rfl rfl)
theorem dX0_digit_33 : decode cX0_digit 33 = .ok (.aload_n 0, 1) := dk_42 (dk_at dksX0_digit_1 9 rfl rfl)
theorem dX0_digit_34 : decode cX0_digit 34 = .ok (.dup, 1) := dk_89 (dk_at dksX0_digit_1 10 rfl rfl)
theorem dX0_digit_35 : decode cX0_digit 35 = .ok (.getfield 96, 3) := dk_180 0 96 (dk_at dksX0_digit_1 11 rfl rfl)
theorem dX0_digit_38 : decode cX0_digit 38 = .ok (.iconst 1, 1) := dk_4 (dk_at dksX0_digit_1 14 rfl rfl)
theorem dX0_digit_39 : decode cX0_digit 39 = .ok (.iadd, 1) := dk_96 (dk_at dksX0_digit_1 15 rfl rfl)
theorem dX0_digit_40 : decode cX0_digit 40 = .ok (.putfield 96, 3) := dk_181 0 96 (dk_at dksX0_digit_1 16 rfl rfl)
theorem dX0_digit_43 : decode cX0_digit 43 = .ok (.aload_n 1, 1) := dk_43 (dk_at dksX0_digit_1 19 rfl rfl)
theorem dX0_digit_44 : decode cX0_digit 44 = .ok (.aload_n 0, 1) := dk_42 (dk_at dksX0_digit_1 20 rfl rfl)
theorem dX0_digit_45 : decode cX0_digit 45 = .ok (.getfield 96, 3) := dk_180 0 96 (dk_at dksX0_digit_1 21 rfl rfl)
theorem dX0_digit_48 : decode cX0_digit 48 = .ok (.iconst 1, 1) := dk_4 (dk_at dksX0_digit_2 0 rfl rfl)
theorem dX0_digit_49 : decode cX0_digit 49 = .ok (.isub, 1) := dk_100 (dk_at dksX0_digit_2 1 rfl rfl)
theorem dX0_digit_50 : decode cX0_digit 50 = .ok (.iaload, 1) := dk_46 (dk_at dksX0_digit_2 2 rfl rfl)
theorem dX0_digit_51 : decode cX0_digit 51 = .ok (.bipush 48, 2) := dk_16 48 (dk_at dksX0_digit_2 3 rfl rfl)
theorem dX0_digit_53 : decode cX0_digit 53 = .ok (.isub, 1) := dk_100 (dk_at dksX0_digit_2 5 rfl rfl)
theorem dX0_digit_54 : decode cX0_digit 54 = .ok (.ireturn, 1) := dk_172 (dk_at dksX0_digit_2 6 rfl rfl)
abbrev cX0_readTheDays : ByteArray := prog_1_method_18_code
def yX0_readTheDays : MethodName := ⟨RX0, "readTheDays", "([I)Z"⟩
def dkwX0_readTheDays_2 : List UInt8 := [180, 0, 101, 28, 79, 42, 89, 180, 0, 101, 4, 96, 181, 0, 101, 167, 255, 199, 4, 172]
abbrev dktX0_readTheDays_2 : List UInt8 := dkwX0_readTheDays_2 ++ []
def dkwX0_readTheDays_1 : List UInt8 := [16, 247, 160, 0, 16, 42, 180, 0, 101, 158, 0, 7, 4, 167, 0, 4, 3, 172, 42, 180, 0, 26, 42]
abbrev dktX0_readTheDays_1 : List UInt8 := dkwX0_readTheDays_1 ++ dktX0_readTheDays_2
def dkwX0_readTheDays_0 : List UInt8 := [42, 3, 181, 0, 101, 42, 180, 0, 101, 16, 6, 162, 0, 54, 42, 43, 3, 16, 9, 182, 0, 104, 61, 28]
abbrev dktX0_readTheDays_0 : List UInt8 := dkwX0_readTheDays_0 ++ dktX0_readTheDays_1
theorem dksX0_readTheDays_0 : cX0_readTheDays.data.toList.drop 0 = dktX0_readTheDays_0 := by decide +kernel
theorem dksX0_readTheDays_1 : cX0_readTheDays.data.toList.drop 24 = dktX0_readTheDays_1 := dk_seg dksX0_readTheDays_0 24 rfl rfl
theorem dksX0_readTheDays_2 : cX0_readTheDays.data.toList.drop 47 = dktX0_readTheDays_2 := dk_seg dksX0_readTheDays_1 23 rfl rfl
theorem dX0_readTheDays_0 : decode cX0_readTheDays 0 = .ok (.aload_n 0, 1) := dk_42 (dk_at dksX0_readTheDays_0 0 rfl rfl)
theorem dX0_readTheDays_1 : decode cX0_readTheDays 1 = .ok (.iconst 0, 1) := dk_3 (dk_at dksX0_readTheDays_0 1 rfl rfl)
theorem dX0_readTheDays_2 : decode cX0_readTheDays 2 = .ok (.putfield 101, 3) := dk_181 0 101 (dk_at dksX0_readTheDays_0 2 rfl rfl)
theorem dX0_readTheDays_5 : decode cX0_readTheDays 5 = .ok (.aload_n 0, 1) := dk_42 (dk_at dksX0_readTheDays_0 5 rfl rfl)
theorem dX0_readTheDays_6 : decode cX0_readTheDays 6 = .ok (.getfield 101, 3) := dk_180 0 101 (dk_at dksX0_readTheDays_0 6 rfl rfl)
theorem dX0_readTheDays_9 : decode cX0_readTheDays 9 = .ok (.bipush 6, 2) := dk_16 6 (dk_at dksX0_readTheDays_0 9 rfl rfl)
theorem dX0_readTheDays_11 : decode cX0_readTheDays 11 = .ok (.if_icmp .ge 54, 3) := dk_162 0 54 (dk_at dksX0_readTheDays_0 11 rfl rfl)
theorem dX0_readTheDays_14 : decode cX0_readTheDays 14 = .ok (.aload_n 0, 1) := dk_42 (dk_at dksX0_readTheDays_0 14 rfl rfl)
theorem dX0_readTheDays_15 : decode cX0_readTheDays 15 = .ok (.aload_n 1, 1) := dk_43 (dk_at dksX0_readTheDays_0 15 rfl rfl)
theorem dX0_readTheDays_16 : decode cX0_readTheDays 16 = .ok (.iconst 0, 1) := dk_3 (dk_at dksX0_readTheDays_0 16 rfl rfl)
theorem dX0_readTheDays_17 : decode cX0_readTheDays 17 = .ok (.bipush 9, 2) := dk_16 9 (dk_at dksX0_readTheDays_0 17 rfl rfl)
theorem dX0_readTheDays_19 : decode cX0_readTheDays 19 = .ok (.invokevirtual 104, 3) := dk_182 0 104 (dk_at dksX0_readTheDays_0 19 rfl rfl)
theorem dX0_readTheDays_22 : decode cX0_readTheDays 22 = .ok (.istore_n 2, 1) := dk_61 (dk_at dksX0_readTheDays_0 22 rfl rfl)
theorem dX0_readTheDays_23 : decode cX0_readTheDays 23 = .ok (.iload_n 2, 1) := dk_28 (dk_at dksX0_readTheDays_0 23 rfl rfl)
theorem dX0_readTheDays_24 : decode cX0_readTheDays 24 = .ok (.bipush (-9), 2) := dk_16 247 (dk_at dksX0_readTheDays_1 0 rfl rfl)
theorem dX0_readTheDays_26 : decode cX0_readTheDays 26 = .ok (.if_icmp .ne 16, 3) := dk_160 0 16 (dk_at dksX0_readTheDays_1 2 rfl rfl)
theorem dX0_readTheDays_29 : decode cX0_readTheDays 29 = .ok (.aload_n 0, 1) := dk_42 (dk_at dksX0_readTheDays_1 5 rfl rfl)
theorem dX0_readTheDays_30 : decode cX0_readTheDays 30 = .ok (.getfield 101, 3) := dk_180 0 101 (dk_at dksX0_readTheDays_1 6 rfl rfl)
theorem dX0_readTheDays_33 : decode cX0_readTheDays 33 = .ok (.ifCond .le 7, 3) := dk_158 0 7 (dk_at dksX0_readTheDays_1 9 rfl rfl)
theorem dX0_readTheDays_36 : decode cX0_readTheDays 36 = .ok (.iconst 1, 1) := dk_4 (dk_at dksX0_readTheDays_1 12 rfl rfl)
theorem dX0_readTheDays_37 : decode cX0_readTheDays 37 = .ok (.goto 4, 3) := dk_167 0 4 (dk_at dksX0_readTheDays_1 13 rfl rfl)
theorem dX0_readTheDays_40 : decode cX0_readTheDays 40 = .ok (.iconst 0, 1) := dk_3 (dk_at dksX0_readTheDays_1 16 rfl rfl)
theorem dX0_readTheDays_41 : decode cX0_readTheDays 41 = .ok (.ireturn, 1) := dk_172 (dk_at dksX0_readTheDays_1 17 rfl rfl)
theorem dX0_readTheDays_42 : decode cX0_readTheDays 42 = .ok (.aload_n 0, 1) := dk_42 (dk_at dksX0_readTheDays_1 18 rfl rfl)
theorem dX0_readTheDays_43 : decode cX0_readTheDays 43 = .ok (.getfield 26, 3) := dk_180 0 26 (dk_at dksX0_readTheDays_1 19 rfl rfl)
theorem dX0_readTheDays_46 : decode cX0_readTheDays 46 = .ok (.aload_n 0, 1) := dk_42 (dk_at dksX0_readTheDays_1 22 rfl rfl)
theorem dX0_readTheDays_47 : decode cX0_readTheDays 47 = .ok (.getfield 101, 3) := dk_180 0 101 (dk_at dksX0_readTheDays_2 0 rfl rfl)
theorem dX0_readTheDays_50 : decode cX0_readTheDays 50 = .ok (.iload_n 2, 1) := dk_28 (dk_at dksX0_readTheDays_2 3 rfl rfl)
theorem dX0_readTheDays_51 : decode cX0_readTheDays 51 = .ok (.iastore, 1) := dk_79 (dk_at dksX0_readTheDays_2 4 rfl rfl)
theorem dX0_readTheDays_52 : decode cX0_readTheDays 52 = .ok (.aload_n 0, 1) := dk_42 (dk_at dksX0_readTheDays_2 5 rfl rfl)
theorem dX0_readTheDays_53 : decode cX0_readTheDays 53 = .ok (.dup, 1) := dk_89 (dk_at dksX0_readTheDays_2 6 rfl rfl)
theorem dX0_readTheDays_54 : decode cX0_readTheDays 54 = .ok (.getfield 101, 3) := dk_180 0 101 (dk_at dksX0_readTheDays_2 7 rfl rfl)
theorem dX0_readTheDays_57 : decode cX0_readTheDays 57 = .ok (.iconst 1, 1) := dk_4 (dk_at dksX0_readTheDays_2 10 rfl rfl)
theorem dX0_readTheDays_58 : decode cX0_readTheDays 58 = .ok (.iadd, 1) := dk_96 (dk_at dksX0_readTheDays_2 11 rfl rfl)
theorem dX0_readTheDays_59 : decode cX0_readTheDays 59 = .ok (.putfield 101, 3) := dk_181 0 101 (dk_at dksX0_readTheDays_2 12 rfl rfl)
theorem dX0_readTheDays_62 : decode cX0_readTheDays 62 = .ok (.goto (-57), 3) := dk_167 255 199 (dk_at dksX0_readTheDays_2 15 rfl rfl)
theorem dX0_readTheDays_65 : decode cX0_readTheDays 65 = .ok (.iconst 1, 1) := dk_4 (dk_at dksX0_readTheDays_2 18 rfl rfl)
theorem dX0_readTheDays_66 : decode cX0_readTheDays 66 = .ok (.ireturn, 1) := dk_172 (dk_at dksX0_readTheDays_2 19 rfl rfl)
abbrev cX0_readEater : ByteArray := prog_1_method_19_code
def yX0_readEater : MethodName := ⟨RX0, "readEater", "([I)Z"⟩
def dkwX0_readEater_7 : List UInt8 := [16, 247, 159, 0, 7, 4, 167, 0, 4, 3, 172]
abbrev dktX0_readEater_7 : List UInt8 := dkwX0_readEater_7 ++ []
def dkwX0_readEater_6 : List UInt8 := [16, 6, 182, 0, 104, 79, 42, 89, 180, 0, 108, 4, 96, 181, 0, 108, 42, 180, 0, 29, 28, 6, 96, 46]
abbrev dktX0_readEater_6 : List UInt8 := dkwX0_readEater_6 ++ dktX0_readEater_7
def dkwX0_readEater_5 : List UInt8 := [180, 0, 29, 28, 5, 96, 46, 16, 247, 160, 0, 5, 3, 172, 42, 180, 0, 29, 28, 6, 96, 42, 43, 3]
abbrev dktX0_readEater_5 : List UInt8 := dkwX0_readEater_5 ++ dktX0_readEater_6
def dkwX0_readEater_4 : List UInt8 := [160, 0, 5, 3, 172, 42, 180, 0, 29, 28, 5, 96, 42, 43, 4, 16, 9, 182, 0, 104, 79, 42]
abbrev dktX0_readEater_4 : List UInt8 := dkwX0_readEater_4 ++ dktX0_readEater_5
def dkwX0_readEater_3 : List UInt8 := [180, 0, 29, 28, 4, 96, 42, 43, 3, 8, 182, 0, 104, 79, 42, 180, 0, 29, 28, 4, 96, 46, 16, 247]
abbrev dktX0_readEater_3 : List UInt8 := dkwX0_readEater_3 ++ dktX0_readEater_4
def dkwX0_readEater_2 : List UInt8 := [153, 0, 7, 5, 167, 0, 5, 16, 247, 79, 42, 180, 0, 29, 28, 46, 16, 247, 160, 0, 5, 3, 172, 42]
abbrev dktX0_readEater_2 : List UInt8 := dkwX0_readEater_2 ++ dktX0_readEater_3
def dkwX0_readEater_1 : List UInt8 := [167, 0, 33, 42, 43, 16, 115, 182, 0, 111, 153, 0, 7, 4, 167, 0, 19, 42, 43, 16, 108, 182, 0, 111]
abbrev dktX0_readEater_1 : List UInt8 := dkwX0_readEater_1 ++ dktX0_readEater_2
def dkwX0_readEater_0 : List UInt8 := [7, 42, 180, 0, 108, 104, 61, 42, 180, 0, 29, 28, 42, 43, 16, 101, 182, 0, 111, 153, 0, 7, 3]
abbrev dktX0_readEater_0 : List UInt8 := dkwX0_readEater_0 ++ dktX0_readEater_1
theorem dksX0_readEater_0 : cX0_readEater.data.toList.drop 0 = dktX0_readEater_0 := by decide +kernel
theorem dksX0_readEater_1 : cX0_readEater.data.toList.drop 23 = dktX0_readEater_1 := dk_seg dksX0_readEater_0 23 rfl rfl
theorem dksX0_readEater_2 : cX0_readEater.data.toList.drop 47 = dktX0_readEater_2 := dk_seg dksX0_readEater_1 24 rfl rfl
theorem dksX0_readEater_3 : cX0_readEater.data.toList.drop 71 = dktX0_readEater_3 := dk_seg dksX0_readEater_2 24 rfl rfl
theorem dksX0_readEater_4 : cX0_readEater.data.toList.drop 95 = dktX0_readEater_4 := dk_seg dksX0_readEater_3 24 rfl rfl
theorem dksX0_readEater_5 : cX0_readEater.data.toList.drop 117 = dktX0_readEater_5 := dk_seg dksX0_readEater_4 22 rfl rfl
theorem dksX0_readEater_6 : cX0_readEater.data.toList.drop 141 = dktX0_readEater_6 := dk_seg dksX0_readEater_5 24 rfl rfl
theorem dksX0_readEater_7 : cX0_readEater.data.toList.drop 165 = dktX0_readEater_7 := dk_seg dksX0_readEater_6 24 rfl rfl
theorem dX0_readEater_0 : decode cX0_readEater 0 = .ok (.iconst 4, 1) := dk_7 (dk_at dksX0_readEater_0 0 rfl rfl)
theorem dX0_readEater_1 : decode cX0_readEater 1 = .ok (.aload_n 0, 1) := dk_42 (dk_at dksX0_readEater_0 1 rfl rfl)
theorem dX0_readEater_2 : decode cX0_readEater 2 = .ok (.getfield 108, 3) := dk_180 0 108 (dk_at dksX0_readEater_0 2 rfl rfl)
theorem dX0_readEater_5 : decode cX0_readEater 5 = .ok (.imul, 1) := dk_104 (dk_at dksX0_readEater_0 5 rfl rfl)
theorem dX0_readEater_6 : decode cX0_readEater 6 = .ok (.istore_n 2, 1) := dk_61 (dk_at dksX0_readEater_0 6 rfl rfl)
theorem dX0_readEater_7 : decode cX0_readEater 7 = .ok (.aload_n 0, 1) := dk_42 (dk_at dksX0_readEater_0 7 rfl rfl)
theorem dX0_readEater_8 : decode cX0_readEater 8 = .ok (.getfield 29, 3) := dk_180 0 29 (dk_at dksX0_readEater_0 8 rfl rfl)
theorem dX0_readEater_11 : decode cX0_readEater 11 = .ok (.iload_n 2, 1) := dk_28 (dk_at dksX0_readEater_0 11 rfl rfl)
theorem dX0_readEater_12 : decode cX0_readEater 12 = .ok (.aload_n 0, 1) := dk_42 (dk_at dksX0_readEater_0 12 rfl rfl)
theorem dX0_readEater_13 : decode cX0_readEater 13 = .ok (.aload_n 1, 1) := dk_43 (dk_at dksX0_readEater_0 13 rfl rfl)
theorem dX0_readEater_14 : decode cX0_readEater 14 = .ok (.bipush 101, 2) := dk_16 101 (dk_at dksX0_readEater_0 14 rfl rfl)
theorem dX0_readEater_16 : decode cX0_readEater 16 = .ok (.invokevirtual 111, 3) := dk_182 0 111 (dk_at dksX0_readEater_0 16 rfl rfl)
theorem dX0_readEater_19 : decode cX0_readEater 19 = .ok (.ifCond .eq 7, 3) := dk_153 0 7 (dk_at dksX0_readEater_0 19 rfl rfl)
theorem dX0_readEater_22 : decode cX0_readEater 22 = .ok (.iconst 0, 1) := dk_3 (dk_at dksX0_readEater_0 22 rfl rfl)
theorem dX0_readEater_23 : decode cX0_readEater 23 = .ok (.goto 33, 3) := dk_167 0 33 (dk_at dksX0_readEater_1 0 rfl rfl)
theorem dX0_readEater_26 : decode cX0_readEater 26 = .ok (.aload_n 0, 1) := dk_42 (dk_at dksX0_readEater_1 3 rfl rfl)
theorem dX0_readEater_27 : decode cX0_readEater 27 = .ok (.aload_n 1, 1) := dk_43 (dk_at dksX0_readEater_1 4 rfl rfl)
theorem dX0_readEater_28 : decode cX0_readEater 28 = .ok (.bipush 115, 2) := dk_16 115 (dk_at dksX0_readEater_1 5 rfl rfl)
theorem dX0_readEater_30 : decode cX0_readEater 30 = .ok (.invokevirtual 111, 3) := dk_182 0 111 (dk_at dksX0_readEater_1 7 rfl rfl)
theorem dX0_readEater_33 : decode cX0_readEater 33 = .ok (.ifCond .eq 7, 3) := dk_153 0 7 (dk_at dksX0_readEater_1 10 rfl rfl)
theorem dX0_readEater_36 : decode cX0_readEater 36 = .ok (.iconst 1, 1) := dk_4 (dk_at dksX0_readEater_1 13 rfl rfl)
theorem dX0_readEater_37 : decode cX0_readEater 37 = .ok (.goto 19, 3) := dk_167 0 19 (dk_at dksX0_readEater_1 14 rfl rfl)
theorem dX0_readEater_40 : decode cX0_readEater 40 = .ok (.aload_n 0, 1) := dk_42 (dk_at dksX0_readEater_1 17 rfl rfl)
theorem dX0_readEater_41 : decode cX0_readEater 41 = .ok (.aload_n 1, 1) := dk_43 (dk_at dksX0_readEater_1 18 rfl rfl)
theorem dX0_readEater_42 : decode cX0_readEater 42 = .ok (.bipush 108, 2) := dk_16 108 (dk_at dksX0_readEater_1 19 rfl rfl)
theorem dX0_readEater_44 : decode cX0_readEater 44 = .ok (.invokevirtual 111, 3) := dk_182 0 111 (dk_at dksX0_readEater_1 21 rfl rfl)
theorem dX0_readEater_47 : decode cX0_readEater 47 = .ok (.ifCond .eq 7, 3) := dk_153 0 7 (dk_at dksX0_readEater_2 0 rfl rfl)
theorem dX0_readEater_50 : decode cX0_readEater 50 = .ok (.iconst 2, 1) := dk_5 (dk_at dksX0_readEater_2 3 rfl rfl)
theorem dX0_readEater_51 : decode cX0_readEater 51 = .ok (.goto 5, 3) := dk_167 0 5 (dk_at dksX0_readEater_2 4 rfl rfl)
theorem dX0_readEater_54 : decode cX0_readEater 54 = .ok (.bipush (-9), 2) := dk_16 247 (dk_at dksX0_readEater_2 7 rfl rfl)
theorem dX0_readEater_56 : decode cX0_readEater 56 = .ok (.iastore, 1) := dk_79 (dk_at dksX0_readEater_2 9 rfl rfl)
theorem dX0_readEater_57 : decode cX0_readEater 57 = .ok (.aload_n 0, 1) := dk_42 (dk_at dksX0_readEater_2 10 rfl rfl)
theorem dX0_readEater_58 : decode cX0_readEater 58 = .ok (.getfield 29, 3) := dk_180 0 29 (dk_at dksX0_readEater_2 11 rfl rfl)
theorem dX0_readEater_61 : decode cX0_readEater 61 = .ok (.iload_n 2, 1) := dk_28 (dk_at dksX0_readEater_2 14 rfl rfl)
theorem dX0_readEater_62 : decode cX0_readEater 62 = .ok (.iaload, 1) := dk_46 (dk_at dksX0_readEater_2 15 rfl rfl)
theorem dX0_readEater_63 : decode cX0_readEater 63 = .ok (.bipush (-9), 2) := dk_16 247 (dk_at dksX0_readEater_2 16 rfl rfl)
theorem dX0_readEater_65 : decode cX0_readEater 65 = .ok (.if_icmp .ne 5, 3) := dk_160 0 5 (dk_at dksX0_readEater_2 18 rfl rfl)
theorem dX0_readEater_68 : decode cX0_readEater 68 = .ok (.iconst 0, 1) := dk_3 (dk_at dksX0_readEater_2 21 rfl rfl)
theorem dX0_readEater_69 : decode cX0_readEater 69 = .ok (.ireturn, 1) := dk_172 (dk_at dksX0_readEater_2 22 rfl rfl)
theorem dX0_readEater_70 : decode cX0_readEater 70 = .ok (.aload_n 0, 1) := dk_42 (dk_at dksX0_readEater_2 23 rfl rfl)
theorem dX0_readEater_71 : decode cX0_readEater 71 = .ok (.getfield 29, 3) := dk_180 0 29 (dk_at dksX0_readEater_3 0 rfl rfl)
theorem dX0_readEater_74 : decode cX0_readEater 74 = .ok (.iload_n 2, 1) := dk_28 (dk_at dksX0_readEater_3 3 rfl rfl)
theorem dX0_readEater_75 : decode cX0_readEater 75 = .ok (.iconst 1, 1) := dk_4 (dk_at dksX0_readEater_3 4 rfl rfl)
theorem dX0_readEater_76 : decode cX0_readEater 76 = .ok (.iadd, 1) := dk_96 (dk_at dksX0_readEater_3 5 rfl rfl)
theorem dX0_readEater_77 : decode cX0_readEater 77 = .ok (.aload_n 0, 1) := dk_42 (dk_at dksX0_readEater_3 6 rfl rfl)
theorem dX0_readEater_78 : decode cX0_readEater 78 = .ok (.aload_n 1, 1) := dk_43 (dk_at dksX0_readEater_3 7 rfl rfl)
theorem dX0_readEater_79 : decode cX0_readEater 79 = .ok (.iconst 0, 1) := dk_3 (dk_at dksX0_readEater_3 8 rfl rfl)
theorem dX0_readEater_80 : decode cX0_readEater 80 = .ok (.iconst 5, 1) := dk_8 (dk_at dksX0_readEater_3 9 rfl rfl)
theorem dX0_readEater_81 : decode cX0_readEater 81 = .ok (.invokevirtual 104, 3) := dk_182 0 104 (dk_at dksX0_readEater_3 10 rfl rfl)
theorem dX0_readEater_84 : decode cX0_readEater 84 = .ok (.iastore, 1) := dk_79 (dk_at dksX0_readEater_3 13 rfl rfl)
theorem dX0_readEater_85 : decode cX0_readEater 85 = .ok (.aload_n 0, 1) := dk_42 (dk_at dksX0_readEater_3 14 rfl rfl)
theorem dX0_readEater_86 : decode cX0_readEater 86 = .ok (.getfield 29, 3) := dk_180 0 29 (dk_at dksX0_readEater_3 15 rfl rfl)
theorem dX0_readEater_89 : decode cX0_readEater 89 = .ok (.iload_n 2, 1) := dk_28 (dk_at dksX0_readEater_3 18 rfl rfl)
theorem dX0_readEater_90 : decode cX0_readEater 90 = .ok (.iconst 1, 1) := dk_4 (dk_at dksX0_readEater_3 19 rfl rfl)
theorem dX0_readEater_91 : decode cX0_readEater 91 = .ok (.iadd, 1) := dk_96 (dk_at dksX0_readEater_3 20 rfl rfl)
theorem dX0_readEater_92 : decode cX0_readEater 92 = .ok (.iaload, 1) := dk_46 (dk_at dksX0_readEater_3 21 rfl rfl)
theorem dX0_readEater_93 : decode cX0_readEater 93 = .ok (.bipush (-9), 2) := dk_16 247 (dk_at dksX0_readEater_3 22 rfl rfl)
theorem dX0_readEater_95 : decode cX0_readEater 95 = .ok (.if_icmp .ne 5, 3) := dk_160 0 5 (dk_at dksX0_readEater_4 0 rfl rfl)
theorem dX0_readEater_98 : decode cX0_readEater 98 = .ok (.iconst 0, 1) := dk_3 (dk_at dksX0_readEater_4 3 rfl rfl)
theorem dX0_readEater_99 : decode cX0_readEater 99 = .ok (.ireturn, 1) := dk_172 (dk_at dksX0_readEater_4 4 rfl rfl)
theorem dX0_readEater_100 : decode cX0_readEater 100 = .ok (.aload_n 0, 1) := dk_42 (dk_at dksX0_readEater_4 5 rfl rfl)
theorem dX0_readEater_101 : decode cX0_readEater 101 = .ok (.getfield 29, 3) := dk_180 0 29 (dk_at dksX0_readEater_4 6 rfl rfl)
theorem dX0_readEater_104 : decode cX0_readEater 104 = .ok (.iload_n 2, 1) := dk_28 (dk_at dksX0_readEater_4 9 rfl rfl)
theorem dX0_readEater_105 : decode cX0_readEater 105 = .ok (.iconst 2, 1) := dk_5 (dk_at dksX0_readEater_4 10 rfl rfl)
theorem dX0_readEater_106 : decode cX0_readEater 106 = .ok (.iadd, 1) := dk_96 (dk_at dksX0_readEater_4 11 rfl rfl)
theorem dX0_readEater_107 : decode cX0_readEater 107 = .ok (.aload_n 0, 1) := dk_42 (dk_at dksX0_readEater_4 12 rfl rfl)
theorem dX0_readEater_108 : decode cX0_readEater 108 = .ok (.aload_n 1, 1) := dk_43 (dk_at dksX0_readEater_4 13 rfl rfl)
theorem dX0_readEater_109 : decode cX0_readEater 109 = .ok (.iconst 1, 1) := dk_4 (dk_at dksX0_readEater_4 14 rfl rfl)
theorem dX0_readEater_110 : decode cX0_readEater 110 = .ok (.bipush 9, 2) := dk_16 9 (dk_at dksX0_readEater_4 15 rfl rfl)
theorem dX0_readEater_112 : decode cX0_readEater 112 = .ok (.invokevirtual 104, 3) := dk_182 0 104 (dk_at dksX0_readEater_4 17 rfl rfl)
theorem dX0_readEater_115 : decode cX0_readEater 115 = .ok (.iastore, 1) := dk_79 (dk_at dksX0_readEater_4 20 rfl rfl)
theorem dX0_readEater_116 : decode cX0_readEater 116 = .ok (.aload_n 0, 1) := dk_42 (dk_at dksX0_readEater_4 21 rfl rfl)
theorem dX0_readEater_117 : decode cX0_readEater 117 = .ok (.getfield 29, 3) := dk_180 0 29 (dk_at dksX0_readEater_5 0 rfl rfl)
theorem dX0_readEater_120 : decode cX0_readEater 120 = .ok (.iload_n 2, 1) := dk_28 (dk_at dksX0_readEater_5 3 rfl rfl)
theorem dX0_readEater_121 : decode cX0_readEater 121 = .ok (.iconst 2, 1) := dk_5 (dk_at dksX0_readEater_5 4 rfl rfl)
theorem dX0_readEater_122 : decode cX0_readEater 122 = .ok (.iadd, 1) := dk_96 (dk_at dksX0_readEater_5 5 rfl rfl)
theorem dX0_readEater_123 : decode cX0_readEater 123 = .ok (.iaload, 1) := dk_46 (dk_at dksX0_readEater_5 6 rfl rfl)
theorem dX0_readEater_124 : decode cX0_readEater 124 = .ok (.bipush (-9), 2) := dk_16 247 (dk_at dksX0_readEater_5 7 rfl rfl)
theorem dX0_readEater_126 : decode cX0_readEater 126 = .ok (.if_icmp .ne 5, 3) := dk_160 0 5 (dk_at dksX0_readEater_5 9 rfl rfl)
theorem dX0_readEater_129 : decode cX0_readEater 129 = .ok (.iconst 0, 1) := dk_3 (dk_at dksX0_readEater_5 12 rfl rfl)
theorem dX0_readEater_130 : decode cX0_readEater 130 = .ok (.ireturn, 1) := dk_172 (dk_at dksX0_readEater_5 13 rfl rfl)
theorem dX0_readEater_131 : decode cX0_readEater 131 = .ok (.aload_n 0, 1) := dk_42 (dk_at dksX0_readEater_5 14 rfl rfl)
theorem dX0_readEater_132 : decode cX0_readEater 132 = .ok (.getfield 29, 3) := dk_180 0 29 (dk_at dksX0_readEater_5 15 rfl rfl)
theorem dX0_readEater_135 : decode cX0_readEater 135 = .ok (.iload_n 2, 1) := dk_28 (dk_at dksX0_readEater_5 18 rfl rfl)
theorem dX0_readEater_136 : decode cX0_readEater 136 = .ok (.iconst 3, 1) := dk_6 (dk_at dksX0_readEater_5 19 rfl rfl)
theorem dX0_readEater_137 : decode cX0_readEater 137 = .ok (.iadd, 1) := dk_96 (dk_at dksX0_readEater_5 20 rfl rfl)
theorem dX0_readEater_138 : decode cX0_readEater 138 = .ok (.aload_n 0, 1) := dk_42 (dk_at dksX0_readEater_5 21 rfl rfl)
theorem dX0_readEater_139 : decode cX0_readEater 139 = .ok (.aload_n 1, 1) := dk_43 (dk_at dksX0_readEater_5 22 rfl rfl)
theorem dX0_readEater_140 : decode cX0_readEater 140 = .ok (.iconst 0, 1) := dk_3 (dk_at dksX0_readEater_5 23 rfl rfl)
theorem dX0_readEater_141 : decode cX0_readEater 141 = .ok (.bipush 6, 2) := dk_16 6 (dk_at dksX0_readEater_6 0 rfl rfl)
theorem dX0_readEater_143 : decode cX0_readEater 143 = .ok (.invokevirtual 104, 3) := dk_182 0 104 (dk_at dksX0_readEater_6 2 rfl rfl)
theorem dX0_readEater_146 : decode cX0_readEater 146 = .ok (.iastore, 1) := dk_79 (dk_at dksX0_readEater_6 5 rfl rfl)
theorem dX0_readEater_147 : decode cX0_readEater 147 = .ok (.aload_n 0, 1) := dk_42 (dk_at dksX0_readEater_6 6 rfl rfl)
theorem dX0_readEater_148 : decode cX0_readEater 148 = .ok (.dup, 1) := dk_89 (dk_at dksX0_readEater_6 7 rfl rfl)
theorem dX0_readEater_149 : decode cX0_readEater 149 = .ok (.getfield 108, 3) := dk_180 0 108 (dk_at dksX0_readEater_6 8 rfl rfl)
theorem dX0_readEater_152 : decode cX0_readEater 152 = .ok (.iconst 1, 1) := dk_4 (dk_at dksX0_readEater_6 11 rfl rfl)
theorem dX0_readEater_153 : decode cX0_readEater 153 = .ok (.iadd, 1) := dk_96 (dk_at dksX0_readEater_6 12 rfl rfl)
theorem dX0_readEater_154 : decode cX0_readEater 154 = .ok (.putfield 108, 3) := dk_181 0 108 (dk_at dksX0_readEater_6 13 rfl rfl)
theorem dX0_readEater_157 : decode cX0_readEater 157 = .ok (.aload_n 0, 1) := dk_42 (dk_at dksX0_readEater_6 16 rfl rfl)
theorem dX0_readEater_158 : decode cX0_readEater 158 = .ok (.getfield 29, 3) := dk_180 0 29 (dk_at dksX0_readEater_6 17 rfl rfl)
theorem dX0_readEater_161 : decode cX0_readEater 161 = .ok (.iload_n 2, 1) := dk_28 (dk_at dksX0_readEater_6 20 rfl rfl)
theorem dX0_readEater_162 : decode cX0_readEater 162 = .ok (.iconst 3, 1) := dk_6 (dk_at dksX0_readEater_6 21 rfl rfl)
theorem dX0_readEater_163 : decode cX0_readEater 163 = .ok (.iadd, 1) := dk_96 (dk_at dksX0_readEater_6 22 rfl rfl)
theorem dX0_readEater_164 : decode cX0_readEater 164 = .ok (.iaload, 1) := dk_46 (dk_at dksX0_readEater_6 23 rfl rfl)
theorem dX0_readEater_165 : decode cX0_readEater 165 = .ok (.bipush (-9), 2) := dk_16 247 (dk_at dksX0_readEater_7 0 rfl rfl)
theorem dX0_readEater_167 : decode cX0_readEater 167 = .ok (.if_icmp .eq 7, 3) := dk_159 0 7 (dk_at dksX0_readEater_7 2 rfl rfl)
theorem dX0_readEater_170 : decode cX0_readEater 170 = .ok (.iconst 1, 1) := dk_4 (dk_at dksX0_readEater_7 5 rfl rfl)
theorem dX0_readEater_171 : decode cX0_readEater 171 = .ok (.goto 4, 3) := dk_167 0 4 (dk_at dksX0_readEater_7 6 rfl rfl)
theorem dX0_readEater_174 : decode cX0_readEater 174 = .ok (.iconst 0, 1) := dk_3 (dk_at dksX0_readEater_7 9 rfl rfl)
theorem dX0_readEater_175 : decode cX0_readEater 175 = .ok (.ireturn, 1) := dk_172 (dk_at dksX0_readEater_7 10 rfl rfl)
abbrev cX0_newEater : ByteArray := prog_1_method_9_code
def yX0_newEater : MethodName := ⟨RX0, "newEater", "(I)LMustardFast$Eater;"⟩
def dkwX0_newEater_2 : List UInt8 := [42, 27, 183, 0, 77, 176]
abbrev dktX0_newEater_2 : List UInt8 := dkwX0_newEater_2 ++ []
def dkwX0_newEater_1 : List UInt8 := [167, 0, 29, 28, 4, 160, 0, 15, 187, 0, 72, 89, 42, 27, 183, 0, 74, 167, 0, 12, 187, 0, 75, 89]
abbrev dktX0_newEater_1 : List UInt8 := dkwX0_newEater_1 ++ dktX0_newEater_2
def dkwX0_newEater_0 : List UInt8 := [42, 180, 0, 29, 7, 27, 104, 46, 61, 28, 154, 0, 15, 187, 0, 67, 89, 42, 27, 183, 0, 69]
abbrev dktX0_newEater_0 : List UInt8 := dkwX0_newEater_0 ++ dktX0_newEater_1
theorem dksX0_newEater_0 : cX0_newEater.data.toList.drop 0 = dktX0_newEater_0 := by decide +kernel
theorem dksX0_newEater_1 : cX0_newEater.data.toList.drop 22 = dktX0_newEater_1 := dk_seg dksX0_newEater_0 22 rfl rfl
theorem dksX0_newEater_2 : cX0_newEater.data.toList.drop 46 = dktX0_newEater_2 := dk_seg dksX0_newEater_1 24 rfl rfl
theorem dX0_newEater_0 : decode cX0_newEater 0 = .ok (.aload_n 0, 1) := dk_42 (dk_at dksX0_newEater_0 0 rfl rfl)
theorem dX0_newEater_1 : decode cX0_newEater 1 = .ok (.getfield 29, 3) := dk_180 0 29 (dk_at dksX0_newEater_0 1 rfl rfl)
theorem dX0_newEater_4 : decode cX0_newEater 4 = .ok (.iconst 4, 1) := dk_7 (dk_at dksX0_newEater_0 4 rfl rfl)
theorem dX0_newEater_5 : decode cX0_newEater 5 = .ok (.iload_n 1, 1) := dk_27 (dk_at dksX0_newEater_0 5 rfl rfl)
theorem dX0_newEater_6 : decode cX0_newEater 6 = .ok (.imul, 1) := dk_104 (dk_at dksX0_newEater_0 6 rfl rfl)
theorem dX0_newEater_7 : decode cX0_newEater 7 = .ok (.iaload, 1) := dk_46 (dk_at dksX0_newEater_0 7 rfl rfl)
theorem dX0_newEater_8 : decode cX0_newEater 8 = .ok (.istore_n 2, 1) := dk_61 (dk_at dksX0_newEater_0 8 rfl rfl)
theorem dX0_newEater_9 : decode cX0_newEater 9 = .ok (.iload_n 2, 1) := dk_28 (dk_at dksX0_newEater_0 9 rfl rfl)
theorem dX0_newEater_10 : decode cX0_newEater 10 = .ok (.ifCond .ne 15, 3) := dk_154 0 15 (dk_at dksX0_newEater_0 10 rfl rfl)
theorem dX0_newEater_13 : decode cX0_newEater 13 = .ok (.new 67, 3) := dk_187 0 67 (dk_at dksX0_newEater_0 13 rfl rfl)
theorem dX0_newEater_16 : decode cX0_newEater 16 = .ok (.dup, 1) := dk_89 (dk_at dksX0_newEater_0 16 rfl rfl)
theorem dX0_newEater_17 : decode cX0_newEater 17 = .ok (.aload_n 0, 1) := dk_42 (dk_at dksX0_newEater_0 17 rfl rfl)
theorem dX0_newEater_18 : decode cX0_newEater 18 = .ok (.iload_n 1, 1) := dk_27 (dk_at dksX0_newEater_0 18 rfl rfl)
theorem dX0_newEater_19 : decode cX0_newEater 19 = .ok (.invokespecial 69, 3) := dk_183 0 69 (dk_at dksX0_newEater_0 19 rfl rfl)
theorem dX0_newEater_22 : decode cX0_newEater 22 = .ok (.goto 29, 3) := dk_167 0 29 (dk_at dksX0_newEater_1 0 rfl rfl)
theorem dX0_newEater_25 : decode cX0_newEater 25 = .ok (.iload_n 2, 1) := dk_28 (dk_at dksX0_newEater_1 3 rfl rfl)
theorem dX0_newEater_26 : decode cX0_newEater 26 = .ok (.iconst 1, 1) := dk_4 (dk_at dksX0_newEater_1 4 rfl rfl)
theorem dX0_newEater_27 : decode cX0_newEater 27 = .ok (.if_icmp .ne 15, 3) := dk_160 0 15 (dk_at dksX0_newEater_1 5 rfl rfl)
theorem dX0_newEater_30 : decode cX0_newEater 30 = .ok (.new 72, 3) := dk_187 0 72 (dk_at dksX0_newEater_1 8 rfl rfl)
theorem dX0_newEater_33 : decode cX0_newEater 33 = .ok (.dup, 1) := dk_89 (dk_at dksX0_newEater_1 11 rfl rfl)
theorem dX0_newEater_34 : decode cX0_newEater 34 = .ok (.aload_n 0, 1) := dk_42 (dk_at dksX0_newEater_1 12 rfl rfl)
theorem dX0_newEater_35 : decode cX0_newEater 35 = .ok (.iload_n 1, 1) := dk_27 (dk_at dksX0_newEater_1 13 rfl rfl)
theorem dX0_newEater_36 : decode cX0_newEater 36 = .ok (.invokespecial 74, 3) := dk_183 0 74 (dk_at dksX0_newEater_1 14 rfl rfl)
theorem dX0_newEater_39 : decode cX0_newEater 39 = .ok (.goto 12, 3) := dk_167 0 12 (dk_at dksX0_newEater_1 17 rfl rfl)
theorem dX0_newEater_42 : decode cX0_newEater 42 = .ok (.new 75, 3) := dk_187 0 75 (dk_at dksX0_newEater_1 20 rfl rfl)
theorem dX0_newEater_45 : decode cX0_newEater 45 = .ok (.dup, 1) := dk_89 (dk_at dksX0_newEater_1 23 rfl rfl)
theorem dX0_newEater_46 : decode cX0_newEater 46 = .ok (.aload_n 0, 1) := dk_42 (dk_at dksX0_newEater_2 0 rfl rfl)
theorem dX0_newEater_47 : decode cX0_newEater 47 = .ok (.iload_n 1, 1) := dk_27 (dk_at dksX0_newEater_2 1 rfl rfl)
theorem dX0_newEater_48 : decode cX0_newEater 48 = .ok (.invokespecial 77, 3) := dk_183 0 77 (dk_at dksX0_newEater_2 2 rfl rfl)
theorem dX0_newEater_51 : decode cX0_newEater 51 = .ok (.areturn, 1) := dk_176 (dk_at dksX0_newEater_2 5 rfl rfl)
abbrev cX0_faulty : ByteArray := prog_1_method_6_code
def yX0_faulty : MethodName := ⟨RX0, "faulty", "(I)I"⟩
def dkwX0_faulty_0 : List UInt8 := [42, 27, 181, 0, 59, 16, 246, 27, 100, 172]
abbrev dktX0_faulty_0 : List UInt8 := dkwX0_faulty_0 ++ []
theorem dksX0_faulty_0 : cX0_faulty.data.toList.drop 0 = dktX0_faulty_0 := by decide +kernel
theorem dX0_faulty_0 : decode cX0_faulty 0 = .ok (.aload_n 0, 1) := dk_42 (dk_at dksX0_faulty_0 0 rfl rfl)
theorem dX0_faulty_1 : decode cX0_faulty 1 = .ok (.iload_n 1, 1) := dk_27 (dk_at dksX0_faulty_0 1 rfl rfl)
theorem dX0_faulty_2 : decode cX0_faulty 2 = .ok (.putfield 59, 3) := dk_181 0 59 (dk_at dksX0_faulty_0 2 rfl rfl)
theorem dX0_faulty_5 : decode cX0_faulty 5 = .ok (.bipush (-10), 2) := dk_16 246 (dk_at dksX0_faulty_0 5 rfl rfl)
theorem dX0_faulty_7 : decode cX0_faulty 7 = .ok (.iload_n 1, 1) := dk_27 (dk_at dksX0_faulty_0 7 rfl rfl)
theorem dX0_faulty_8 : decode cX0_faulty 8 = .ok (.isub, 1) := dk_100 (dk_at dksX0_faulty_0 8 rfl rfl)
theorem dX0_faulty_9 : decode cX0_faulty 9 = .ok (.ireturn, 1) := dk_172 (dk_at dksX0_faulty_0 9 rfl rfl)
abbrev cX0_ofEater : ByteArray := prog_1_method_23_code
def yX0_ofEater : MethodName := ⟨RX0, "ofEater", "(II)I"⟩
def dkwX0_ofEater_4 : List UInt8 := [172, 16, 254, 172]
abbrev dktX0_ofEater_4 : List UInt8 := dkwX0_ofEater_4 ++ []
def dkwX0_ofEater_3 : List UInt8 := [45, 182, 0, 195, 172, 45, 180, 0, 198, 172, 45, 180, 0, 201, 172, 45, 180, 0, 204, 172, 45, 182, 0, 207]
abbrev dktX0_ofEater_3 : List UInt8 := dkwX0_ofEater_3 ++ dktX0_ofEater_4
def dkwX0_ofEater_2 : List UInt8 := [170, 0, 0, 0, 0, 0, 60, 0, 0, 0, 0, 0, 0, 0, 4, 0, 0, 0, 35, 0, 0, 0, 40, 0, 0, 0, 45, 0, 0, 0, 50, 0, 0, 0, 55]
abbrev dktX0_ofEater_2 : List UInt8 := dkwX0_ofEater_2 ++ dktX0_ofEater_3
def dkwX0_ofEater_1 : List UInt8 := [28]
abbrev dktX0_ofEater_1 : List UInt8 := dkwX0_ofEater_1 ++ dktX0_ofEater_2
def dkwX0_ofEater_0 : List UInt8 := [42, 27, 182, 0, 188, 154, 0, 5, 2, 172, 42, 180, 0, 12, 27, 185, 0, 191, 2, 0, 192, 0, 67, 78]
abbrev dktX0_ofEater_0 : List UInt8 := dkwX0_ofEater_0 ++ dktX0_ofEater_1
theorem dksX0_ofEater_0 : cX0_ofEater.data.toList.drop 0 = dktX0_ofEater_0 := by decide +kernel
theorem dksX0_ofEater_1 : cX0_ofEater.data.toList.drop 24 = dktX0_ofEater_1 := dk_seg dksX0_ofEater_0 24 rfl rfl
theorem dksX0_ofEater_2 : cX0_ofEater.data.toList.drop 25 = dktX0_ofEater_2 := dk_seg dksX0_ofEater_1 1 rfl rfl
theorem dksX0_ofEater_3 : cX0_ofEater.data.toList.drop 60 = dktX0_ofEater_3 := dk_seg dksX0_ofEater_2 35 rfl rfl
theorem dksX0_ofEater_4 : cX0_ofEater.data.toList.drop 84 = dktX0_ofEater_4 := dk_seg dksX0_ofEater_3 24 rfl rfl
theorem dX0_ofEater_0 : decode cX0_ofEater 0 = .ok (.aload_n 0, 1) := dk_42 (dk_at dksX0_ofEater_0 0 rfl rfl)
theorem dX0_ofEater_1 : decode cX0_ofEater 1 = .ok (.iload_n 1, 1) := dk_27 (dk_at dksX0_ofEater_0 1 rfl rfl)
theorem dX0_ofEater_2 : decode cX0_ofEater 2 = .ok (.invokevirtual 188, 3) := dk_182 0 188 (dk_at dksX0_ofEater_0 2 rfl rfl)
theorem dX0_ofEater_5 : decode cX0_ofEater 5 = .ok (.ifCond .ne 5, 3) := dk_154 0 5 (dk_at dksX0_ofEater_0 5 rfl rfl)
theorem dX0_ofEater_8 : decode cX0_ofEater 8 = .ok (.iconst (-1), 1) := dk_2 (dk_at dksX0_ofEater_0 8 rfl rfl)
theorem dX0_ofEater_9 : decode cX0_ofEater 9 = .ok (.ireturn, 1) := dk_172 (dk_at dksX0_ofEater_0 9 rfl rfl)
theorem dX0_ofEater_10 : decode cX0_ofEater 10 = .ok (.aload_n 0, 1) := dk_42 (dk_at dksX0_ofEater_0 10 rfl rfl)
theorem dX0_ofEater_11 : decode cX0_ofEater 11 = .ok (.getfield 12, 3) := dk_180 0 12 (dk_at dksX0_ofEater_0 11 rfl rfl)
theorem dX0_ofEater_14 : decode cX0_ofEater 14 = .ok (.iload_n 1, 1) := dk_27 (dk_at dksX0_ofEater_0 14 rfl rfl)
theorem dX0_ofEater_15 : decode cX0_ofEater 15 = .ok (.invokeinterface 191 2, 5) := by decide +kernel
theorem dX0_ofEater_20 : decode cX0_ofEater 20 = .ok (.checkcast 67, 3) := dk_192 0 67 (dk_at dksX0_ofEater_0 20 rfl rfl)
theorem dX0_ofEater_23 : decode cX0_ofEater 23 = .ok (.astore_n 3, 1) := dk_78 (dk_at dksX0_ofEater_0 23 rfl rfl)
theorem dX0_ofEater_24 : decode cX0_ofEater 24 = .ok (.iload_n 2, 1) := dk_28 (dk_at dksX0_ofEater_1 0 rfl rfl)
theorem dX0_ofEater_25 : decode cX0_ofEater 25 = .ok (.tableswitch 60 0 4 #[35, 40, 45, 50, 55], 35) := by decide +kernel
theorem dX0_ofEater_60 : decode cX0_ofEater 60 = .ok (.aload_n 3, 1) := dk_45 (dk_at dksX0_ofEater_3 0 rfl rfl)
theorem dX0_ofEater_61 : decode cX0_ofEater 61 = .ok (.invokevirtual 195, 3) := dk_182 0 195 (dk_at dksX0_ofEater_3 1 rfl rfl)
theorem dX0_ofEater_64 : decode cX0_ofEater 64 = .ok (.ireturn, 1) := dk_172 (dk_at dksX0_ofEater_3 4 rfl rfl)
theorem dX0_ofEater_65 : decode cX0_ofEater 65 = .ok (.aload_n 3, 1) := dk_45 (dk_at dksX0_ofEater_3 5 rfl rfl)
theorem dX0_ofEater_66 : decode cX0_ofEater 66 = .ok (.getfield 198, 3) := dk_180 0 198 (dk_at dksX0_ofEater_3 6 rfl rfl)
theorem dX0_ofEater_69 : decode cX0_ofEater 69 = .ok (.ireturn, 1) := dk_172 (dk_at dksX0_ofEater_3 9 rfl rfl)
theorem dX0_ofEater_70 : decode cX0_ofEater 70 = .ok (.aload_n 3, 1) := dk_45 (dk_at dksX0_ofEater_3 10 rfl rfl)
theorem dX0_ofEater_71 : decode cX0_ofEater 71 = .ok (.getfield 201, 3) := dk_180 0 201 (dk_at dksX0_ofEater_3 11 rfl rfl)
theorem dX0_ofEater_74 : decode cX0_ofEater 74 = .ok (.ireturn, 1) := dk_172 (dk_at dksX0_ofEater_3 14 rfl rfl)
theorem dX0_ofEater_75 : decode cX0_ofEater 75 = .ok (.aload_n 3, 1) := dk_45 (dk_at dksX0_ofEater_3 15 rfl rfl)
theorem dX0_ofEater_76 : decode cX0_ofEater 76 = .ok (.getfield 204, 3) := dk_180 0 204 (dk_at dksX0_ofEater_3 16 rfl rfl)
theorem dX0_ofEater_79 : decode cX0_ofEater 79 = .ok (.ireturn, 1) := dk_172 (dk_at dksX0_ofEater_3 19 rfl rfl)
theorem dX0_ofEater_80 : decode cX0_ofEater 80 = .ok (.aload_n 3, 1) := dk_45 (dk_at dksX0_ofEater_3 20 rfl rfl)
theorem dX0_ofEater_81 : decode cX0_ofEater 81 = .ok (.invokevirtual 207, 3) := dk_182 0 207 (dk_at dksX0_ofEater_3 21 rfl rfl)
theorem dX0_ofEater_84 : decode cX0_ofEater 84 = .ok (.ireturn, 1) := dk_172 (dk_at dksX0_ofEater_4 0 rfl rfl)
theorem dX0_ofEater_85 : decode cX0_ofEater 85 = .ok (.bipush (-2), 2) := dk_16 254 (dk_at dksX0_ofEater_4 1 rfl rfl)
theorem dX0_ofEater_87 : decode cX0_ofEater 87 = .ok (.ireturn, 1) := dk_172 (dk_at dksX0_ofEater_4 3 rfl rfl)
abbrev cX0_isEater : ByteArray := prog_1_method_12_code
def yX0_isEater : MethodName := ⟨RX0, "isEater", "(I)Z"⟩
def dkwX0_isEater_0 : List UInt8 := [27, 133, 9, 42, 180, 0, 12, 185, 0, 87, 1, 0, 133, 10, 101, 184, 0, 55, 172]
abbrev dktX0_isEater_0 : List UInt8 := dkwX0_isEater_0 ++ []
theorem dksX0_isEater_0 : cX0_isEater.data.toList.drop 0 = dktX0_isEater_0 := by decide +kernel
theorem dX0_isEater_0 : decode cX0_isEater 0 = .ok (.iload_n 1, 1) := dk_27 (dk_at dksX0_isEater_0 0 rfl rfl)
theorem dX0_isEater_1 : decode cX0_isEater 1 = .ok (.i2l, 1) := dk_133 (dk_at dksX0_isEater_0 1 rfl rfl)
theorem dX0_isEater_2 : decode cX0_isEater 2 = .ok (.lconst 0, 1) := dk_9 (dk_at dksX0_isEater_0 2 rfl rfl)
theorem dX0_isEater_3 : decode cX0_isEater 3 = .ok (.aload_n 0, 1) := dk_42 (dk_at dksX0_isEater_0 3 rfl rfl)
theorem dX0_isEater_4 : decode cX0_isEater 4 = .ok (.getfield 12, 3) := dk_180 0 12 (dk_at dksX0_isEater_0 4 rfl rfl)
theorem dX0_isEater_7 : decode cX0_isEater 7 = .ok (.invokeinterface 87 1, 5) := by decide +kernel
theorem dX0_isEater_12 : decode cX0_isEater 12 = .ok (.i2l, 1) := dk_133 (dk_at dksX0_isEater_0 12 rfl rfl)
theorem dX0_isEater_13 : decode cX0_isEater 13 = .ok (.lconst 1, 1) := dk_10 (dk_at dksX0_isEater_0 13 rfl rfl)
theorem dX0_isEater_14 : decode cX0_isEater 14 = .ok (.lsub, 1) := dk_101 (dk_at dksX0_isEater_0 14 rfl rfl)
theorem dX0_isEater_15 : decode cX0_isEater 15 = .ok (.invokestatic 55, 3) := dk_184 0 55 (dk_at dksX0_isEater_0 15 rfl rfl)
theorem dX0_isEater_18 : decode cX0_isEater 18 = .ok (.ireturn, 1) := dk_172 (dk_at dksX0_isEater_0 18 rfl rfl)
abbrev cX0_look : ByteArray := prog_1_method_24_code
def yX0_look : MethodName := ⟨RX0, "look", "(I)I"⟩
def dkwX0_look_0 : List UInt8 := [42, 27, 182, 0, 210, 153, 0, 12, 42, 180, 0, 18, 27, 46, 167, 0, 4, 2, 172]
abbrev dktX0_look_0 : List UInt8 := dkwX0_look_0 ++ []
theorem dksX0_look_0 : cX0_look.data.toList.drop 0 = dktX0_look_0 := by decide +kernel
theorem dX0_look_0 : decode cX0_look 0 = .ok (.aload_n 0, 1) := dk_42 (dk_at dksX0_look_0 0 rfl rfl)
theorem dX0_look_1 : decode cX0_look 1 = .ok (.iload_n 1, 1) := dk_27 (dk_at dksX0_look_0 1 rfl rfl)
theorem dX0_look_2 : decode cX0_look 2 = .ok (.invokevirtual 210, 3) := dk_182 0 210 (dk_at dksX0_look_0 2 rfl rfl)
theorem dX0_look_5 : decode cX0_look 5 = .ok (.ifCond .eq 12, 3) := dk_153 0 12 (dk_at dksX0_look_0 5 rfl rfl)
theorem dX0_look_8 : decode cX0_look 8 = .ok (.aload_n 0, 1) := dk_42 (dk_at dksX0_look_0 8 rfl rfl)
theorem dX0_look_9 : decode cX0_look 9 = .ok (.getfield 18, 3) := dk_180 0 18 (dk_at dksX0_look_0 9 rfl rfl)
theorem dX0_look_12 : decode cX0_look 12 = .ok (.iload_n 1, 1) := dk_27 (dk_at dksX0_look_0 12 rfl rfl)
theorem dX0_look_13 : decode cX0_look 13 = .ok (.iaload, 1) := dk_46 (dk_at dksX0_look_0 13 rfl rfl)
theorem dX0_look_14 : decode cX0_look 14 = .ok (.goto 4, 3) := dk_167 0 4 (dk_at dksX0_look_0 14 rfl rfl)
theorem dX0_look_17 : decode cX0_look 17 = .ok (.iconst (-1), 1) := dk_2 (dk_at dksX0_look_0 17 rfl rfl)
theorem dX0_look_18 : decode cX0_look 18 = .ok (.ireturn, 1) := dk_172 (dk_at dksX0_look_0 18 rfl rfl)
abbrev cX0_isDay : ByteArray := prog_1_method_13_code
def yX0_isDay : MethodName := ⟨RX0, "isDay", "(I)Z"⟩
def dkwX0_isDay_0 : List UInt8 := [27, 133, 9, 42, 180, 0, 84, 133, 10, 101, 184, 0, 55, 172]
abbrev dktX0_isDay_0 : List UInt8 := dkwX0_isDay_0 ++ []
theorem dksX0_isDay_0 : cX0_isDay.data.toList.drop 0 = dktX0_isDay_0 := by decide +kernel
theorem dX0_isDay_0 : decode cX0_isDay 0 = .ok (.iload_n 1, 1) := dk_27 (dk_at dksX0_isDay_0 0 rfl rfl)
theorem dX0_isDay_1 : decode cX0_isDay 1 = .ok (.i2l, 1) := dk_133 (dk_at dksX0_isDay_0 1 rfl rfl)
theorem dX0_isDay_2 : decode cX0_isDay 2 = .ok (.lconst 0, 1) := dk_9 (dk_at dksX0_isDay_0 2 rfl rfl)
theorem dX0_isDay_3 : decode cX0_isDay 3 = .ok (.aload_n 0, 1) := dk_42 (dk_at dksX0_isDay_0 3 rfl rfl)
theorem dX0_isDay_4 : decode cX0_isDay 4 = .ok (.getfield 84, 3) := dk_180 0 84 (dk_at dksX0_isDay_0 4 rfl rfl)
theorem dX0_isDay_7 : decode cX0_isDay 7 = .ok (.i2l, 1) := dk_133 (dk_at dksX0_isDay_0 7 rfl rfl)
theorem dX0_isDay_8 : decode cX0_isDay 8 = .ok (.lconst 1, 1) := dk_10 (dk_at dksX0_isDay_0 8 rfl rfl)
theorem dX0_isDay_9 : decode cX0_isDay 9 = .ok (.lsub, 1) := dk_101 (dk_at dksX0_isDay_0 9 rfl rfl)
theorem dX0_isDay_10 : decode cX0_isDay 10 = .ok (.invokestatic 55, 3) := dk_184 0 55 (dk_at dksX0_isDay_0 10 rfl rfl)
theorem dX0_isDay_13 : decode cX0_isDay 13 = .ok (.ireturn, 1) := dk_172 (dk_at dksX0_isDay_0 13 rfl rfl)
abbrev cX0_pull : ByteArray := prog_1_method_25_code
def yX0_pull : MethodName := ⟨RX0, "pull", "(II)I"⟩
def dkwX0_pull_1 : List UInt8 := [27, 46, 62, 42, 180, 0, 18, 27, 28, 79, 29, 172]
abbrev dktX0_pull_1 : List UInt8 := dkwX0_pull_1 ++ []
def dkwX0_pull_0 : List UInt8 := [42, 27, 182, 0, 210, 154, 0, 5, 2, 172, 28, 184, 0, 213, 154, 0, 6, 16, 254, 172, 42, 180, 0, 18]
abbrev dktX0_pull_0 : List UInt8 := dkwX0_pull_0 ++ dktX0_pull_1
theorem dksX0_pull_0 : cX0_pull.data.toList.drop 0 = dktX0_pull_0 := by decide +kernel
theorem dksX0_pull_1 : cX0_pull.data.toList.drop 24 = dktX0_pull_1 := dk_seg dksX0_pull_0 24 rfl rfl
theorem dX0_pull_0 : decode cX0_pull 0 = .ok (.aload_n 0, 1) := dk_42 (dk_at dksX0_pull_0 0 rfl rfl)
theorem dX0_pull_1 : decode cX0_pull 1 = .ok (.iload_n 1, 1) := dk_27 (dk_at dksX0_pull_0 1 rfl rfl)
theorem dX0_pull_2 : decode cX0_pull 2 = .ok (.invokevirtual 210, 3) := dk_182 0 210 (dk_at dksX0_pull_0 2 rfl rfl)
theorem dX0_pull_5 : decode cX0_pull 5 = .ok (.ifCond .ne 5, 3) := dk_154 0 5 (dk_at dksX0_pull_0 5 rfl rfl)
theorem dX0_pull_8 : decode cX0_pull 8 = .ok (.iconst (-1), 1) := dk_2 (dk_at dksX0_pull_0 8 rfl rfl)
theorem dX0_pull_9 : decode cX0_pull 9 = .ok (.ireturn, 1) := dk_172 (dk_at dksX0_pull_0 9 rfl rfl)
theorem dX0_pull_10 : decode cX0_pull 10 = .ok (.iload_n 2, 1) := dk_28 (dk_at dksX0_pull_0 10 rfl rfl)
theorem dX0_pull_11 : decode cX0_pull 11 = .ok (.invokestatic 213, 3) := dk_184 0 213 (dk_at dksX0_pull_0 11 rfl rfl)
theorem dX0_pull_14 : decode cX0_pull 14 = .ok (.ifCond .ne 6, 3) := dk_154 0 6 (dk_at dksX0_pull_0 14 rfl rfl)
theorem dX0_pull_17 : decode cX0_pull 17 = .ok (.bipush (-2), 2) := dk_16 254 (dk_at dksX0_pull_0 17 rfl rfl)
theorem dX0_pull_19 : decode cX0_pull 19 = .ok (.ireturn, 1) := dk_172 (dk_at dksX0_pull_0 19 rfl rfl)
theorem dX0_pull_20 : decode cX0_pull 20 = .ok (.aload_n 0, 1) := dk_42 (dk_at dksX0_pull_0 20 rfl rfl)
theorem dX0_pull_21 : decode cX0_pull 21 = .ok (.getfield 18, 3) := dk_180 0 18 (dk_at dksX0_pull_0 21 rfl rfl)
theorem dX0_pull_24 : decode cX0_pull 24 = .ok (.iload_n 1, 1) := dk_27 (dk_at dksX0_pull_1 0 rfl rfl)
theorem dX0_pull_25 : decode cX0_pull 25 = .ok (.iaload, 1) := dk_46 (dk_at dksX0_pull_1 1 rfl rfl)
theorem dX0_pull_26 : decode cX0_pull 26 = .ok (.istore_n 3, 1) := dk_62 (dk_at dksX0_pull_1 2 rfl rfl)
theorem dX0_pull_27 : decode cX0_pull 27 = .ok (.aload_n 0, 1) := dk_42 (dk_at dksX0_pull_1 3 rfl rfl)
theorem dX0_pull_28 : decode cX0_pull 28 = .ok (.getfield 18, 3) := dk_180 0 18 (dk_at dksX0_pull_1 4 rfl rfl)
theorem dX0_pull_31 : decode cX0_pull 31 = .ok (.iload_n 1, 1) := dk_27 (dk_at dksX0_pull_1 7 rfl rfl)
theorem dX0_pull_32 : decode cX0_pull 32 = .ok (.iload_n 2, 1) := dk_28 (dk_at dksX0_pull_1 8 rfl rfl)
theorem dX0_pull_33 : decode cX0_pull 33 = .ok (.iastore, 1) := dk_79 (dk_at dksX0_pull_1 9 rfl rfl)
theorem dX0_pull_34 : decode cX0_pull 34 = .ok (.iload_n 3, 1) := dk_29 (dk_at dksX0_pull_1 10 rfl rfl)
theorem dX0_pull_35 : decode cX0_pull 35 = .ok (.ireturn, 1) := dk_172 (dk_at dksX0_pull_1 11 rfl rfl)
abbrev cX0_isDigit : ByteArray := prog_1_method_3_code
def yX0_isDigit : MethodName := ⟨RX0, "isDigit", "(I)Z"⟩
def dkwX0_isDigit_0 : List UInt8 := [26, 133, 9, 20, 0, 53, 184, 0, 55, 172]
abbrev dktX0_isDigit_0 : List UInt8 := dkwX0_isDigit_0 ++ []
theorem dksX0_isDigit_0 : cX0_isDigit.data.toList.drop 0 = dktX0_isDigit_0 := by decide +kernel
theorem dX0_isDigit_0 : decode cX0_isDigit 0 = .ok (.iload_n 0, 1) := dk_26 (dk_at dksX0_isDigit_0 0 rfl rfl)
theorem dX0_isDigit_1 : decode cX0_isDigit 1 = .ok (.i2l, 1) := dk_133 (dk_at dksX0_isDigit_0 1 rfl rfl)
theorem dX0_isDigit_2 : decode cX0_isDigit 2 = .ok (.lconst 0, 1) := dk_9 (dk_at dksX0_isDigit_0 2 rfl rfl)
theorem dX0_isDigit_3 : decode cX0_isDigit 3 = .ok (.ldc2_w 53, 3) := dk_20 0 53 (dk_at dksX0_isDigit_0 3 rfl rfl)
theorem dX0_isDigit_6 : decode cX0_isDigit 6 = .ok (.invokestatic 55, 3) := dk_184 0 55 (dk_at dksX0_isDigit_0 6 rfl rfl)
theorem dX0_isDigit_9 : decode cX0_isDigit 9 = .ok (.ireturn, 1) := dk_172 (dk_at dksX0_isDigit_0 9 rfl rfl)
abbrev cX0_sour : ByteArray := prog_1_method_26_code
def yX0_sour : MethodName := ⟨RX0, "sour", "(I)I"⟩
def dkwX0_sour_1 : List UInt8 := [61, 42, 27, 181, 0, 128, 28, 172]
abbrev dktX0_sour_1 : List UInt8 := dkwX0_sour_1 ++ []
def dkwX0_sour_0 : List UInt8 := [27, 184, 0, 213, 154, 0, 6, 16, 254, 172, 42, 182, 0, 216, 154, 0, 6, 16, 253, 172, 42, 180, 0, 128]
abbrev dktX0_sour_0 : List UInt8 := dkwX0_sour_0 ++ dktX0_sour_1
theorem dksX0_sour_0 : cX0_sour.data.toList.drop 0 = dktX0_sour_0 := by decide +kernel
theorem dksX0_sour_1 : cX0_sour.data.toList.drop 24 = dktX0_sour_1 := dk_seg dksX0_sour_0 24 rfl rfl
theorem dX0_sour_0 : decode cX0_sour 0 = .ok (.iload_n 1, 1) := dk_27 (dk_at dksX0_sour_0 0 rfl rfl)
theorem dX0_sour_1 : decode cX0_sour 1 = .ok (.invokestatic 213, 3) := dk_184 0 213 (dk_at dksX0_sour_0 1 rfl rfl)
theorem dX0_sour_4 : decode cX0_sour 4 = .ok (.ifCond .ne 6, 3) := dk_154 0 6 (dk_at dksX0_sour_0 4 rfl rfl)
theorem dX0_sour_7 : decode cX0_sour 7 = .ok (.bipush (-2), 2) := dk_16 254 (dk_at dksX0_sour_0 7 rfl rfl)
theorem dX0_sour_9 : decode cX0_sour 9 = .ok (.ireturn, 1) := dk_172 (dk_at dksX0_sour_0 9 rfl rfl)
theorem dX0_sour_10 : decode cX0_sour 10 = .ok (.aload_n 0, 1) := dk_42 (dk_at dksX0_sour_0 10 rfl rfl)
theorem dX0_sour_11 : decode cX0_sour 11 = .ok (.invokevirtual 216, 3) := dk_182 0 216 (dk_at dksX0_sour_0 11 rfl rfl)
theorem dX0_sour_14 : decode cX0_sour 14 = .ok (.ifCond .ne 6, 3) := dk_154 0 6 (dk_at dksX0_sour_0 14 rfl rfl)
theorem dX0_sour_17 : decode cX0_sour 17 = .ok (.bipush (-3), 2) := dk_16 253 (dk_at dksX0_sour_0 17 rfl rfl)
theorem dX0_sour_19 : decode cX0_sour 19 = .ok (.ireturn, 1) := dk_172 (dk_at dksX0_sour_0 19 rfl rfl)
theorem dX0_sour_20 : decode cX0_sour 20 = .ok (.aload_n 0, 1) := dk_42 (dk_at dksX0_sour_0 20 rfl rfl)
theorem dX0_sour_21 : decode cX0_sour 21 = .ok (.getfield 128, 3) := dk_180 0 128 (dk_at dksX0_sour_0 21 rfl rfl)
theorem dX0_sour_24 : decode cX0_sour 24 = .ok (.istore_n 2, 1) := dk_61 (dk_at dksX0_sour_1 0 rfl rfl)
theorem dX0_sour_25 : decode cX0_sour 25 = .ok (.aload_n 0, 1) := dk_42 (dk_at dksX0_sour_1 1 rfl rfl)
theorem dX0_sour_26 : decode cX0_sour 26 = .ok (.iload_n 1, 1) := dk_27 (dk_at dksX0_sour_1 2 rfl rfl)
theorem dX0_sour_27 : decode cX0_sour 27 = .ok (.putfield 128, 3) := dk_181 0 128 (dk_at dksX0_sour_1 3 rfl rfl)
theorem dX0_sour_30 : decode cX0_sour 30 = .ok (.iload_n 2, 1) := dk_28 (dk_at dksX0_sour_1 6 rfl rfl)
theorem dX0_sour_31 : decode cX0_sour 31 = .ok (.ireturn, 1) := dk_172 (dk_at dksX0_sour_1 7 rfl rfl)
abbrev cX0_isDuchy : ByteArray := prog_1_method_11_code
def yX0_isDuchy : MethodName := ⟨RX0, "isDuchy", "()Z"⟩
def dkwX0_isDuchy_0 : List UInt8 := [42, 180, 0, 84, 158, 0, 7, 4, 167, 0, 4, 3, 172]
abbrev dktX0_isDuchy_0 : List UInt8 := dkwX0_isDuchy_0 ++ []
theorem dksX0_isDuchy_0 : cX0_isDuchy.data.toList.drop 0 = dktX0_isDuchy_0 := by decide +kernel
theorem dX0_isDuchy_0 : decode cX0_isDuchy 0 = .ok (.aload_n 0, 1) := dk_42 (dk_at dksX0_isDuchy_0 0 rfl rfl)
theorem dX0_isDuchy_1 : decode cX0_isDuchy 1 = .ok (.getfield 84, 3) := dk_180 0 84 (dk_at dksX0_isDuchy_0 1 rfl rfl)
theorem dX0_isDuchy_4 : decode cX0_isDuchy 4 = .ok (.ifCond .le 7, 3) := dk_158 0 7 (dk_at dksX0_isDuchy_0 4 rfl rfl)
theorem dX0_isDuchy_7 : decode cX0_isDuchy 7 = .ok (.iconst 1, 1) := dk_4 (dk_at dksX0_isDuchy_0 7 rfl rfl)
theorem dX0_isDuchy_8 : decode cX0_isDuchy 8 = .ok (.goto 4, 3) := dk_167 0 4 (dk_at dksX0_isDuchy_0 8 rfl rfl)
theorem dX0_isDuchy_11 : decode cX0_isDuchy 11 = .ok (.iconst 0, 1) := dk_3 (dk_at dksX0_isDuchy_0 11 rfl rfl)
theorem dX0_isDuchy_12 : decode cX0_isDuchy 12 = .ok (.ireturn, 1) := dk_172 (dk_at dksX0_isDuchy_0 12 rfl rfl)
abbrev cX0_crave : ByteArray := prog_1_method_27_code
def yX0_crave : MethodName := ⟨RX0, "crave", "(II)I"⟩
def dkwX0_crave_2 : List UInt8 := [185, 0, 191, 2, 0, 192, 0, 67, 28, 181, 0, 204, 29, 172]
abbrev dktX0_crave_2 : List UInt8 := dkwX0_crave_2 ++ []
def dkwX0_crave_1 : List UInt8 := [172, 42, 180, 0, 12, 27, 185, 0, 191, 2, 0, 192, 0, 67, 180, 0, 204, 62, 42, 180, 0, 12, 27]
abbrev dktX0_crave_1 : List UInt8 := dkwX0_crave_1 ++ dktX0_crave_2
def dkwX0_crave_0 : List UInt8 := [42, 27, 182, 0, 188, 154, 0, 5, 2, 172, 28, 133, 9, 20, 0, 220, 184, 0, 55, 154, 0, 6, 16, 254]
abbrev dktX0_crave_0 : List UInt8 := dkwX0_crave_0 ++ dktX0_crave_1
theorem dksX0_crave_0 : cX0_crave.data.toList.drop 0 = dktX0_crave_0 := by decide +kernel
theorem dksX0_crave_1 : cX0_crave.data.toList.drop 24 = dktX0_crave_1 := dk_seg dksX0_crave_0 24 rfl rfl
theorem dksX0_crave_2 : cX0_crave.data.toList.drop 47 = dktX0_crave_2 := dk_seg dksX0_crave_1 23 rfl rfl
theorem dX0_crave_0 : decode cX0_crave 0 = .ok (.aload_n 0, 1) := dk_42 (dk_at dksX0_crave_0 0 rfl rfl)
theorem dX0_crave_1 : decode cX0_crave 1 = .ok (.iload_n 1, 1) := dk_27 (dk_at dksX0_crave_0 1 rfl rfl)
theorem dX0_crave_2 : decode cX0_crave 2 = .ok (.invokevirtual 188, 3) := dk_182 0 188 (dk_at dksX0_crave_0 2 rfl rfl)
theorem dX0_crave_5 : decode cX0_crave 5 = .ok (.ifCond .ne 5, 3) := dk_154 0 5 (dk_at dksX0_crave_0 5 rfl rfl)
theorem dX0_crave_8 : decode cX0_crave 8 = .ok (.iconst (-1), 1) := dk_2 (dk_at dksX0_crave_0 8 rfl rfl)
theorem dX0_crave_9 : decode cX0_crave 9 = .ok (.ireturn, 1) := dk_172 (dk_at dksX0_crave_0 9 rfl rfl)
theorem dX0_crave_10 : decode cX0_crave 10 = .ok (.iload_n 2, 1) := dk_28 (dk_at dksX0_crave_0 10 rfl rfl)
theorem dX0_crave_11 : decode cX0_crave 11 = .ok (.i2l, 1) := dk_133 (dk_at dksX0_crave_0 11 rfl rfl)
theorem dX0_crave_12 : decode cX0_crave 12 = .ok (.lconst 0, 1) := dk_9 (dk_at dksX0_crave_0 12 rfl rfl)
theorem dX0_crave_13 : decode cX0_crave 13 = .ok (.ldc2_w 220, 3) := dk_20 0 220 (dk_at dksX0_crave_0 13 rfl rfl)
theorem dX0_crave_16 : decode cX0_crave 16 = .ok (.invokestatic 55, 3) := dk_184 0 55 (dk_at dksX0_crave_0 16 rfl rfl)
theorem dX0_crave_19 : decode cX0_crave 19 = .ok (.ifCond .ne 6, 3) := dk_154 0 6 (dk_at dksX0_crave_0 19 rfl rfl)
theorem dX0_crave_22 : decode cX0_crave 22 = .ok (.bipush (-2), 2) := dk_16 254 (dk_at dksX0_crave_0 22 rfl rfl)
theorem dX0_crave_24 : decode cX0_crave 24 = .ok (.ireturn, 1) := dk_172 (dk_at dksX0_crave_1 0 rfl rfl)
theorem dX0_crave_25 : decode cX0_crave 25 = .ok (.aload_n 0, 1) := dk_42 (dk_at dksX0_crave_1 1 rfl rfl)
theorem dX0_crave_26 : decode cX0_crave 26 = .ok (.getfield 12, 3) := dk_180 0 12 (dk_at dksX0_crave_1 2 rfl rfl)
theorem dX0_crave_29 : decode cX0_crave 29 = .ok (.iload_n 1, 1) := dk_27 (dk_at dksX0_crave_1 5 rfl rfl)
theorem dX0_crave_30 : decode cX0_crave 30 = .ok (.invokeinterface 191 2, 5) := by decide +kernel
theorem dX0_crave_35 : decode cX0_crave 35 = .ok (.checkcast 67, 3) := dk_192 0 67 (dk_at dksX0_crave_1 11 rfl rfl)
theorem dX0_crave_38 : decode cX0_crave 38 = .ok (.getfield 204, 3) := dk_180 0 204 (dk_at dksX0_crave_1 14 rfl rfl)
theorem dX0_crave_41 : decode cX0_crave 41 = .ok (.istore_n 3, 1) := dk_62 (dk_at dksX0_crave_1 17 rfl rfl)
theorem dX0_crave_42 : decode cX0_crave 42 = .ok (.aload_n 0, 1) := dk_42 (dk_at dksX0_crave_1 18 rfl rfl)
theorem dX0_crave_43 : decode cX0_crave 43 = .ok (.getfield 12, 3) := dk_180 0 12 (dk_at dksX0_crave_1 19 rfl rfl)
theorem dX0_crave_46 : decode cX0_crave 46 = .ok (.iload_n 1, 1) := dk_27 (dk_at dksX0_crave_1 22 rfl rfl)
theorem dX0_crave_47 : decode cX0_crave 47 = .ok (.invokeinterface 191 2, 5) := by decide +kernel
theorem dX0_crave_52 : decode cX0_crave 52 = .ok (.checkcast 67, 3) := dk_192 0 67 (dk_at dksX0_crave_2 5 rfl rfl)
theorem dX0_crave_55 : decode cX0_crave 55 = .ok (.iload_n 2, 1) := dk_28 (dk_at dksX0_crave_2 8 rfl rfl)
theorem dX0_crave_56 : decode cX0_crave 56 = .ok (.putfield 204, 3) := dk_181 0 204 (dk_at dksX0_crave_2 9 rfl rfl)
theorem dX0_crave_59 : decode cX0_crave 59 = .ok (.iload_n 3, 1) := dk_29 (dk_at dksX0_crave_2 12 rfl rfl)
theorem dX0_crave_60 : decode cX0_crave 60 = .ok (.ireturn, 1) := dk_172 (dk_at dksX0_crave_2 13 rfl rfl)
abbrev cX0_fasts : ByteArray := prog_1_method_30_code
def yX0_fasts : MethodName := ⟨RX0, "fasts", "()I"⟩
def dkwX0_fasts_0 : List UInt8 := [42, 182, 0, 216, 153, 0, 10, 42, 182, 0, 225, 167, 0, 5, 16, 253, 172]
abbrev dktX0_fasts_0 : List UInt8 := dkwX0_fasts_0 ++ []
theorem dksX0_fasts_0 : cX0_fasts.data.toList.drop 0 = dktX0_fasts_0 := by decide +kernel
theorem dX0_fasts_0 : decode cX0_fasts 0 = .ok (.aload_n 0, 1) := dk_42 (dk_at dksX0_fasts_0 0 rfl rfl)
theorem dX0_fasts_1 : decode cX0_fasts 1 = .ok (.invokevirtual 216, 3) := dk_182 0 216 (dk_at dksX0_fasts_0 1 rfl rfl)
theorem dX0_fasts_4 : decode cX0_fasts 4 = .ok (.ifCond .eq 10, 3) := dk_153 0 10 (dk_at dksX0_fasts_0 4 rfl rfl)
theorem dX0_fasts_7 : decode cX0_fasts 7 = .ok (.aload_n 0, 1) := dk_42 (dk_at dksX0_fasts_0 7 rfl rfl)
theorem dX0_fasts_8 : decode cX0_fasts 8 = .ok (.invokevirtual 225, 3) := dk_182 0 225 (dk_at dksX0_fasts_0 8 rfl rfl)
theorem dX0_fasts_11 : decode cX0_fasts 11 = .ok (.goto 5, 3) := dk_167 0 5 (dk_at dksX0_fasts_0 11 rfl rfl)
theorem dX0_fasts_14 : decode cX0_fasts 14 = .ok (.bipush (-3), 2) := dk_16 253 (dk_at dksX0_fasts_0 14 rfl rfl)
theorem dX0_fasts_16 : decode cX0_fasts 16 = .ok (.ireturn, 1) := dk_172 (dk_at dksX0_fasts_0 16 rfl rfl)
abbrev cX0_fastsNow : ByteArray := prog_1_method_29_code
def yX0_fastsNow : MethodName := ⟨RX0, "fastsNow", "()I"⟩
def dkwX0_fastsNow_0 : List UInt8 := [42, 42, 180, 0, 128, 182, 0, 222, 172]
abbrev dktX0_fastsNow_0 : List UInt8 := dkwX0_fastsNow_0 ++ []
theorem dksX0_fastsNow_0 : cX0_fastsNow.data.toList.drop 0 = dktX0_fastsNow_0 := by decide +kernel
theorem dX0_fastsNow_0 : decode cX0_fastsNow 0 = .ok (.aload_n 0, 1) := dk_42 (dk_at dksX0_fastsNow_0 0 rfl rfl)
theorem dX0_fastsNow_1 : decode cX0_fastsNow 1 = .ok (.aload_n 0, 1) := dk_42 (dk_at dksX0_fastsNow_0 1 rfl rfl)
theorem dX0_fastsNow_2 : decode cX0_fastsNow 2 = .ok (.getfield 128, 3) := dk_180 0 128 (dk_at dksX0_fastsNow_0 2 rfl rfl)
theorem dX0_fastsNow_5 : decode cX0_fastsNow 5 = .ok (.invokevirtual 222, 3) := dk_182 0 222 (dk_at dksX0_fastsNow_0 5 rfl rfl)
theorem dX0_fastsNow_8 : decode cX0_fastsNow 8 = .ok (.ireturn, 1) := dk_172 (dk_at dksX0_fastsNow_0 8 rfl rfl)
abbrev cX0_fastsBy : ByteArray := prog_1_method_28_code
def yX0_fastsBy : MethodName := ⟨RX0, "fastsBy", "(I)I"⟩
def dkwX0_fastsBy_1 : List UInt8 := [29, 120, 167, 0, 4, 3, 128, 61, 132, 3, 1, 167, 255, 225, 28, 172]
abbrev dktX0_fastsBy_1 : List UInt8 := dkwX0_fastsBy_1 ++ []
def dkwX0_fastsBy_0 : List UInt8 := [3, 61, 3, 62, 29, 42, 180, 0, 84, 162, 0, 29, 28, 42, 180, 0, 18, 29, 46, 27, 161, 0, 9, 4]
abbrev dktX0_fastsBy_0 : List UInt8 := dkwX0_fastsBy_0 ++ dktX0_fastsBy_1
theorem dksX0_fastsBy_0 : cX0_fastsBy.data.toList.drop 0 = dktX0_fastsBy_0 := by decide +kernel
theorem dksX0_fastsBy_1 : cX0_fastsBy.data.toList.drop 24 = dktX0_fastsBy_1 := dk_seg dksX0_fastsBy_0 24 rfl rfl
theorem dX0_fastsBy_0 : decode cX0_fastsBy 0 = .ok (.iconst 0, 1) := dk_3 (dk_at dksX0_fastsBy_0 0 rfl rfl)
theorem dX0_fastsBy_1 : decode cX0_fastsBy 1 = .ok (.istore_n 2, 1) := dk_61 (dk_at dksX0_fastsBy_0 1 rfl rfl)
theorem dX0_fastsBy_2 : decode cX0_fastsBy 2 = .ok (.iconst 0, 1) := dk_3 (dk_at dksX0_fastsBy_0 2 rfl rfl)
theorem dX0_fastsBy_3 : decode cX0_fastsBy 3 = .ok (.istore_n 3, 1) := dk_62 (dk_at dksX0_fastsBy_0 3 rfl rfl)
theorem dX0_fastsBy_4 : decode cX0_fastsBy 4 = .ok (.iload_n 3, 1) := dk_29 (dk_at dksX0_fastsBy_0 4 rfl rfl)
theorem dX0_fastsBy_5 : decode cX0_fastsBy 5 = .ok (.aload_n 0, 1) := dk_42 (dk_at dksX0_fastsBy_0 5 rfl rfl)
theorem dX0_fastsBy_6 : decode cX0_fastsBy 6 = .ok (.getfield 84, 3) := dk_180 0 84 (dk_at dksX0_fastsBy_0 6 rfl rfl)
theorem dX0_fastsBy_9 : decode cX0_fastsBy 9 = .ok (.if_icmp .ge 29, 3) := dk_162 0 29 (dk_at dksX0_fastsBy_0 9 rfl rfl)
theorem dX0_fastsBy_12 : decode cX0_fastsBy 12 = .ok (.iload_n 2, 1) := dk_28 (dk_at dksX0_fastsBy_0 12 rfl rfl)
theorem dX0_fastsBy_13 : decode cX0_fastsBy 13 = .ok (.aload_n 0, 1) := dk_42 (dk_at dksX0_fastsBy_0 13 rfl rfl)
theorem dX0_fastsBy_14 : decode cX0_fastsBy 14 = .ok (.getfield 18, 3) := dk_180 0 18 (dk_at dksX0_fastsBy_0 14 rfl rfl)
theorem dX0_fastsBy_17 : decode cX0_fastsBy 17 = .ok (.iload_n 3, 1) := dk_29 (dk_at dksX0_fastsBy_0 17 rfl rfl)
theorem dX0_fastsBy_18 : decode cX0_fastsBy 18 = .ok (.iaload, 1) := dk_46 (dk_at dksX0_fastsBy_0 18 rfl rfl)
theorem dX0_fastsBy_19 : decode cX0_fastsBy 19 = .ok (.iload_n 1, 1) := dk_27 (dk_at dksX0_fastsBy_0 19 rfl rfl)
theorem dX0_fastsBy_20 : decode cX0_fastsBy 20 = .ok (.if_icmp .lt 9, 3) := dk_161 0 9 (dk_at dksX0_fastsBy_0 20 rfl rfl)
theorem dX0_fastsBy_23 : decode cX0_fastsBy 23 = .ok (.iconst 1, 1) := dk_4 (dk_at dksX0_fastsBy_0 23 rfl rfl)
theorem dX0_fastsBy_24 : decode cX0_fastsBy 24 = .ok (.iload_n 3, 1) := dk_29 (dk_at dksX0_fastsBy_1 0 rfl rfl)
theorem dX0_fastsBy_25 : decode cX0_fastsBy 25 = .ok (.ishl, 1) := dk_120 (dk_at dksX0_fastsBy_1 1 rfl rfl)
theorem dX0_fastsBy_26 : decode cX0_fastsBy 26 = .ok (.goto 4, 3) := dk_167 0 4 (dk_at dksX0_fastsBy_1 2 rfl rfl)
theorem dX0_fastsBy_29 : decode cX0_fastsBy 29 = .ok (.iconst 0, 1) := dk_3 (dk_at dksX0_fastsBy_1 5 rfl rfl)
theorem dX0_fastsBy_30 : decode cX0_fastsBy 30 = .ok (.ior, 1) := dk_128 (dk_at dksX0_fastsBy_1 6 rfl rfl)
theorem dX0_fastsBy_31 : decode cX0_fastsBy 31 = .ok (.istore_n 2, 1) := dk_61 (dk_at dksX0_fastsBy_1 7 rfl rfl)
theorem dX0_fastsBy_32 : decode cX0_fastsBy 32 = .ok (.iinc 3 1, 3) := dk_132 3 1 (dk_at dksX0_fastsBy_1 8 rfl rfl)
theorem dX0_fastsBy_35 : decode cX0_fastsBy 35 = .ok (.goto (-31), 3) := dk_167 255 225 (dk_at dksX0_fastsBy_1 11 rfl rfl)
theorem dX0_fastsBy_38 : decode cX0_fastsBy 38 = .ok (.iload_n 2, 1) := dk_28 (dk_at dksX0_fastsBy_1 14 rfl rfl)
theorem dX0_fastsBy_39 : decode cX0_fastsBy 39 = .ok (.ireturn, 1) := dk_172 (dk_at dksX0_fastsBy_1 15 rfl rfl)
abbrev cX0_yellow : ByteArray := prog_1_method_31_code
def yX0_yellow : MethodName := ⟨RX0, "yellow", "(II)I"⟩
def dkwX0_yellow_1 : List UInt8 := [185, 0, 191, 2, 0, 192, 0, 67, 28, 182, 0, 231, 167, 0, 5, 16, 254, 172]
abbrev dktX0_yellow_1 : List UInt8 := dkwX0_yellow_1 ++ []
def dkwX0_yellow_0 : List UInt8 := [42, 27, 182, 0, 188, 154, 0, 5, 2, 172, 42, 28, 182, 0, 228, 153, 0, 23, 42, 180, 0, 12, 27]
abbrev dktX0_yellow_0 : List UInt8 := dkwX0_yellow_0 ++ dktX0_yellow_1
theorem dksX0_yellow_0 : cX0_yellow.data.toList.drop 0 = dktX0_yellow_0 := by decide +kernel
theorem dksX0_yellow_1 : cX0_yellow.data.toList.drop 23 = dktX0_yellow_1 := dk_seg dksX0_yellow_0 23 rfl rfl
theorem dX0_yellow_0 : decode cX0_yellow 0 = .ok (.aload_n 0, 1) := dk_42 (dk_at dksX0_yellow_0 0 rfl rfl)
theorem dX0_yellow_1 : decode cX0_yellow 1 = .ok (.iload_n 1, 1) := dk_27 (dk_at dksX0_yellow_0 1 rfl rfl)
theorem dX0_yellow_2 : decode cX0_yellow 2 = .ok (.invokevirtual 188, 3) := dk_182 0 188 (dk_at dksX0_yellow_0 2 rfl rfl)
theorem dX0_yellow_5 : decode cX0_yellow 5 = .ok (.ifCond .ne 5, 3) := dk_154 0 5 (dk_at dksX0_yellow_0 5 rfl rfl)
theorem dX0_yellow_8 : decode cX0_yellow 8 = .ok (.iconst (-1), 1) := dk_2 (dk_at dksX0_yellow_0 8 rfl rfl)
theorem dX0_yellow_9 : decode cX0_yellow 9 = .ok (.ireturn, 1) := dk_172 (dk_at dksX0_yellow_0 9 rfl rfl)
theorem dX0_yellow_10 : decode cX0_yellow 10 = .ok (.aload_n 0, 1) := dk_42 (dk_at dksX0_yellow_0 10 rfl rfl)
theorem dX0_yellow_11 : decode cX0_yellow 11 = .ok (.iload_n 2, 1) := dk_28 (dk_at dksX0_yellow_0 11 rfl rfl)
theorem dX0_yellow_12 : decode cX0_yellow 12 = .ok (.invokevirtual 228, 3) := dk_182 0 228 (dk_at dksX0_yellow_0 12 rfl rfl)
theorem dX0_yellow_15 : decode cX0_yellow 15 = .ok (.ifCond .eq 23, 3) := dk_153 0 23 (dk_at dksX0_yellow_0 15 rfl rfl)
theorem dX0_yellow_18 : decode cX0_yellow 18 = .ok (.aload_n 0, 1) := dk_42 (dk_at dksX0_yellow_0 18 rfl rfl)
theorem dX0_yellow_19 : decode cX0_yellow 19 = .ok (.getfield 12, 3) := dk_180 0 12 (dk_at dksX0_yellow_0 19 rfl rfl)
theorem dX0_yellow_22 : decode cX0_yellow 22 = .ok (.iload_n 1, 1) := dk_27 (dk_at dksX0_yellow_0 22 rfl rfl)
theorem dX0_yellow_23 : decode cX0_yellow 23 = .ok (.invokeinterface 191 2, 5) := by decide +kernel
theorem dX0_yellow_28 : decode cX0_yellow 28 = .ok (.checkcast 67, 3) := dk_192 0 67 (dk_at dksX0_yellow_1 5 rfl rfl)
theorem dX0_yellow_31 : decode cX0_yellow 31 = .ok (.iload_n 2, 1) := dk_28 (dk_at dksX0_yellow_1 8 rfl rfl)
theorem dX0_yellow_32 : decode cX0_yellow 32 = .ok (.invokevirtual 231, 3) := dk_182 0 231 (dk_at dksX0_yellow_1 9 rfl rfl)
theorem dX0_yellow_35 : decode cX0_yellow 35 = .ok (.goto 5, 3) := dk_167 0 5 (dk_at dksX0_yellow_1 12 rfl rfl)
theorem dX0_yellow_38 : decode cX0_yellow 38 = .ok (.bipush (-2), 2) := dk_16 254 (dk_at dksX0_yellow_1 15 rfl rfl)
theorem dX0_yellow_40 : decode cX0_yellow 40 = .ok (.ireturn, 1) := dk_172 (dk_at dksX0_yellow_1 17 rfl rfl)
abbrev cX0_isSet : ByteArray := prog_1_method_15_code
def yX0_isSet : MethodName := ⟨RX0, "isSet", "(I)Z"⟩
def dkwX0_isSet_0 : List UInt8 := [27, 133, 9, 42, 182, 0, 93, 133, 184, 0, 55, 172]
abbrev dktX0_isSet_0 : List UInt8 := dkwX0_isSet_0 ++ []
theorem dksX0_isSet_0 : cX0_isSet.data.toList.drop 0 = dktX0_isSet_0 := by decide +kernel
theorem dX0_isSet_0 : decode cX0_isSet 0 = .ok (.iload_n 1, 1) := dk_27 (dk_at dksX0_isSet_0 0 rfl rfl)
theorem dX0_isSet_1 : decode cX0_isSet 1 = .ok (.i2l, 1) := dk_133 (dk_at dksX0_isSet_0 1 rfl rfl)
theorem dX0_isSet_2 : decode cX0_isSet 2 = .ok (.lconst 0, 1) := dk_9 (dk_at dksX0_isSet_0 2 rfl rfl)
theorem dX0_isSet_3 : decode cX0_isSet 3 = .ok (.aload_n 0, 1) := dk_42 (dk_at dksX0_isSet_0 3 rfl rfl)
theorem dX0_isSet_4 : decode cX0_isSet 4 = .ok (.invokevirtual 93, 3) := dk_182 0 93 (dk_at dksX0_isSet_0 4 rfl rfl)
theorem dX0_isSet_7 : decode cX0_isSet 7 = .ok (.i2l, 1) := dk_133 (dk_at dksX0_isSet_0 7 rfl rfl)
theorem dX0_isSet_8 : decode cX0_isSet 8 = .ok (.invokestatic 55, 3) := dk_184 0 55 (dk_at dksX0_isSet_0 8 rfl rfl)
theorem dX0_isSet_11 : decode cX0_isSet 11 = .ok (.ireturn, 1) := dk_172 (dk_at dksX0_isSet_0 11 rfl rfl)
abbrev cX0_all : ByteArray := prog_1_method_14_code
def yX0_all : MethodName := ⟨RX0, "all", "()I"⟩
def dkwX0_all_0 : List UInt8 := [4, 42, 180, 0, 84, 120, 4, 100, 172]
abbrev dktX0_all_0 : List UInt8 := dkwX0_all_0 ++ []
theorem dksX0_all_0 : cX0_all.data.toList.drop 0 = dktX0_all_0 := by decide +kernel
theorem dX0_all_0 : decode cX0_all 0 = .ok (.iconst 1, 1) := dk_4 (dk_at dksX0_all_0 0 rfl rfl)
theorem dX0_all_1 : decode cX0_all 1 = .ok (.aload_n 0, 1) := dk_42 (dk_at dksX0_all_0 1 rfl rfl)
theorem dX0_all_2 : decode cX0_all 2 = .ok (.getfield 84, 3) := dk_180 0 84 (dk_at dksX0_all_0 2 rfl rfl)
theorem dX0_all_5 : decode cX0_all 5 = .ok (.ishl, 1) := dk_120 (dk_at dksX0_all_0 5 rfl rfl)
theorem dX0_all_6 : decode cX0_all 6 = .ok (.iconst 1, 1) := dk_4 (dk_at dksX0_all_0 6 rfl rfl)
theorem dX0_all_7 : decode cX0_all 7 = .ok (.isub, 1) := dk_100 (dk_at dksX0_all_0 7 rfl rfl)
theorem dX0_all_8 : decode cX0_all 8 = .ok (.ireturn, 1) := dk_172 (dk_at dksX0_all_0 8 rfl rfl)
abbrev cX0_asKind : ByteArray := prog_1_method_10_code
def yX0_asKind : MethodName := ⟨RX0, "asKind", "(II)I"⟩
def dkwX0_asKind_1 : List UInt8 := [167, 0, 6, 28, 5, 108, 172]
abbrev dktX0_asKind_1 : List UInt8 := dkwX0_asKind_1 ++ []
def dkwX0_asKind_0 : List UInt8 := [3, 26, 4, 100, 184, 0, 78, 61, 27, 154, 0, 7, 26, 167, 0, 15, 27, 4, 160, 0, 7, 28]
abbrev dktX0_asKind_0 : List UInt8 := dkwX0_asKind_0 ++ dktX0_asKind_1
theorem dksX0_asKind_0 : cX0_asKind.data.toList.drop 0 = dktX0_asKind_0 := by decide +kernel
theorem dksX0_asKind_1 : cX0_asKind.data.toList.drop 22 = dktX0_asKind_1 := dk_seg dksX0_asKind_0 22 rfl rfl
theorem dX0_asKind_0 : decode cX0_asKind 0 = .ok (.iconst 0, 1) := dk_3 (dk_at dksX0_asKind_0 0 rfl rfl)
theorem dX0_asKind_1 : decode cX0_asKind 1 = .ok (.iload_n 0, 1) := dk_26 (dk_at dksX0_asKind_0 1 rfl rfl)
theorem dX0_asKind_2 : decode cX0_asKind 2 = .ok (.iconst 1, 1) := dk_4 (dk_at dksX0_asKind_0 2 rfl rfl)
theorem dX0_asKind_3 : decode cX0_asKind 3 = .ok (.isub, 1) := dk_100 (dk_at dksX0_asKind_0 3 rfl rfl)
theorem dX0_asKind_4 : decode cX0_asKind 4 = .ok (.invokestatic 78, 3) := dk_184 0 78 (dk_at dksX0_asKind_0 4 rfl rfl)
theorem dX0_asKind_7 : decode cX0_asKind 7 = .ok (.istore_n 2, 1) := dk_61 (dk_at dksX0_asKind_0 7 rfl rfl)
theorem dX0_asKind_8 : decode cX0_asKind 8 = .ok (.iload_n 1, 1) := dk_27 (dk_at dksX0_asKind_0 8 rfl rfl)
theorem dX0_asKind_9 : decode cX0_asKind 9 = .ok (.ifCond .ne 7, 3) := dk_154 0 7 (dk_at dksX0_asKind_0 9 rfl rfl)
theorem dX0_asKind_12 : decode cX0_asKind 12 = .ok (.iload_n 0, 1) := dk_26 (dk_at dksX0_asKind_0 12 rfl rfl)
theorem dX0_asKind_13 : decode cX0_asKind 13 = .ok (.goto 15, 3) := dk_167 0 15 (dk_at dksX0_asKind_0 13 rfl rfl)
theorem dX0_asKind_16 : decode cX0_asKind 16 = .ok (.iload_n 1, 1) := dk_27 (dk_at dksX0_asKind_0 16 rfl rfl)
theorem dX0_asKind_17 : decode cX0_asKind 17 = .ok (.iconst 1, 1) := dk_4 (dk_at dksX0_asKind_0 17 rfl rfl)
theorem dX0_asKind_18 : decode cX0_asKind 18 = .ok (.if_icmp .ne 7, 3) := dk_160 0 7 (dk_at dksX0_asKind_0 18 rfl rfl)
theorem dX0_asKind_21 : decode cX0_asKind 21 = .ok (.iload_n 2, 1) := dk_28 (dk_at dksX0_asKind_0 21 rfl rfl)
theorem dX0_asKind_22 : decode cX0_asKind 22 = .ok (.goto 6, 3) := dk_167 0 6 (dk_at dksX0_asKind_1 0 rfl rfl)
theorem dX0_asKind_25 : decode cX0_asKind 25 = .ok (.iload_n 2, 1) := dk_28 (dk_at dksX0_asKind_1 3 rfl rfl)
theorem dX0_asKind_26 : decode cX0_asKind 26 = .ok (.iconst 2, 1) := dk_5 (dk_at dksX0_asKind_1 4 rfl rfl)
theorem dX0_asKind_27 : decode cX0_asKind 27 = .ok (.idiv, 1) := dk_108 (dk_at dksX0_asKind_1 5 rfl rfl)
theorem dX0_asKind_28 : decode cX0_asKind 28 = .ok (.ireturn, 1) := dk_172 (dk_at dksX0_asKind_1 6 rfl rfl)
abbrev cX0_found : ByteArray := prog_1_method_32_code
def yX0_found : MethodName := ⟨RX0, "found", "(III)I"⟩
def dkwX0_found_3 : List UInt8 := [182, 0, 237, 172]
abbrev dktX0_found_3 : List UInt8 := dkwX0_found_3 ++ []
def dkwX0_found_2 : List UInt8 := [29, 154, 0, 16, 25, 4, 28, 42, 182, 0, 225, 182, 0, 234, 167, 0, 13, 25, 4, 28, 42, 182, 0, 225]
abbrev dktX0_found_2 : List UInt8 := dkwX0_found_2 ++ dktX0_found_3
def dkwX0_found_1 : List UInt8 := [184, 0, 55, 154, 0, 6, 16, 254, 172, 42, 180, 0, 12, 27, 185, 0, 191, 2, 0, 192, 0, 67, 58, 4]
abbrev dktX0_found_1 : List UInt8 := dkwX0_found_1 ++ dktX0_found_2
def dkwX0_found_0 : List UInt8 := [42, 27, 182, 0, 188, 154, 0, 5, 2, 172, 42, 28, 182, 0, 228, 153, 0, 13, 29, 133, 9, 10]
abbrev dktX0_found_0 : List UInt8 := dkwX0_found_0 ++ dktX0_found_1
theorem dksX0_found_0 : cX0_found.data.toList.drop 0 = dktX0_found_0 := by decide +kernel
theorem dksX0_found_1 : cX0_found.data.toList.drop 22 = dktX0_found_1 := dk_seg dksX0_found_0 22 rfl rfl
theorem dksX0_found_2 : cX0_found.data.toList.drop 46 = dktX0_found_2 := dk_seg dksX0_found_1 24 rfl rfl
theorem dksX0_found_3 : cX0_found.data.toList.drop 70 = dktX0_found_3 := dk_seg dksX0_found_2 24 rfl rfl
theorem dX0_found_0 : decode cX0_found 0 = .ok (.aload_n 0, 1) := dk_42 (dk_at dksX0_found_0 0 rfl rfl)
theorem dX0_found_1 : decode cX0_found 1 = .ok (.iload_n 1, 1) := dk_27 (dk_at dksX0_found_0 1 rfl rfl)
theorem dX0_found_2 : decode cX0_found 2 = .ok (.invokevirtual 188, 3) := dk_182 0 188 (dk_at dksX0_found_0 2 rfl rfl)
theorem dX0_found_5 : decode cX0_found 5 = .ok (.ifCond .ne 5, 3) := dk_154 0 5 (dk_at dksX0_found_0 5 rfl rfl)
theorem dX0_found_8 : decode cX0_found 8 = .ok (.iconst (-1), 1) := dk_2 (dk_at dksX0_found_0 8 rfl rfl)
theorem dX0_found_9 : decode cX0_found 9 = .ok (.ireturn, 1) := dk_172 (dk_at dksX0_found_0 9 rfl rfl)
theorem dX0_found_10 : decode cX0_found 10 = .ok (.aload_n 0, 1) := dk_42 (dk_at dksX0_found_0 10 rfl rfl)
theorem dX0_found_11 : decode cX0_found 11 = .ok (.iload_n 2, 1) := dk_28 (dk_at dksX0_found_0 11 rfl rfl)
theorem dX0_found_12 : decode cX0_found 12 = .ok (.invokevirtual 228, 3) := dk_182 0 228 (dk_at dksX0_found_0 12 rfl rfl)
theorem dX0_found_15 : decode cX0_found 15 = .ok (.ifCond .eq 13, 3) := dk_153 0 13 (dk_at dksX0_found_0 15 rfl rfl)
theorem dX0_found_18 : decode cX0_found 18 = .ok (.iload_n 3, 1) := dk_29 (dk_at dksX0_found_0 18 rfl rfl)
theorem dX0_found_19 : decode cX0_found 19 = .ok (.i2l, 1) := dk_133 (dk_at dksX0_found_0 19 rfl rfl)
theorem dX0_found_20 : decode cX0_found 20 = .ok (.lconst 0, 1) := dk_9 (dk_at dksX0_found_0 20 rfl rfl)
theorem dX0_found_21 : decode cX0_found 21 = .ok (.lconst 1, 1) := dk_10 (dk_at dksX0_found_0 21 rfl rfl)
theorem dX0_found_22 : decode cX0_found 22 = .ok (.invokestatic 55, 3) := dk_184 0 55 (dk_at dksX0_found_1 0 rfl rfl)
theorem dX0_found_25 : decode cX0_found 25 = .ok (.ifCond .ne 6, 3) := dk_154 0 6 (dk_at dksX0_found_1 3 rfl rfl)
theorem dX0_found_28 : decode cX0_found 28 = .ok (.bipush (-2), 2) := dk_16 254 (dk_at dksX0_found_1 6 rfl rfl)
theorem dX0_found_30 : decode cX0_found 30 = .ok (.ireturn, 1) := dk_172 (dk_at dksX0_found_1 8 rfl rfl)
theorem dX0_found_31 : decode cX0_found 31 = .ok (.aload_n 0, 1) := dk_42 (dk_at dksX0_found_1 9 rfl rfl)
theorem dX0_found_32 : decode cX0_found 32 = .ok (.getfield 12, 3) := dk_180 0 12 (dk_at dksX0_found_1 10 rfl rfl)
theorem dX0_found_35 : decode cX0_found 35 = .ok (.iload_n 1, 1) := dk_27 (dk_at dksX0_found_1 13 rfl rfl)
theorem dX0_found_36 : decode cX0_found 36 = .ok (.invokeinterface 191 2, 5) := by decide +kernel
theorem dX0_found_41 : decode cX0_found 41 = .ok (.checkcast 67, 3) := dk_192 0 67 (dk_at dksX0_found_1 19 rfl rfl)
theorem dX0_found_44 : decode cX0_found 44 = .ok (.astore 4, 2) := dk_58 4 (dk_at dksX0_found_1 22 rfl rfl)
theorem dX0_found_46 : decode cX0_found 46 = .ok (.iload_n 3, 1) := dk_29 (dk_at dksX0_found_2 0 rfl rfl)
theorem dX0_found_47 : decode cX0_found 47 = .ok (.ifCond .ne 16, 3) := dk_154 0 16 (dk_at dksX0_found_2 1 rfl rfl)
theorem dX0_found_50 : decode cX0_found 50 = .ok (.aload 4, 2) := dk_25 4 (dk_at dksX0_found_2 4 rfl rfl)
theorem dX0_found_52 : decode cX0_found 52 = .ok (.iload_n 2, 1) := dk_28 (dk_at dksX0_found_2 6 rfl rfl)
theorem dX0_found_53 : decode cX0_found 53 = .ok (.aload_n 0, 1) := dk_42 (dk_at dksX0_found_2 7 rfl rfl)
theorem dX0_found_54 : decode cX0_found 54 = .ok (.invokevirtual 225, 3) := dk_182 0 225 (dk_at dksX0_found_2 8 rfl rfl)
theorem dX0_found_57 : decode cX0_found 57 = .ok (.invokevirtual 234, 3) := dk_182 0 234 (dk_at dksX0_found_2 11 rfl rfl)
theorem dX0_found_60 : decode cX0_found 60 = .ok (.goto 13, 3) := dk_167 0 13 (dk_at dksX0_found_2 14 rfl rfl)
theorem dX0_found_63 : decode cX0_found 63 = .ok (.aload 4, 2) := dk_25 4 (dk_at dksX0_found_2 17 rfl rfl)
theorem dX0_found_65 : decode cX0_found 65 = .ok (.iload_n 2, 1) := dk_28 (dk_at dksX0_found_2 19 rfl rfl)
theorem dX0_found_66 : decode cX0_found 66 = .ok (.aload_n 0, 1) := dk_42 (dk_at dksX0_found_2 20 rfl rfl)
theorem dX0_found_67 : decode cX0_found 67 = .ok (.invokevirtual 225, 3) := dk_182 0 225 (dk_at dksX0_found_2 21 rfl rfl)
theorem dX0_found_70 : decode cX0_found 70 = .ok (.invokevirtual 237, 3) := dk_182 0 237 (dk_at dksX0_found_3 0 rfl rfl)
theorem dX0_found_73 : decode cX0_found 73 = .ok (.ireturn, 1) := dk_172 (dk_at dksX0_found_3 3 rfl rfl)
abbrev cX0_bits : ByteArray := prog_1_method_5_code
def yX0_bits : MethodName := ⟨RX0, "bits", "(I)I"⟩
def dkwX0_bits_0 : List UInt8 := [3, 60, 26, 61, 28, 158, 0, 16, 27, 28, 4, 126, 96, 60, 28, 4, 122, 61, 167, 255, 242, 27, 172]
abbrev dktX0_bits_0 : List UInt8 := dkwX0_bits_0 ++ []
theorem dksX0_bits_0 : cX0_bits.data.toList.drop 0 = dktX0_bits_0 := by decide +kernel
theorem dX0_bits_0 : decode cX0_bits 0 = .ok (.iconst 0, 1) := dk_3 (dk_at dksX0_bits_0 0 rfl rfl)
theorem dX0_bits_1 : decode cX0_bits 1 = .ok (.istore_n 1, 1) := dk_60 (dk_at dksX0_bits_0 1 rfl rfl)
theorem dX0_bits_2 : decode cX0_bits 2 = .ok (.iload_n 0, 1) := dk_26 (dk_at dksX0_bits_0 2 rfl rfl)
theorem dX0_bits_3 : decode cX0_bits 3 = .ok (.istore_n 2, 1) := dk_61 (dk_at dksX0_bits_0 3 rfl rfl)
theorem dX0_bits_4 : decode cX0_bits 4 = .ok (.iload_n 2, 1) := dk_28 (dk_at dksX0_bits_0 4 rfl rfl)
theorem dX0_bits_5 : decode cX0_bits 5 = .ok (.ifCond .le 16, 3) := dk_158 0 16 (dk_at dksX0_bits_0 5 rfl rfl)
theorem dX0_bits_8 : decode cX0_bits 8 = .ok (.iload_n 1, 1) := dk_27 (dk_at dksX0_bits_0 8 rfl rfl)
theorem dX0_bits_9 : decode cX0_bits 9 = .ok (.iload_n 2, 1) := dk_28 (dk_at dksX0_bits_0 9 rfl rfl)
theorem dX0_bits_10 : decode cX0_bits 10 = .ok (.iconst 1, 1) := dk_4 (dk_at dksX0_bits_0 10 rfl rfl)
theorem dX0_bits_11 : decode cX0_bits 11 = .ok (.iand, 1) := dk_126 (dk_at dksX0_bits_0 11 rfl rfl)
theorem dX0_bits_12 : decode cX0_bits 12 = .ok (.iadd, 1) := dk_96 (dk_at dksX0_bits_0 12 rfl rfl)
theorem dX0_bits_13 : decode cX0_bits 13 = .ok (.istore_n 1, 1) := dk_60 (dk_at dksX0_bits_0 13 rfl rfl)
theorem dX0_bits_14 : decode cX0_bits 14 = .ok (.iload_n 2, 1) := dk_28 (dk_at dksX0_bits_0 14 rfl rfl)
theorem dX0_bits_15 : decode cX0_bits 15 = .ok (.iconst 1, 1) := dk_4 (dk_at dksX0_bits_0 15 rfl rfl)
theorem dX0_bits_16 : decode cX0_bits 16 = .ok (.ishr, 1) := dk_122 (dk_at dksX0_bits_0 16 rfl rfl)
theorem dX0_bits_17 : decode cX0_bits 17 = .ok (.istore_n 2, 1) := dk_61 (dk_at dksX0_bits_0 17 rfl rfl)
theorem dX0_bits_18 : decode cX0_bits 18 = .ok (.goto (-14), 3) := dk_167 255 242 (dk_at dksX0_bits_0 18 rfl rfl)
theorem dX0_bits_21 : decode cX0_bits 21 = .ok (.iload_n 1, 1) := dk_27 (dk_at dksX0_bits_0 21 rfl rfl)
theorem dX0_bits_22 : decode cX0_bits 22 = .ok (.ireturn, 1) := dk_172 (dk_at dksX0_bits_0 22 rfl rfl)
abbrev cX0_plan : ByteArray := prog_1_method_36_code
def yX0_plan : MethodName := ⟨RX0, "plan", "(IIIII)I"⟩
def dkwX0_plan_5 : List UInt8 := [182, 0, 178, 172]
abbrev dktX0_plan_5 : List UInt8 := dkwX0_plan_5 ++ []
def dkwX0_plan_4 : List UInt8 := [182, 0, 178, 172, 58, 6, 42, 4, 182, 0, 178, 172, 58, 6, 42, 7, 182, 0, 178, 172, 58, 6, 42, 6]
abbrev dktX0_plan_4 : List UInt8 := dkwX0_plan_4 ++ dktX0_plan_5
def dkwX0_plan_3 : List UInt8 := [180, 0, 158, 28, 184, 0, 164, 29, 21, 4, 184, 0, 168, 21, 5, 182, 1, 4, 172, 58, 6, 42, 5]
abbrev dktX0_plan_3 : List UInt8 := dkwX0_plan_3 ++ dktX0_plan_4
def dkwX0_plan_2 : List UInt8 := [154, 0, 6, 16, 254, 172, 42, 182, 0, 216, 154, 0, 6, 16, 253, 172, 42, 42, 180, 0, 49, 27, 50]
abbrev dktX0_plan_2 : List UInt8 := dkwX0_plan_2 ++ dktX0_plan_3
def dkwX0_plan_1 : List UInt8 := [9, 20, 0, 254, 184, 0, 55, 154, 0, 21, 21, 5, 133, 20, 1, 0, 20, 1, 2, 184, 0, 55]
abbrev dktX0_plan_1 : List UInt8 := dkwX0_plan_1 ++ dktX0_plan_2
def dkwX0_plan_0 : List UInt8 := [42, 3, 181, 0, 59, 27, 184, 0, 151, 154, 0, 5, 2, 172, 28, 184, 0, 155, 153, 0, 31, 21, 5, 133]
abbrev dktX0_plan_0 : List UInt8 := dkwX0_plan_0 ++ dktX0_plan_1
theorem dksX0_plan_0 : cX0_plan.data.toList.drop 0 = dktX0_plan_0 := by decide +kernel
theorem dksX0_plan_1 : cX0_plan.data.toList.drop 24 = dktX0_plan_1 := dk_seg dksX0_plan_0 24 rfl rfl
theorem dksX0_plan_2 : cX0_plan.data.toList.drop 46 = dktX0_plan_2 := dk_seg dksX0_plan_1 22 rfl rfl
theorem dksX0_plan_3 : cX0_plan.data.toList.drop 69 = dktX0_plan_3 := dk_seg dksX0_plan_2 23 rfl rfl
theorem dksX0_plan_4 : cX0_plan.data.toList.drop 92 = dktX0_plan_4 := dk_seg dksX0_plan_3 23 rfl rfl
theorem dksX0_plan_5 : cX0_plan.data.toList.drop 116 = dktX0_plan_5 := dk_seg dksX0_plan_4 24 rfl rfl
theorem dX0_plan_0 : decode cX0_plan 0 = .ok (.aload_n 0, 1) := dk_42 (dk_at dksX0_plan_0 0 rfl rfl)
theorem dX0_plan_1 : decode cX0_plan 1 = .ok (.iconst 0, 1) := dk_3 (dk_at dksX0_plan_0 1 rfl rfl)
theorem dX0_plan_2 : decode cX0_plan 2 = .ok (.putfield 59, 3) := dk_181 0 59 (dk_at dksX0_plan_0 2 rfl rfl)
theorem dX0_plan_5 : decode cX0_plan 5 = .ok (.iload_n 1, 1) := dk_27 (dk_at dksX0_plan_0 5 rfl rfl)
theorem dX0_plan_6 : decode cX0_plan 6 = .ok (.invokestatic 151, 3) := dk_184 0 151 (dk_at dksX0_plan_0 6 rfl rfl)
theorem dX0_plan_9 : decode cX0_plan 9 = .ok (.ifCond .ne 5, 3) := dk_154 0 5 (dk_at dksX0_plan_0 9 rfl rfl)
theorem dX0_plan_12 : decode cX0_plan 12 = .ok (.iconst (-1), 1) := dk_2 (dk_at dksX0_plan_0 12 rfl rfl)
theorem dX0_plan_13 : decode cX0_plan 13 = .ok (.ireturn, 1) := dk_172 (dk_at dksX0_plan_0 13 rfl rfl)
theorem dX0_plan_14 : decode cX0_plan 14 = .ok (.iload_n 2, 1) := dk_28 (dk_at dksX0_plan_0 14 rfl rfl)
theorem dX0_plan_15 : decode cX0_plan 15 = .ok (.invokestatic 155, 3) := dk_184 0 155 (dk_at dksX0_plan_0 15 rfl rfl)
theorem dX0_plan_18 : decode cX0_plan 18 = .ok (.ifCond .eq 31, 3) := dk_153 0 31 (dk_at dksX0_plan_0 18 rfl rfl)
theorem dX0_plan_21 : decode cX0_plan 21 = .ok (.iload 5, 2) := dk_21 5 (dk_at dksX0_plan_0 21 rfl rfl)
theorem dX0_plan_23 : decode cX0_plan 23 = .ok (.i2l, 1) := dk_133 (dk_at dksX0_plan_0 23 rfl rfl)
theorem dX0_plan_24 : decode cX0_plan 24 = .ok (.lconst 0, 1) := dk_9 (dk_at dksX0_plan_1 0 rfl rfl)
theorem dX0_plan_25 : decode cX0_plan 25 = .ok (.ldc2_w 254, 3) := dk_20 0 254 (dk_at dksX0_plan_1 1 rfl rfl)
theorem dX0_plan_28 : decode cX0_plan 28 = .ok (.invokestatic 55, 3) := dk_184 0 55 (dk_at dksX0_plan_1 4 rfl rfl)
theorem dX0_plan_31 : decode cX0_plan 31 = .ok (.ifCond .ne 21, 3) := dk_154 0 21 (dk_at dksX0_plan_1 7 rfl rfl)
theorem dX0_plan_34 : decode cX0_plan 34 = .ok (.iload 5, 2) := dk_21 5 (dk_at dksX0_plan_1 10 rfl rfl)
theorem dX0_plan_36 : decode cX0_plan 36 = .ok (.i2l, 1) := dk_133 (dk_at dksX0_plan_1 12 rfl rfl)
theorem dX0_plan_37 : decode cX0_plan 37 = .ok (.ldc2_w 256, 3) := dk_20 1 0 (dk_at dksX0_plan_1 13 rfl rfl)
theorem dX0_plan_40 : decode cX0_plan 40 = .ok (.ldc2_w 258, 3) := dk_20 1 2 (dk_at dksX0_plan_1 16 rfl rfl)
theorem dX0_plan_43 : decode cX0_plan 43 = .ok (.invokestatic 55, 3) := dk_184 0 55 (dk_at dksX0_plan_1 19 rfl rfl)
theorem dX0_plan_46 : decode cX0_plan 46 = .ok (.ifCond .ne 6, 3) := dk_154 0 6 (dk_at dksX0_plan_2 0 rfl rfl)
theorem dX0_plan_49 : decode cX0_plan 49 = .ok (.bipush (-2), 2) := dk_16 254 (dk_at dksX0_plan_2 3 rfl rfl)
theorem dX0_plan_51 : decode cX0_plan 51 = .ok (.ireturn, 1) := dk_172 (dk_at dksX0_plan_2 5 rfl rfl)
theorem dX0_plan_52 : decode cX0_plan 52 = .ok (.aload_n 0, 1) := dk_42 (dk_at dksX0_plan_2 6 rfl rfl)
theorem dX0_plan_53 : decode cX0_plan 53 = .ok (.invokevirtual 216, 3) := dk_182 0 216 (dk_at dksX0_plan_2 7 rfl rfl)
theorem dX0_plan_56 : decode cX0_plan 56 = .ok (.ifCond .ne 6, 3) := dk_154 0 6 (dk_at dksX0_plan_2 10 rfl rfl)
theorem dX0_plan_59 : decode cX0_plan 59 = .ok (.bipush (-3), 2) := dk_16 253 (dk_at dksX0_plan_2 13 rfl rfl)
theorem dX0_plan_61 : decode cX0_plan 61 = .ok (.ireturn, 1) := dk_172 (dk_at dksX0_plan_2 15 rfl rfl)
theorem dX0_plan_62 : decode cX0_plan 62 = .ok (.aload_n 0, 1) := dk_42 (dk_at dksX0_plan_2 16 rfl rfl)
theorem dX0_plan_63 : decode cX0_plan 63 = .ok (.aload_n 0, 1) := dk_42 (dk_at dksX0_plan_2 17 rfl rfl)
theorem dX0_plan_64 : decode cX0_plan 64 = .ok (.getfield 49, 3) := dk_180 0 49 (dk_at dksX0_plan_2 18 rfl rfl)
theorem dX0_plan_67 : decode cX0_plan 67 = .ok (.iload_n 1, 1) := dk_27 (dk_at dksX0_plan_2 21 rfl rfl)
theorem dX0_plan_68 : decode cX0_plan 68 = .ok (.aaload, 1) := dk_50 (dk_at dksX0_plan_2 22 rfl rfl)
theorem dX0_plan_69 : decode cX0_plan 69 = .ok (.getfield 158, 3) := dk_180 0 158 (dk_at dksX0_plan_3 0 rfl rfl)
theorem dX0_plan_72 : decode cX0_plan 72 = .ok (.iload_n 2, 1) := dk_28 (dk_at dksX0_plan_3 3 rfl rfl)
theorem dX0_plan_73 : decode cX0_plan 73 = .ok (.invokestatic 164, 3) := dk_184 0 164 (dk_at dksX0_plan_3 4 rfl rfl)
theorem dX0_plan_76 : decode cX0_plan 76 = .ok (.iload_n 3, 1) := dk_29 (dk_at dksX0_plan_3 7 rfl rfl)
theorem dX0_plan_77 : decode cX0_plan 77 = .ok (.iload 4, 2) := dk_21 4 (dk_at dksX0_plan_3 8 rfl rfl)
theorem dX0_plan_79 : decode cX0_plan 79 = .ok (.invokestatic 168, 3) := dk_184 0 168 (dk_at dksX0_plan_3 10 rfl rfl)
theorem dX0_plan_82 : decode cX0_plan 82 = .ok (.iload 5, 2) := dk_21 5 (dk_at dksX0_plan_3 13 rfl rfl)
theorem dX0_plan_84 : decode cX0_plan 84 = .ok (.invokevirtual 260, 3) := dk_182 1 4 (dk_at dksX0_plan_3 15 rfl rfl)
theorem dX0_plan_87 : decode cX0_plan 87 = .ok (.ireturn, 1) := dk_172 (dk_at dksX0_plan_3 18 rfl rfl)
theorem dX0_plan_88 : decode cX0_plan 88 = .ok (.astore 6, 2) := dk_58 6 (dk_at dksX0_plan_3 19 rfl rfl)
theorem dX0_plan_90 : decode cX0_plan 90 = .ok (.aload_n 0, 1) := dk_42 (dk_at dksX0_plan_3 21 rfl rfl)
theorem dX0_plan_91 : decode cX0_plan 91 = .ok (.iconst 2, 1) := dk_5 (dk_at dksX0_plan_3 22 rfl rfl)
theorem dX0_plan_92 : decode cX0_plan 92 = .ok (.invokevirtual 178, 3) := dk_182 0 178 (dk_at dksX0_plan_4 0 rfl rfl)
theorem dX0_plan_95 : decode cX0_plan 95 = .ok (.ireturn, 1) := dk_172 (dk_at dksX0_plan_4 3 rfl rfl)
theorem dX0_plan_96 : decode cX0_plan 96 = .ok (.astore 6, 2) := dk_58 6 (dk_at dksX0_plan_4 4 rfl rfl)
theorem dX0_plan_98 : decode cX0_plan 98 = .ok (.aload_n 0, 1) := dk_42 (dk_at dksX0_plan_4 6 rfl rfl)
theorem dX0_plan_99 : decode cX0_plan 99 = .ok (.iconst 1, 1) := dk_4 (dk_at dksX0_plan_4 7 rfl rfl)
theorem dX0_plan_100 : decode cX0_plan 100 = .ok (.invokevirtual 178, 3) := dk_182 0 178 (dk_at dksX0_plan_4 8 rfl rfl)
theorem dX0_plan_103 : decode cX0_plan 103 = .ok (.ireturn, 1) := dk_172 (dk_at dksX0_plan_4 11 rfl rfl)
theorem dX0_plan_104 : decode cX0_plan 104 = .ok (.astore 6, 2) := dk_58 6 (dk_at dksX0_plan_4 12 rfl rfl)
theorem dX0_plan_106 : decode cX0_plan 106 = .ok (.aload_n 0, 1) := dk_42 (dk_at dksX0_plan_4 14 rfl rfl)
theorem dX0_plan_107 : decode cX0_plan 107 = .ok (.iconst 4, 1) := dk_7 (dk_at dksX0_plan_4 15 rfl rfl)
theorem dX0_plan_108 : decode cX0_plan 108 = .ok (.invokevirtual 178, 3) := dk_182 0 178 (dk_at dksX0_plan_4 16 rfl rfl)
theorem dX0_plan_111 : decode cX0_plan 111 = .ok (.ireturn, 1) := dk_172 (dk_at dksX0_plan_4 19 rfl rfl)
theorem dX0_plan_112 : decode cX0_plan 112 = .ok (.astore 6, 2) := dk_58 6 (dk_at dksX0_plan_4 20 rfl rfl)
theorem dX0_plan_114 : decode cX0_plan 114 = .ok (.aload_n 0, 1) := dk_42 (dk_at dksX0_plan_4 22 rfl rfl)
theorem dX0_plan_115 : decode cX0_plan 115 = .ok (.iconst 3, 1) := dk_6 (dk_at dksX0_plan_4 23 rfl rfl)
theorem dX0_plan_116 : decode cX0_plan 116 = .ok (.invokevirtual 178, 3) := dk_182 0 178 (dk_at dksX0_plan_5 0 rfl rfl)
theorem dX0_plan_119 : decode cX0_plan 119 = .ok (.ireturn, 1) := dk_172 (dk_at dksX0_plan_5 3 rfl rfl)
abbrev cX0_told : ByteArray := prog_1_method_35_code
def yX0_told : MethodName := ⟨RX0, "told", "([II)I"⟩
def dkwX0_told_9 : List UInt8 := [167, 0, 15, 28, 5, 160, 0, 8, 21, 4, 167, 0, 5, 21, 5, 172]
abbrev dktX0_told_9 : List UInt8 := dkwX0_told_9 ++ []
def dkwX0_told_8 : List UInt8 := [4, 21, 6, 120, 167, 0, 4, 3, 128, 54, 5, 132, 6, 1, 167, 255, 157, 28, 154, 0, 7, 29]
abbrev dktX0_told_8 : List UInt8 := dkwX0_told_8 ++ dktX0_told_9
def dkwX0_told_7 : List UInt8 := [167, 0, 4, 3, 128, 54, 4, 21, 5, 43, 21, 6, 46, 184, 0, 251, 25, 7, 180, 0, 204, 162, 0, 10]
abbrev dktX0_told_7 : List UInt8 := dkwX0_told_7 ++ dktX0_told_8
def dkwX0_told_6 : List UInt8 := [96, 62, 21, 4, 25, 7, 43, 21, 6, 46, 42, 182, 0, 225, 182, 0, 234, 153, 0, 10, 4, 21, 6, 120]
abbrev dktX0_told_6 : List UInt8 := dkwX0_told_6 ++ dktX0_told_7
def dkwX0_told_5 : List UInt8 := [185, 0, 191, 2, 0, 192, 0, 67, 58, 7, 29, 25, 7, 43, 21, 6, 46, 42, 182, 0, 225, 182, 0, 237]
abbrev dktX0_told_5 : List UInt8 := dkwX0_told_5 ++ dktX0_told_6
def dkwX0_told_4 : List UInt8 := [54, 4, 3, 54, 5, 3, 54, 6, 21, 6, 43, 190, 162, 0, 98, 42, 180, 0, 12, 21, 6]
abbrev dktX0_told_4 : List UInt8 := dkwX0_told_4 ++ dktX0_told_5
def dkwX0_told_3 : List UInt8 := [182, 0, 244, 167, 0, 5, 16, 247, 172, 28, 4, 160, 0, 9, 42, 43, 182, 0, 248, 172, 3, 62, 3]
abbrev dktX0_told_3 : List UInt8 := dkwX0_told_3 ++ dktX0_told_4
def dkwX0_told_2 : List UInt8 := [16, 10, 161, 0, 29, 42, 28, 16, 10, 100, 182, 0, 210, 153, 0, 15, 42, 43, 28, 16, 10, 100]
abbrev dktX0_told_2 : List UInt8 := dkwX0_told_2 ++ dktX0_told_3
def dkwX0_told_1 : List UInt8 := [162, 0, 22, 42, 43, 29, 46, 182, 0, 228, 154, 0, 6, 16, 254, 172, 132, 3, 1, 167, 255, 234, 28]
abbrev dktX0_told_1 : List UInt8 := dkwX0_told_1 ++ dktX0_told_2
def dkwX0_told_0 : List UInt8 := [43, 190, 42, 180, 0, 12, 185, 0, 87, 1, 0, 159, 0, 6, 16, 254, 172, 3, 62, 29, 43, 190]
abbrev dktX0_told_0 : List UInt8 := dkwX0_told_0 ++ dktX0_told_1
theorem dksX0_told_0 : cX0_told.data.toList.drop 0 = dktX0_told_0 := by decide +kernel
theorem dksX0_told_1 : cX0_told.data.toList.drop 22 = dktX0_told_1 := dk_seg dksX0_told_0 22 rfl rfl
theorem dksX0_told_2 : cX0_told.data.toList.drop 45 = dktX0_told_2 := dk_seg dksX0_told_1 23 rfl rfl
theorem dksX0_told_3 : cX0_told.data.toList.drop 67 = dktX0_told_3 := dk_seg dksX0_told_2 22 rfl rfl
theorem dksX0_told_4 : cX0_told.data.toList.drop 90 = dktX0_told_4 := dk_seg dksX0_told_3 23 rfl rfl
theorem dksX0_told_5 : cX0_told.data.toList.drop 111 = dktX0_told_5 := dk_seg dksX0_told_4 21 rfl rfl
theorem dksX0_told_6 : cX0_told.data.toList.drop 135 = dktX0_told_6 := dk_seg dksX0_told_5 24 rfl rfl
theorem dksX0_told_7 : cX0_told.data.toList.drop 159 = dktX0_told_7 := dk_seg dksX0_told_6 24 rfl rfl
theorem dksX0_told_8 : cX0_told.data.toList.drop 183 = dktX0_told_8 := dk_seg dksX0_told_7 24 rfl rfl
theorem dksX0_told_9 : cX0_told.data.toList.drop 205 = dktX0_told_9 := dk_seg dksX0_told_8 22 rfl rfl
theorem dX0_told_0 : decode cX0_told 0 = .ok (.aload_n 1, 1) := dk_43 (dk_at dksX0_told_0 0 rfl rfl)
theorem dX0_told_1 : decode cX0_told 1 = .ok (.arraylength, 1) := dk_190 (dk_at dksX0_told_0 1 rfl rfl)
theorem dX0_told_2 : decode cX0_told 2 = .ok (.aload_n 0, 1) := dk_42 (dk_at dksX0_told_0 2 rfl rfl)
theorem dX0_told_3 : decode cX0_told 3 = .ok (.getfield 12, 3) := dk_180 0 12 (dk_at dksX0_told_0 3 rfl rfl)
theorem dX0_told_6 : decode cX0_told 6 = .ok (.invokeinterface 87 1, 5) := by decide +kernel
theorem dX0_told_11 : decode cX0_told 11 = .ok (.if_icmp .eq 6, 3) := dk_159 0 6 (dk_at dksX0_told_0 11 rfl rfl)
theorem dX0_told_14 : decode cX0_told 14 = .ok (.bipush (-2), 2) := dk_16 254 (dk_at dksX0_told_0 14 rfl rfl)
theorem dX0_told_16 : decode cX0_told 16 = .ok (.ireturn, 1) := dk_172 (dk_at dksX0_told_0 16 rfl rfl)
theorem dX0_told_17 : decode cX0_told 17 = .ok (.iconst 0, 1) := dk_3 (dk_at dksX0_told_0 17 rfl rfl)
theorem dX0_told_18 : decode cX0_told 18 = .ok (.istore_n 3, 1) := dk_62 (dk_at dksX0_told_0 18 rfl rfl)
theorem dX0_told_19 : decode cX0_told 19 = .ok (.iload_n 3, 1) := dk_29 (dk_at dksX0_told_0 19 rfl rfl)
theorem dX0_told_20 : decode cX0_told 20 = .ok (.aload_n 1, 1) := dk_43 (dk_at dksX0_told_0 20 rfl rfl)
theorem dX0_told_21 : decode cX0_told 21 = .ok (.arraylength, 1) := dk_190 (dk_at dksX0_told_0 21 rfl rfl)
theorem dX0_told_22 : decode cX0_told 22 = .ok (.if_icmp .ge 22, 3) := dk_162 0 22 (dk_at dksX0_told_1 0 rfl rfl)
theorem dX0_told_25 : decode cX0_told 25 = .ok (.aload_n 0, 1) := dk_42 (dk_at dksX0_told_1 3 rfl rfl)
theorem dX0_told_26 : decode cX0_told 26 = .ok (.aload_n 1, 1) := dk_43 (dk_at dksX0_told_1 4 rfl rfl)
theorem dX0_told_27 : decode cX0_told 27 = .ok (.iload_n 3, 1) := dk_29 (dk_at dksX0_told_1 5 rfl rfl)
theorem dX0_told_28 : decode cX0_told 28 = .ok (.iaload, 1) := dk_46 (dk_at dksX0_told_1 6 rfl rfl)
theorem dX0_told_29 : decode cX0_told 29 = .ok (.invokevirtual 228, 3) := dk_182 0 228 (dk_at dksX0_told_1 7 rfl rfl)
theorem dX0_told_32 : decode cX0_told 32 = .ok (.ifCond .ne 6, 3) := dk_154 0 6 (dk_at dksX0_told_1 10 rfl rfl)
theorem dX0_told_35 : decode cX0_told 35 = .ok (.bipush (-2), 2) := dk_16 254 (dk_at dksX0_told_1 13 rfl rfl)
theorem dX0_told_37 : decode cX0_told 37 = .ok (.ireturn, 1) := dk_172 (dk_at dksX0_told_1 15 rfl rfl)
theorem dX0_told_38 : decode cX0_told 38 = .ok (.iinc 3 1, 3) := dk_132 3 1 (dk_at dksX0_told_1 16 rfl rfl)
theorem dX0_told_41 : decode cX0_told 41 = .ok (.goto (-22), 3) := dk_167 255 234 (dk_at dksX0_told_1 19 rfl rfl)
theorem dX0_told_44 : decode cX0_told 44 = .ok (.iload_n 2, 1) := dk_28 (dk_at dksX0_told_1 22 rfl rfl)
theorem dX0_told_45 : decode cX0_told 45 = .ok (.bipush 10, 2) := dk_16 10 (dk_at dksX0_told_2 0 rfl rfl)
theorem dX0_told_47 : decode cX0_told 47 = .ok (.if_icmp .lt 29, 3) := dk_161 0 29 (dk_at dksX0_told_2 2 rfl rfl)
theorem dX0_told_50 : decode cX0_told 50 = .ok (.aload_n 0, 1) := dk_42 (dk_at dksX0_told_2 5 rfl rfl)
theorem dX0_told_51 : decode cX0_told 51 = .ok (.iload_n 2, 1) := dk_28 (dk_at dksX0_told_2 6 rfl rfl)
theorem dX0_told_52 : decode cX0_told 52 = .ok (.bipush 10, 2) := dk_16 10 (dk_at dksX0_told_2 7 rfl rfl)
theorem dX0_told_54 : decode cX0_told 54 = .ok (.isub, 1) := dk_100 (dk_at dksX0_told_2 9 rfl rfl)
theorem dX0_told_55 : decode cX0_told 55 = .ok (.invokevirtual 210, 3) := dk_182 0 210 (dk_at dksX0_told_2 10 rfl rfl)
theorem dX0_told_58 : decode cX0_told 58 = .ok (.ifCond .eq 15, 3) := dk_153 0 15 (dk_at dksX0_told_2 13 rfl rfl)
theorem dX0_told_61 : decode cX0_told 61 = .ok (.aload_n 0, 1) := dk_42 (dk_at dksX0_told_2 16 rfl rfl)
theorem dX0_told_62 : decode cX0_told 62 = .ok (.aload_n 1, 1) := dk_43 (dk_at dksX0_told_2 17 rfl rfl)
theorem dX0_told_63 : decode cX0_told 63 = .ok (.iload_n 2, 1) := dk_28 (dk_at dksX0_told_2 18 rfl rfl)
theorem dX0_told_64 : decode cX0_told 64 = .ok (.bipush 10, 2) := dk_16 10 (dk_at dksX0_told_2 19 rfl rfl)
theorem dX0_told_66 : decode cX0_told 66 = .ok (.isub, 1) := dk_100 (dk_at dksX0_told_2 21 rfl rfl)
theorem dX0_told_67 : decode cX0_told 67 = .ok (.invokevirtual 244, 3) := dk_182 0 244 (dk_at dksX0_told_3 0 rfl rfl)
theorem dX0_told_70 : decode cX0_told 70 = .ok (.goto 5, 3) := dk_167 0 5 (dk_at dksX0_told_3 3 rfl rfl)
theorem dX0_told_73 : decode cX0_told 73 = .ok (.bipush (-9), 2) := dk_16 247 (dk_at dksX0_told_3 6 rfl rfl)
theorem dX0_told_75 : decode cX0_told 75 = .ok (.ireturn, 1) := dk_172 (dk_at dksX0_told_3 8 rfl rfl)
theorem dX0_told_76 : decode cX0_told 76 = .ok (.iload_n 2, 1) := dk_28 (dk_at dksX0_told_3 9 rfl rfl)
theorem dX0_told_77 : decode cX0_told 77 = .ok (.iconst 1, 1) := dk_4 (dk_at dksX0_told_3 10 rfl rfl)
theorem dX0_told_78 : decode cX0_told 78 = .ok (.if_icmp .ne 9, 3) := dk_160 0 9 (dk_at dksX0_told_3 11 rfl rfl)
theorem dX0_told_81 : decode cX0_told 81 = .ok (.aload_n 0, 1) := dk_42 (dk_at dksX0_told_3 14 rfl rfl)
theorem dX0_told_82 : decode cX0_told 82 = .ok (.aload_n 1, 1) := dk_43 (dk_at dksX0_told_3 15 rfl rfl)
theorem dX0_told_83 : decode cX0_told 83 = .ok (.invokevirtual 248, 3) := dk_182 0 248 (dk_at dksX0_told_3 16 rfl rfl)
theorem dX0_told_86 : decode cX0_told 86 = .ok (.ireturn, 1) := dk_172 (dk_at dksX0_told_3 19 rfl rfl)
theorem dX0_told_87 : decode cX0_told 87 = .ok (.iconst 0, 1) := dk_3 (dk_at dksX0_told_3 20 rfl rfl)
theorem dX0_told_88 : decode cX0_told 88 = .ok (.istore_n 3, 1) := dk_62 (dk_at dksX0_told_3 21 rfl rfl)
theorem dX0_told_89 : decode cX0_told 89 = .ok (.iconst 0, 1) := dk_3 (dk_at dksX0_told_3 22 rfl rfl)
theorem dX0_told_90 : decode cX0_told 90 = .ok (.istore 4, 2) := dk_54 4 (dk_at dksX0_told_4 0 rfl rfl)
theorem dX0_told_92 : decode cX0_told 92 = .ok (.iconst 0, 1) := dk_3 (dk_at dksX0_told_4 2 rfl rfl)
theorem dX0_told_93 : decode cX0_told 93 = .ok (.istore 5, 2) := dk_54 5 (dk_at dksX0_told_4 3 rfl rfl)
theorem dX0_told_95 : decode cX0_told 95 = .ok (.iconst 0, 1) := dk_3 (dk_at dksX0_told_4 5 rfl rfl)
theorem dX0_told_96 : decode cX0_told 96 = .ok (.istore 6, 2) := dk_54 6 (dk_at dksX0_told_4 6 rfl rfl)
theorem dX0_told_98 : decode cX0_told 98 = .ok (.iload 6, 2) := dk_21 6 (dk_at dksX0_told_4 8 rfl rfl)
theorem dX0_told_100 : decode cX0_told 100 = .ok (.aload_n 1, 1) := dk_43 (dk_at dksX0_told_4 10 rfl rfl)
theorem dX0_told_101 : decode cX0_told 101 = .ok (.arraylength, 1) := dk_190 (dk_at dksX0_told_4 11 rfl rfl)
theorem dX0_told_102 : decode cX0_told 102 = .ok (.if_icmp .ge 98, 3) := dk_162 0 98 (dk_at dksX0_told_4 12 rfl rfl)
theorem dX0_told_105 : decode cX0_told 105 = .ok (.aload_n 0, 1) := dk_42 (dk_at dksX0_told_4 15 rfl rfl)
theorem dX0_told_106 : decode cX0_told 106 = .ok (.getfield 12, 3) := dk_180 0 12 (dk_at dksX0_told_4 16 rfl rfl)
theorem dX0_told_109 : decode cX0_told 109 = .ok (.iload 6, 2) := dk_21 6 (dk_at dksX0_told_4 19 rfl rfl)
theorem dX0_told_111 : decode cX0_told 111 = .ok (.invokeinterface 191 2, 5) := by decide +kernel
theorem dX0_told_116 : decode cX0_told 116 = .ok (.checkcast 67, 3) := dk_192 0 67 (dk_at dksX0_told_5 5 rfl rfl)
theorem dX0_told_119 : decode cX0_told 119 = .ok (.astore 7, 2) := dk_58 7 (dk_at dksX0_told_5 8 rfl rfl)
theorem dX0_told_121 : decode cX0_told 121 = .ok (.iload_n 3, 1) := dk_29 (dk_at dksX0_told_5 10 rfl rfl)
theorem dX0_told_122 : decode cX0_told 122 = .ok (.aload 7, 2) := dk_25 7 (dk_at dksX0_told_5 11 rfl rfl)
theorem dX0_told_124 : decode cX0_told 124 = .ok (.aload_n 1, 1) := dk_43 (dk_at dksX0_told_5 13 rfl rfl)
theorem dX0_told_125 : decode cX0_told 125 = .ok (.iload 6, 2) := dk_21 6 (dk_at dksX0_told_5 14 rfl rfl)
theorem dX0_told_127 : decode cX0_told 127 = .ok (.iaload, 1) := dk_46 (dk_at dksX0_told_5 16 rfl rfl)
theorem dX0_told_128 : decode cX0_told 128 = .ok (.aload_n 0, 1) := dk_42 (dk_at dksX0_told_5 17 rfl rfl)
theorem dX0_told_129 : decode cX0_told 129 = .ok (.invokevirtual 225, 3) := dk_182 0 225 (dk_at dksX0_told_5 18 rfl rfl)
theorem dX0_told_132 : decode cX0_told 132 = .ok (.invokevirtual 237, 3) := dk_182 0 237 (dk_at dksX0_told_5 21 rfl rfl)
theorem dX0_told_135 : decode cX0_told 135 = .ok (.iadd, 1) := dk_96 (dk_at dksX0_told_6 0 rfl rfl)
theorem dX0_told_136 : decode cX0_told 136 = .ok (.istore_n 3, 1) := dk_62 (dk_at dksX0_told_6 1 rfl rfl)
theorem dX0_told_137 : decode cX0_told 137 = .ok (.iload 4, 2) := dk_21 4 (dk_at dksX0_told_6 2 rfl rfl)
theorem dX0_told_139 : decode cX0_told 139 = .ok (.aload 7, 2) := dk_25 7 (dk_at dksX0_told_6 4 rfl rfl)
theorem dX0_told_141 : decode cX0_told 141 = .ok (.aload_n 1, 1) := dk_43 (dk_at dksX0_told_6 6 rfl rfl)
theorem dX0_told_142 : decode cX0_told 142 = .ok (.iload 6, 2) := dk_21 6 (dk_at dksX0_told_6 7 rfl rfl)
theorem dX0_told_144 : decode cX0_told 144 = .ok (.iaload, 1) := dk_46 (dk_at dksX0_told_6 9 rfl rfl)
theorem dX0_told_145 : decode cX0_told 145 = .ok (.aload_n 0, 1) := dk_42 (dk_at dksX0_told_6 10 rfl rfl)
theorem dX0_told_146 : decode cX0_told 146 = .ok (.invokevirtual 225, 3) := dk_182 0 225 (dk_at dksX0_told_6 11 rfl rfl)
theorem dX0_told_149 : decode cX0_told 149 = .ok (.invokevirtual 234, 3) := dk_182 0 234 (dk_at dksX0_told_6 14 rfl rfl)
theorem dX0_told_152 : decode cX0_told 152 = .ok (.ifCond .eq 10, 3) := dk_153 0 10 (dk_at dksX0_told_6 17 rfl rfl)
theorem dX0_told_155 : decode cX0_told 155 = .ok (.iconst 1, 1) := dk_4 (dk_at dksX0_told_6 20 rfl rfl)
theorem dX0_told_156 : decode cX0_told 156 = .ok (.iload 6, 2) := dk_21 6 (dk_at dksX0_told_6 21 rfl rfl)
theorem dX0_told_158 : decode cX0_told 158 = .ok (.ishl, 1) := dk_120 (dk_at dksX0_told_6 23 rfl rfl)
theorem dX0_told_159 : decode cX0_told 159 = .ok (.goto 4, 3) := dk_167 0 4 (dk_at dksX0_told_7 0 rfl rfl)
theorem dX0_told_162 : decode cX0_told 162 = .ok (.iconst 0, 1) := dk_3 (dk_at dksX0_told_7 3 rfl rfl)
theorem dX0_told_163 : decode cX0_told 163 = .ok (.ior, 1) := dk_128 (dk_at dksX0_told_7 4 rfl rfl)
theorem dX0_told_164 : decode cX0_told 164 = .ok (.istore 4, 2) := dk_54 4 (dk_at dksX0_told_7 5 rfl rfl)
theorem dX0_told_166 : decode cX0_told 166 = .ok (.iload 5, 2) := dk_21 5 (dk_at dksX0_told_7 7 rfl rfl)
theorem dX0_told_168 : decode cX0_told 168 = .ok (.aload_n 1, 1) := dk_43 (dk_at dksX0_told_7 9 rfl rfl)
theorem dX0_told_169 : decode cX0_told 169 = .ok (.iload 6, 2) := dk_21 6 (dk_at dksX0_told_7 10 rfl rfl)
theorem dX0_told_171 : decode cX0_told 171 = .ok (.iaload, 1) := dk_46 (dk_at dksX0_told_7 12 rfl rfl)
theorem dX0_told_172 : decode cX0_told 172 = .ok (.invokestatic 251, 3) := dk_184 0 251 (dk_at dksX0_told_7 13 rfl rfl)
theorem dX0_told_175 : decode cX0_told 175 = .ok (.aload 7, 2) := dk_25 7 (dk_at dksX0_told_7 16 rfl rfl)
theorem dX0_told_177 : decode cX0_told 177 = .ok (.getfield 204, 3) := dk_180 0 204 (dk_at dksX0_told_7 18 rfl rfl)
theorem dX0_told_180 : decode cX0_told 180 = .ok (.if_icmp .ge 10, 3) := dk_162 0 10 (dk_at dksX0_told_7 21 rfl rfl)
theorem dX0_told_183 : decode cX0_told 183 = .ok (.iconst 1, 1) := dk_4 (dk_at dksX0_told_8 0 rfl rfl)
theorem dX0_told_184 : decode cX0_told 184 = .ok (.iload 6, 2) := dk_21 6 (dk_at dksX0_told_8 1 rfl rfl)
theorem dX0_told_186 : decode cX0_told 186 = .ok (.ishl, 1) := dk_120 (dk_at dksX0_told_8 3 rfl rfl)
theorem dX0_told_187 : decode cX0_told 187 = .ok (.goto 4, 3) := dk_167 0 4 (dk_at dksX0_told_8 4 rfl rfl)
theorem dX0_told_190 : decode cX0_told 190 = .ok (.iconst 0, 1) := dk_3 (dk_at dksX0_told_8 7 rfl rfl)
theorem dX0_told_191 : decode cX0_told 191 = .ok (.ior, 1) := dk_128 (dk_at dksX0_told_8 8 rfl rfl)
theorem dX0_told_192 : decode cX0_told 192 = .ok (.istore 5, 2) := dk_54 5 (dk_at dksX0_told_8 9 rfl rfl)
theorem dX0_told_194 : decode cX0_told 194 = .ok (.iinc 6 1, 3) := dk_132 6 1 (dk_at dksX0_told_8 11 rfl rfl)
theorem dX0_told_197 : decode cX0_told 197 = .ok (.goto (-99), 3) := dk_167 255 157 (dk_at dksX0_told_8 14 rfl rfl)
theorem dX0_told_200 : decode cX0_told 200 = .ok (.iload_n 2, 1) := dk_28 (dk_at dksX0_told_8 17 rfl rfl)
theorem dX0_told_201 : decode cX0_told 201 = .ok (.ifCond .ne 7, 3) := dk_154 0 7 (dk_at dksX0_told_8 18 rfl rfl)
theorem dX0_told_204 : decode cX0_told 204 = .ok (.iload_n 3, 1) := dk_29 (dk_at dksX0_told_8 21 rfl rfl)
theorem dX0_told_205 : decode cX0_told 205 = .ok (.goto 15, 3) := dk_167 0 15 (dk_at dksX0_told_9 0 rfl rfl)
theorem dX0_told_208 : decode cX0_told 208 = .ok (.iload_n 2, 1) := dk_28 (dk_at dksX0_told_9 3 rfl rfl)
theorem dX0_told_209 : decode cX0_told 209 = .ok (.iconst 2, 1) := dk_5 (dk_at dksX0_told_9 4 rfl rfl)
theorem dX0_told_210 : decode cX0_told 210 = .ok (.if_icmp .ne 8, 3) := dk_160 0 8 (dk_at dksX0_told_9 5 rfl rfl)
theorem dX0_told_213 : decode cX0_told 213 = .ok (.iload 4, 2) := dk_21 4 (dk_at dksX0_told_9 8 rfl rfl)
theorem dX0_told_215 : decode cX0_told 215 = .ok (.goto 5, 3) := dk_167 0 5 (dk_at dksX0_told_9 10 rfl rfl)
theorem dX0_told_218 : decode cX0_told 218 = .ok (.iload 5, 2) := dk_21 5 (dk_at dksX0_told_9 13 rfl rfl)
theorem dX0_told_220 : decode cX0_told 220 = .ok (.ireturn, 1) := dk_172 (dk_at dksX0_told_9 15 rfl rfl)
abbrev cX0_foundOn : ByteArray := prog_1_method_33_code
def yX0_foundOn : MethodName := ⟨RX0, "foundOn", "([II)I"⟩
def dkwX0_foundOn_2 : List UInt8 := [167, 0, 4, 3, 96, 62, 132, 4, 1, 167, 255, 206, 29, 172]
abbrev dktX0_foundOn_2 : List UInt8 := dkwX0_foundOn_2 ++ []
def dkwX0_foundOn_1 : List UInt8 := [192, 0, 67, 43, 21, 4, 46, 42, 182, 0, 225, 182, 0, 234, 28, 184, 0, 240, 153, 0, 7, 4]
abbrev dktX0_foundOn_1 : List UInt8 := dkwX0_foundOn_1 ++ dktX0_foundOn_2
def dkwX0_foundOn_0 : List UInt8 := [3, 62, 3, 54, 4, 21, 4, 43, 190, 162, 0, 49, 29, 42, 180, 0, 12, 21, 4, 185, 0, 191, 2, 0]
abbrev dktX0_foundOn_0 : List UInt8 := dkwX0_foundOn_0 ++ dktX0_foundOn_1
theorem dksX0_foundOn_0 : cX0_foundOn.data.toList.drop 0 = dktX0_foundOn_0 := by decide +kernel
theorem dksX0_foundOn_1 : cX0_foundOn.data.toList.drop 24 = dktX0_foundOn_1 := dk_seg dksX0_foundOn_0 24 rfl rfl
theorem dksX0_foundOn_2 : cX0_foundOn.data.toList.drop 46 = dktX0_foundOn_2 := dk_seg dksX0_foundOn_1 22 rfl rfl
theorem dX0_foundOn_0 : decode cX0_foundOn 0 = .ok (.iconst 0, 1) := dk_3 (dk_at dksX0_foundOn_0 0 rfl rfl)
theorem dX0_foundOn_1 : decode cX0_foundOn 1 = .ok (.istore_n 3, 1) := dk_62 (dk_at dksX0_foundOn_0 1 rfl rfl)
theorem dX0_foundOn_2 : decode cX0_foundOn 2 = .ok (.iconst 0, 1) := dk_3 (dk_at dksX0_foundOn_0 2 rfl rfl)
theorem dX0_foundOn_3 : decode cX0_foundOn 3 = .ok (.istore 4, 2) := dk_54 4 (dk_at dksX0_foundOn_0 3 rfl rfl)
theorem dX0_foundOn_5 : decode cX0_foundOn 5 = .ok (.iload 4, 2) := dk_21 4 (dk_at dksX0_foundOn_0 5 rfl rfl)
theorem dX0_foundOn_7 : decode cX0_foundOn 7 = .ok (.aload_n 1, 1) := dk_43 (dk_at dksX0_foundOn_0 7 rfl rfl)
theorem dX0_foundOn_8 : decode cX0_foundOn 8 = .ok (.arraylength, 1) := dk_190 (dk_at dksX0_foundOn_0 8 rfl rfl)
theorem dX0_foundOn_9 : decode cX0_foundOn 9 = .ok (.if_icmp .ge 49, 3) := dk_162 0 49 (dk_at dksX0_foundOn_0 9 rfl rfl)
theorem dX0_foundOn_12 : decode cX0_foundOn 12 = .ok (.iload_n 3, 1) := dk_29 (dk_at dksX0_foundOn_0 12 rfl rfl)
theorem dX0_foundOn_13 : decode cX0_foundOn 13 = .ok (.aload_n 0, 1) := dk_42 (dk_at dksX0_foundOn_0 13 rfl rfl)
theorem dX0_foundOn_14 : decode cX0_foundOn 14 = .ok (.getfield 12, 3) := dk_180 0 12 (dk_at dksX0_foundOn_0 14 rfl rfl)
theorem dX0_foundOn_17 : decode cX0_foundOn 17 = .ok (.iload 4, 2) := dk_21 4 (dk_at dksX0_foundOn_0 17 rfl rfl)
theorem dX0_foundOn_19 : decode cX0_foundOn 19 = .ok (.invokeinterface 191 2, 5) := by decide +kernel
theorem dX0_foundOn_24 : decode cX0_foundOn 24 = .ok (.checkcast 67, 3) := dk_192 0 67 (dk_at dksX0_foundOn_1 0 rfl rfl)
theorem dX0_foundOn_27 : decode cX0_foundOn 27 = .ok (.aload_n 1, 1) := dk_43 (dk_at dksX0_foundOn_1 3 rfl rfl)
theorem dX0_foundOn_28 : decode cX0_foundOn 28 = .ok (.iload 4, 2) := dk_21 4 (dk_at dksX0_foundOn_1 4 rfl rfl)
theorem dX0_foundOn_30 : decode cX0_foundOn 30 = .ok (.iaload, 1) := dk_46 (dk_at dksX0_foundOn_1 6 rfl rfl)
theorem dX0_foundOn_31 : decode cX0_foundOn 31 = .ok (.aload_n 0, 1) := dk_42 (dk_at dksX0_foundOn_1 7 rfl rfl)
theorem dX0_foundOn_32 : decode cX0_foundOn 32 = .ok (.invokevirtual 225, 3) := dk_182 0 225 (dk_at dksX0_foundOn_1 8 rfl rfl)
theorem dX0_foundOn_35 : decode cX0_foundOn 35 = .ok (.invokevirtual 234, 3) := dk_182 0 234 (dk_at dksX0_foundOn_1 11 rfl rfl)
theorem dX0_foundOn_38 : decode cX0_foundOn 38 = .ok (.iload_n 2, 1) := dk_28 (dk_at dksX0_foundOn_1 14 rfl rfl)
theorem dX0_foundOn_39 : decode cX0_foundOn 39 = .ok (.invokestatic 240, 3) := dk_184 0 240 (dk_at dksX0_foundOn_1 15 rfl rfl)
theorem dX0_foundOn_42 : decode cX0_foundOn 42 = .ok (.ifCond .eq 7, 3) := dk_153 0 7 (dk_at dksX0_foundOn_1 18 rfl rfl)
theorem dX0_foundOn_45 : decode cX0_foundOn 45 = .ok (.iconst 1, 1) := dk_4 (dk_at dksX0_foundOn_1 21 rfl rfl)
theorem dX0_foundOn_46 : decode cX0_foundOn 46 = .ok (.goto 4, 3) := dk_167 0 4 (dk_at dksX0_foundOn_2 0 rfl rfl)
theorem dX0_foundOn_49 : decode cX0_foundOn 49 = .ok (.iconst 0, 1) := dk_3 (dk_at dksX0_foundOn_2 3 rfl rfl)
theorem dX0_foundOn_50 : decode cX0_foundOn 50 = .ok (.iadd, 1) := dk_96 (dk_at dksX0_foundOn_2 4 rfl rfl)
theorem dX0_foundOn_51 : decode cX0_foundOn 51 = .ok (.istore_n 3, 1) := dk_62 (dk_at dksX0_foundOn_2 5 rfl rfl)
theorem dX0_foundOn_52 : decode cX0_foundOn 52 = .ok (.iinc 4 1, 3) := dk_132 4 1 (dk_at dksX0_foundOn_2 6 rfl rfl)
theorem dX0_foundOn_55 : decode cX0_foundOn 55 = .ok (.goto (-50), 3) := dk_167 255 206 (dk_at dksX0_foundOn_2 9 rfl rfl)
theorem dX0_foundOn_58 : decode cX0_foundOn 58 = .ok (.iload_n 3, 1) := dk_29 (dk_at dksX0_foundOn_2 12 rfl rfl)
theorem dX0_foundOn_59 : decode cX0_foundOn 59 = .ok (.ireturn, 1) := dk_172 (dk_at dksX0_foundOn_2 13 rfl rfl)
abbrev cX0_isOf : ByteArray := prog_1_method_4_code
def yX0_isOf : MethodName := ⟨RX0, "isOf", "(II)Z"⟩
def dkwX0_isOf_0 : List UInt8 := [26, 27, 122, 4, 126, 4, 160, 0, 7, 4, 167, 0, 4, 3, 172]
abbrev dktX0_isOf_0 : List UInt8 := dkwX0_isOf_0 ++ []
theorem dksX0_isOf_0 : cX0_isOf.data.toList.drop 0 = dktX0_isOf_0 := by decide +kernel
theorem dX0_isOf_0 : decode cX0_isOf 0 = .ok (.iload_n 0, 1) := dk_26 (dk_at dksX0_isOf_0 0 rfl rfl)
theorem dX0_isOf_1 : decode cX0_isOf 1 = .ok (.iload_n 1, 1) := dk_27 (dk_at dksX0_isOf_0 1 rfl rfl)
theorem dX0_isOf_2 : decode cX0_isOf 2 = .ok (.ishr, 1) := dk_122 (dk_at dksX0_isOf_0 2 rfl rfl)
theorem dX0_isOf_3 : decode cX0_isOf 3 = .ok (.iconst 1, 1) := dk_4 (dk_at dksX0_isOf_0 3 rfl rfl)
theorem dX0_isOf_4 : decode cX0_isOf 4 = .ok (.iand, 1) := dk_126 (dk_at dksX0_isOf_0 4 rfl rfl)
theorem dX0_isOf_5 : decode cX0_isOf 5 = .ok (.iconst 1, 1) := dk_4 (dk_at dksX0_isOf_0 5 rfl rfl)
theorem dX0_isOf_6 : decode cX0_isOf 6 = .ok (.if_icmp .ne 7, 3) := dk_160 0 7 (dk_at dksX0_isOf_0 6 rfl rfl)
theorem dX0_isOf_9 : decode cX0_isOf 9 = .ok (.iconst 1, 1) := dk_4 (dk_at dksX0_isOf_0 9 rfl rfl)
theorem dX0_isOf_10 : decode cX0_isOf 10 = .ok (.goto 4, 3) := dk_167 0 4 (dk_at dksX0_isOf_0 10 rfl rfl)
theorem dX0_isOf_13 : decode cX0_isOf 13 = .ok (.iconst 0, 1) := dk_3 (dk_at dksX0_isOf_0 13 rfl rfl)
theorem dX0_isOf_14 : decode cX0_isOf 14 = .ok (.ireturn, 1) := dk_172 (dk_at dksX0_isOf_0 14 rfl rfl)
abbrev cX0_firstFound : ByteArray := prog_1_method_34_code
def yX0_firstFound : MethodName := ⟨RX0, "firstFound", "([I)I"⟩
def dkwX0_firstFound_1 : List UInt8 := [167, 255, 236, 28, 42, 180, 0, 84, 162, 0, 7, 28, 167, 0, 5, 16, 247, 172]
abbrev dktX0_firstFound_1 : List UInt8 := dkwX0_firstFound_1 ++ []
def dkwX0_firstFound_0 : List UInt8 := [3, 61, 28, 42, 180, 0, 84, 162, 0, 18, 42, 43, 28, 182, 0, 244, 154, 0, 9, 132, 2, 1]
abbrev dktX0_firstFound_0 : List UInt8 := dkwX0_firstFound_0 ++ dktX0_firstFound_1
theorem dksX0_firstFound_0 : cX0_firstFound.data.toList.drop 0 = dktX0_firstFound_0 := by decide +kernel
theorem dksX0_firstFound_1 : cX0_firstFound.data.toList.drop 22 = dktX0_firstFound_1 := dk_seg dksX0_firstFound_0 22 rfl rfl
theorem dX0_firstFound_0 : decode cX0_firstFound 0 = .ok (.iconst 0, 1) := dk_3 (dk_at dksX0_firstFound_0 0 rfl rfl)
theorem dX0_firstFound_1 : decode cX0_firstFound 1 = .ok (.istore_n 2, 1) := dk_61 (dk_at dksX0_firstFound_0 1 rfl rfl)
theorem dX0_firstFound_2 : decode cX0_firstFound 2 = .ok (.iload_n 2, 1) := dk_28 (dk_at dksX0_firstFound_0 2 rfl rfl)
theorem dX0_firstFound_3 : decode cX0_firstFound 3 = .ok (.aload_n 0, 1) := dk_42 (dk_at dksX0_firstFound_0 3 rfl rfl)
theorem dX0_firstFound_4 : decode cX0_firstFound 4 = .ok (.getfield 84, 3) := dk_180 0 84 (dk_at dksX0_firstFound_0 4 rfl rfl)
theorem dX0_firstFound_7 : decode cX0_firstFound 7 = .ok (.if_icmp .ge 18, 3) := dk_162 0 18 (dk_at dksX0_firstFound_0 7 rfl rfl)
theorem dX0_firstFound_10 : decode cX0_firstFound 10 = .ok (.aload_n 0, 1) := dk_42 (dk_at dksX0_firstFound_0 10 rfl rfl)
theorem dX0_firstFound_11 : decode cX0_firstFound 11 = .ok (.aload_n 1, 1) := dk_43 (dk_at dksX0_firstFound_0 11 rfl rfl)
theorem dX0_firstFound_12 : decode cX0_firstFound 12 = .ok (.iload_n 2, 1) := dk_28 (dk_at dksX0_firstFound_0 12 rfl rfl)
theorem dX0_firstFound_13 : decode cX0_firstFound 13 = .ok (.invokevirtual 244, 3) := dk_182 0 244 (dk_at dksX0_firstFound_0 13 rfl rfl)
theorem dX0_firstFound_16 : decode cX0_firstFound 16 = .ok (.ifCond .ne 9, 3) := dk_154 0 9 (dk_at dksX0_firstFound_0 16 rfl rfl)
theorem dX0_firstFound_19 : decode cX0_firstFound 19 = .ok (.iinc 2 1, 3) := dk_132 2 1 (dk_at dksX0_firstFound_0 19 rfl rfl)
theorem dX0_firstFound_22 : decode cX0_firstFound 22 = .ok (.goto (-20), 3) := dk_167 255 236 (dk_at dksX0_firstFound_1 0 rfl rfl)
theorem dX0_firstFound_25 : decode cX0_firstFound 25 = .ok (.iload_n 2, 1) := dk_28 (dk_at dksX0_firstFound_1 3 rfl rfl)
theorem dX0_firstFound_26 : decode cX0_firstFound 26 = .ok (.aload_n 0, 1) := dk_42 (dk_at dksX0_firstFound_1 4 rfl rfl)
theorem dX0_firstFound_27 : decode cX0_firstFound 27 = .ok (.getfield 84, 3) := dk_180 0 84 (dk_at dksX0_firstFound_1 5 rfl rfl)
theorem dX0_firstFound_30 : decode cX0_firstFound 30 = .ok (.if_icmp .ge 7, 3) := dk_162 0 7 (dk_at dksX0_firstFound_1 8 rfl rfl)
theorem dX0_firstFound_33 : decode cX0_firstFound 33 = .ok (.iload_n 2, 1) := dk_28 (dk_at dksX0_firstFound_1 11 rfl rfl)
theorem dX0_firstFound_34 : decode cX0_firstFound 34 = .ok (.goto 5, 3) := dk_167 0 5 (dk_at dksX0_firstFound_1 12 rfl rfl)
theorem dX0_firstFound_37 : decode cX0_firstFound 37 = .ok (.bipush (-9), 2) := dk_16 247 (dk_at dksX0_firstFound_1 15 rfl rfl)
theorem dX0_firstFound_39 : decode cX0_firstFound 39 = .ok (.ireturn, 1) := dk_172 (dk_at dksX0_firstFound_1 17 rfl rfl)
abbrev cX0_best : ByteArray := prog_1_method_37_code
def yX0_best : MethodName := ⟨RX0, "best", "(II)I"⟩
def dkwX0_best_3 : List UInt8 := [42, 182, 0, 225, 182, 0, 237, 172]
abbrev dktX0_best_3 : List UInt8 := dkwX0_best_3 ++ []
def dkwX0_best_2 : List UInt8 := [29, 16, 247, 160, 0, 7, 29, 167, 0, 24, 42, 180, 0, 12, 27, 185, 0, 191, 2, 0, 192, 0, 67, 29]
abbrev dktX0_best_2 : List UInt8 := dkwX0_best_2 ++ dktX0_best_3
def dkwX0_best_1 : List UInt8 := [180, 0, 12, 27, 185, 0, 191, 2, 0, 192, 0, 67, 42, 182, 0, 225, 182, 1, 7, 62, 28, 153, 0, 9]
abbrev dktX0_best_1 : List UInt8 := dkwX0_best_1 ++ dktX0_best_2
def dkwX0_best_0 : List UInt8 := [42, 27, 182, 0, 188, 154, 0, 5, 2, 172, 28, 133, 9, 10, 184, 0, 55, 154, 0, 6, 16, 254, 172, 42]
abbrev dktX0_best_0 : List UInt8 := dkwX0_best_0 ++ dktX0_best_1
theorem dksX0_best_0 : cX0_best.data.toList.drop 0 = dktX0_best_0 := by decide +kernel
theorem dksX0_best_1 : cX0_best.data.toList.drop 24 = dktX0_best_1 := dk_seg dksX0_best_0 24 rfl rfl
theorem dksX0_best_2 : cX0_best.data.toList.drop 48 = dktX0_best_2 := dk_seg dksX0_best_1 24 rfl rfl
theorem dksX0_best_3 : cX0_best.data.toList.drop 72 = dktX0_best_3 := dk_seg dksX0_best_2 24 rfl rfl
theorem dX0_best_0 : decode cX0_best 0 = .ok (.aload_n 0, 1) := dk_42 (dk_at dksX0_best_0 0 rfl rfl)
theorem dX0_best_1 : decode cX0_best 1 = .ok (.iload_n 1, 1) := dk_27 (dk_at dksX0_best_0 1 rfl rfl)
theorem dX0_best_2 : decode cX0_best 2 = .ok (.invokevirtual 188, 3) := dk_182 0 188 (dk_at dksX0_best_0 2 rfl rfl)
theorem dX0_best_5 : decode cX0_best 5 = .ok (.ifCond .ne 5, 3) := dk_154 0 5 (dk_at dksX0_best_0 5 rfl rfl)
theorem dX0_best_8 : decode cX0_best 8 = .ok (.iconst (-1), 1) := dk_2 (dk_at dksX0_best_0 8 rfl rfl)
theorem dX0_best_9 : decode cX0_best 9 = .ok (.ireturn, 1) := dk_172 (dk_at dksX0_best_0 9 rfl rfl)
theorem dX0_best_10 : decode cX0_best 10 = .ok (.iload_n 2, 1) := dk_28 (dk_at dksX0_best_0 10 rfl rfl)
theorem dX0_best_11 : decode cX0_best 11 = .ok (.i2l, 1) := dk_133 (dk_at dksX0_best_0 11 rfl rfl)
theorem dX0_best_12 : decode cX0_best 12 = .ok (.lconst 0, 1) := dk_9 (dk_at dksX0_best_0 12 rfl rfl)
theorem dX0_best_13 : decode cX0_best 13 = .ok (.lconst 1, 1) := dk_10 (dk_at dksX0_best_0 13 rfl rfl)
theorem dX0_best_14 : decode cX0_best 14 = .ok (.invokestatic 55, 3) := dk_184 0 55 (dk_at dksX0_best_0 14 rfl rfl)
theorem dX0_best_17 : decode cX0_best 17 = .ok (.ifCond .ne 6, 3) := dk_154 0 6 (dk_at dksX0_best_0 17 rfl rfl)
theorem dX0_best_20 : decode cX0_best 20 = .ok (.bipush (-2), 2) := dk_16 254 (dk_at dksX0_best_0 20 rfl rfl)
theorem dX0_best_22 : decode cX0_best 22 = .ok (.ireturn, 1) := dk_172 (dk_at dksX0_best_0 22 rfl rfl)
theorem dX0_best_23 : decode cX0_best 23 = .ok (.aload_n 0, 1) := dk_42 (dk_at dksX0_best_0 23 rfl rfl)
theorem dX0_best_24 : decode cX0_best 24 = .ok (.getfield 12, 3) := dk_180 0 12 (dk_at dksX0_best_1 0 rfl rfl)
theorem dX0_best_27 : decode cX0_best 27 = .ok (.iload_n 1, 1) := dk_27 (dk_at dksX0_best_1 3 rfl rfl)
theorem dX0_best_28 : decode cX0_best 28 = .ok (.invokeinterface 191 2, 5) := by decide +kernel
theorem dX0_best_33 : decode cX0_best 33 = .ok (.checkcast 67, 3) := dk_192 0 67 (dk_at dksX0_best_1 9 rfl rfl)
theorem dX0_best_36 : decode cX0_best 36 = .ok (.aload_n 0, 1) := dk_42 (dk_at dksX0_best_1 12 rfl rfl)
theorem dX0_best_37 : decode cX0_best 37 = .ok (.invokevirtual 225, 3) := dk_182 0 225 (dk_at dksX0_best_1 13 rfl rfl)
theorem dX0_best_40 : decode cX0_best 40 = .ok (.invokevirtual 263, 3) := dk_182 1 7 (dk_at dksX0_best_1 16 rfl rfl)
theorem dX0_best_43 : decode cX0_best 43 = .ok (.istore_n 3, 1) := dk_62 (dk_at dksX0_best_1 19 rfl rfl)
theorem dX0_best_44 : decode cX0_best 44 = .ok (.iload_n 2, 1) := dk_28 (dk_at dksX0_best_1 20 rfl rfl)
theorem dX0_best_45 : decode cX0_best 45 = .ok (.ifCond .eq 9, 3) := dk_153 0 9 (dk_at dksX0_best_1 21 rfl rfl)
theorem dX0_best_48 : decode cX0_best 48 = .ok (.iload_n 3, 1) := dk_29 (dk_at dksX0_best_2 0 rfl rfl)
theorem dX0_best_49 : decode cX0_best 49 = .ok (.bipush (-9), 2) := dk_16 247 (dk_at dksX0_best_2 1 rfl rfl)
theorem dX0_best_51 : decode cX0_best 51 = .ok (.if_icmp .ne 7, 3) := dk_160 0 7 (dk_at dksX0_best_2 3 rfl rfl)
theorem dX0_best_54 : decode cX0_best 54 = .ok (.iload_n 3, 1) := dk_29 (dk_at dksX0_best_2 6 rfl rfl)
theorem dX0_best_55 : decode cX0_best 55 = .ok (.goto 24, 3) := dk_167 0 24 (dk_at dksX0_best_2 7 rfl rfl)
theorem dX0_best_58 : decode cX0_best 58 = .ok (.aload_n 0, 1) := dk_42 (dk_at dksX0_best_2 10 rfl rfl)
theorem dX0_best_59 : decode cX0_best 59 = .ok (.getfield 12, 3) := dk_180 0 12 (dk_at dksX0_best_2 11 rfl rfl)
theorem dX0_best_62 : decode cX0_best 62 = .ok (.iload_n 1, 1) := dk_27 (dk_at dksX0_best_2 14 rfl rfl)
theorem dX0_best_63 : decode cX0_best 63 = .ok (.invokeinterface 191 2, 5) := by decide +kernel
theorem dX0_best_68 : decode cX0_best 68 = .ok (.checkcast 67, 3) := dk_192 0 67 (dk_at dksX0_best_2 20 rfl rfl)
theorem dX0_best_71 : decode cX0_best 71 = .ok (.iload_n 3, 1) := dk_29 (dk_at dksX0_best_2 23 rfl rfl)
theorem dX0_best_72 : decode cX0_best 72 = .ok (.aload_n 0, 1) := dk_42 (dk_at dksX0_best_3 0 rfl rfl)
theorem dX0_best_73 : decode cX0_best 73 = .ok (.invokevirtual 225, 3) := dk_182 0 225 (dk_at dksX0_best_3 1 rfl rfl)
theorem dX0_best_76 : decode cX0_best 76 = .ok (.invokevirtual 237, 3) := dk_182 0 237 (dk_at dksX0_best_3 4 rfl rfl)
theorem dX0_best_79 : decode cX0_best 79 = .ok (.ireturn, 1) := dk_172 (dk_at dksX0_best_3 7 rfl rfl)
abbrev cX0_village : ByteArray := prog_1_method_39_code
def yX0_village : MethodName := ⟨RX0, "village", "()I"⟩
def dkwX0_village_0 : List UInt8 := [42, 182, 0, 216, 153, 0, 14, 42, 42, 182, 0, 225, 182, 1, 10, 167, 0, 5, 16, 253, 172]
abbrev dktX0_village_0 : List UInt8 := dkwX0_village_0 ++ []
theorem dksX0_village_0 : cX0_village.data.toList.drop 0 = dktX0_village_0 := by decide +kernel
theorem dX0_village_0 : decode cX0_village 0 = .ok (.aload_n 0, 1) := dk_42 (dk_at dksX0_village_0 0 rfl rfl)
theorem dX0_village_1 : decode cX0_village 1 = .ok (.invokevirtual 216, 3) := dk_182 0 216 (dk_at dksX0_village_0 1 rfl rfl)
theorem dX0_village_4 : decode cX0_village 4 = .ok (.ifCond .eq 14, 3) := dk_153 0 14 (dk_at dksX0_village_0 4 rfl rfl)
theorem dX0_village_7 : decode cX0_village 7 = .ok (.aload_n 0, 1) := dk_42 (dk_at dksX0_village_0 7 rfl rfl)
theorem dX0_village_8 : decode cX0_village 8 = .ok (.aload_n 0, 1) := dk_42 (dk_at dksX0_village_0 8 rfl rfl)
theorem dX0_village_9 : decode cX0_village 9 = .ok (.invokevirtual 225, 3) := dk_182 0 225 (dk_at dksX0_village_0 9 rfl rfl)
theorem dX0_village_12 : decode cX0_village 12 = .ok (.invokevirtual 266, 3) := dk_182 1 10 (dk_at dksX0_village_0 12 rfl rfl)
theorem dX0_village_15 : decode cX0_village 15 = .ok (.goto 5, 3) := dk_167 0 5 (dk_at dksX0_village_0 15 rfl rfl)
theorem dX0_village_18 : decode cX0_village 18 = .ok (.bipush (-3), 2) := dk_16 253 (dk_at dksX0_village_0 18 rfl rfl)
theorem dX0_village_20 : decode cX0_village 20 = .ok (.ireturn, 1) := dk_172 (dk_at dksX0_village_0 20 rfl rfl)
abbrev cX0_villageBy : ByteArray := prog_1_method_38_code
def yX0_villageBy : MethodName := ⟨RX0, "villageBy", "(I)I"⟩
def dkwX0_villageBy_3 : List UInt8 := [172]
abbrev dktX0_villageBy_3 : List UInt8 := dkwX0_villageBy_3 ++ []
def dkwX0_villageBy_2 : List UInt8 := [160, 0, 6, 16, 247, 172, 28, 25, 4, 21, 5, 27, 182, 0, 237, 96, 61, 132, 3, 1, 167, 255, 196, 28]
abbrev dktX0_villageBy_2 : List UInt8 := dkwX0_villageBy_2 ++ dktX0_villageBy_3
def dkwX0_villageBy_1 : List UInt8 := [185, 0, 191, 2, 0, 192, 0, 67, 58, 4, 25, 4, 27, 182, 1, 7, 54, 5, 21, 5, 16, 247]
abbrev dktX0_villageBy_1 : List UInt8 := dkwX0_villageBy_1 ++ dktX0_villageBy_2
def dkwX0_villageBy_0 : List UInt8 := [3, 61, 3, 62, 29, 42, 180, 0, 12, 185, 0, 87, 1, 0, 162, 0, 53, 42, 180, 0, 12, 29]
abbrev dktX0_villageBy_0 : List UInt8 := dkwX0_villageBy_0 ++ dktX0_villageBy_1
theorem dksX0_villageBy_0 : cX0_villageBy.data.toList.drop 0 = dktX0_villageBy_0 := by decide +kernel
theorem dksX0_villageBy_1 : cX0_villageBy.data.toList.drop 22 = dktX0_villageBy_1 := dk_seg dksX0_villageBy_0 22 rfl rfl
theorem dksX0_villageBy_2 : cX0_villageBy.data.toList.drop 44 = dktX0_villageBy_2 := dk_seg dksX0_villageBy_1 22 rfl rfl
theorem dksX0_villageBy_3 : cX0_villageBy.data.toList.drop 68 = dktX0_villageBy_3 := dk_seg dksX0_villageBy_2 24 rfl rfl
theorem dX0_villageBy_0 : decode cX0_villageBy 0 = .ok (.iconst 0, 1) := dk_3 (dk_at dksX0_villageBy_0 0 rfl rfl)
theorem dX0_villageBy_1 : decode cX0_villageBy 1 = .ok (.istore_n 2, 1) := dk_61 (dk_at dksX0_villageBy_0 1 rfl rfl)
theorem dX0_villageBy_2 : decode cX0_villageBy 2 = .ok (.iconst 0, 1) := dk_3 (dk_at dksX0_villageBy_0 2 rfl rfl)
theorem dX0_villageBy_3 : decode cX0_villageBy 3 = .ok (.istore_n 3, 1) := dk_62 (dk_at dksX0_villageBy_0 3 rfl rfl)
theorem dX0_villageBy_4 : decode cX0_villageBy 4 = .ok (.iload_n 3, 1) := dk_29 (dk_at dksX0_villageBy_0 4 rfl rfl)
theorem dX0_villageBy_5 : decode cX0_villageBy 5 = .ok (.aload_n 0, 1) := dk_42 (dk_at dksX0_villageBy_0 5 rfl rfl)
theorem dX0_villageBy_6 : decode cX0_villageBy 6 = .ok (.getfield 12, 3) := dk_180 0 12 (dk_at dksX0_villageBy_0 6 rfl rfl)
theorem dX0_villageBy_9 : decode cX0_villageBy 9 = .ok (.invokeinterface 87 1, 5) := by decide +kernel
theorem dX0_villageBy_14 : decode cX0_villageBy 14 = .ok (.if_icmp .ge 53, 3) := dk_162 0 53 (dk_at dksX0_villageBy_0 14 rfl rfl)
theorem dX0_villageBy_17 : decode cX0_villageBy 17 = .ok (.aload_n 0, 1) := dk_42 (dk_at dksX0_villageBy_0 17 rfl rfl)
theorem dX0_villageBy_18 : decode cX0_villageBy 18 = .ok (.getfield 12, 3) := dk_180 0 12 (dk_at dksX0_villageBy_0 18 rfl rfl)
theorem dX0_villageBy_21 : decode cX0_villageBy 21 = .ok (.iload_n 3, 1) := dk_29 (dk_at dksX0_villageBy_0 21 rfl rfl)
theorem dX0_villageBy_22 : decode cX0_villageBy 22 = .ok (.invokeinterface 191 2, 5) := by decide +kernel
theorem dX0_villageBy_27 : decode cX0_villageBy 27 = .ok (.checkcast 67, 3) := dk_192 0 67 (dk_at dksX0_villageBy_1 5 rfl rfl)
theorem dX0_villageBy_30 : decode cX0_villageBy 30 = .ok (.astore 4, 2) := dk_58 4 (dk_at dksX0_villageBy_1 8 rfl rfl)
theorem dX0_villageBy_32 : decode cX0_villageBy 32 = .ok (.aload 4, 2) := dk_25 4 (dk_at dksX0_villageBy_1 10 rfl rfl)
theorem dX0_villageBy_34 : decode cX0_villageBy 34 = .ok (.iload_n 1, 1) := dk_27 (dk_at dksX0_villageBy_1 12 rfl rfl)
theorem dX0_villageBy_35 : decode cX0_villageBy 35 = .ok (.invokevirtual 263, 3) := dk_182 1 7 (dk_at dksX0_villageBy_1 13 rfl rfl)
theorem dX0_villageBy_38 : decode cX0_villageBy 38 = .ok (.istore 5, 2) := dk_54 5 (dk_at dksX0_villageBy_1 16 rfl rfl)
theorem dX0_villageBy_40 : decode cX0_villageBy 40 = .ok (.iload 5, 2) := dk_21 5 (dk_at dksX0_villageBy_1 18 rfl rfl)
theorem dX0_villageBy_42 : decode cX0_villageBy 42 = .ok (.bipush (-9), 2) := dk_16 247 (dk_at dksX0_villageBy_1 20 rfl rfl)
theorem dX0_villageBy_44 : decode cX0_villageBy 44 = .ok (.if_icmp .ne 6, 3) := dk_160 0 6 (dk_at dksX0_villageBy_2 0 rfl rfl)
theorem dX0_villageBy_47 : decode cX0_villageBy 47 = .ok (.bipush (-9), 2) := dk_16 247 (dk_at dksX0_villageBy_2 3 rfl rfl)
theorem dX0_villageBy_49 : decode cX0_villageBy 49 = .ok (.ireturn, 1) := dk_172 (dk_at dksX0_villageBy_2 5 rfl rfl)
theorem dX0_villageBy_50 : decode cX0_villageBy 50 = .ok (.iload_n 2, 1) := dk_28 (dk_at dksX0_villageBy_2 6 rfl rfl)
theorem dX0_villageBy_51 : decode cX0_villageBy 51 = .ok (.aload 4, 2) := dk_25 4 (dk_at dksX0_villageBy_2 7 rfl rfl)
theorem dX0_villageBy_53 : decode cX0_villageBy 53 = .ok (.iload 5, 2) := dk_21 5 (dk_at dksX0_villageBy_2 9 rfl rfl)
theorem dX0_villageBy_55 : decode cX0_villageBy 55 = .ok (.iload_n 1, 1) := dk_27 (dk_at dksX0_villageBy_2 11 rfl rfl)
theorem dX0_villageBy_56 : decode cX0_villageBy 56 = .ok (.invokevirtual 237, 3) := dk_182 0 237 (dk_at dksX0_villageBy_2 12 rfl rfl)
theorem dX0_villageBy_59 : decode cX0_villageBy 59 = .ok (.iadd, 1) := dk_96 (dk_at dksX0_villageBy_2 15 rfl rfl)
theorem dX0_villageBy_60 : decode cX0_villageBy 60 = .ok (.istore_n 2, 1) := dk_61 (dk_at dksX0_villageBy_2 16 rfl rfl)
theorem dX0_villageBy_61 : decode cX0_villageBy 61 = .ok (.iinc 3 1, 3) := dk_132 3 1 (dk_at dksX0_villageBy_2 17 rfl rfl)
theorem dX0_villageBy_64 : decode cX0_villageBy 64 = .ok (.goto (-60), 3) := dk_167 255 196 (dk_at dksX0_villageBy_2 20 rfl rfl)
theorem dX0_villageBy_67 : decode cX0_villageBy 67 = .ok (.iload_n 2, 1) := dk_28 (dk_at dksX0_villageBy_2 23 rfl rfl)
theorem dX0_villageBy_68 : decode cX0_villageBy 68 = .ok (.ireturn, 1) := dk_172 (dk_at dksX0_villageBy_3 0 rfl rfl)
abbrev cX0_smile : ByteArray := prog_1_method_40_code
def yX0_smile : MethodName := ⟨RX0, "smile", "(I)I"⟩
def dkwX0_smile_5 : List UInt8 := [167, 0, 4, 29, 172]
abbrev dktX0_smile_5 : List UInt8 := dkwX0_smile_5 ++ []
def dkwX0_smile_4 : List UInt8 := [167, 0, 10, 21, 5, 54, 4, 21, 6, 62, 132, 5, 1, 167, 255, 188, 27, 154, 0, 8, 21, 4]
abbrev dktX0_smile_4 : List UInt8 := dkwX0_smile_4 ++ dktX0_smile_5
def dkwX0_smile_3 : List UInt8 := [54, 6, 21, 6, 16, 247, 159, 0, 26, 21, 4, 16, 247, 159, 0, 12, 21, 6, 29, 161, 0, 6]
abbrev dktX0_smile_3 : List UInt8 := dkwX0_smile_3 ++ dktX0_smile_4
def dkwX0_smile_2 : List UInt8 := [21, 5, 184, 0, 240, 154, 0, 6, 167, 0, 47, 42, 28, 4, 21, 5, 120, 2, 130, 126, 182, 1, 10]
abbrev dktX0_smile_2 : List UInt8 := dkwX0_smile_2 ++ dktX0_smile_3
def dkwX0_smile_1 : List UInt8 := [182, 0, 225, 61, 16, 247, 62, 16, 247, 54, 4, 3, 54, 5, 21, 5, 42, 180, 0, 84, 162, 0, 65, 28]
abbrev dktX0_smile_1 : List UInt8 := dkwX0_smile_1 ++ dktX0_smile_2
def dkwX0_smile_0 : List UInt8 := [27, 133, 9, 10, 184, 0, 55, 154, 0, 6, 16, 254, 172, 42, 182, 0, 216, 154, 0, 6, 16, 253, 172, 42]
abbrev dktX0_smile_0 : List UInt8 := dkwX0_smile_0 ++ dktX0_smile_1
theorem dksX0_smile_0 : cX0_smile.data.toList.drop 0 = dktX0_smile_0 := by decide +kernel
theorem dksX0_smile_1 : cX0_smile.data.toList.drop 24 = dktX0_smile_1 := dk_seg dksX0_smile_0 24 rfl rfl
theorem dksX0_smile_2 : cX0_smile.data.toList.drop 48 = dktX0_smile_2 := dk_seg dksX0_smile_1 24 rfl rfl
theorem dksX0_smile_3 : cX0_smile.data.toList.drop 71 = dktX0_smile_3 := dk_seg dksX0_smile_2 23 rfl rfl
theorem dksX0_smile_4 : cX0_smile.data.toList.drop 93 = dktX0_smile_4 := dk_seg dksX0_smile_3 22 rfl rfl
theorem dksX0_smile_5 : cX0_smile.data.toList.drop 115 = dktX0_smile_5 := dk_seg dksX0_smile_4 22 rfl rfl
theorem dX0_smile_0 : decode cX0_smile 0 = .ok (.iload_n 1, 1) := dk_27 (dk_at dksX0_smile_0 0 rfl rfl)
theorem dX0_smile_1 : decode cX0_smile 1 = .ok (.i2l, 1) := dk_133 (dk_at dksX0_smile_0 1 rfl rfl)
theorem dX0_smile_2 : decode cX0_smile 2 = .ok (.lconst 0, 1) := dk_9 (dk_at dksX0_smile_0 2 rfl rfl)
theorem dX0_smile_3 : decode cX0_smile 3 = .ok (.lconst 1, 1) := dk_10 (dk_at dksX0_smile_0 3 rfl rfl)
theorem dX0_smile_4 : decode cX0_smile 4 = .ok (.invokestatic 55, 3) := dk_184 0 55 (dk_at dksX0_smile_0 4 rfl rfl)
theorem dX0_smile_7 : decode cX0_smile 7 = .ok (.ifCond .ne 6, 3) := dk_154 0 6 (dk_at dksX0_smile_0 7 rfl rfl)
theorem dX0_smile_10 : decode cX0_smile 10 = .ok (.bipush (-2), 2) := dk_16 254 (dk_at dksX0_smile_0 10 rfl rfl)
theorem dX0_smile_12 : decode cX0_smile 12 = .ok (.ireturn, 1) := dk_172 (dk_at dksX0_smile_0 12 rfl rfl)
theorem dX0_smile_13 : decode cX0_smile 13 = .ok (.aload_n 0, 1) := dk_42 (dk_at dksX0_smile_0 13 rfl rfl)
theorem dX0_smile_14 : decode cX0_smile 14 = .ok (.invokevirtual 216, 3) := dk_182 0 216 (dk_at dksX0_smile_0 14 rfl rfl)
theorem dX0_smile_17 : decode cX0_smile 17 = .ok (.ifCond .ne 6, 3) := dk_154 0 6 (dk_at dksX0_smile_0 17 rfl rfl)
theorem dX0_smile_20 : decode cX0_smile 20 = .ok (.bipush (-3), 2) := dk_16 253 (dk_at dksX0_smile_0 20 rfl rfl)
theorem dX0_smile_22 : decode cX0_smile 22 = .ok (.ireturn, 1) := dk_172 (dk_at dksX0_smile_0 22 rfl rfl)
theorem dX0_smile_23 : decode cX0_smile 23 = .ok (.aload_n 0, 1) := dk_42 (dk_at dksX0_smile_0 23 rfl rfl)
theorem dX0_smile_24 : decode cX0_smile 24 = .ok (.invokevirtual 225, 3) := dk_182 0 225 (dk_at dksX0_smile_1 0 rfl rfl)
theorem dX0_smile_27 : decode cX0_smile 27 = .ok (.istore_n 2, 1) := dk_61 (dk_at dksX0_smile_1 3 rfl rfl)
theorem dX0_smile_28 : decode cX0_smile 28 = .ok (.bipush (-9), 2) := dk_16 247 (dk_at dksX0_smile_1 4 rfl rfl)
theorem dX0_smile_30 : decode cX0_smile 30 = .ok (.istore_n 3, 1) := dk_62 (dk_at dksX0_smile_1 6 rfl rfl)
theorem dX0_smile_31 : decode cX0_smile 31 = .ok (.bipush (-9), 2) := dk_16 247 (dk_at dksX0_smile_1 7 rfl rfl)
theorem dX0_smile_33 : decode cX0_smile 33 = .ok (.istore 4, 2) := dk_54 4 (dk_at dksX0_smile_1 9 rfl rfl)
theorem dX0_smile_35 : decode cX0_smile 35 = .ok (.iconst 0, 1) := dk_3 (dk_at dksX0_smile_1 11 rfl rfl)
theorem dX0_smile_36 : decode cX0_smile 36 = .ok (.istore 5, 2) := dk_54 5 (dk_at dksX0_smile_1 12 rfl rfl)
theorem dX0_smile_38 : decode cX0_smile 38 = .ok (.iload 5, 2) := dk_21 5 (dk_at dksX0_smile_1 14 rfl rfl)
theorem dX0_smile_40 : decode cX0_smile 40 = .ok (.aload_n 0, 1) := dk_42 (dk_at dksX0_smile_1 16 rfl rfl)
theorem dX0_smile_41 : decode cX0_smile 41 = .ok (.getfield 84, 3) := dk_180 0 84 (dk_at dksX0_smile_1 17 rfl rfl)
theorem dX0_smile_44 : decode cX0_smile 44 = .ok (.if_icmp .ge 65, 3) := dk_162 0 65 (dk_at dksX0_smile_1 20 rfl rfl)
theorem dX0_smile_47 : decode cX0_smile 47 = .ok (.iload_n 2, 1) := dk_28 (dk_at dksX0_smile_1 23 rfl rfl)
theorem dX0_smile_48 : decode cX0_smile 48 = .ok (.iload 5, 2) := dk_21 5 (dk_at dksX0_smile_2 0 rfl rfl)
theorem dX0_smile_50 : decode cX0_smile 50 = .ok (.invokestatic 240, 3) := dk_184 0 240 (dk_at dksX0_smile_2 2 rfl rfl)
theorem dX0_smile_53 : decode cX0_smile 53 = .ok (.ifCond .ne 6, 3) := dk_154 0 6 (dk_at dksX0_smile_2 5 rfl rfl)
theorem dX0_smile_56 : decode cX0_smile 56 = .ok (.goto 47, 3) := dk_167 0 47 (dk_at dksX0_smile_2 8 rfl rfl)
theorem dX0_smile_59 : decode cX0_smile 59 = .ok (.aload_n 0, 1) := dk_42 (dk_at dksX0_smile_2 11 rfl rfl)
theorem dX0_smile_60 : decode cX0_smile 60 = .ok (.iload_n 2, 1) := dk_28 (dk_at dksX0_smile_2 12 rfl rfl)
theorem dX0_smile_61 : decode cX0_smile 61 = .ok (.iconst 1, 1) := dk_4 (dk_at dksX0_smile_2 13 rfl rfl)
theorem dX0_smile_62 : decode cX0_smile 62 = .ok (.iload 5, 2) := dk_21 5 (dk_at dksX0_smile_2 14 rfl rfl)
theorem dX0_smile_64 : decode cX0_smile 64 = .ok (.ishl, 1) := dk_120 (dk_at dksX0_smile_2 16 rfl rfl)
theorem dX0_smile_65 : decode cX0_smile 65 = .ok (.iconst (-1), 1) := dk_2 (dk_at dksX0_smile_2 17 rfl rfl)
theorem dX0_smile_66 : decode cX0_smile 66 = .ok (.ixor, 1) := dk_130 (dk_at dksX0_smile_2 18 rfl rfl)
theorem dX0_smile_67 : decode cX0_smile 67 = .ok (.iand, 1) := dk_126 (dk_at dksX0_smile_2 19 rfl rfl)
theorem dX0_smile_68 : decode cX0_smile 68 = .ok (.invokevirtual 266, 3) := dk_182 1 10 (dk_at dksX0_smile_2 20 rfl rfl)
theorem dX0_smile_71 : decode cX0_smile 71 = .ok (.istore 6, 2) := dk_54 6 (dk_at dksX0_smile_3 0 rfl rfl)
theorem dX0_smile_73 : decode cX0_smile 73 = .ok (.iload 6, 2) := dk_21 6 (dk_at dksX0_smile_3 2 rfl rfl)
theorem dX0_smile_75 : decode cX0_smile 75 = .ok (.bipush (-9), 2) := dk_16 247 (dk_at dksX0_smile_3 4 rfl rfl)
theorem dX0_smile_77 : decode cX0_smile 77 = .ok (.if_icmp .eq 26, 3) := dk_159 0 26 (dk_at dksX0_smile_3 6 rfl rfl)
theorem dX0_smile_80 : decode cX0_smile 80 = .ok (.iload 4, 2) := dk_21 4 (dk_at dksX0_smile_3 9 rfl rfl)
theorem dX0_smile_82 : decode cX0_smile 82 = .ok (.bipush (-9), 2) := dk_16 247 (dk_at dksX0_smile_3 11 rfl rfl)
theorem dX0_smile_84 : decode cX0_smile 84 = .ok (.if_icmp .eq 12, 3) := dk_159 0 12 (dk_at dksX0_smile_3 13 rfl rfl)
theorem dX0_smile_87 : decode cX0_smile 87 = .ok (.iload 6, 2) := dk_21 6 (dk_at dksX0_smile_3 16 rfl rfl)
theorem dX0_smile_89 : decode cX0_smile 89 = .ok (.iload_n 3, 1) := dk_29 (dk_at dksX0_smile_3 18 rfl rfl)
theorem dX0_smile_90 : decode cX0_smile 90 = .ok (.if_icmp .lt 6, 3) := dk_161 0 6 (dk_at dksX0_smile_3 19 rfl rfl)
theorem dX0_smile_93 : decode cX0_smile 93 = .ok (.goto 10, 3) := dk_167 0 10 (dk_at dksX0_smile_4 0 rfl rfl)
theorem dX0_smile_96 : decode cX0_smile 96 = .ok (.iload 5, 2) := dk_21 5 (dk_at dksX0_smile_4 3 rfl rfl)
theorem dX0_smile_98 : decode cX0_smile 98 = .ok (.istore 4, 2) := dk_54 4 (dk_at dksX0_smile_4 5 rfl rfl)
theorem dX0_smile_100 : decode cX0_smile 100 = .ok (.iload 6, 2) := dk_21 6 (dk_at dksX0_smile_4 7 rfl rfl)
theorem dX0_smile_102 : decode cX0_smile 102 = .ok (.istore_n 3, 1) := dk_62 (dk_at dksX0_smile_4 9 rfl rfl)
theorem dX0_smile_103 : decode cX0_smile 103 = .ok (.iinc 5 1, 3) := dk_132 5 1 (dk_at dksX0_smile_4 10 rfl rfl)
theorem dX0_smile_106 : decode cX0_smile 106 = .ok (.goto (-68), 3) := dk_167 255 188 (dk_at dksX0_smile_4 13 rfl rfl)
theorem dX0_smile_109 : decode cX0_smile 109 = .ok (.iload_n 1, 1) := dk_27 (dk_at dksX0_smile_4 16 rfl rfl)
theorem dX0_smile_110 : decode cX0_smile 110 = .ok (.ifCond .ne 8, 3) := dk_154 0 8 (dk_at dksX0_smile_4 17 rfl rfl)
theorem dX0_smile_113 : decode cX0_smile 113 = .ok (.iload 4, 2) := dk_21 4 (dk_at dksX0_smile_4 20 rfl rfl)
theorem dX0_smile_115 : decode cX0_smile 115 = .ok (.goto 4, 3) := dk_167 0 4 (dk_at dksX0_smile_5 0 rfl rfl)
theorem dX0_smile_118 : decode cX0_smile 118 = .ok (.iload_n 3, 1) := dk_29 (dk_at dksX0_smile_5 3 rfl rfl)
theorem dX0_smile_119 : decode cX0_smile 119 = .ok (.ireturn, 1) := dk_172 (dk_at dksX0_smile_5 4 rfl rfl)
abbrev cX0_reading : ByteArray := prog_1_method_41_code
def yX0_reading : MethodName := ⟨RX0, "reading", "(IIIZ)I"⟩
def dkwX0_reading_4 : List UInt8 := [180, 0, 148, 4, 100, 172]
abbrev dktX0_reading_4 : List UInt8 := dkwX0_reading_4 ++ []
def dkwX0_reading_3 : List UInt8 := [29, 79, 42, 180, 0, 41, 42, 180, 0, 148, 21, 4, 84, 42, 89, 180, 0, 148, 4, 96, 181, 0, 148, 42]
abbrev dktX0_reading_3 : List UInt8 := dkwX0_reading_3 ++ dktX0_reading_4
def dkwX0_reading_2 : List UInt8 := [42, 180, 0, 148, 27, 79, 42, 180, 0, 35, 42, 180, 0, 148, 28, 79, 42, 180, 0, 38, 42, 180, 0, 148]
abbrev dktX0_reading_2 : List UInt8 := dkwX0_reading_2 ++ dktX0_reading_3
def dkwX0_reading_1 : List UInt8 := [182, 0, 210, 154, 0, 5, 2, 172, 42, 180, 0, 148, 16, 8, 160, 0, 6, 16, 252, 172, 42, 180, 0, 32]
abbrev dktX0_reading_1 : List UInt8 := dkwX0_reading_1 ++ dktX0_reading_2
def dkwX0_reading_0 : List UInt8 := [42, 27, 182, 0, 188, 154, 0, 5, 2, 172, 42, 28, 182, 0, 228, 154, 0, 6, 16, 254, 172, 42, 29]
abbrev dktX0_reading_0 : List UInt8 := dkwX0_reading_0 ++ dktX0_reading_1
theorem dksX0_reading_0 : cX0_reading.data.toList.drop 0 = dktX0_reading_0 := by decide +kernel
theorem dksX0_reading_1 : cX0_reading.data.toList.drop 23 = dktX0_reading_1 := dk_seg dksX0_reading_0 23 rfl rfl
theorem dksX0_reading_2 : cX0_reading.data.toList.drop 47 = dktX0_reading_2 := dk_seg dksX0_reading_1 24 rfl rfl
theorem dksX0_reading_3 : cX0_reading.data.toList.drop 71 = dktX0_reading_3 := dk_seg dksX0_reading_2 24 rfl rfl
theorem dksX0_reading_4 : cX0_reading.data.toList.drop 95 = dktX0_reading_4 := dk_seg dksX0_reading_3 24 rfl rfl
theorem dX0_reading_0 : decode cX0_reading 0 = .ok (.aload_n 0, 1) := dk_42 (dk_at dksX0_reading_0 0 rfl rfl)
theorem dX0_reading_1 : decode cX0_reading 1 = .ok (.iload_n 1, 1) := dk_27 (dk_at dksX0_reading_0 1 rfl rfl)
theorem dX0_reading_2 : decode cX0_reading 2 = .ok (.invokevirtual 188, 3) := dk_182 0 188 (dk_at dksX0_reading_0 2 rfl rfl)
theorem dX0_reading_5 : decode cX0_reading 5 = .ok (.ifCond .ne 5, 3) := dk_154 0 5 (dk_at dksX0_reading_0 5 rfl rfl)
theorem dX0_reading_8 : decode cX0_reading 8 = .ok (.iconst (-1), 1) := dk_2 (dk_at dksX0_reading_0 8 rfl rfl)
theorem dX0_reading_9 : decode cX0_reading 9 = .ok (.ireturn, 1) := dk_172 (dk_at dksX0_reading_0 9 rfl rfl)
theorem dX0_reading_10 : decode cX0_reading 10 = .ok (.aload_n 0, 1) := dk_42 (dk_at dksX0_reading_0 10 rfl rfl)
theorem dX0_reading_11 : decode cX0_reading 11 = .ok (.iload_n 2, 1) := dk_28 (dk_at dksX0_reading_0 11 rfl rfl)
theorem dX0_reading_12 : decode cX0_reading 12 = .ok (.invokevirtual 228, 3) := dk_182 0 228 (dk_at dksX0_reading_0 12 rfl rfl)
theorem dX0_reading_15 : decode cX0_reading 15 = .ok (.ifCond .ne 6, 3) := dk_154 0 6 (dk_at dksX0_reading_0 15 rfl rfl)
theorem dX0_reading_18 : decode cX0_reading 18 = .ok (.bipush (-2), 2) := dk_16 254 (dk_at dksX0_reading_0 18 rfl rfl)
theorem dX0_reading_20 : decode cX0_reading 20 = .ok (.ireturn, 1) := dk_172 (dk_at dksX0_reading_0 20 rfl rfl)
theorem dX0_reading_21 : decode cX0_reading 21 = .ok (.aload_n 0, 1) := dk_42 (dk_at dksX0_reading_0 21 rfl rfl)
theorem dX0_reading_22 : decode cX0_reading 22 = .ok (.iload_n 3, 1) := dk_29 (dk_at dksX0_reading_0 22 rfl rfl)
theorem dX0_reading_23 : decode cX0_reading 23 = .ok (.invokevirtual 210, 3) := dk_182 0 210 (dk_at dksX0_reading_1 0 rfl rfl)
theorem dX0_reading_26 : decode cX0_reading 26 = .ok (.ifCond .ne 5, 3) := dk_154 0 5 (dk_at dksX0_reading_1 3 rfl rfl)
theorem dX0_reading_29 : decode cX0_reading 29 = .ok (.iconst (-1), 1) := dk_2 (dk_at dksX0_reading_1 6 rfl rfl)
theorem dX0_reading_30 : decode cX0_reading 30 = .ok (.ireturn, 1) := dk_172 (dk_at dksX0_reading_1 7 rfl rfl)
theorem dX0_reading_31 : decode cX0_reading 31 = .ok (.aload_n 0, 1) := dk_42 (dk_at dksX0_reading_1 8 rfl rfl)
theorem dX0_reading_32 : decode cX0_reading 32 = .ok (.getfield 148, 3) := dk_180 0 148 (dk_at dksX0_reading_1 9 rfl rfl)
theorem dX0_reading_35 : decode cX0_reading 35 = .ok (.bipush 8, 2) := dk_16 8 (dk_at dksX0_reading_1 12 rfl rfl)
theorem dX0_reading_37 : decode cX0_reading 37 = .ok (.if_icmp .ne 6, 3) := dk_160 0 6 (dk_at dksX0_reading_1 14 rfl rfl)
theorem dX0_reading_40 : decode cX0_reading 40 = .ok (.bipush (-4), 2) := dk_16 252 (dk_at dksX0_reading_1 17 rfl rfl)
theorem dX0_reading_42 : decode cX0_reading 42 = .ok (.ireturn, 1) := dk_172 (dk_at dksX0_reading_1 19 rfl rfl)
theorem dX0_reading_43 : decode cX0_reading 43 = .ok (.aload_n 0, 1) := dk_42 (dk_at dksX0_reading_1 20 rfl rfl)
theorem dX0_reading_44 : decode cX0_reading 44 = .ok (.getfield 32, 3) := dk_180 0 32 (dk_at dksX0_reading_1 21 rfl rfl)
theorem dX0_reading_47 : decode cX0_reading 47 = .ok (.aload_n 0, 1) := dk_42 (dk_at dksX0_reading_2 0 rfl rfl)
theorem dX0_reading_48 : decode cX0_reading 48 = .ok (.getfield 148, 3) := dk_180 0 148 (dk_at dksX0_reading_2 1 rfl rfl)
theorem dX0_reading_51 : decode cX0_reading 51 = .ok (.iload_n 1, 1) := dk_27 (dk_at dksX0_reading_2 4 rfl rfl)
theorem dX0_reading_52 : decode cX0_reading 52 = .ok (.iastore, 1) := dk_79 (dk_at dksX0_reading_2 5 rfl rfl)
theorem dX0_reading_53 : decode cX0_reading 53 = .ok (.aload_n 0, 1) := dk_42 (dk_at dksX0_reading_2 6 rfl rfl)
theorem dX0_reading_54 : decode cX0_reading 54 = .ok (.getfield 35, 3) := dk_180 0 35 (dk_at dksX0_reading_2 7 rfl rfl)
theorem dX0_reading_57 : decode cX0_reading 57 = .ok (.aload_n 0, 1) := dk_42 (dk_at dksX0_reading_2 10 rfl rfl)
theorem dX0_reading_58 : decode cX0_reading 58 = .ok (.getfield 148, 3) := dk_180 0 148 (dk_at dksX0_reading_2 11 rfl rfl)
theorem dX0_reading_61 : decode cX0_reading 61 = .ok (.iload_n 2, 1) := dk_28 (dk_at dksX0_reading_2 14 rfl rfl)
theorem dX0_reading_62 : decode cX0_reading 62 = .ok (.iastore, 1) := dk_79 (dk_at dksX0_reading_2 15 rfl rfl)
theorem dX0_reading_63 : decode cX0_reading 63 = .ok (.aload_n 0, 1) := dk_42 (dk_at dksX0_reading_2 16 rfl rfl)
theorem dX0_reading_64 : decode cX0_reading 64 = .ok (.getfield 38, 3) := dk_180 0 38 (dk_at dksX0_reading_2 17 rfl rfl)
theorem dX0_reading_67 : decode cX0_reading 67 = .ok (.aload_n 0, 1) := dk_42 (dk_at dksX0_reading_2 20 rfl rfl)
theorem dX0_reading_68 : decode cX0_reading 68 = .ok (.getfield 148, 3) := dk_180 0 148 (dk_at dksX0_reading_2 21 rfl rfl)
theorem dX0_reading_71 : decode cX0_reading 71 = .ok (.iload_n 3, 1) := dk_29 (dk_at dksX0_reading_3 0 rfl rfl)
theorem dX0_reading_72 : decode cX0_reading 72 = .ok (.iastore, 1) := dk_79 (dk_at dksX0_reading_3 1 rfl rfl)
theorem dX0_reading_73 : decode cX0_reading 73 = .ok (.aload_n 0, 1) := dk_42 (dk_at dksX0_reading_3 2 rfl rfl)
theorem dX0_reading_74 : decode cX0_reading 74 = .ok (.getfield 41, 3) := dk_180 0 41 (dk_at dksX0_reading_3 3 rfl rfl)
theorem dX0_reading_77 : decode cX0_reading 77 = .ok (.aload_n 0, 1) := dk_42 (dk_at dksX0_reading_3 6 rfl rfl)
theorem dX0_reading_78 : decode cX0_reading 78 = .ok (.getfield 148, 3) := dk_180 0 148 (dk_at dksX0_reading_3 7 rfl rfl)
theorem dX0_reading_81 : decode cX0_reading 81 = .ok (.iload 4, 2) := dk_21 4 (dk_at dksX0_reading_3 10 rfl rfl)
theorem dX0_reading_83 : decode cX0_reading 83 = .ok (.bastore, 1) := dk_84 (dk_at dksX0_reading_3 12 rfl rfl)
theorem dX0_reading_84 : decode cX0_reading 84 = .ok (.aload_n 0, 1) := dk_42 (dk_at dksX0_reading_3 13 rfl rfl)
theorem dX0_reading_85 : decode cX0_reading 85 = .ok (.dup, 1) := dk_89 (dk_at dksX0_reading_3 14 rfl rfl)
theorem dX0_reading_86 : decode cX0_reading 86 = .ok (.getfield 148, 3) := dk_180 0 148 (dk_at dksX0_reading_3 15 rfl rfl)
theorem dX0_reading_89 : decode cX0_reading 89 = .ok (.iconst 1, 1) := dk_4 (dk_at dksX0_reading_3 18 rfl rfl)
theorem dX0_reading_90 : decode cX0_reading 90 = .ok (.iadd, 1) := dk_96 (dk_at dksX0_reading_3 19 rfl rfl)
theorem dX0_reading_91 : decode cX0_reading 91 = .ok (.putfield 148, 3) := dk_181 0 148 (dk_at dksX0_reading_3 20 rfl rfl)
theorem dX0_reading_94 : decode cX0_reading 94 = .ok (.aload_n 0, 1) := dk_42 (dk_at dksX0_reading_3 23 rfl rfl)
theorem dX0_reading_95 : decode cX0_reading 95 = .ok (.getfield 148, 3) := dk_180 0 148 (dk_at dksX0_reading_4 0 rfl rfl)
theorem dX0_reading_98 : decode cX0_reading 98 = .ok (.iconst 1, 1) := dk_4 (dk_at dksX0_reading_4 3 rfl rfl)
theorem dX0_reading_99 : decode cX0_reading 99 = .ok (.isub, 1) := dk_100 (dk_at dksX0_reading_4 4 rfl rfl)
theorem dX0_reading_100 : decode cX0_reading 100 = .ok (.ireturn, 1) := dk_172 (dk_at dksX0_reading_4 5 rfl rfl)
abbrev cX0_back : ByteArray := prog_1_method_42_code
def yX0_back : MethodName := ⟨RX0, "back", "(I)I"⟩
def dkwX0_back_1 : List UInt8 := [181, 0, 148, 42, 180, 0, 148, 172]
abbrev dktX0_back_1 : List UInt8 := dkwX0_back_1 ++ []
def dkwX0_back_0 : List UInt8 := [27, 133, 9, 42, 180, 0, 148, 133, 184, 0, 55, 154, 0, 6, 16, 254, 172, 42, 89, 180, 0, 148, 27, 100]
abbrev dktX0_back_0 : List UInt8 := dkwX0_back_0 ++ dktX0_back_1
theorem dksX0_back_0 : cX0_back.data.toList.drop 0 = dktX0_back_0 := by decide +kernel
theorem dksX0_back_1 : cX0_back.data.toList.drop 24 = dktX0_back_1 := dk_seg dksX0_back_0 24 rfl rfl
theorem dX0_back_0 : decode cX0_back 0 = .ok (.iload_n 1, 1) := dk_27 (dk_at dksX0_back_0 0 rfl rfl)
theorem dX0_back_1 : decode cX0_back 1 = .ok (.i2l, 1) := dk_133 (dk_at dksX0_back_0 1 rfl rfl)
theorem dX0_back_2 : decode cX0_back 2 = .ok (.lconst 0, 1) := dk_9 (dk_at dksX0_back_0 2 rfl rfl)
theorem dX0_back_3 : decode cX0_back 3 = .ok (.aload_n 0, 1) := dk_42 (dk_at dksX0_back_0 3 rfl rfl)
theorem dX0_back_4 : decode cX0_back 4 = .ok (.getfield 148, 3) := dk_180 0 148 (dk_at dksX0_back_0 4 rfl rfl)
theorem dX0_back_7 : decode cX0_back 7 = .ok (.i2l, 1) := dk_133 (dk_at dksX0_back_0 7 rfl rfl)
theorem dX0_back_8 : decode cX0_back 8 = .ok (.invokestatic 55, 3) := dk_184 0 55 (dk_at dksX0_back_0 8 rfl rfl)
theorem dX0_back_11 : decode cX0_back 11 = .ok (.ifCond .ne 6, 3) := dk_154 0 6 (dk_at dksX0_back_0 11 rfl rfl)
theorem dX0_back_14 : decode cX0_back 14 = .ok (.bipush (-2), 2) := dk_16 254 (dk_at dksX0_back_0 14 rfl rfl)
theorem dX0_back_16 : decode cX0_back 16 = .ok (.ireturn, 1) := dk_172 (dk_at dksX0_back_0 16 rfl rfl)
theorem dX0_back_17 : decode cX0_back 17 = .ok (.aload_n 0, 1) := dk_42 (dk_at dksX0_back_0 17 rfl rfl)
theorem dX0_back_18 : decode cX0_back 18 = .ok (.dup, 1) := dk_89 (dk_at dksX0_back_0 18 rfl rfl)
theorem dX0_back_19 : decode cX0_back 19 = .ok (.getfield 148, 3) := dk_180 0 148 (dk_at dksX0_back_0 19 rfl rfl)
theorem dX0_back_22 : decode cX0_back 22 = .ok (.iload_n 1, 1) := dk_27 (dk_at dksX0_back_0 22 rfl rfl)
theorem dX0_back_23 : decode cX0_back 23 = .ok (.isub, 1) := dk_100 (dk_at dksX0_back_0 23 rfl rfl)
theorem dX0_back_24 : decode cX0_back 24 = .ok (.putfield 148, 3) := dk_181 0 148 (dk_at dksX0_back_1 0 rfl rfl)
theorem dX0_back_27 : decode cX0_back 27 = .ok (.aload_n 0, 1) := dk_42 (dk_at dksX0_back_1 3 rfl rfl)
theorem dX0_back_28 : decode cX0_back 28 = .ok (.getfield 148, 3) := dk_180 0 148 (dk_at dksX0_back_1 4 rfl rfl)
theorem dX0_back_31 : decode cX0_back 31 = .ok (.ireturn, 1) := dk_172 (dk_at dksX0_back_1 7 rfl rfl)
abbrev cX0_stays : ByteArray := prog_1_method_44_code
def yX0_stays : MethodName := ⟨RX0, "stays", "(I)I"⟩
def dkwX0_stays_3 : List UInt8 := [89, 180, 0, 198, 4, 96, 181, 0, 198, 167, 255, 212, 44, 29, 181, 0, 198, 21, 4, 172]
abbrev dktX0_stays_3 : List UInt8 := dkwX0_stays_3 ++ []
def dkwX0_stays_2 : List UInt8 := [42, 180, 0, 128, 182, 1, 13, 153, 0, 12, 4, 44, 180, 0, 198, 120, 167, 0, 4, 3, 128, 54, 4, 44]
abbrev dktX0_stays_2 : List UInt8 := dkwX0_stays_2 ++ dktX0_stays_3
def dkwX0_stays_1 : List UInt8 := [44, 180, 0, 198, 62, 3, 54, 4, 44, 3, 181, 0, 198, 44, 180, 0, 198, 8, 163, 0, 42, 21, 4, 42]
abbrev dktX0_stays_1 : List UInt8 := dkwX0_stays_1 ++ dktX0_stays_2
def dkwX0_stays_0 : List UInt8 := [42, 27, 182, 0, 188, 154, 0, 5, 2, 172, 42, 180, 0, 12, 27, 185, 0, 191, 2, 0, 192, 0, 67, 77]
abbrev dktX0_stays_0 : List UInt8 := dkwX0_stays_0 ++ dktX0_stays_1
theorem dksX0_stays_0 : cX0_stays.data.toList.drop 0 = dktX0_stays_0 := by decide +kernel
theorem dksX0_stays_1 : cX0_stays.data.toList.drop 24 = dktX0_stays_1 := dk_seg dksX0_stays_0 24 rfl rfl
theorem dksX0_stays_2 : cX0_stays.data.toList.drop 48 = dktX0_stays_2 := dk_seg dksX0_stays_1 24 rfl rfl
theorem dksX0_stays_3 : cX0_stays.data.toList.drop 72 = dktX0_stays_3 := dk_seg dksX0_stays_2 24 rfl rfl
theorem dX0_stays_0 : decode cX0_stays 0 = .ok (.aload_n 0, 1) := dk_42 (dk_at dksX0_stays_0 0 rfl rfl)
theorem dX0_stays_1 : decode cX0_stays 1 = .ok (.iload_n 1, 1) := dk_27 (dk_at dksX0_stays_0 1 rfl rfl)
theorem dX0_stays_2 : decode cX0_stays 2 = .ok (.invokevirtual 188, 3) := dk_182 0 188 (dk_at dksX0_stays_0 2 rfl rfl)
theorem dX0_stays_5 : decode cX0_stays 5 = .ok (.ifCond .ne 5, 3) := dk_154 0 5 (dk_at dksX0_stays_0 5 rfl rfl)
theorem dX0_stays_8 : decode cX0_stays 8 = .ok (.iconst (-1), 1) := dk_2 (dk_at dksX0_stays_0 8 rfl rfl)
theorem dX0_stays_9 : decode cX0_stays 9 = .ok (.ireturn, 1) := dk_172 (dk_at dksX0_stays_0 9 rfl rfl)
theorem dX0_stays_10 : decode cX0_stays 10 = .ok (.aload_n 0, 1) := dk_42 (dk_at dksX0_stays_0 10 rfl rfl)
theorem dX0_stays_11 : decode cX0_stays 11 = .ok (.getfield 12, 3) := dk_180 0 12 (dk_at dksX0_stays_0 11 rfl rfl)
theorem dX0_stays_14 : decode cX0_stays 14 = .ok (.iload_n 1, 1) := dk_27 (dk_at dksX0_stays_0 14 rfl rfl)
theorem dX0_stays_15 : decode cX0_stays 15 = .ok (.invokeinterface 191 2, 5) := by decide +kernel
theorem dX0_stays_20 : decode cX0_stays 20 = .ok (.checkcast 67, 3) := dk_192 0 67 (dk_at dksX0_stays_0 20 rfl rfl)
theorem dX0_stays_23 : decode cX0_stays 23 = .ok (.astore_n 2, 1) := dk_77 (dk_at dksX0_stays_0 23 rfl rfl)
theorem dX0_stays_24 : decode cX0_stays 24 = .ok (.aload_n 2, 1) := dk_44 (dk_at dksX0_stays_1 0 rfl rfl)
theorem dX0_stays_25 : decode cX0_stays 25 = .ok (.getfield 198, 3) := dk_180 0 198 (dk_at dksX0_stays_1 1 rfl rfl)
theorem dX0_stays_28 : decode cX0_stays 28 = .ok (.istore_n 3, 1) := dk_62 (dk_at dksX0_stays_1 4 rfl rfl)
theorem dX0_stays_29 : decode cX0_stays 29 = .ok (.iconst 0, 1) := dk_3 (dk_at dksX0_stays_1 5 rfl rfl)
theorem dX0_stays_30 : decode cX0_stays 30 = .ok (.istore 4, 2) := dk_54 4 (dk_at dksX0_stays_1 6 rfl rfl)
theorem dX0_stays_32 : decode cX0_stays 32 = .ok (.aload_n 2, 1) := dk_44 (dk_at dksX0_stays_1 8 rfl rfl)
theorem dX0_stays_33 : decode cX0_stays 33 = .ok (.iconst 0, 1) := dk_3 (dk_at dksX0_stays_1 9 rfl rfl)
theorem dX0_stays_34 : decode cX0_stays 34 = .ok (.putfield 198, 3) := dk_181 0 198 (dk_at dksX0_stays_1 10 rfl rfl)
theorem dX0_stays_37 : decode cX0_stays 37 = .ok (.aload_n 2, 1) := dk_44 (dk_at dksX0_stays_1 13 rfl rfl)
theorem dX0_stays_38 : decode cX0_stays 38 = .ok (.getfield 198, 3) := dk_180 0 198 (dk_at dksX0_stays_1 14 rfl rfl)
theorem dX0_stays_41 : decode cX0_stays 41 = .ok (.iconst 5, 1) := dk_8 (dk_at dksX0_stays_1 17 rfl rfl)
theorem dX0_stays_42 : decode cX0_stays 42 = .ok (.if_icmp .gt 42, 3) := dk_163 0 42 (dk_at dksX0_stays_1 18 rfl rfl)
theorem dX0_stays_45 : decode cX0_stays 45 = .ok (.iload 4, 2) := dk_21 4 (dk_at dksX0_stays_1 21 rfl rfl)
theorem dX0_stays_47 : decode cX0_stays 47 = .ok (.aload_n 0, 1) := dk_42 (dk_at dksX0_stays_1 23 rfl rfl)
theorem dX0_stays_48 : decode cX0_stays 48 = .ok (.aload_n 0, 1) := dk_42 (dk_at dksX0_stays_2 0 rfl rfl)
theorem dX0_stays_49 : decode cX0_stays 49 = .ok (.getfield 128, 3) := dk_180 0 128 (dk_at dksX0_stays_2 1 rfl rfl)
theorem dX0_stays_52 : decode cX0_stays 52 = .ok (.invokevirtual 269, 3) := dk_182 1 13 (dk_at dksX0_stays_2 4 rfl rfl)
theorem dX0_stays_55 : decode cX0_stays 55 = .ok (.ifCond .eq 12, 3) := dk_153 0 12 (dk_at dksX0_stays_2 7 rfl rfl)
theorem dX0_stays_58 : decode cX0_stays 58 = .ok (.iconst 1, 1) := dk_4 (dk_at dksX0_stays_2 10 rfl rfl)
theorem dX0_stays_59 : decode cX0_stays 59 = .ok (.aload_n 2, 1) := dk_44 (dk_at dksX0_stays_2 11 rfl rfl)
theorem dX0_stays_60 : decode cX0_stays 60 = .ok (.getfield 198, 3) := dk_180 0 198 (dk_at dksX0_stays_2 12 rfl rfl)
theorem dX0_stays_63 : decode cX0_stays 63 = .ok (.ishl, 1) := dk_120 (dk_at dksX0_stays_2 15 rfl rfl)
theorem dX0_stays_64 : decode cX0_stays 64 = .ok (.goto 4, 3) := dk_167 0 4 (dk_at dksX0_stays_2 16 rfl rfl)
theorem dX0_stays_67 : decode cX0_stays 67 = .ok (.iconst 0, 1) := dk_3 (dk_at dksX0_stays_2 19 rfl rfl)
theorem dX0_stays_68 : decode cX0_stays 68 = .ok (.ior, 1) := dk_128 (dk_at dksX0_stays_2 20 rfl rfl)
theorem dX0_stays_69 : decode cX0_stays 69 = .ok (.istore 4, 2) := dk_54 4 (dk_at dksX0_stays_2 21 rfl rfl)
theorem dX0_stays_71 : decode cX0_stays 71 = .ok (.aload_n 2, 1) := dk_44 (dk_at dksX0_stays_2 23 rfl rfl)
theorem dX0_stays_72 : decode cX0_stays 72 = .ok (.dup, 1) := dk_89 (dk_at dksX0_stays_3 0 rfl rfl)
theorem dX0_stays_73 : decode cX0_stays 73 = .ok (.getfield 198, 3) := dk_180 0 198 (dk_at dksX0_stays_3 1 rfl rfl)
theorem dX0_stays_76 : decode cX0_stays 76 = .ok (.iconst 1, 1) := dk_4 (dk_at dksX0_stays_3 4 rfl rfl)
theorem dX0_stays_77 : decode cX0_stays 77 = .ok (.iadd, 1) := dk_96 (dk_at dksX0_stays_3 5 rfl rfl)
theorem dX0_stays_78 : decode cX0_stays 78 = .ok (.putfield 198, 3) := dk_181 0 198 (dk_at dksX0_stays_3 6 rfl rfl)
theorem dX0_stays_81 : decode cX0_stays 81 = .ok (.goto (-44), 3) := dk_167 255 212 (dk_at dksX0_stays_3 9 rfl rfl)
theorem dX0_stays_84 : decode cX0_stays 84 = .ok (.aload_n 2, 1) := dk_44 (dk_at dksX0_stays_3 12 rfl rfl)
theorem dX0_stays_85 : decode cX0_stays 85 = .ok (.iload_n 3, 1) := dk_29 (dk_at dksX0_stays_3 13 rfl rfl)
theorem dX0_stays_86 : decode cX0_stays 86 = .ok (.putfield 198, 3) := dk_181 0 198 (dk_at dksX0_stays_3 14 rfl rfl)
theorem dX0_stays_89 : decode cX0_stays 89 = .ok (.iload 4, 2) := dk_21 4 (dk_at dksX0_stays_3 17 rfl rfl)
theorem dX0_stays_91 : decode cX0_stays 91 = .ok (.ireturn, 1) := dk_172 (dk_at dksX0_stays_3 19 rfl rfl)
abbrev cX0_areSo : ByteArray := prog_1_method_43_code
def yX0_areSo : MethodName := ⟨RX0, "areSo", "(I)Z"⟩
def dkwX0_areSo_3 : List UInt8 := [132, 3, 1, 167, 255, 187, 28, 172]
abbrev dktX0_areSo_3 : List UInt8 := dkwX0_areSo_3 ++ []
def dkwX0_areSo_2 : List UInt8 := [180, 0, 38, 29, 46, 184, 0, 240, 42, 180, 0, 41, 29, 51, 160, 0, 7, 4, 167, 0, 4, 3, 126, 61]
abbrev dktX0_areSo_2 : List UInt8 := dkwX0_areSo_2 ++ dktX0_areSo_3
def dkwX0_areSo_1 : List UInt8 := [185, 0, 191, 2, 0, 192, 0, 67, 42, 180, 0, 35, 29, 46, 42, 27, 182, 0, 222, 182, 0, 234, 42]
abbrev dktX0_areSo_1 : List UInt8 := dkwX0_areSo_1 ++ dktX0_areSo_2
def dkwX0_areSo_0 : List UInt8 := [4, 61, 3, 62, 29, 42, 180, 0, 148, 162, 0, 67, 28, 42, 180, 0, 12, 42, 180, 0, 32, 29, 46]
abbrev dktX0_areSo_0 : List UInt8 := dkwX0_areSo_0 ++ dktX0_areSo_1
theorem dksX0_areSo_0 : cX0_areSo.data.toList.drop 0 = dktX0_areSo_0 := by decide +kernel
theorem dksX0_areSo_1 : cX0_areSo.data.toList.drop 23 = dktX0_areSo_1 := dk_seg dksX0_areSo_0 23 rfl rfl
theorem dksX0_areSo_2 : cX0_areSo.data.toList.drop 46 = dktX0_areSo_2 := dk_seg dksX0_areSo_1 23 rfl rfl
theorem dksX0_areSo_3 : cX0_areSo.data.toList.drop 70 = dktX0_areSo_3 := dk_seg dksX0_areSo_2 24 rfl rfl
theorem dX0_areSo_0 : decode cX0_areSo 0 = .ok (.iconst 1, 1) := dk_4 (dk_at dksX0_areSo_0 0 rfl rfl)
theorem dX0_areSo_1 : decode cX0_areSo 1 = .ok (.istore_n 2, 1) := dk_61 (dk_at dksX0_areSo_0 1 rfl rfl)
theorem dX0_areSo_2 : decode cX0_areSo 2 = .ok (.iconst 0, 1) := dk_3 (dk_at dksX0_areSo_0 2 rfl rfl)
theorem dX0_areSo_3 : decode cX0_areSo 3 = .ok (.istore_n 3, 1) := dk_62 (dk_at dksX0_areSo_0 3 rfl rfl)
theorem dX0_areSo_4 : decode cX0_areSo 4 = .ok (.iload_n 3, 1) := dk_29 (dk_at dksX0_areSo_0 4 rfl rfl)
theorem dX0_areSo_5 : decode cX0_areSo 5 = .ok (.aload_n 0, 1) := dk_42 (dk_at dksX0_areSo_0 5 rfl rfl)
theorem dX0_areSo_6 : decode cX0_areSo 6 = .ok (.getfield 148, 3) := dk_180 0 148 (dk_at dksX0_areSo_0 6 rfl rfl)
theorem dX0_areSo_9 : decode cX0_areSo 9 = .ok (.if_icmp .ge 67, 3) := dk_162 0 67 (dk_at dksX0_areSo_0 9 rfl rfl)
theorem dX0_areSo_12 : decode cX0_areSo 12 = .ok (.iload_n 2, 1) := dk_28 (dk_at dksX0_areSo_0 12 rfl rfl)
theorem dX0_areSo_13 : decode cX0_areSo 13 = .ok (.aload_n 0, 1) := dk_42 (dk_at dksX0_areSo_0 13 rfl rfl)
theorem dX0_areSo_14 : decode cX0_areSo 14 = .ok (.getfield 12, 3) := dk_180 0 12 (dk_at dksX0_areSo_0 14 rfl rfl)
theorem dX0_areSo_17 : decode cX0_areSo 17 = .ok (.aload_n 0, 1) := dk_42 (dk_at dksX0_areSo_0 17 rfl rfl)
theorem dX0_areSo_18 : decode cX0_areSo 18 = .ok (.getfield 32, 3) := dk_180 0 32 (dk_at dksX0_areSo_0 18 rfl rfl)
theorem dX0_areSo_21 : decode cX0_areSo 21 = .ok (.iload_n 3, 1) := dk_29 (dk_at dksX0_areSo_0 21 rfl rfl)
theorem dX0_areSo_22 : decode cX0_areSo 22 = .ok (.iaload, 1) := dk_46 (dk_at dksX0_areSo_0 22 rfl rfl)
theorem dX0_areSo_23 : decode cX0_areSo 23 = .ok (.invokeinterface 191 2, 5) := by decide +kernel
theorem dX0_areSo_28 : decode cX0_areSo 28 = .ok (.checkcast 67, 3) := dk_192 0 67 (dk_at dksX0_areSo_1 5 rfl rfl)
theorem dX0_areSo_31 : decode cX0_areSo 31 = .ok (.aload_n 0, 1) := dk_42 (dk_at dksX0_areSo_1 8 rfl rfl)
theorem dX0_areSo_32 : decode cX0_areSo 32 = .ok (.getfield 35, 3) := dk_180 0 35 (dk_at dksX0_areSo_1 9 rfl rfl)
theorem dX0_areSo_35 : decode cX0_areSo 35 = .ok (.iload_n 3, 1) := dk_29 (dk_at dksX0_areSo_1 12 rfl rfl)
theorem dX0_areSo_36 : decode cX0_areSo 36 = .ok (.iaload, 1) := dk_46 (dk_at dksX0_areSo_1 13 rfl rfl)
theorem dX0_areSo_37 : decode cX0_areSo 37 = .ok (.aload_n 0, 1) := dk_42 (dk_at dksX0_areSo_1 14 rfl rfl)
theorem dX0_areSo_38 : decode cX0_areSo 38 = .ok (.iload_n 1, 1) := dk_27 (dk_at dksX0_areSo_1 15 rfl rfl)
theorem dX0_areSo_39 : decode cX0_areSo 39 = .ok (.invokevirtual 222, 3) := dk_182 0 222 (dk_at dksX0_areSo_1 16 rfl rfl)
theorem dX0_areSo_42 : decode cX0_areSo 42 = .ok (.invokevirtual 234, 3) := dk_182 0 234 (dk_at dksX0_areSo_1 19 rfl rfl)
theorem dX0_areSo_45 : decode cX0_areSo 45 = .ok (.aload_n 0, 1) := dk_42 (dk_at dksX0_areSo_1 22 rfl rfl)
theorem dX0_areSo_46 : decode cX0_areSo 46 = .ok (.getfield 38, 3) := dk_180 0 38 (dk_at dksX0_areSo_2 0 rfl rfl)
theorem dX0_areSo_49 : decode cX0_areSo 49 = .ok (.iload_n 3, 1) := dk_29 (dk_at dksX0_areSo_2 3 rfl rfl)
theorem dX0_areSo_50 : decode cX0_areSo 50 = .ok (.iaload, 1) := dk_46 (dk_at dksX0_areSo_2 4 rfl rfl)
theorem dX0_areSo_51 : decode cX0_areSo 51 = .ok (.invokestatic 240, 3) := dk_184 0 240 (dk_at dksX0_areSo_2 5 rfl rfl)
theorem dX0_areSo_54 : decode cX0_areSo 54 = .ok (.aload_n 0, 1) := dk_42 (dk_at dksX0_areSo_2 8 rfl rfl)
theorem dX0_areSo_55 : decode cX0_areSo 55 = .ok (.getfield 41, 3) := dk_180 0 41 (dk_at dksX0_areSo_2 9 rfl rfl)
theorem dX0_areSo_58 : decode cX0_areSo 58 = .ok (.iload_n 3, 1) := dk_29 (dk_at dksX0_areSo_2 12 rfl rfl)
theorem dX0_areSo_59 : decode cX0_areSo 59 = .ok (.baload, 1) := dk_51 (dk_at dksX0_areSo_2 13 rfl rfl)
theorem dX0_areSo_60 : decode cX0_areSo 60 = .ok (.if_icmp .ne 7, 3) := dk_160 0 7 (dk_at dksX0_areSo_2 14 rfl rfl)
theorem dX0_areSo_63 : decode cX0_areSo 63 = .ok (.iconst 1, 1) := dk_4 (dk_at dksX0_areSo_2 17 rfl rfl)
theorem dX0_areSo_64 : decode cX0_areSo 64 = .ok (.goto 4, 3) := dk_167 0 4 (dk_at dksX0_areSo_2 18 rfl rfl)
theorem dX0_areSo_67 : decode cX0_areSo 67 = .ok (.iconst 0, 1) := dk_3 (dk_at dksX0_areSo_2 21 rfl rfl)
theorem dX0_areSo_68 : decode cX0_areSo 68 = .ok (.iand, 1) := dk_126 (dk_at dksX0_areSo_2 22 rfl rfl)
theorem dX0_areSo_69 : decode cX0_areSo 69 = .ok (.istore_n 2, 1) := dk_61 (dk_at dksX0_areSo_2 23 rfl rfl)
theorem dX0_areSo_70 : decode cX0_areSo 70 = .ok (.iinc 3 1, 3) := dk_132 3 1 (dk_at dksX0_areSo_3 0 rfl rfl)
theorem dX0_areSo_73 : decode cX0_areSo 73 = .ok (.goto (-69), 3) := dk_167 255 187 (dk_at dksX0_areSo_3 3 rfl rfl)
theorem dX0_areSo_76 : decode cX0_areSo 76 = .ok (.iload_n 2, 1) := dk_28 (dk_at dksX0_areSo_3 6 rfl rfl)
theorem dX0_areSo_77 : decode cX0_areSo 77 = .ok (.ireturn, 1) := dk_172 (dk_at dksX0_areSo_3 7 rfl rfl)
abbrev cX0_kinds : ByteArray := prog_1_method_45_code
def yX0_kinds : MethodName := ⟨RX0, "kinds", "(I)I"⟩
def dkwX0_kinds_3 : List UInt8 := [181, 0, 22, 28, 172]
abbrev dktX0_kinds_3 : List UInt8 := dkwX0_kinds_3 ++ []
def dkwX0_kinds_2 : List UInt8 := [120, 167, 0, 4, 3, 128, 61, 42, 89, 180, 1, 16, 4, 96, 181, 1, 16, 167, 255, 214, 42, 16, 247]
abbrev dktX0_kinds_2 : List UInt8 := dkwX0_kinds_2 ++ dktX0_kinds_3
def dkwX0_kinds_1 : List UInt8 := [180, 1, 16, 6, 162, 0, 40, 28, 42, 42, 180, 0, 128, 182, 1, 13, 153, 0, 12, 4, 42, 180, 1, 16]
abbrev dktX0_kinds_1 : List UInt8 := dkwX0_kinds_1 ++ dktX0_kinds_2
def dkwX0_kinds_0 : List UInt8 := [42, 27, 182, 0, 188, 154, 0, 5, 2, 172, 42, 27, 181, 0, 22, 3, 61, 42, 3, 181, 1, 16, 42]
abbrev dktX0_kinds_0 : List UInt8 := dkwX0_kinds_0 ++ dktX0_kinds_1
theorem dksX0_kinds_0 : cX0_kinds.data.toList.drop 0 = dktX0_kinds_0 := by decide +kernel
theorem dksX0_kinds_1 : cX0_kinds.data.toList.drop 23 = dktX0_kinds_1 := dk_seg dksX0_kinds_0 23 rfl rfl
theorem dksX0_kinds_2 : cX0_kinds.data.toList.drop 47 = dktX0_kinds_2 := dk_seg dksX0_kinds_1 24 rfl rfl
theorem dksX0_kinds_3 : cX0_kinds.data.toList.drop 70 = dktX0_kinds_3 := dk_seg dksX0_kinds_2 23 rfl rfl
theorem dX0_kinds_0 : decode cX0_kinds 0 = .ok (.aload_n 0, 1) := dk_42 (dk_at dksX0_kinds_0 0 rfl rfl)
theorem dX0_kinds_1 : decode cX0_kinds 1 = .ok (.iload_n 1, 1) := dk_27 (dk_at dksX0_kinds_0 1 rfl rfl)
theorem dX0_kinds_2 : decode cX0_kinds 2 = .ok (.invokevirtual 188, 3) := dk_182 0 188 (dk_at dksX0_kinds_0 2 rfl rfl)
theorem dX0_kinds_5 : decode cX0_kinds 5 = .ok (.ifCond .ne 5, 3) := dk_154 0 5 (dk_at dksX0_kinds_0 5 rfl rfl)
theorem dX0_kinds_8 : decode cX0_kinds 8 = .ok (.iconst (-1), 1) := dk_2 (dk_at dksX0_kinds_0 8 rfl rfl)
theorem dX0_kinds_9 : decode cX0_kinds 9 = .ok (.ireturn, 1) := dk_172 (dk_at dksX0_kinds_0 9 rfl rfl)
theorem dX0_kinds_10 : decode cX0_kinds 10 = .ok (.aload_n 0, 1) := dk_42 (dk_at dksX0_kinds_0 10 rfl rfl)
theorem dX0_kinds_11 : decode cX0_kinds 11 = .ok (.iload_n 1, 1) := dk_27 (dk_at dksX0_kinds_0 11 rfl rfl)
theorem dX0_kinds_12 : decode cX0_kinds 12 = .ok (.putfield 22, 3) := dk_181 0 22 (dk_at dksX0_kinds_0 12 rfl rfl)
theorem dX0_kinds_15 : decode cX0_kinds 15 = .ok (.iconst 0, 1) := dk_3 (dk_at dksX0_kinds_0 15 rfl rfl)
theorem dX0_kinds_16 : decode cX0_kinds 16 = .ok (.istore_n 2, 1) := dk_61 (dk_at dksX0_kinds_0 16 rfl rfl)
theorem dX0_kinds_17 : decode cX0_kinds 17 = .ok (.aload_n 0, 1) := dk_42 (dk_at dksX0_kinds_0 17 rfl rfl)
theorem dX0_kinds_18 : decode cX0_kinds 18 = .ok (.iconst 0, 1) := dk_3 (dk_at dksX0_kinds_0 18 rfl rfl)
theorem dX0_kinds_19 : decode cX0_kinds 19 = .ok (.putfield 272, 3) := dk_181 1 16 (dk_at dksX0_kinds_0 19 rfl rfl)
theorem dX0_kinds_22 : decode cX0_kinds 22 = .ok (.aload_n 0, 1) := dk_42 (dk_at dksX0_kinds_0 22 rfl rfl)
theorem dX0_kinds_23 : decode cX0_kinds 23 = .ok (.getfield 272, 3) := dk_180 1 16 (dk_at dksX0_kinds_1 0 rfl rfl)
theorem dX0_kinds_26 : decode cX0_kinds 26 = .ok (.iconst 3, 1) := dk_6 (dk_at dksX0_kinds_1 3 rfl rfl)
theorem dX0_kinds_27 : decode cX0_kinds 27 = .ok (.if_icmp .ge 40, 3) := dk_162 0 40 (dk_at dksX0_kinds_1 4 rfl rfl)
theorem dX0_kinds_30 : decode cX0_kinds 30 = .ok (.iload_n 2, 1) := dk_28 (dk_at dksX0_kinds_1 7 rfl rfl)
theorem dX0_kinds_31 : decode cX0_kinds 31 = .ok (.aload_n 0, 1) := dk_42 (dk_at dksX0_kinds_1 8 rfl rfl)
theorem dX0_kinds_32 : decode cX0_kinds 32 = .ok (.aload_n 0, 1) := dk_42 (dk_at dksX0_kinds_1 9 rfl rfl)
theorem dX0_kinds_33 : decode cX0_kinds 33 = .ok (.getfield 128, 3) := dk_180 0 128 (dk_at dksX0_kinds_1 10 rfl rfl)
theorem dX0_kinds_36 : decode cX0_kinds 36 = .ok (.invokevirtual 269, 3) := dk_182 1 13 (dk_at dksX0_kinds_1 13 rfl rfl)
theorem dX0_kinds_39 : decode cX0_kinds 39 = .ok (.ifCond .eq 12, 3) := dk_153 0 12 (dk_at dksX0_kinds_1 16 rfl rfl)
theorem dX0_kinds_42 : decode cX0_kinds 42 = .ok (.iconst 1, 1) := dk_4 (dk_at dksX0_kinds_1 19 rfl rfl)
theorem dX0_kinds_43 : decode cX0_kinds 43 = .ok (.aload_n 0, 1) := dk_42 (dk_at dksX0_kinds_1 20 rfl rfl)
theorem dX0_kinds_44 : decode cX0_kinds 44 = .ok (.getfield 272, 3) := dk_180 1 16 (dk_at dksX0_kinds_1 21 rfl rfl)
theorem dX0_kinds_47 : decode cX0_kinds 47 = .ok (.ishl, 1) := dk_120 (dk_at dksX0_kinds_2 0 rfl rfl)
theorem dX0_kinds_48 : decode cX0_kinds 48 = .ok (.goto 4, 3) := dk_167 0 4 (dk_at dksX0_kinds_2 1 rfl rfl)
theorem dX0_kinds_51 : decode cX0_kinds 51 = .ok (.iconst 0, 1) := dk_3 (dk_at dksX0_kinds_2 4 rfl rfl)
theorem dX0_kinds_52 : decode cX0_kinds 52 = .ok (.ior, 1) := dk_128 (dk_at dksX0_kinds_2 5 rfl rfl)
theorem dX0_kinds_53 : decode cX0_kinds 53 = .ok (.istore_n 2, 1) := dk_61 (dk_at dksX0_kinds_2 6 rfl rfl)
theorem dX0_kinds_54 : decode cX0_kinds 54 = .ok (.aload_n 0, 1) := dk_42 (dk_at dksX0_kinds_2 7 rfl rfl)
theorem dX0_kinds_55 : decode cX0_kinds 55 = .ok (.dup, 1) := dk_89 (dk_at dksX0_kinds_2 8 rfl rfl)
theorem dX0_kinds_56 : decode cX0_kinds 56 = .ok (.getfield 272, 3) := dk_180 1 16 (dk_at dksX0_kinds_2 9 rfl rfl)
theorem dX0_kinds_59 : decode cX0_kinds 59 = .ok (.iconst 1, 1) := dk_4 (dk_at dksX0_kinds_2 12 rfl rfl)
theorem dX0_kinds_60 : decode cX0_kinds 60 = .ok (.iadd, 1) := dk_96 (dk_at dksX0_kinds_2 13 rfl rfl)
theorem dX0_kinds_61 : decode cX0_kinds 61 = .ok (.putfield 272, 3) := dk_181 1 16 (dk_at dksX0_kinds_2 14 rfl rfl)
theorem dX0_kinds_64 : decode cX0_kinds 64 = .ok (.goto (-42), 3) := dk_167 255 214 (dk_at dksX0_kinds_2 17 rfl rfl)
theorem dX0_kinds_67 : decode cX0_kinds 67 = .ok (.aload_n 0, 1) := dk_42 (dk_at dksX0_kinds_2 20 rfl rfl)
theorem dX0_kinds_68 : decode cX0_kinds 68 = .ok (.bipush (-9), 2) := dk_16 247 (dk_at dksX0_kinds_2 21 rfl rfl)
theorem dX0_kinds_70 : decode cX0_kinds 70 = .ok (.putfield 22, 3) := dk_181 0 22 (dk_at dksX0_kinds_3 0 rfl rfl)
theorem dX0_kinds_73 : decode cX0_kinds 73 = .ok (.iload_n 2, 1) := dk_28 (dk_at dksX0_kinds_3 3 rfl rfl)
theorem dX0_kinds_74 : decode cX0_kinds 74 = .ok (.ireturn, 1) := dk_172 (dk_at dksX0_kinds_3 4 rfl rfl)
abbrev cX0_sours : ByteArray := prog_1_method_46_code
def yX0_sours : MethodName := ⟨RX0, "sours", "()I"⟩
def dkwX0_sours_1 : List UInt8 := [182, 1, 13, 153, 0, 9, 4, 28, 120, 167, 0, 4, 3, 128, 60, 132, 2, 1, 167, 255, 229, 27, 172]
abbrev dktX0_sours_1 : List UInt8 := dkwX0_sours_1 ++ []
def dkwX0_sours_0 : List UInt8 := [42, 182, 0, 216, 154, 0, 6, 16, 253, 172, 3, 60, 3, 61, 28, 16, 9, 163, 0, 27, 27, 42, 28]
abbrev dktX0_sours_0 : List UInt8 := dkwX0_sours_0 ++ dktX0_sours_1
theorem dksX0_sours_0 : cX0_sours.data.toList.drop 0 = dktX0_sours_0 := by decide +kernel
theorem dksX0_sours_1 : cX0_sours.data.toList.drop 23 = dktX0_sours_1 := dk_seg dksX0_sours_0 23 rfl rfl
theorem dX0_sours_0 : decode cX0_sours 0 = .ok (.aload_n 0, 1) := dk_42 (dk_at dksX0_sours_0 0 rfl rfl)
theorem dX0_sours_1 : decode cX0_sours 1 = .ok (.invokevirtual 216, 3) := dk_182 0 216 (dk_at dksX0_sours_0 1 rfl rfl)
theorem dX0_sours_4 : decode cX0_sours 4 = .ok (.ifCond .ne 6, 3) := dk_154 0 6 (dk_at dksX0_sours_0 4 rfl rfl)
theorem dX0_sours_7 : decode cX0_sours 7 = .ok (.bipush (-3), 2) := dk_16 253 (dk_at dksX0_sours_0 7 rfl rfl)
theorem dX0_sours_9 : decode cX0_sours 9 = .ok (.ireturn, 1) := dk_172 (dk_at dksX0_sours_0 9 rfl rfl)
theorem dX0_sours_10 : decode cX0_sours 10 = .ok (.iconst 0, 1) := dk_3 (dk_at dksX0_sours_0 10 rfl rfl)
theorem dX0_sours_11 : decode cX0_sours 11 = .ok (.istore_n 1, 1) := dk_60 (dk_at dksX0_sours_0 11 rfl rfl)
theorem dX0_sours_12 : decode cX0_sours 12 = .ok (.iconst 0, 1) := dk_3 (dk_at dksX0_sours_0 12 rfl rfl)
theorem dX0_sours_13 : decode cX0_sours 13 = .ok (.istore_n 2, 1) := dk_61 (dk_at dksX0_sours_0 13 rfl rfl)
theorem dX0_sours_14 : decode cX0_sours 14 = .ok (.iload_n 2, 1) := dk_28 (dk_at dksX0_sours_0 14 rfl rfl)
theorem dX0_sours_15 : decode cX0_sours 15 = .ok (.bipush 9, 2) := dk_16 9 (dk_at dksX0_sours_0 15 rfl rfl)
theorem dX0_sours_17 : decode cX0_sours 17 = .ok (.if_icmp .gt 27, 3) := dk_163 0 27 (dk_at dksX0_sours_0 17 rfl rfl)
theorem dX0_sours_20 : decode cX0_sours 20 = .ok (.iload_n 1, 1) := dk_27 (dk_at dksX0_sours_0 20 rfl rfl)
theorem dX0_sours_21 : decode cX0_sours 21 = .ok (.aload_n 0, 1) := dk_42 (dk_at dksX0_sours_0 21 rfl rfl)
theorem dX0_sours_22 : decode cX0_sours 22 = .ok (.iload_n 2, 1) := dk_28 (dk_at dksX0_sours_0 22 rfl rfl)
theorem dX0_sours_23 : decode cX0_sours 23 = .ok (.invokevirtual 269, 3) := dk_182 1 13 (dk_at dksX0_sours_1 0 rfl rfl)
theorem dX0_sours_26 : decode cX0_sours 26 = .ok (.ifCond .eq 9, 3) := dk_153 0 9 (dk_at dksX0_sours_1 3 rfl rfl)
theorem dX0_sours_29 : decode cX0_sours 29 = .ok (.iconst 1, 1) := dk_4 (dk_at dksX0_sours_1 6 rfl rfl)
theorem dX0_sours_30 : decode cX0_sours 30 = .ok (.iload_n 2, 1) := dk_28 (dk_at dksX0_sours_1 7 rfl rfl)
theorem dX0_sours_31 : decode cX0_sours 31 = .ok (.ishl, 1) := dk_120 (dk_at dksX0_sours_1 8 rfl rfl)
theorem dX0_sours_32 : decode cX0_sours 32 = .ok (.goto 4, 3) := dk_167 0 4 (dk_at dksX0_sours_1 9 rfl rfl)
theorem dX0_sours_35 : decode cX0_sours 35 = .ok (.iconst 0, 1) := dk_3 (dk_at dksX0_sours_1 12 rfl rfl)
theorem dX0_sours_36 : decode cX0_sours 36 = .ok (.ior, 1) := dk_128 (dk_at dksX0_sours_1 13 rfl rfl)
theorem dX0_sours_37 : decode cX0_sours 37 = .ok (.istore_n 1, 1) := dk_60 (dk_at dksX0_sours_1 14 rfl rfl)
theorem dX0_sours_38 : decode cX0_sours 38 = .ok (.iinc 2 1, 3) := dk_132 2 1 (dk_at dksX0_sours_1 15 rfl rfl)
theorem dX0_sours_41 : decode cX0_sours 41 = .ok (.goto (-27), 3) := dk_167 255 229 (dk_at dksX0_sours_1 18 rfl rfl)
theorem dX0_sours_44 : decode cX0_sours 44 = .ok (.iload_n 1, 1) := dk_27 (dk_at dksX0_sours_1 21 rfl rfl)
theorem dX0_sours_45 : decode cX0_sours 45 = .ok (.ireturn, 1) := dk_172 (dk_at dksX0_sours_1 22 rfl rfl)
abbrev cX0_odds : ByteArray := prog_1_method_48_code
def yX0_odds : MethodName := ⟨RX0, "odds", "(III)J"⟩
def dkwX0_odds_4 : List UInt8 := [184, 1, 19, 173]
abbrev dktX0_odds_4 : List UInt8 := dkwX0_odds_4 ++ []
def dkwX0_odds_3 : List UInt8 := [167, 0, 4, 3, 96, 54, 4, 132, 5, 1, 167, 255, 212, 21, 4, 133, 10, 42, 180, 0, 84, 121, 29]
abbrev dktX0_odds_3 : List UInt8 := dkwX0_odds_3 ++ dktX0_odds_4
def dkwX0_odds_2 : List UInt8 := [42, 180, 0, 12, 27, 185, 0, 191, 2, 0, 192, 0, 67, 28, 21, 5, 182, 0, 234, 154, 0, 7, 4]
abbrev dktX0_odds_2 : List UInt8 := dkwX0_odds_2 ++ dktX0_odds_3
def dkwX0_odds_1 : List UInt8 := [154, 0, 7, 20, 0, 62, 173, 3, 54, 4, 3, 54, 5, 21, 5, 42, 182, 0, 93, 163, 0, 41, 21, 4]
abbrev dktX0_odds_1 : List UInt8 := dkwX0_odds_1 ++ dktX0_odds_2
def dkwX0_odds_0 : List UInt8 := [42, 27, 182, 0, 188, 153, 0, 21, 42, 28, 182, 0, 228, 153, 0, 13, 29, 133, 9, 10, 184, 0, 55]
abbrev dktX0_odds_0 : List UInt8 := dkwX0_odds_0 ++ dktX0_odds_1
theorem dksX0_odds_0 : cX0_odds.data.toList.drop 0 = dktX0_odds_0 := by decide +kernel
theorem dksX0_odds_1 : cX0_odds.data.toList.drop 23 = dktX0_odds_1 := dk_seg dksX0_odds_0 23 rfl rfl
theorem dksX0_odds_2 : cX0_odds.data.toList.drop 47 = dktX0_odds_2 := dk_seg dksX0_odds_1 24 rfl rfl
theorem dksX0_odds_3 : cX0_odds.data.toList.drop 70 = dktX0_odds_3 := dk_seg dksX0_odds_2 23 rfl rfl
theorem dksX0_odds_4 : cX0_odds.data.toList.drop 93 = dktX0_odds_4 := dk_seg dksX0_odds_3 23 rfl rfl
theorem dX0_odds_0 : decode cX0_odds 0 = .ok (.aload_n 0, 1) := dk_42 (dk_at dksX0_odds_0 0 rfl rfl)
theorem dX0_odds_1 : decode cX0_odds 1 = .ok (.iload_n 1, 1) := dk_27 (dk_at dksX0_odds_0 1 rfl rfl)
theorem dX0_odds_2 : decode cX0_odds 2 = .ok (.invokevirtual 188, 3) := dk_182 0 188 (dk_at dksX0_odds_0 2 rfl rfl)
theorem dX0_odds_5 : decode cX0_odds 5 = .ok (.ifCond .eq 21, 3) := dk_153 0 21 (dk_at dksX0_odds_0 5 rfl rfl)
theorem dX0_odds_8 : decode cX0_odds 8 = .ok (.aload_n 0, 1) := dk_42 (dk_at dksX0_odds_0 8 rfl rfl)
theorem dX0_odds_9 : decode cX0_odds 9 = .ok (.iload_n 2, 1) := dk_28 (dk_at dksX0_odds_0 9 rfl rfl)
theorem dX0_odds_10 : decode cX0_odds 10 = .ok (.invokevirtual 228, 3) := dk_182 0 228 (dk_at dksX0_odds_0 10 rfl rfl)
theorem dX0_odds_13 : decode cX0_odds 13 = .ok (.ifCond .eq 13, 3) := dk_153 0 13 (dk_at dksX0_odds_0 13 rfl rfl)
theorem dX0_odds_16 : decode cX0_odds 16 = .ok (.iload_n 3, 1) := dk_29 (dk_at dksX0_odds_0 16 rfl rfl)
theorem dX0_odds_17 : decode cX0_odds 17 = .ok (.i2l, 1) := dk_133 (dk_at dksX0_odds_0 17 rfl rfl)
theorem dX0_odds_18 : decode cX0_odds 18 = .ok (.lconst 0, 1) := dk_9 (dk_at dksX0_odds_0 18 rfl rfl)
theorem dX0_odds_19 : decode cX0_odds 19 = .ok (.lconst 1, 1) := dk_10 (dk_at dksX0_odds_0 19 rfl rfl)
theorem dX0_odds_20 : decode cX0_odds 20 = .ok (.invokestatic 55, 3) := dk_184 0 55 (dk_at dksX0_odds_0 20 rfl rfl)
theorem dX0_odds_23 : decode cX0_odds 23 = .ok (.ifCond .ne 7, 3) := dk_154 0 7 (dk_at dksX0_odds_1 0 rfl rfl)
theorem dX0_odds_26 : decode cX0_odds 26 = .ok (.ldc2_w 62, 3) := dk_20 0 62 (dk_at dksX0_odds_1 3 rfl rfl)
theorem dX0_odds_29 : decode cX0_odds 29 = .ok (.lreturn, 1) := dk_173 (dk_at dksX0_odds_1 6 rfl rfl)
theorem dX0_odds_30 : decode cX0_odds 30 = .ok (.iconst 0, 1) := dk_3 (dk_at dksX0_odds_1 7 rfl rfl)
theorem dX0_odds_31 : decode cX0_odds 31 = .ok (.istore 4, 2) := dk_54 4 (dk_at dksX0_odds_1 8 rfl rfl)
theorem dX0_odds_33 : decode cX0_odds 33 = .ok (.iconst 0, 1) := dk_3 (dk_at dksX0_odds_1 10 rfl rfl)
theorem dX0_odds_34 : decode cX0_odds 34 = .ok (.istore 5, 2) := dk_54 5 (dk_at dksX0_odds_1 11 rfl rfl)
theorem dX0_odds_36 : decode cX0_odds 36 = .ok (.iload 5, 2) := dk_21 5 (dk_at dksX0_odds_1 13 rfl rfl)
theorem dX0_odds_38 : decode cX0_odds 38 = .ok (.aload_n 0, 1) := dk_42 (dk_at dksX0_odds_1 15 rfl rfl)
theorem dX0_odds_39 : decode cX0_odds 39 = .ok (.invokevirtual 93, 3) := dk_182 0 93 (dk_at dksX0_odds_1 16 rfl rfl)
theorem dX0_odds_42 : decode cX0_odds 42 = .ok (.if_icmp .gt 41, 3) := dk_163 0 41 (dk_at dksX0_odds_1 19 rfl rfl)
theorem dX0_odds_45 : decode cX0_odds 45 = .ok (.iload 4, 2) := dk_21 4 (dk_at dksX0_odds_1 22 rfl rfl)
theorem dX0_odds_47 : decode cX0_odds 47 = .ok (.aload_n 0, 1) := dk_42 (dk_at dksX0_odds_2 0 rfl rfl)
theorem dX0_odds_48 : decode cX0_odds 48 = .ok (.getfield 12, 3) := dk_180 0 12 (dk_at dksX0_odds_2 1 rfl rfl)
theorem dX0_odds_51 : decode cX0_odds 51 = .ok (.iload_n 1, 1) := dk_27 (dk_at dksX0_odds_2 4 rfl rfl)
theorem dX0_odds_52 : decode cX0_odds 52 = .ok (.invokeinterface 191 2, 5) := by decide +kernel
theorem dX0_odds_57 : decode cX0_odds 57 = .ok (.checkcast 67, 3) := dk_192 0 67 (dk_at dksX0_odds_2 10 rfl rfl)
theorem dX0_odds_60 : decode cX0_odds 60 = .ok (.iload_n 2, 1) := dk_28 (dk_at dksX0_odds_2 13 rfl rfl)
theorem dX0_odds_61 : decode cX0_odds 61 = .ok (.iload 5, 2) := dk_21 5 (dk_at dksX0_odds_2 14 rfl rfl)
theorem dX0_odds_63 : decode cX0_odds 63 = .ok (.invokevirtual 234, 3) := dk_182 0 234 (dk_at dksX0_odds_2 16 rfl rfl)
theorem dX0_odds_66 : decode cX0_odds 66 = .ok (.ifCond .ne 7, 3) := dk_154 0 7 (dk_at dksX0_odds_2 19 rfl rfl)
theorem dX0_odds_69 : decode cX0_odds 69 = .ok (.iconst 1, 1) := dk_4 (dk_at dksX0_odds_2 22 rfl rfl)
theorem dX0_odds_70 : decode cX0_odds 70 = .ok (.goto 4, 3) := dk_167 0 4 (dk_at dksX0_odds_3 0 rfl rfl)
theorem dX0_odds_73 : decode cX0_odds 73 = .ok (.iconst 0, 1) := dk_3 (dk_at dksX0_odds_3 3 rfl rfl)
theorem dX0_odds_74 : decode cX0_odds 74 = .ok (.iadd, 1) := dk_96 (dk_at dksX0_odds_3 4 rfl rfl)
theorem dX0_odds_75 : decode cX0_odds 75 = .ok (.istore 4, 2) := dk_54 4 (dk_at dksX0_odds_3 5 rfl rfl)
theorem dX0_odds_77 : decode cX0_odds 77 = .ok (.iinc 5 1, 3) := dk_132 5 1 (dk_at dksX0_odds_3 7 rfl rfl)
theorem dX0_odds_80 : decode cX0_odds 80 = .ok (.goto (-44), 3) := dk_167 255 212 (dk_at dksX0_odds_3 10 rfl rfl)
theorem dX0_odds_83 : decode cX0_odds 83 = .ok (.iload 4, 2) := dk_21 4 (dk_at dksX0_odds_3 13 rfl rfl)
theorem dX0_odds_85 : decode cX0_odds 85 = .ok (.i2l, 1) := dk_133 (dk_at dksX0_odds_3 15 rfl rfl)
theorem dX0_odds_86 : decode cX0_odds 86 = .ok (.lconst 1, 1) := dk_10 (dk_at dksX0_odds_3 16 rfl rfl)
theorem dX0_odds_87 : decode cX0_odds 87 = .ok (.aload_n 0, 1) := dk_42 (dk_at dksX0_odds_3 17 rfl rfl)
theorem dX0_odds_88 : decode cX0_odds 88 = .ok (.getfield 84, 3) := dk_180 0 84 (dk_at dksX0_odds_3 18 rfl rfl)
theorem dX0_odds_91 : decode cX0_odds 91 = .ok (.lshl, 1) := dk_121 (dk_at dksX0_odds_3 21 rfl rfl)
theorem dX0_odds_92 : decode cX0_odds 92 = .ok (.iload_n 3, 1) := dk_29 (dk_at dksX0_odds_3 22 rfl rfl)
theorem dX0_odds_93 : decode cX0_odds 93 = .ok (.invokestatic 275, 3) := dk_184 1 19 (dk_at dksX0_odds_4 0 rfl rfl)
theorem dX0_odds_96 : decode cX0_odds 96 = .ok (.lreturn, 1) := dk_173 (dk_at dksX0_odds_4 3 rfl rfl)
abbrev cX0_inLeastTerms : ByteArray := prog_1_method_47_code
def yX0_inLeastTerms : MethodName := ⟨RX0, "inLeastTerms", "(JJI)J"⟩
def dkwX0_inLeastTerms_1 : List UInt8 := [22, 9, 55, 7, 167, 255, 234, 21, 4, 154, 0, 10, 30, 22, 5, 109, 167, 0, 7, 32, 22, 5, 109, 173]
abbrev dktX0_inLeastTerms_1 : List UInt8 := dkwX0_inLeastTerms_1 ++ []
def dkwX0_inLeastTerms_0 : List UInt8 := [30, 55, 5, 32, 55, 7, 22, 7, 9, 148, 153, 0, 21, 22, 5, 22, 7, 113, 55, 9, 22, 7, 55, 5]
abbrev dktX0_inLeastTerms_0 : List UInt8 := dkwX0_inLeastTerms_0 ++ dktX0_inLeastTerms_1
theorem dksX0_inLeastTerms_0 : cX0_inLeastTerms.data.toList.drop 0 = dktX0_inLeastTerms_0 := by decide +kernel
theorem dksX0_inLeastTerms_1 : cX0_inLeastTerms.data.toList.drop 24 = dktX0_inLeastTerms_1 := dk_seg dksX0_inLeastTerms_0 24 rfl rfl
theorem dX0_inLeastTerms_0 : decode cX0_inLeastTerms 0 = .ok (.lload_n 0, 1) := dk_30 (dk_at dksX0_inLeastTerms_0 0 rfl rfl)
theorem dX0_inLeastTerms_1 : decode cX0_inLeastTerms 1 = .ok (.lstore 5, 2) := dk_55 5 (dk_at dksX0_inLeastTerms_0 1 rfl rfl)
theorem dX0_inLeastTerms_3 : decode cX0_inLeastTerms 3 = .ok (.lload_n 2, 1) := dk_32 (dk_at dksX0_inLeastTerms_0 3 rfl rfl)
theorem dX0_inLeastTerms_4 : decode cX0_inLeastTerms 4 = .ok (.lstore 7, 2) := dk_55 7 (dk_at dksX0_inLeastTerms_0 4 rfl rfl)
theorem dX0_inLeastTerms_6 : decode cX0_inLeastTerms 6 = .ok (.lload 7, 2) := dk_22 7 (dk_at dksX0_inLeastTerms_0 6 rfl rfl)
theorem dX0_inLeastTerms_8 : decode cX0_inLeastTerms 8 = .ok (.lconst 0, 1) := dk_9 (dk_at dksX0_inLeastTerms_0 8 rfl rfl)
theorem dX0_inLeastTerms_9 : decode cX0_inLeastTerms 9 = .ok (.lcmp, 1) := dk_148 (dk_at dksX0_inLeastTerms_0 9 rfl rfl)
theorem dX0_inLeastTerms_10 : decode cX0_inLeastTerms 10 = .ok (.ifCond .eq 21, 3) := dk_153 0 21 (dk_at dksX0_inLeastTerms_0 10 rfl rfl)
theorem dX0_inLeastTerms_13 : decode cX0_inLeastTerms 13 = .ok (.lload 5, 2) := dk_22 5 (dk_at dksX0_inLeastTerms_0 13 rfl rfl)
theorem dX0_inLeastTerms_15 : decode cX0_inLeastTerms 15 = .ok (.lload 7, 2) := dk_22 7 (dk_at dksX0_inLeastTerms_0 15 rfl rfl)
theorem dX0_inLeastTerms_17 : decode cX0_inLeastTerms 17 = .ok (.lrem, 1) := dk_113 (dk_at dksX0_inLeastTerms_0 17 rfl rfl)
theorem dX0_inLeastTerms_18 : decode cX0_inLeastTerms 18 = .ok (.lstore 9, 2) := dk_55 9 (dk_at dksX0_inLeastTerms_0 18 rfl rfl)
theorem dX0_inLeastTerms_20 : decode cX0_inLeastTerms 20 = .ok (.lload 7, 2) := dk_22 7 (dk_at dksX0_inLeastTerms_0 20 rfl rfl)
theorem dX0_inLeastTerms_22 : decode cX0_inLeastTerms 22 = .ok (.lstore 5, 2) := dk_55 5 (dk_at dksX0_inLeastTerms_0 22 rfl rfl)
theorem dX0_inLeastTerms_24 : decode cX0_inLeastTerms 24 = .ok (.lload 9, 2) := dk_22 9 (dk_at dksX0_inLeastTerms_1 0 rfl rfl)
theorem dX0_inLeastTerms_26 : decode cX0_inLeastTerms 26 = .ok (.lstore 7, 2) := dk_55 7 (dk_at dksX0_inLeastTerms_1 2 rfl rfl)
theorem dX0_inLeastTerms_28 : decode cX0_inLeastTerms 28 = .ok (.goto (-22), 3) := dk_167 255 234 (dk_at dksX0_inLeastTerms_1 4 rfl rfl)
theorem dX0_inLeastTerms_31 : decode cX0_inLeastTerms 31 = .ok (.iload 4, 2) := dk_21 4 (dk_at dksX0_inLeastTerms_1 7 rfl rfl)
theorem dX0_inLeastTerms_33 : decode cX0_inLeastTerms 33 = .ok (.ifCond .ne 10, 3) := dk_154 0 10 (dk_at dksX0_inLeastTerms_1 9 rfl rfl)
theorem dX0_inLeastTerms_36 : decode cX0_inLeastTerms 36 = .ok (.lload_n 0, 1) := dk_30 (dk_at dksX0_inLeastTerms_1 12 rfl rfl)
theorem dX0_inLeastTerms_37 : decode cX0_inLeastTerms 37 = .ok (.lload 5, 2) := dk_22 5 (dk_at dksX0_inLeastTerms_1 13 rfl rfl)
theorem dX0_inLeastTerms_39 : decode cX0_inLeastTerms 39 = .ok (.ldiv, 1) := dk_109 (dk_at dksX0_inLeastTerms_1 15 rfl rfl)
theorem dX0_inLeastTerms_40 : decode cX0_inLeastTerms 40 = .ok (.goto 7, 3) := dk_167 0 7 (dk_at dksX0_inLeastTerms_1 16 rfl rfl)
theorem dX0_inLeastTerms_43 : decode cX0_inLeastTerms 43 = .ok (.lload_n 2, 1) := dk_32 (dk_at dksX0_inLeastTerms_1 19 rfl rfl)
theorem dX0_inLeastTerms_44 : decode cX0_inLeastTerms 44 = .ok (.lload 5, 2) := dk_22 5 (dk_at dksX0_inLeastTerms_1 20 rfl rfl)
theorem dX0_inLeastTerms_46 : decode cX0_inLeastTerms 46 = .ok (.ldiv, 1) := dk_109 (dk_at dksX0_inLeastTerms_1 22 rfl rfl)
theorem dX0_inLeastTerms_47 : decode cX0_inLeastTerms 47 = .ok (.lreturn, 1) := dk_173 (dk_at dksX0_inLeastTerms_1 23 rfl rfl)
abbrev cX0_sheet : ByteArray := prog_1_method_55_code
def yX0_sheet : MethodName := ⟨RX0, "sheet", "(III)I"⟩
def dkwX0_sheet_3 : List UInt8 := [172]
abbrev dktX0_sheet_3 : List UInt8 := dkwX0_sheet_3 ++ []
def dkwX0_sheet_2 : List UInt8 := [160, 0, 9, 29, 188, 9, 167, 0, 6, 29, 188, 10, 181, 0, 158, 4, 172, 58, 4, 42, 7, 182, 0, 178]
abbrev dktX0_sheet_2 : List UInt8 := dkwX0_sheet_2 ++ dktX0_sheet_3
def dkwX0_sheet_1 : List UInt8 := [164, 0, 6, 16, 254, 172, 42, 180, 0, 49, 27, 50, 28, 154, 0, 9, 29, 188, 8, 167, 0, 17, 28, 4]
abbrev dktX0_sheet_1 : List UInt8 := dkwX0_sheet_1 ++ dktX0_sheet_2
def dkwX0_sheet_0 : List UInt8 := [42, 3, 181, 0, 59, 27, 184, 0, 151, 154, 0, 5, 2, 172, 28, 184, 0, 155, 153, 0, 9, 29, 16, 60]
abbrev dktX0_sheet_0 : List UInt8 := dkwX0_sheet_0 ++ dktX0_sheet_1
theorem dksX0_sheet_0 : cX0_sheet.data.toList.drop 0 = dktX0_sheet_0 := by decide +kernel
theorem dksX0_sheet_1 : cX0_sheet.data.toList.drop 24 = dktX0_sheet_1 := dk_seg dksX0_sheet_0 24 rfl rfl
theorem dksX0_sheet_2 : cX0_sheet.data.toList.drop 48 = dktX0_sheet_2 := dk_seg dksX0_sheet_1 24 rfl rfl
theorem dksX0_sheet_3 : cX0_sheet.data.toList.drop 72 = dktX0_sheet_3 := dk_seg dksX0_sheet_2 24 rfl rfl
theorem dX0_sheet_0 : decode cX0_sheet 0 = .ok (.aload_n 0, 1) := dk_42 (dk_at dksX0_sheet_0 0 rfl rfl)
theorem dX0_sheet_1 : decode cX0_sheet 1 = .ok (.iconst 0, 1) := dk_3 (dk_at dksX0_sheet_0 1 rfl rfl)
theorem dX0_sheet_2 : decode cX0_sheet 2 = .ok (.putfield 59, 3) := dk_181 0 59 (dk_at dksX0_sheet_0 2 rfl rfl)
theorem dX0_sheet_5 : decode cX0_sheet 5 = .ok (.iload_n 1, 1) := dk_27 (dk_at dksX0_sheet_0 5 rfl rfl)
theorem dX0_sheet_6 : decode cX0_sheet 6 = .ok (.invokestatic 151, 3) := dk_184 0 151 (dk_at dksX0_sheet_0 6 rfl rfl)
theorem dX0_sheet_9 : decode cX0_sheet 9 = .ok (.ifCond .ne 5, 3) := dk_154 0 5 (dk_at dksX0_sheet_0 9 rfl rfl)
theorem dX0_sheet_12 : decode cX0_sheet 12 = .ok (.iconst (-1), 1) := dk_2 (dk_at dksX0_sheet_0 12 rfl rfl)
theorem dX0_sheet_13 : decode cX0_sheet 13 = .ok (.ireturn, 1) := dk_172 (dk_at dksX0_sheet_0 13 rfl rfl)
theorem dX0_sheet_14 : decode cX0_sheet 14 = .ok (.iload_n 2, 1) := dk_28 (dk_at dksX0_sheet_0 14 rfl rfl)
theorem dX0_sheet_15 : decode cX0_sheet 15 = .ok (.invokestatic 155, 3) := dk_184 0 155 (dk_at dksX0_sheet_0 15 rfl rfl)
theorem dX0_sheet_18 : decode cX0_sheet 18 = .ok (.ifCond .eq 9, 3) := dk_153 0 9 (dk_at dksX0_sheet_0 18 rfl rfl)
theorem dX0_sheet_21 : decode cX0_sheet 21 = .ok (.iload_n 3, 1) := dk_29 (dk_at dksX0_sheet_0 21 rfl rfl)
theorem dX0_sheet_22 : decode cX0_sheet 22 = .ok (.bipush 60, 2) := dk_16 60 (dk_at dksX0_sheet_0 22 rfl rfl)
theorem dX0_sheet_24 : decode cX0_sheet 24 = .ok (.if_icmp .le 6, 3) := dk_164 0 6 (dk_at dksX0_sheet_1 0 rfl rfl)
theorem dX0_sheet_27 : decode cX0_sheet 27 = .ok (.bipush (-2), 2) := dk_16 254 (dk_at dksX0_sheet_1 3 rfl rfl)
theorem dX0_sheet_29 : decode cX0_sheet 29 = .ok (.ireturn, 1) := dk_172 (dk_at dksX0_sheet_1 5 rfl rfl)
theorem dX0_sheet_30 : decode cX0_sheet 30 = .ok (.aload_n 0, 1) := dk_42 (dk_at dksX0_sheet_1 6 rfl rfl)
theorem dX0_sheet_31 : decode cX0_sheet 31 = .ok (.getfield 49, 3) := dk_180 0 49 (dk_at dksX0_sheet_1 7 rfl rfl)
theorem dX0_sheet_34 : decode cX0_sheet 34 = .ok (.iload_n 1, 1) := dk_27 (dk_at dksX0_sheet_1 10 rfl rfl)
theorem dX0_sheet_35 : decode cX0_sheet 35 = .ok (.aaload, 1) := dk_50 (dk_at dksX0_sheet_1 11 rfl rfl)
theorem dX0_sheet_36 : decode cX0_sheet 36 = .ok (.iload_n 2, 1) := dk_28 (dk_at dksX0_sheet_1 12 rfl rfl)
theorem dX0_sheet_37 : decode cX0_sheet 37 = .ok (.ifCond .ne 9, 3) := dk_154 0 9 (dk_at dksX0_sheet_1 13 rfl rfl)
theorem dX0_sheet_40 : decode cX0_sheet 40 = .ok (.iload_n 3, 1) := dk_29 (dk_at dksX0_sheet_1 16 rfl rfl)
theorem dX0_sheet_41 : decode cX0_sheet 41 = .ok (.newarray .byte, 2) := dk_188_8 (dk_at dksX0_sheet_1 17 rfl rfl)
theorem dX0_sheet_43 : decode cX0_sheet 43 = .ok (.goto 17, 3) := dk_167 0 17 (dk_at dksX0_sheet_1 19 rfl rfl)
theorem dX0_sheet_46 : decode cX0_sheet 46 = .ok (.iload_n 2, 1) := dk_28 (dk_at dksX0_sheet_1 22 rfl rfl)
theorem dX0_sheet_47 : decode cX0_sheet 47 = .ok (.iconst 1, 1) := dk_4 (dk_at dksX0_sheet_1 23 rfl rfl)
theorem dX0_sheet_48 : decode cX0_sheet 48 = .ok (.if_icmp .ne 9, 3) := dk_160 0 9 (dk_at dksX0_sheet_2 0 rfl rfl)
theorem dX0_sheet_51 : decode cX0_sheet 51 = .ok (.iload_n 3, 1) := dk_29 (dk_at dksX0_sheet_2 3 rfl rfl)
theorem dX0_sheet_52 : decode cX0_sheet 52 = .ok (.newarray .short, 2) := dk_188_9 (dk_at dksX0_sheet_2 4 rfl rfl)
theorem dX0_sheet_54 : decode cX0_sheet 54 = .ok (.goto 6, 3) := dk_167 0 6 (dk_at dksX0_sheet_2 6 rfl rfl)
theorem dX0_sheet_57 : decode cX0_sheet 57 = .ok (.iload_n 3, 1) := dk_29 (dk_at dksX0_sheet_2 9 rfl rfl)
theorem dX0_sheet_58 : decode cX0_sheet 58 = .ok (.newarray .int, 2) := dk_188_10 (dk_at dksX0_sheet_2 10 rfl rfl)
theorem dX0_sheet_60 : decode cX0_sheet 60 = .ok (.putfield 158, 3) := dk_181 0 158 (dk_at dksX0_sheet_2 12 rfl rfl)
theorem dX0_sheet_63 : decode cX0_sheet 63 = .ok (.iconst 1, 1) := dk_4 (dk_at dksX0_sheet_2 15 rfl rfl)
theorem dX0_sheet_64 : decode cX0_sheet 64 = .ok (.ireturn, 1) := dk_172 (dk_at dksX0_sheet_2 16 rfl rfl)
theorem dX0_sheet_65 : decode cX0_sheet 65 = .ok (.astore 4, 2) := dk_58 4 (dk_at dksX0_sheet_2 17 rfl rfl)
theorem dX0_sheet_67 : decode cX0_sheet 67 = .ok (.aload_n 0, 1) := dk_42 (dk_at dksX0_sheet_2 19 rfl rfl)
theorem dX0_sheet_68 : decode cX0_sheet 68 = .ok (.iconst 4, 1) := dk_7 (dk_at dksX0_sheet_2 20 rfl rfl)
theorem dX0_sheet_69 : decode cX0_sheet 69 = .ok (.invokevirtual 178, 3) := dk_182 0 178 (dk_at dksX0_sheet_2 21 rfl rfl)
theorem dX0_sheet_72 : decode cX0_sheet 72 = .ok (.ireturn, 1) := dk_172 (dk_at dksX0_sheet_3 0 rfl rfl)
abbrev cX0_lose : ByteArray := prog_1_method_56_code
def yX0_lose : MethodName := ⟨RX0, "lose", "(I)I"⟩
def dkwX0_lose_1 : List UInt8 := [167, 0, 4, 4, 61, 42, 180, 0, 49, 27, 50, 1, 181, 0, 158, 28, 172]
abbrev dktX0_lose_1 : List UInt8 := dkwX0_lose_1 ++ []
def dkwX0_lose_0 : List UInt8 := [27, 184, 0, 151, 154, 0, 5, 2, 172, 42, 180, 0, 49, 27, 50, 180, 0, 158, 199, 0, 7, 3]
abbrev dktX0_lose_0 : List UInt8 := dkwX0_lose_0 ++ dktX0_lose_1
theorem dksX0_lose_0 : cX0_lose.data.toList.drop 0 = dktX0_lose_0 := by decide +kernel
theorem dksX0_lose_1 : cX0_lose.data.toList.drop 22 = dktX0_lose_1 := dk_seg dksX0_lose_0 22 rfl rfl
theorem dX0_lose_0 : decode cX0_lose 0 = .ok (.iload_n 1, 1) := dk_27 (dk_at dksX0_lose_0 0 rfl rfl)
theorem dX0_lose_1 : decode cX0_lose 1 = .ok (.invokestatic 151, 3) := dk_184 0 151 (dk_at dksX0_lose_0 1 rfl rfl)
theorem dX0_lose_4 : decode cX0_lose 4 = .ok (.ifCond .ne 5, 3) := dk_154 0 5 (dk_at dksX0_lose_0 4 rfl rfl)
theorem dX0_lose_7 : decode cX0_lose 7 = .ok (.iconst (-1), 1) := dk_2 (dk_at dksX0_lose_0 7 rfl rfl)
theorem dX0_lose_8 : decode cX0_lose 8 = .ok (.ireturn, 1) := dk_172 (dk_at dksX0_lose_0 8 rfl rfl)
theorem dX0_lose_9 : decode cX0_lose 9 = .ok (.aload_n 0, 1) := dk_42 (dk_at dksX0_lose_0 9 rfl rfl)
theorem dX0_lose_10 : decode cX0_lose 10 = .ok (.getfield 49, 3) := dk_180 0 49 (dk_at dksX0_lose_0 10 rfl rfl)
theorem dX0_lose_13 : decode cX0_lose 13 = .ok (.iload_n 1, 1) := dk_27 (dk_at dksX0_lose_0 13 rfl rfl)
theorem dX0_lose_14 : decode cX0_lose 14 = .ok (.aaload, 1) := dk_50 (dk_at dksX0_lose_0 14 rfl rfl)
theorem dX0_lose_15 : decode cX0_lose 15 = .ok (.getfield 158, 3) := dk_180 0 158 (dk_at dksX0_lose_0 15 rfl rfl)
theorem dX0_lose_18 : decode cX0_lose 18 = .ok (.ifnonnull 7, 3) := dk_199 0 7 (dk_at dksX0_lose_0 18 rfl rfl)
theorem dX0_lose_21 : decode cX0_lose 21 = .ok (.iconst 0, 1) := dk_3 (dk_at dksX0_lose_0 21 rfl rfl)
theorem dX0_lose_22 : decode cX0_lose 22 = .ok (.goto 4, 3) := dk_167 0 4 (dk_at dksX0_lose_1 0 rfl rfl)
theorem dX0_lose_25 : decode cX0_lose 25 = .ok (.iconst 1, 1) := dk_4 (dk_at dksX0_lose_1 3 rfl rfl)
theorem dX0_lose_26 : decode cX0_lose 26 = .ok (.istore_n 2, 1) := dk_61 (dk_at dksX0_lose_1 4 rfl rfl)
theorem dX0_lose_27 : decode cX0_lose 27 = .ok (.aload_n 0, 1) := dk_42 (dk_at dksX0_lose_1 5 rfl rfl)
theorem dX0_lose_28 : decode cX0_lose 28 = .ok (.getfield 49, 3) := dk_180 0 49 (dk_at dksX0_lose_1 6 rfl rfl)
theorem dX0_lose_31 : decode cX0_lose 31 = .ok (.iload_n 1, 1) := dk_27 (dk_at dksX0_lose_1 9 rfl rfl)
theorem dX0_lose_32 : decode cX0_lose 32 = .ok (.aaload, 1) := dk_50 (dk_at dksX0_lose_1 10 rfl rfl)
theorem dX0_lose_33 : decode cX0_lose 33 = .ok (.aconst_null, 1) := dk_1 (dk_at dksX0_lose_1 11 rfl rfl)
theorem dX0_lose_34 : decode cX0_lose 34 = .ok (.putfield 158, 3) := dk_181 0 158 (dk_at dksX0_lose_1 12 rfl rfl)
theorem dX0_lose_37 : decode cX0_lose 37 = .ok (.iload_n 2, 1) := dk_28 (dk_at dksX0_lose_1 15 rfl rfl)
theorem dX0_lose_38 : decode cX0_lose 38 = .ok (.ireturn, 1) := dk_172 (dk_at dksX0_lose_1 16 rfl rfl)
abbrev cX0_put : ByteArray := prog_1_method_57_code
def yX0_put : MethodName := ⟨RX0, "put", "(III)I"⟩
def dkwX0_put_4 : List UInt8 := [192, 1, 30, 28, 29, 79, 4, 172, 58, 4, 42, 4, 182, 0, 178, 172, 58, 4, 42, 6, 182, 0, 178, 172]
abbrev dktX0_put_4 : List UInt8 := dkwX0_put_4 ++ []
def dkwX0_put_3 : List UInt8 := [192, 1, 28, 58, 5, 25, 5, 28, 29, 147, 86, 167, 0, 18, 42, 180, 0, 49, 27, 50, 180, 0, 158]
abbrev dktX0_put_3 : List UInt8 := dkwX0_put_3 ++ dktX0_put_4
def dkwX0_put_2 : List UInt8 := [167, 0, 53, 42, 180, 0, 49, 27, 50, 180, 0, 158, 58, 6, 25, 6, 193, 1, 28, 153, 0, 19, 25, 6]
abbrev dktX0_put_2 : List UInt8 := dkwX0_put_2 ++ dktX0_put_3
def dkwX0_put_1 : List UInt8 := [58, 6, 25, 6, 193, 1, 26, 153, 0, 19, 25, 6, 192, 1, 26, 58, 4, 25, 4, 28, 29, 145, 84]
abbrev dktX0_put_1 : List UInt8 := dkwX0_put_1 ++ dktX0_put_2
def dkwX0_put_0 : List UInt8 := [42, 3, 181, 0, 59, 27, 184, 0, 151, 154, 0, 5, 2, 172, 42, 180, 0, 49, 27, 50, 180, 0, 158]
abbrev dktX0_put_0 : List UInt8 := dkwX0_put_0 ++ dktX0_put_1
theorem dksX0_put_0 : cX0_put.data.toList.drop 0 = dktX0_put_0 := by decide +kernel
theorem dksX0_put_1 : cX0_put.data.toList.drop 23 = dktX0_put_1 := dk_seg dksX0_put_0 23 rfl rfl
theorem dksX0_put_2 : cX0_put.data.toList.drop 46 = dktX0_put_2 := dk_seg dksX0_put_1 23 rfl rfl
theorem dksX0_put_3 : cX0_put.data.toList.drop 70 = dktX0_put_3 := dk_seg dksX0_put_2 24 rfl rfl
theorem dksX0_put_4 : cX0_put.data.toList.drop 93 = dktX0_put_4 := dk_seg dksX0_put_3 23 rfl rfl
theorem dX0_put_0 : decode cX0_put 0 = .ok (.aload_n 0, 1) := dk_42 (dk_at dksX0_put_0 0 rfl rfl)
theorem dX0_put_1 : decode cX0_put 1 = .ok (.iconst 0, 1) := dk_3 (dk_at dksX0_put_0 1 rfl rfl)
theorem dX0_put_2 : decode cX0_put 2 = .ok (.putfield 59, 3) := dk_181 0 59 (dk_at dksX0_put_0 2 rfl rfl)
theorem dX0_put_5 : decode cX0_put 5 = .ok (.iload_n 1, 1) := dk_27 (dk_at dksX0_put_0 5 rfl rfl)
theorem dX0_put_6 : decode cX0_put 6 = .ok (.invokestatic 151, 3) := dk_184 0 151 (dk_at dksX0_put_0 6 rfl rfl)
theorem dX0_put_9 : decode cX0_put 9 = .ok (.ifCond .ne 5, 3) := dk_154 0 5 (dk_at dksX0_put_0 9 rfl rfl)
theorem dX0_put_12 : decode cX0_put 12 = .ok (.iconst (-1), 1) := dk_2 (dk_at dksX0_put_0 12 rfl rfl)
theorem dX0_put_13 : decode cX0_put 13 = .ok (.ireturn, 1) := dk_172 (dk_at dksX0_put_0 13 rfl rfl)
theorem dX0_put_14 : decode cX0_put 14 = .ok (.aload_n 0, 1) := dk_42 (dk_at dksX0_put_0 14 rfl rfl)
theorem dX0_put_15 : decode cX0_put 15 = .ok (.getfield 49, 3) := dk_180 0 49 (dk_at dksX0_put_0 15 rfl rfl)
theorem dX0_put_18 : decode cX0_put 18 = .ok (.iload_n 1, 1) := dk_27 (dk_at dksX0_put_0 18 rfl rfl)
theorem dX0_put_19 : decode cX0_put 19 = .ok (.aaload, 1) := dk_50 (dk_at dksX0_put_0 19 rfl rfl)
theorem dX0_put_20 : decode cX0_put 20 = .ok (.getfield 158, 3) := dk_180 0 158 (dk_at dksX0_put_0 20 rfl rfl)
theorem dX0_put_23 : decode cX0_put 23 = .ok (.astore 6, 2) := dk_58 6 (dk_at dksX0_put_1 0 rfl rfl)
theorem dX0_put_25 : decode cX0_put 25 = .ok (.aload 6, 2) := dk_25 6 (dk_at dksX0_put_1 2 rfl rfl)
theorem dX0_put_27 : decode cX0_put 27 = .ok (.instanceof 282, 3) := dk_193 1 26 (dk_at dksX0_put_1 4 rfl rfl)
theorem dX0_put_30 : decode cX0_put 30 = .ok (.ifCond .eq 19, 3) := dk_153 0 19 (dk_at dksX0_put_1 7 rfl rfl)
theorem dX0_put_33 : decode cX0_put 33 = .ok (.aload 6, 2) := dk_25 6 (dk_at dksX0_put_1 10 rfl rfl)
theorem dX0_put_35 : decode cX0_put 35 = .ok (.checkcast 282, 3) := dk_192 1 26 (dk_at dksX0_put_1 12 rfl rfl)
theorem dX0_put_38 : decode cX0_put 38 = .ok (.astore 4, 2) := dk_58 4 (dk_at dksX0_put_1 15 rfl rfl)
theorem dX0_put_40 : decode cX0_put 40 = .ok (.aload 4, 2) := dk_25 4 (dk_at dksX0_put_1 17 rfl rfl)
theorem dX0_put_42 : decode cX0_put 42 = .ok (.iload_n 2, 1) := dk_28 (dk_at dksX0_put_1 19 rfl rfl)
theorem dX0_put_43 : decode cX0_put 43 = .ok (.iload_n 3, 1) := dk_29 (dk_at dksX0_put_1 20 rfl rfl)
theorem dX0_put_44 : decode cX0_put 44 = .ok (.i2b, 1) := dk_145 (dk_at dksX0_put_1 21 rfl rfl)
theorem dX0_put_45 : decode cX0_put 45 = .ok (.bastore, 1) := dk_84 (dk_at dksX0_put_1 22 rfl rfl)
theorem dX0_put_46 : decode cX0_put 46 = .ok (.goto 53, 3) := dk_167 0 53 (dk_at dksX0_put_2 0 rfl rfl)
theorem dX0_put_49 : decode cX0_put 49 = .ok (.aload_n 0, 1) := dk_42 (dk_at dksX0_put_2 3 rfl rfl)
theorem dX0_put_50 : decode cX0_put 50 = .ok (.getfield 49, 3) := dk_180 0 49 (dk_at dksX0_put_2 4 rfl rfl)
theorem dX0_put_53 : decode cX0_put 53 = .ok (.iload_n 1, 1) := dk_27 (dk_at dksX0_put_2 7 rfl rfl)
theorem dX0_put_54 : decode cX0_put 54 = .ok (.aaload, 1) := dk_50 (dk_at dksX0_put_2 8 rfl rfl)
theorem dX0_put_55 : decode cX0_put 55 = .ok (.getfield 158, 3) := dk_180 0 158 (dk_at dksX0_put_2 9 rfl rfl)
theorem dX0_put_58 : decode cX0_put 58 = .ok (.astore 6, 2) := dk_58 6 (dk_at dksX0_put_2 12 rfl rfl)
theorem dX0_put_60 : decode cX0_put 60 = .ok (.aload 6, 2) := dk_25 6 (dk_at dksX0_put_2 14 rfl rfl)
theorem dX0_put_62 : decode cX0_put 62 = .ok (.instanceof 284, 3) := dk_193 1 28 (dk_at dksX0_put_2 16 rfl rfl)
theorem dX0_put_65 : decode cX0_put 65 = .ok (.ifCond .eq 19, 3) := dk_153 0 19 (dk_at dksX0_put_2 19 rfl rfl)
theorem dX0_put_68 : decode cX0_put 68 = .ok (.aload 6, 2) := dk_25 6 (dk_at dksX0_put_2 22 rfl rfl)
theorem dX0_put_70 : decode cX0_put 70 = .ok (.checkcast 284, 3) := dk_192 1 28 (dk_at dksX0_put_3 0 rfl rfl)
theorem dX0_put_73 : decode cX0_put 73 = .ok (.astore 5, 2) := dk_58 5 (dk_at dksX0_put_3 3 rfl rfl)
theorem dX0_put_75 : decode cX0_put 75 = .ok (.aload 5, 2) := dk_25 5 (dk_at dksX0_put_3 5 rfl rfl)
theorem dX0_put_77 : decode cX0_put 77 = .ok (.iload_n 2, 1) := dk_28 (dk_at dksX0_put_3 7 rfl rfl)
theorem dX0_put_78 : decode cX0_put 78 = .ok (.iload_n 3, 1) := dk_29 (dk_at dksX0_put_3 8 rfl rfl)
theorem dX0_put_79 : decode cX0_put 79 = .ok (.i2s, 1) := dk_147 (dk_at dksX0_put_3 9 rfl rfl)
theorem dX0_put_80 : decode cX0_put 80 = .ok (.sastore, 1) := dk_86 (dk_at dksX0_put_3 10 rfl rfl)
theorem dX0_put_81 : decode cX0_put 81 = .ok (.goto 18, 3) := dk_167 0 18 (dk_at dksX0_put_3 11 rfl rfl)
theorem dX0_put_84 : decode cX0_put 84 = .ok (.aload_n 0, 1) := dk_42 (dk_at dksX0_put_3 14 rfl rfl)
theorem dX0_put_85 : decode cX0_put 85 = .ok (.getfield 49, 3) := dk_180 0 49 (dk_at dksX0_put_3 15 rfl rfl)
theorem dX0_put_88 : decode cX0_put 88 = .ok (.iload_n 1, 1) := dk_27 (dk_at dksX0_put_3 18 rfl rfl)
theorem dX0_put_89 : decode cX0_put 89 = .ok (.aaload, 1) := dk_50 (dk_at dksX0_put_3 19 rfl rfl)
theorem dX0_put_90 : decode cX0_put 90 = .ok (.getfield 158, 3) := dk_180 0 158 (dk_at dksX0_put_3 20 rfl rfl)
theorem dX0_put_93 : decode cX0_put 93 = .ok (.checkcast 286, 3) := dk_192 1 30 (dk_at dksX0_put_4 0 rfl rfl)
theorem dX0_put_96 : decode cX0_put 96 = .ok (.iload_n 2, 1) := dk_28 (dk_at dksX0_put_4 3 rfl rfl)
theorem dX0_put_97 : decode cX0_put 97 = .ok (.iload_n 3, 1) := dk_29 (dk_at dksX0_put_4 4 rfl rfl)
theorem dX0_put_98 : decode cX0_put 98 = .ok (.iastore, 1) := dk_79 (dk_at dksX0_put_4 5 rfl rfl)
theorem dX0_put_99 : decode cX0_put 99 = .ok (.iconst 1, 1) := dk_4 (dk_at dksX0_put_4 6 rfl rfl)
theorem dX0_put_100 : decode cX0_put 100 = .ok (.ireturn, 1) := dk_172 (dk_at dksX0_put_4 7 rfl rfl)
theorem dX0_put_101 : decode cX0_put 101 = .ok (.astore 4, 2) := dk_58 4 (dk_at dksX0_put_4 8 rfl rfl)
theorem dX0_put_103 : decode cX0_put 103 = .ok (.aload_n 0, 1) := dk_42 (dk_at dksX0_put_4 10 rfl rfl)
theorem dX0_put_104 : decode cX0_put 104 = .ok (.iconst 1, 1) := dk_4 (dk_at dksX0_put_4 11 rfl rfl)
theorem dX0_put_105 : decode cX0_put 105 = .ok (.invokevirtual 178, 3) := dk_182 0 178 (dk_at dksX0_put_4 12 rfl rfl)
theorem dX0_put_108 : decode cX0_put 108 = .ok (.ireturn, 1) := dk_172 (dk_at dksX0_put_4 15 rfl rfl)
theorem dX0_put_109 : decode cX0_put 109 = .ok (.astore 4, 2) := dk_58 4 (dk_at dksX0_put_4 16 rfl rfl)
theorem dX0_put_111 : decode cX0_put 111 = .ok (.aload_n 0, 1) := dk_42 (dk_at dksX0_put_4 18 rfl rfl)
theorem dX0_put_112 : decode cX0_put 112 = .ok (.iconst 3, 1) := dk_6 (dk_at dksX0_put_4 19 rfl rfl)
theorem dX0_put_113 : decode cX0_put 113 = .ok (.invokevirtual 178, 3) := dk_182 0 178 (dk_at dksX0_put_4 20 rfl rfl)
theorem dX0_put_116 : decode cX0_put 116 = .ok (.ireturn, 1) := dk_172 (dk_at dksX0_put_4 23 rfl rfl)
abbrev cX0_cell : ByteArray := prog_1_method_58_code
def yX0_cell : MethodName := ⟨RX0, "cell", "(III)J"⟩
def dkwX0_cell_2 : List UInt8 := [182, 1, 35, 173, 58, 4, 42, 4, 182, 1, 35, 173, 58, 4, 42, 6, 182, 1, 35, 173]
abbrev dktX0_cell_2 : List UInt8 := dkwX0_cell_2 ++ []
def dkwX0_cell_1 : List UInt8 := [180, 0, 49, 27, 50, 180, 0, 158, 29, 184, 0, 164, 28, 184, 1, 31, 133, 173, 58, 4, 42, 5]
abbrev dktX0_cell_1 : List UInt8 := dkwX0_cell_1 ++ dktX0_cell_2
def dkwX0_cell_0 : List UInt8 := [42, 3, 181, 0, 59, 27, 184, 0, 151, 153, 0, 10, 29, 184, 0, 155, 154, 0, 7, 20, 0, 62, 173, 42]
abbrev dktX0_cell_0 : List UInt8 := dkwX0_cell_0 ++ dktX0_cell_1
theorem dksX0_cell_0 : cX0_cell.data.toList.drop 0 = dktX0_cell_0 := by decide +kernel
theorem dksX0_cell_1 : cX0_cell.data.toList.drop 24 = dktX0_cell_1 := dk_seg dksX0_cell_0 24 rfl rfl
theorem dksX0_cell_2 : cX0_cell.data.toList.drop 46 = dktX0_cell_2 := dk_seg dksX0_cell_1 22 rfl rfl
theorem dX0_cell_0 : decode cX0_cell 0 = .ok (.aload_n 0, 1) := dk_42 (dk_at dksX0_cell_0 0 rfl rfl)
theorem dX0_cell_1 : decode cX0_cell 1 = .ok (.iconst 0, 1) := dk_3 (dk_at dksX0_cell_0 1 rfl rfl)
theorem dX0_cell_2 : decode cX0_cell 2 = .ok (.putfield 59, 3) := dk_181 0 59 (dk_at dksX0_cell_0 2 rfl rfl)
theorem dX0_cell_5 : decode cX0_cell 5 = .ok (.iload_n 1, 1) := dk_27 (dk_at dksX0_cell_0 5 rfl rfl)
theorem dX0_cell_6 : decode cX0_cell 6 = .ok (.invokestatic 151, 3) := dk_184 0 151 (dk_at dksX0_cell_0 6 rfl rfl)
theorem dX0_cell_9 : decode cX0_cell 9 = .ok (.ifCond .eq 10, 3) := dk_153 0 10 (dk_at dksX0_cell_0 9 rfl rfl)
theorem dX0_cell_12 : decode cX0_cell 12 = .ok (.iload_n 3, 1) := dk_29 (dk_at dksX0_cell_0 12 rfl rfl)
theorem dX0_cell_13 : decode cX0_cell 13 = .ok (.invokestatic 155, 3) := dk_184 0 155 (dk_at dksX0_cell_0 13 rfl rfl)
theorem dX0_cell_16 : decode cX0_cell 16 = .ok (.ifCond .ne 7, 3) := dk_154 0 7 (dk_at dksX0_cell_0 16 rfl rfl)
theorem dX0_cell_19 : decode cX0_cell 19 = .ok (.ldc2_w 62, 3) := dk_20 0 62 (dk_at dksX0_cell_0 19 rfl rfl)
theorem dX0_cell_22 : decode cX0_cell 22 = .ok (.lreturn, 1) := dk_173 (dk_at dksX0_cell_0 22 rfl rfl)
theorem dX0_cell_23 : decode cX0_cell 23 = .ok (.aload_n 0, 1) := dk_42 (dk_at dksX0_cell_0 23 rfl rfl)
theorem dX0_cell_24 : decode cX0_cell 24 = .ok (.getfield 49, 3) := dk_180 0 49 (dk_at dksX0_cell_1 0 rfl rfl)
theorem dX0_cell_27 : decode cX0_cell 27 = .ok (.iload_n 1, 1) := dk_27 (dk_at dksX0_cell_1 3 rfl rfl)
theorem dX0_cell_28 : decode cX0_cell 28 = .ok (.aaload, 1) := dk_50 (dk_at dksX0_cell_1 4 rfl rfl)
theorem dX0_cell_29 : decode cX0_cell 29 = .ok (.getfield 158, 3) := dk_180 0 158 (dk_at dksX0_cell_1 5 rfl rfl)
theorem dX0_cell_32 : decode cX0_cell 32 = .ok (.iload_n 3, 1) := dk_29 (dk_at dksX0_cell_1 8 rfl rfl)
theorem dX0_cell_33 : decode cX0_cell 33 = .ok (.invokestatic 164, 3) := dk_184 0 164 (dk_at dksX0_cell_1 9 rfl rfl)
theorem dX0_cell_36 : decode cX0_cell 36 = .ok (.iload_n 2, 1) := dk_28 (dk_at dksX0_cell_1 12 rfl rfl)
theorem dX0_cell_37 : decode cX0_cell 37 = .ok (.invokestatic 287, 3) := dk_184 1 31 (dk_at dksX0_cell_1 13 rfl rfl)
theorem dX0_cell_40 : decode cX0_cell 40 = .ok (.i2l, 1) := dk_133 (dk_at dksX0_cell_1 16 rfl rfl)
theorem dX0_cell_41 : decode cX0_cell 41 = .ok (.lreturn, 1) := dk_173 (dk_at dksX0_cell_1 17 rfl rfl)
theorem dX0_cell_42 : decode cX0_cell 42 = .ok (.astore 4, 2) := dk_58 4 (dk_at dksX0_cell_1 18 rfl rfl)
theorem dX0_cell_44 : decode cX0_cell 44 = .ok (.aload_n 0, 1) := dk_42 (dk_at dksX0_cell_1 20 rfl rfl)
theorem dX0_cell_45 : decode cX0_cell 45 = .ok (.iconst 2, 1) := dk_5 (dk_at dksX0_cell_1 21 rfl rfl)
theorem dX0_cell_46 : decode cX0_cell 46 = .ok (.invokevirtual 291, 3) := dk_182 1 35 (dk_at dksX0_cell_2 0 rfl rfl)
theorem dX0_cell_49 : decode cX0_cell 49 = .ok (.lreturn, 1) := dk_173 (dk_at dksX0_cell_2 3 rfl rfl)
theorem dX0_cell_50 : decode cX0_cell 50 = .ok (.astore 4, 2) := dk_58 4 (dk_at dksX0_cell_2 4 rfl rfl)
theorem dX0_cell_52 : decode cX0_cell 52 = .ok (.aload_n 0, 1) := dk_42 (dk_at dksX0_cell_2 6 rfl rfl)
theorem dX0_cell_53 : decode cX0_cell 53 = .ok (.iconst 1, 1) := dk_4 (dk_at dksX0_cell_2 7 rfl rfl)
theorem dX0_cell_54 : decode cX0_cell 54 = .ok (.invokevirtual 291, 3) := dk_182 1 35 (dk_at dksX0_cell_2 8 rfl rfl)
theorem dX0_cell_57 : decode cX0_cell 57 = .ok (.lreturn, 1) := dk_173 (dk_at dksX0_cell_2 11 rfl rfl)
theorem dX0_cell_58 : decode cX0_cell 58 = .ok (.astore 4, 2) := dk_58 4 (dk_at dksX0_cell_2 12 rfl rfl)
theorem dX0_cell_60 : decode cX0_cell 60 = .ok (.aload_n 0, 1) := dk_42 (dk_at dksX0_cell_2 14 rfl rfl)
theorem dX0_cell_61 : decode cX0_cell 61 = .ok (.iconst 3, 1) := dk_6 (dk_at dksX0_cell_2 15 rfl rfl)
theorem dX0_cell_62 : decode cX0_cell 62 = .ok (.invokevirtual 291, 3) := dk_182 1 35 (dk_at dksX0_cell_2 16 rfl rfl)
theorem dX0_cell_65 : decode cX0_cell 65 = .ok (.lreturn, 1) := dk_173 (dk_at dksX0_cell_2 19 rfl rfl)
abbrev cX0_lost : ByteArray := prog_1_method_7_code
def yX0_lost : MethodName := ⟨RX0, "lost", "(I)J"⟩
def dkwX0_lost_0 : List UInt8 := [42, 27, 181, 0, 59, 20, 0, 62, 173]
abbrev dktX0_lost_0 : List UInt8 := dkwX0_lost_0 ++ []
theorem dksX0_lost_0 : cX0_lost.data.toList.drop 0 = dktX0_lost_0 := by decide +kernel
theorem dX0_lost_0 : decode cX0_lost 0 = .ok (.aload_n 0, 1) := dk_42 (dk_at dksX0_lost_0 0 rfl rfl)
theorem dX0_lost_1 : decode cX0_lost 1 = .ok (.iload_n 1, 1) := dk_27 (dk_at dksX0_lost_0 1 rfl rfl)
theorem dX0_lost_2 : decode cX0_lost 2 = .ok (.putfield 59, 3) := dk_181 0 59 (dk_at dksX0_lost_0 2 rfl rfl)
theorem dX0_lost_5 : decode cX0_lost 5 = .ok (.ldc2_w 62, 3) := dk_20 0 62 (dk_at dksX0_lost_0 5 rfl rfl)
theorem dX0_lost_8 : decode cX0_lost 8 = .ok (.lreturn, 1) := dk_173 (dk_at dksX0_lost_0 8 rfl rfl)
abbrev cX0_copy : ByteArray := prog_1_method_59_code
def yX0_copy : MethodName := ⟨RX0, "copy", "(IIIII)I"⟩
def dkwX0_copy_3 : List UInt8 := [42, 6, 182, 0, 178, 172]
abbrev dktX0_copy_3 : List UInt8 := dkwX0_copy_3 ++ []
def dkwX0_copy_2 : List UInt8 := [184, 0, 131, 21, 5, 172, 58, 6, 42, 4, 182, 0, 178, 172, 58, 6, 42, 5, 182, 0, 178, 172, 58, 6]
abbrev dktX0_copy_2 : List UInt8 := dkwX0_copy_2 ++ dktX0_copy_3
def dkwX0_copy_1 : List UInt8 := [180, 0, 49, 27, 50, 180, 0, 158, 28, 42, 180, 0, 49, 29, 50, 180, 0, 158, 21, 4, 21, 5]
abbrev dktX0_copy_1 : List UInt8 := dkwX0_copy_1 ++ dktX0_copy_2
def dkwX0_copy_0 : List UInt8 := [42, 3, 181, 0, 59, 27, 184, 0, 151, 153, 0, 10, 29, 184, 0, 151, 154, 0, 5, 2, 172, 42]
abbrev dktX0_copy_0 : List UInt8 := dkwX0_copy_0 ++ dktX0_copy_1
theorem dksX0_copy_0 : cX0_copy.data.toList.drop 0 = dktX0_copy_0 := by decide +kernel
theorem dksX0_copy_1 : cX0_copy.data.toList.drop 22 = dktX0_copy_1 := dk_seg dksX0_copy_0 22 rfl rfl
theorem dksX0_copy_2 : cX0_copy.data.toList.drop 44 = dktX0_copy_2 := dk_seg dksX0_copy_1 22 rfl rfl
theorem dksX0_copy_3 : cX0_copy.data.toList.drop 68 = dktX0_copy_3 := dk_seg dksX0_copy_2 24 rfl rfl
theorem dX0_copy_0 : decode cX0_copy 0 = .ok (.aload_n 0, 1) := dk_42 (dk_at dksX0_copy_0 0 rfl rfl)
theorem dX0_copy_1 : decode cX0_copy 1 = .ok (.iconst 0, 1) := dk_3 (dk_at dksX0_copy_0 1 rfl rfl)
theorem dX0_copy_2 : decode cX0_copy 2 = .ok (.putfield 59, 3) := dk_181 0 59 (dk_at dksX0_copy_0 2 rfl rfl)
theorem dX0_copy_5 : decode cX0_copy 5 = .ok (.iload_n 1, 1) := dk_27 (dk_at dksX0_copy_0 5 rfl rfl)
theorem dX0_copy_6 : decode cX0_copy 6 = .ok (.invokestatic 151, 3) := dk_184 0 151 (dk_at dksX0_copy_0 6 rfl rfl)
theorem dX0_copy_9 : decode cX0_copy 9 = .ok (.ifCond .eq 10, 3) := dk_153 0 10 (dk_at dksX0_copy_0 9 rfl rfl)
theorem dX0_copy_12 : decode cX0_copy 12 = .ok (.iload_n 3, 1) := dk_29 (dk_at dksX0_copy_0 12 rfl rfl)
theorem dX0_copy_13 : decode cX0_copy 13 = .ok (.invokestatic 151, 3) := dk_184 0 151 (dk_at dksX0_copy_0 13 rfl rfl)
theorem dX0_copy_16 : decode cX0_copy 16 = .ok (.ifCond .ne 5, 3) := dk_154 0 5 (dk_at dksX0_copy_0 16 rfl rfl)
theorem dX0_copy_19 : decode cX0_copy 19 = .ok (.iconst (-1), 1) := dk_2 (dk_at dksX0_copy_0 19 rfl rfl)
theorem dX0_copy_20 : decode cX0_copy 20 = .ok (.ireturn, 1) := dk_172 (dk_at dksX0_copy_0 20 rfl rfl)
theorem dX0_copy_21 : decode cX0_copy 21 = .ok (.aload_n 0, 1) := dk_42 (dk_at dksX0_copy_0 21 rfl rfl)
theorem dX0_copy_22 : decode cX0_copy 22 = .ok (.getfield 49, 3) := dk_180 0 49 (dk_at dksX0_copy_1 0 rfl rfl)
theorem dX0_copy_25 : decode cX0_copy 25 = .ok (.iload_n 1, 1) := dk_27 (dk_at dksX0_copy_1 3 rfl rfl)
theorem dX0_copy_26 : decode cX0_copy 26 = .ok (.aaload, 1) := dk_50 (dk_at dksX0_copy_1 4 rfl rfl)
theorem dX0_copy_27 : decode cX0_copy 27 = .ok (.getfield 158, 3) := dk_180 0 158 (dk_at dksX0_copy_1 5 rfl rfl)
theorem dX0_copy_30 : decode cX0_copy 30 = .ok (.iload_n 2, 1) := dk_28 (dk_at dksX0_copy_1 8 rfl rfl)
theorem dX0_copy_31 : decode cX0_copy 31 = .ok (.aload_n 0, 1) := dk_42 (dk_at dksX0_copy_1 9 rfl rfl)
theorem dX0_copy_32 : decode cX0_copy 32 = .ok (.getfield 49, 3) := dk_180 0 49 (dk_at dksX0_copy_1 10 rfl rfl)
theorem dX0_copy_35 : decode cX0_copy 35 = .ok (.iload_n 3, 1) := dk_29 (dk_at dksX0_copy_1 13 rfl rfl)
theorem dX0_copy_36 : decode cX0_copy 36 = .ok (.aaload, 1) := dk_50 (dk_at dksX0_copy_1 14 rfl rfl)
theorem dX0_copy_37 : decode cX0_copy 37 = .ok (.getfield 158, 3) := dk_180 0 158 (dk_at dksX0_copy_1 15 rfl rfl)
theorem dX0_copy_40 : decode cX0_copy 40 = .ok (.iload 4, 2) := dk_21 4 (dk_at dksX0_copy_1 18 rfl rfl)
theorem dX0_copy_42 : decode cX0_copy 42 = .ok (.iload 5, 2) := dk_21 5 (dk_at dksX0_copy_1 20 rfl rfl)
theorem dX0_copy_44 : decode cX0_copy 44 = .ok (.invokestatic 131, 3) := dk_184 0 131 (dk_at dksX0_copy_2 0 rfl rfl)
theorem dX0_copy_47 : decode cX0_copy 47 = .ok (.iload 5, 2) := dk_21 5 (dk_at dksX0_copy_2 3 rfl rfl)
theorem dX0_copy_49 : decode cX0_copy 49 = .ok (.ireturn, 1) := dk_172 (dk_at dksX0_copy_2 5 rfl rfl)
theorem dX0_copy_50 : decode cX0_copy 50 = .ok (.astore 6, 2) := dk_58 6 (dk_at dksX0_copy_2 6 rfl rfl)
theorem dX0_copy_52 : decode cX0_copy 52 = .ok (.aload_n 0, 1) := dk_42 (dk_at dksX0_copy_2 8 rfl rfl)
theorem dX0_copy_53 : decode cX0_copy 53 = .ok (.iconst 1, 1) := dk_4 (dk_at dksX0_copy_2 9 rfl rfl)
theorem dX0_copy_54 : decode cX0_copy 54 = .ok (.invokevirtual 178, 3) := dk_182 0 178 (dk_at dksX0_copy_2 10 rfl rfl)
theorem dX0_copy_57 : decode cX0_copy 57 = .ok (.ireturn, 1) := dk_172 (dk_at dksX0_copy_2 13 rfl rfl)
theorem dX0_copy_58 : decode cX0_copy 58 = .ok (.astore 6, 2) := dk_58 6 (dk_at dksX0_copy_2 14 rfl rfl)
theorem dX0_copy_60 : decode cX0_copy 60 = .ok (.aload_n 0, 1) := dk_42 (dk_at dksX0_copy_2 16 rfl rfl)
theorem dX0_copy_61 : decode cX0_copy 61 = .ok (.iconst 2, 1) := dk_5 (dk_at dksX0_copy_2 17 rfl rfl)
theorem dX0_copy_62 : decode cX0_copy 62 = .ok (.invokevirtual 178, 3) := dk_182 0 178 (dk_at dksX0_copy_2 18 rfl rfl)
theorem dX0_copy_65 : decode cX0_copy 65 = .ok (.ireturn, 1) := dk_172 (dk_at dksX0_copy_2 21 rfl rfl)
theorem dX0_copy_66 : decode cX0_copy 66 = .ok (.astore 6, 2) := dk_58 6 (dk_at dksX0_copy_2 22 rfl rfl)
theorem dX0_copy_68 : decode cX0_copy 68 = .ok (.aload_n 0, 1) := dk_42 (dk_at dksX0_copy_3 0 rfl rfl)
theorem dX0_copy_69 : decode cX0_copy 69 = .ok (.iconst 3, 1) := dk_6 (dk_at dksX0_copy_3 1 rfl rfl)
theorem dX0_copy_70 : decode cX0_copy 70 = .ok (.invokevirtual 178, 3) := dk_182 0 178 (dk_at dksX0_copy_3 2 rfl rfl)
theorem dX0_copy_73 : decode cX0_copy 73 = .ok (.ireturn, 1) := dk_172 (dk_at dksX0_copy_3 5 rfl rfl)
abbrev cX0_tell : ByteArray := prog_1_method_61_code
def yX0_tell : MethodName := ⟨RX0, "tell", "(I)I"⟩
def dkwX0_tell_1 : List UInt8 := [167, 0, 4, 2, 172]
abbrev dktX0_tell_1 : List UInt8 := dkwX0_tell_1 ++ []
def dkwX0_tell_0 : List UInt8 := [42, 27, 182, 0, 188, 153, 0, 22, 42, 180, 0, 12, 27, 185, 0, 191, 2, 0, 192, 0, 67, 182, 1, 51]
abbrev dktX0_tell_0 : List UInt8 := dkwX0_tell_0 ++ dktX0_tell_1
theorem dksX0_tell_0 : cX0_tell.data.toList.drop 0 = dktX0_tell_0 := by decide +kernel
theorem dksX0_tell_1 : cX0_tell.data.toList.drop 24 = dktX0_tell_1 := dk_seg dksX0_tell_0 24 rfl rfl
theorem dX0_tell_0 : decode cX0_tell 0 = .ok (.aload_n 0, 1) := dk_42 (dk_at dksX0_tell_0 0 rfl rfl)
theorem dX0_tell_1 : decode cX0_tell 1 = .ok (.iload_n 1, 1) := dk_27 (dk_at dksX0_tell_0 1 rfl rfl)
theorem dX0_tell_2 : decode cX0_tell 2 = .ok (.invokevirtual 188, 3) := dk_182 0 188 (dk_at dksX0_tell_0 2 rfl rfl)
theorem dX0_tell_5 : decode cX0_tell 5 = .ok (.ifCond .eq 22, 3) := dk_153 0 22 (dk_at dksX0_tell_0 5 rfl rfl)
theorem dX0_tell_8 : decode cX0_tell 8 = .ok (.aload_n 0, 1) := dk_42 (dk_at dksX0_tell_0 8 rfl rfl)
theorem dX0_tell_9 : decode cX0_tell 9 = .ok (.getfield 12, 3) := dk_180 0 12 (dk_at dksX0_tell_0 9 rfl rfl)
theorem dX0_tell_12 : decode cX0_tell 12 = .ok (.iload_n 1, 1) := dk_27 (dk_at dksX0_tell_0 12 rfl rfl)
theorem dX0_tell_13 : decode cX0_tell 13 = .ok (.invokeinterface 191 2, 5) := by decide +kernel
theorem dX0_tell_18 : decode cX0_tell 18 = .ok (.checkcast 67, 3) := dk_192 0 67 (dk_at dksX0_tell_0 18 rfl rfl)
theorem dX0_tell_21 : decode cX0_tell 21 = .ok (.invokevirtual 307, 3) := dk_182 1 51 (dk_at dksX0_tell_0 21 rfl rfl)
theorem dX0_tell_24 : decode cX0_tell 24 = .ok (.goto 4, 3) := dk_167 0 4 (dk_at dksX0_tell_1 0 rfl rfl)
theorem dX0_tell_27 : decode cX0_tell 27 = .ok (.iconst (-1), 1) := dk_2 (dk_at dksX0_tell_1 3 rfl rfl)
theorem dX0_tell_28 : decode cX0_tell 28 = .ok (.ireturn, 1) := dk_172 (dk_at dksX0_tell_1 4 rfl rfl)
abbrev cX0_begins : ByteArray := prog_1_method_8_code
def yX0_begins : MethodName := ⟨RX0, "begins", "(I)V"⟩
def dkwX0_begins_0 : List UInt8 := [42, 16, 31, 42, 180, 0, 64, 104, 27, 96, 181, 0, 64, 177]
abbrev dktX0_begins_0 : List UInt8 := dkwX0_begins_0 ++ []
theorem dksX0_begins_0 : cX0_begins.data.toList.drop 0 = dktX0_begins_0 := by decide +kernel
theorem dX0_begins_0 : decode cX0_begins 0 = .ok (.aload_n 0, 1) := dk_42 (dk_at dksX0_begins_0 0 rfl rfl)
theorem dX0_begins_1 : decode cX0_begins 1 = .ok (.bipush 31, 2) := dk_16 31 (dk_at dksX0_begins_0 1 rfl rfl)
theorem dX0_begins_3 : decode cX0_begins 3 = .ok (.aload_n 0, 1) := dk_42 (dk_at dksX0_begins_0 3 rfl rfl)
theorem dX0_begins_4 : decode cX0_begins 4 = .ok (.getfield 64, 3) := dk_180 0 64 (dk_at dksX0_begins_0 4 rfl rfl)
theorem dX0_begins_7 : decode cX0_begins 7 = .ok (.imul, 1) := dk_104 (dk_at dksX0_begins_0 7 rfl rfl)
theorem dX0_begins_8 : decode cX0_begins 8 = .ok (.iload_n 1, 1) := dk_27 (dk_at dksX0_begins_0 8 rfl rfl)
theorem dX0_begins_9 : decode cX0_begins 9 = .ok (.iadd, 1) := dk_96 (dk_at dksX0_begins_0 9 rfl rfl)
theorem dX0_begins_10 : decode cX0_begins 10 = .ok (.putfield 64, 3) := dk_181 0 64 (dk_at dksX0_begins_0 10 rfl rfl)
theorem dX0_begins_13 : decode cX0_begins 13 = .ok (.return_, 1) := dk_177 (dk_at dksX0_begins_0 13 rfl rfl)
abbrev cX0_sniff : ByteArray := prog_1_method_63_code
def yX0_sniff : MethodName := ⟨RX0, "sniff", "(I)I"⟩
def dkwX0_sniff_1 : List UInt8 := [167, 0, 4, 2, 172]
abbrev dktX0_sniff_1 : List UInt8 := dkwX0_sniff_1 ++ []
def dkwX0_sniff_0 : List UInt8 := [42, 27, 182, 0, 188, 153, 0, 22, 42, 180, 0, 12, 27, 185, 0, 191, 2, 0, 192, 1, 55, 184, 1, 59]
abbrev dktX0_sniff_0 : List UInt8 := dkwX0_sniff_0 ++ dktX0_sniff_1
theorem dksX0_sniff_0 : cX0_sniff.data.toList.drop 0 = dktX0_sniff_0 := by decide +kernel
theorem dksX0_sniff_1 : cX0_sniff.data.toList.drop 24 = dktX0_sniff_1 := dk_seg dksX0_sniff_0 24 rfl rfl
theorem dX0_sniff_0 : decode cX0_sniff 0 = .ok (.aload_n 0, 1) := dk_42 (dk_at dksX0_sniff_0 0 rfl rfl)
theorem dX0_sniff_1 : decode cX0_sniff 1 = .ok (.iload_n 1, 1) := dk_27 (dk_at dksX0_sniff_0 1 rfl rfl)
theorem dX0_sniff_2 : decode cX0_sniff 2 = .ok (.invokevirtual 188, 3) := dk_182 0 188 (dk_at dksX0_sniff_0 2 rfl rfl)
theorem dX0_sniff_5 : decode cX0_sniff 5 = .ok (.ifCond .eq 22, 3) := dk_153 0 22 (dk_at dksX0_sniff_0 5 rfl rfl)
theorem dX0_sniff_8 : decode cX0_sniff 8 = .ok (.aload_n 0, 1) := dk_42 (dk_at dksX0_sniff_0 8 rfl rfl)
theorem dX0_sniff_9 : decode cX0_sniff 9 = .ok (.getfield 12, 3) := dk_180 0 12 (dk_at dksX0_sniff_0 9 rfl rfl)
theorem dX0_sniff_12 : decode cX0_sniff 12 = .ok (.iload_n 1, 1) := dk_27 (dk_at dksX0_sniff_0 12 rfl rfl)
theorem dX0_sniff_13 : decode cX0_sniff 13 = .ok (.invokeinterface 191 2, 5) := by decide +kernel
theorem dX0_sniff_18 : decode cX0_sniff 18 = .ok (.checkcast 311, 3) := dk_192 1 55 (dk_at dksX0_sniff_0 18 rfl rfl)
theorem dX0_sniff_21 : decode cX0_sniff 21 = .ok (.invokestatic 315, 3) := dk_184 1 59 (dk_at dksX0_sniff_0 21 rfl rfl)
theorem dX0_sniff_24 : decode cX0_sniff 24 = .ok (.goto 4, 3) := dk_167 0 4 (dk_at dksX0_sniff_1 0 rfl rfl)
theorem dX0_sniff_27 : decode cX0_sniff 27 = .ok (.iconst (-1), 1) := dk_2 (dk_at dksX0_sniff_1 3 rfl rfl)
theorem dX0_sniff_28 : decode cX0_sniff 28 = .ok (.ireturn, 1) := dk_172 (dk_at dksX0_sniff_1 4 rfl rfl)
abbrev cX0_sniffed : ByteArray := prog_1_method_62_code
def yX0_sniffed : MethodName := ⟨RX0, "sniffed", "(LMustardFast$Sniffed;)I"⟩
theorem dX0_sniffed_0 : decode cX0_sniffed 0 = .ok (.aload_n 0, 1) := by decide +kernel
theorem dX0_sniffed_1 : decode cX0_sniffed 1 = .ok (.invokeinterface 310 1, 5) := by decide +kernel
theorem dX0_sniffed_6 : decode cX0_sniffed 6 = .ok (.ireturn, 1) := by decide +kernel
abbrev cX0_as : ByteArray := prog_1_method_65_code
def yX0_as : MethodName := ⟨RX0, "as", "(II)I"⟩
def dkwX0_as_2 : List UInt8 := [182, 0, 195, 28, 161, 0, 7, 4, 167, 0, 4, 3, 172, 78, 42, 5, 182, 0, 178, 172]
abbrev dktX0_as_2 : List UInt8 := dkwX0_as_2 ++ []
def dkwX0_as_1 : List UInt8 := [154, 0, 6, 16, 254, 172, 42, 180, 0, 12, 27, 185, 0, 191, 2, 0, 192, 0, 67, 28, 184, 1, 63]
abbrev dktX0_as_1 : List UInt8 := dkwX0_as_1 ++ dktX0_as_2
def dkwX0_as_0 : List UInt8 := [42, 3, 181, 0, 59, 42, 27, 182, 0, 188, 154, 0, 5, 2, 172, 28, 133, 9, 20, 1, 24, 184, 0, 55]
abbrev dktX0_as_0 : List UInt8 := dkwX0_as_0 ++ dktX0_as_1
theorem dksX0_as_0 : cX0_as.data.toList.drop 0 = dktX0_as_0 := by decide +kernel
theorem dksX0_as_1 : cX0_as.data.toList.drop 24 = dktX0_as_1 := dk_seg dksX0_as_0 24 rfl rfl
theorem dksX0_as_2 : cX0_as.data.toList.drop 47 = dktX0_as_2 := dk_seg dksX0_as_1 23 rfl rfl
theorem dX0_as_0 : decode cX0_as 0 = .ok (.aload_n 0, 1) := dk_42 (dk_at dksX0_as_0 0 rfl rfl)
theorem dX0_as_1 : decode cX0_as 1 = .ok (.iconst 0, 1) := dk_3 (dk_at dksX0_as_0 1 rfl rfl)
theorem dX0_as_2 : decode cX0_as 2 = .ok (.putfield 59, 3) := dk_181 0 59 (dk_at dksX0_as_0 2 rfl rfl)
theorem dX0_as_5 : decode cX0_as 5 = .ok (.aload_n 0, 1) := dk_42 (dk_at dksX0_as_0 5 rfl rfl)
theorem dX0_as_6 : decode cX0_as 6 = .ok (.iload_n 1, 1) := dk_27 (dk_at dksX0_as_0 6 rfl rfl)
theorem dX0_as_7 : decode cX0_as 7 = .ok (.invokevirtual 188, 3) := dk_182 0 188 (dk_at dksX0_as_0 7 rfl rfl)
theorem dX0_as_10 : decode cX0_as 10 = .ok (.ifCond .ne 5, 3) := dk_154 0 5 (dk_at dksX0_as_0 10 rfl rfl)
theorem dX0_as_13 : decode cX0_as 13 = .ok (.iconst (-1), 1) := dk_2 (dk_at dksX0_as_0 13 rfl rfl)
theorem dX0_as_14 : decode cX0_as 14 = .ok (.ireturn, 1) := dk_172 (dk_at dksX0_as_0 14 rfl rfl)
theorem dX0_as_15 : decode cX0_as 15 = .ok (.iload_n 2, 1) := dk_28 (dk_at dksX0_as_0 15 rfl rfl)
theorem dX0_as_16 : decode cX0_as 16 = .ok (.i2l, 1) := dk_133 (dk_at dksX0_as_0 16 rfl rfl)
theorem dX0_as_17 : decode cX0_as 17 = .ok (.lconst 0, 1) := dk_9 (dk_at dksX0_as_0 17 rfl rfl)
theorem dX0_as_18 : decode cX0_as 18 = .ok (.ldc2_w 280, 3) := dk_20 1 24 (dk_at dksX0_as_0 18 rfl rfl)
theorem dX0_as_21 : decode cX0_as 21 = .ok (.invokestatic 55, 3) := dk_184 0 55 (dk_at dksX0_as_0 21 rfl rfl)
theorem dX0_as_24 : decode cX0_as 24 = .ok (.ifCond .ne 6, 3) := dk_154 0 6 (dk_at dksX0_as_1 0 rfl rfl)
theorem dX0_as_27 : decode cX0_as 27 = .ok (.bipush (-2), 2) := dk_16 254 (dk_at dksX0_as_1 3 rfl rfl)
theorem dX0_as_29 : decode cX0_as 29 = .ok (.ireturn, 1) := dk_172 (dk_at dksX0_as_1 5 rfl rfl)
theorem dX0_as_30 : decode cX0_as 30 = .ok (.aload_n 0, 1) := dk_42 (dk_at dksX0_as_1 6 rfl rfl)
theorem dX0_as_31 : decode cX0_as 31 = .ok (.getfield 12, 3) := dk_180 0 12 (dk_at dksX0_as_1 7 rfl rfl)
theorem dX0_as_34 : decode cX0_as 34 = .ok (.iload_n 1, 1) := dk_27 (dk_at dksX0_as_1 10 rfl rfl)
theorem dX0_as_35 : decode cX0_as 35 = .ok (.invokeinterface 191 2, 5) := by decide +kernel
theorem dX0_as_40 : decode cX0_as 40 = .ok (.checkcast 67, 3) := dk_192 0 67 (dk_at dksX0_as_1 16 rfl rfl)
theorem dX0_as_43 : decode cX0_as 43 = .ok (.iload_n 2, 1) := dk_28 (dk_at dksX0_as_1 19 rfl rfl)
theorem dX0_as_44 : decode cX0_as 44 = .ok (.invokestatic 319, 3) := dk_184 1 63 (dk_at dksX0_as_1 20 rfl rfl)
theorem dX0_as_47 : decode cX0_as 47 = .ok (.invokevirtual 195, 3) := dk_182 0 195 (dk_at dksX0_as_2 0 rfl rfl)
theorem dX0_as_50 : decode cX0_as 50 = .ok (.iload_n 2, 1) := dk_28 (dk_at dksX0_as_2 3 rfl rfl)
theorem dX0_as_51 : decode cX0_as 51 = .ok (.if_icmp .lt 7, 3) := dk_161 0 7 (dk_at dksX0_as_2 4 rfl rfl)
theorem dX0_as_54 : decode cX0_as 54 = .ok (.iconst 1, 1) := dk_4 (dk_at dksX0_as_2 7 rfl rfl)
theorem dX0_as_55 : decode cX0_as 55 = .ok (.goto 4, 3) := dk_167 0 4 (dk_at dksX0_as_2 8 rfl rfl)
theorem dX0_as_58 : decode cX0_as 58 = .ok (.iconst 0, 1) := dk_3 (dk_at dksX0_as_2 11 rfl rfl)
theorem dX0_as_59 : decode cX0_as 59 = .ok (.ireturn, 1) := dk_172 (dk_at dksX0_as_2 12 rfl rfl)
theorem dX0_as_60 : decode cX0_as 60 = .ok (.astore_n 3, 1) := dk_78 (dk_at dksX0_as_2 13 rfl rfl)
theorem dX0_as_61 : decode cX0_as 61 = .ok (.aload_n 0, 1) := dk_42 (dk_at dksX0_as_2 14 rfl rfl)
theorem dX0_as_62 : decode cX0_as 62 = .ok (.iconst 2, 1) := dk_5 (dk_at dksX0_as_2 15 rfl rfl)
theorem dX0_as_63 : decode cX0_as 63 = .ok (.invokevirtual 178, 3) := dk_182 0 178 (dk_at dksX0_as_2 16 rfl rfl)
theorem dX0_as_66 : decode cX0_as 66 = .ok (.ireturn, 1) := dk_172 (dk_at dksX0_as_2 19 rfl rfl)
abbrev cX0_of : ByteArray := prog_1_method_64_code
def yX0_of : MethodName := ⟨RX0, "of", "(LMustardFast$Eater;I)LMustardFast$Eater;"⟩
def dkwX0_of_1 : List UInt8 := [176]
abbrev dktX0_of_1 : List UInt8 := dkwX0_of_1 ++ []
def dkwX0_of_0 : List UInt8 := [27, 154, 0, 7, 42, 167, 0, 19, 27, 4, 160, 0, 10, 42, 192, 0, 72, 167, 0, 7, 42, 192, 0, 75]
abbrev dktX0_of_0 : List UInt8 := dkwX0_of_0 ++ dktX0_of_1
theorem dksX0_of_0 : cX0_of.data.toList.drop 0 = dktX0_of_0 := by decide +kernel
theorem dksX0_of_1 : cX0_of.data.toList.drop 24 = dktX0_of_1 := dk_seg dksX0_of_0 24 rfl rfl
theorem dX0_of_0 : decode cX0_of 0 = .ok (.iload_n 1, 1) := dk_27 (dk_at dksX0_of_0 0 rfl rfl)
theorem dX0_of_1 : decode cX0_of 1 = .ok (.ifCond .ne 7, 3) := dk_154 0 7 (dk_at dksX0_of_0 1 rfl rfl)
theorem dX0_of_4 : decode cX0_of 4 = .ok (.aload_n 0, 1) := dk_42 (dk_at dksX0_of_0 4 rfl rfl)
theorem dX0_of_5 : decode cX0_of 5 = .ok (.goto 19, 3) := dk_167 0 19 (dk_at dksX0_of_0 5 rfl rfl)
theorem dX0_of_8 : decode cX0_of 8 = .ok (.iload_n 1, 1) := dk_27 (dk_at dksX0_of_0 8 rfl rfl)
theorem dX0_of_9 : decode cX0_of 9 = .ok (.iconst 1, 1) := dk_4 (dk_at dksX0_of_0 9 rfl rfl)
theorem dX0_of_10 : decode cX0_of 10 = .ok (.if_icmp .ne 10, 3) := dk_160 0 10 (dk_at dksX0_of_0 10 rfl rfl)
theorem dX0_of_13 : decode cX0_of 13 = .ok (.aload_n 0, 1) := dk_42 (dk_at dksX0_of_0 13 rfl rfl)
theorem dX0_of_14 : decode cX0_of 14 = .ok (.checkcast 72, 3) := dk_192 0 72 (dk_at dksX0_of_0 14 rfl rfl)
theorem dX0_of_17 : decode cX0_of 17 = .ok (.goto 7, 3) := dk_167 0 7 (dk_at dksX0_of_0 17 rfl rfl)
theorem dX0_of_20 : decode cX0_of 20 = .ok (.aload_n 0, 1) := dk_42 (dk_at dksX0_of_0 20 rfl rfl)
theorem dX0_of_21 : decode cX0_of 21 = .ok (.checkcast 75, 3) := dk_192 0 75 (dk_at dksX0_of_0 21 rfl rfl)
theorem dX0_of_24 : decode cX0_of 24 = .ok (.areturn, 1) := dk_176 (dk_at dksX0_of_1 0 rfl rfl)
abbrev cX0_trace : ByteArray := prog_1_method_66_code
def yX0_trace : MethodName := ⟨RX0, "trace", "()I"⟩
theorem dX0_trace_0 : decode cX0_trace 0 = .ok (.aload_n 0, 1) := by decide +kernel
theorem dX0_trace_1 : decode cX0_trace 1 = .ok (.getfield 64, 3) := by decide +kernel
theorem dX0_trace_4 : decode cX0_trace 4 = .ok (.ireturn, 1) := by decide +kernel
abbrev cX0_fault : ByteArray := prog_1_method_67_code
def yX0_fault : MethodName := ⟨RX0, "fault", "()I"⟩
theorem dX0_fault_0 : decode cX0_fault 0 = .ok (.aload_n 0, 1) := by decide +kernel
theorem dX0_fault_1 : decode cX0_fault 1 = .ok (.getfield 59, 3) := by decide +kernel
theorem dX0_fault_4 : decode cX0_fault 4 = .ok (.ireturn, 1) := by decide +kernel
abbrev cX0_many : ByteArray := prog_1_method_68_code
def yX0_many : MethodName := ⟨RX0, "many", "(I)I"⟩
def dkwX0_many_2 : List UInt8 := [180, 0, 148, 167, 0, 5, 16, 254, 172]
abbrev dktX0_many_2 : List UInt8 := dkwX0_many_2 ++ []
def dkwX0_many_1 : List UInt8 := [180, 0, 84, 167, 0, 29, 27, 5, 160, 0, 10, 42, 180, 0, 128, 167, 0, 17, 27, 6, 160, 0, 10, 42]
abbrev dktX0_many_1 : List UInt8 := dkwX0_many_1 ++ dktX0_many_2
def dkwX0_many_0 : List UInt8 := [27, 154, 0, 15, 42, 180, 0, 12, 185, 0, 87, 1, 0, 167, 0, 41, 27, 4, 160, 0, 10, 42]
abbrev dktX0_many_0 : List UInt8 := dkwX0_many_0 ++ dktX0_many_1
theorem dksX0_many_0 : cX0_many.data.toList.drop 0 = dktX0_many_0 := by decide +kernel
theorem dksX0_many_1 : cX0_many.data.toList.drop 22 = dktX0_many_1 := dk_seg dksX0_many_0 22 rfl rfl
theorem dksX0_many_2 : cX0_many.data.toList.drop 46 = dktX0_many_2 := dk_seg dksX0_many_1 24 rfl rfl
theorem dX0_many_0 : decode cX0_many 0 = .ok (.iload_n 1, 1) := dk_27 (dk_at dksX0_many_0 0 rfl rfl)
theorem dX0_many_1 : decode cX0_many 1 = .ok (.ifCond .ne 15, 3) := dk_154 0 15 (dk_at dksX0_many_0 1 rfl rfl)
theorem dX0_many_4 : decode cX0_many 4 = .ok (.aload_n 0, 1) := dk_42 (dk_at dksX0_many_0 4 rfl rfl)
theorem dX0_many_5 : decode cX0_many 5 = .ok (.getfield 12, 3) := dk_180 0 12 (dk_at dksX0_many_0 5 rfl rfl)
theorem dX0_many_8 : decode cX0_many 8 = .ok (.invokeinterface 87 1, 5) := by decide +kernel
theorem dX0_many_13 : decode cX0_many 13 = .ok (.goto 41, 3) := dk_167 0 41 (dk_at dksX0_many_0 13 rfl rfl)
theorem dX0_many_16 : decode cX0_many 16 = .ok (.iload_n 1, 1) := dk_27 (dk_at dksX0_many_0 16 rfl rfl)
theorem dX0_many_17 : decode cX0_many 17 = .ok (.iconst 1, 1) := dk_4 (dk_at dksX0_many_0 17 rfl rfl)
theorem dX0_many_18 : decode cX0_many 18 = .ok (.if_icmp .ne 10, 3) := dk_160 0 10 (dk_at dksX0_many_0 18 rfl rfl)
theorem dX0_many_21 : decode cX0_many 21 = .ok (.aload_n 0, 1) := dk_42 (dk_at dksX0_many_0 21 rfl rfl)
theorem dX0_many_22 : decode cX0_many 22 = .ok (.getfield 84, 3) := dk_180 0 84 (dk_at dksX0_many_1 0 rfl rfl)
theorem dX0_many_25 : decode cX0_many 25 = .ok (.goto 29, 3) := dk_167 0 29 (dk_at dksX0_many_1 3 rfl rfl)
theorem dX0_many_28 : decode cX0_many 28 = .ok (.iload_n 1, 1) := dk_27 (dk_at dksX0_many_1 6 rfl rfl)
theorem dX0_many_29 : decode cX0_many 29 = .ok (.iconst 2, 1) := dk_5 (dk_at dksX0_many_1 7 rfl rfl)
theorem dX0_many_30 : decode cX0_many 30 = .ok (.if_icmp .ne 10, 3) := dk_160 0 10 (dk_at dksX0_many_1 8 rfl rfl)
theorem dX0_many_33 : decode cX0_many 33 = .ok (.aload_n 0, 1) := dk_42 (dk_at dksX0_many_1 11 rfl rfl)
theorem dX0_many_34 : decode cX0_many 34 = .ok (.getfield 128, 3) := dk_180 0 128 (dk_at dksX0_many_1 12 rfl rfl)
theorem dX0_many_37 : decode cX0_many 37 = .ok (.goto 17, 3) := dk_167 0 17 (dk_at dksX0_many_1 15 rfl rfl)
theorem dX0_many_40 : decode cX0_many 40 = .ok (.iload_n 1, 1) := dk_27 (dk_at dksX0_many_1 18 rfl rfl)
theorem dX0_many_41 : decode cX0_many 41 = .ok (.iconst 3, 1) := dk_6 (dk_at dksX0_many_1 19 rfl rfl)
theorem dX0_many_42 : decode cX0_many 42 = .ok (.if_icmp .ne 10, 3) := dk_160 0 10 (dk_at dksX0_many_1 20 rfl rfl)
theorem dX0_many_45 : decode cX0_many 45 = .ok (.aload_n 0, 1) := dk_42 (dk_at dksX0_many_1 23 rfl rfl)
theorem dX0_many_46 : decode cX0_many 46 = .ok (.getfield 148, 3) := dk_180 0 148 (dk_at dksX0_many_2 0 rfl rfl)
theorem dX0_many_49 : decode cX0_many 49 = .ok (.goto 5, 3) := dk_167 0 5 (dk_at dksX0_many_2 3 rfl rfl)
theorem dX0_many_52 : decode cX0_many 52 = .ok (.bipush (-2), 2) := dk_16 254 (dk_at dksX0_many_2 6 rfl rfl)
theorem dX0_many_54 : decode cX0_many 54 = .ok (.ireturn, 1) := dk_172 (dk_at dksX0_many_2 8 rfl rfl)
theorem q51 : (Jvm.Cond.initialized "MustardFast") ∈ lw_all := lw_g (lw_at lw_m1 1 rfl) rfl
theorem q77 : (Jvm.Cond.instantiable "MustardFast" (20 : Nat)) ∈ lw_all := lw_g (lw_at lw_m1 27 rfl) rfl
theorem q79 : (Jvm.Cond.instanceMethod ({ cls := "MustardFast", name := "<init>", desc := "()V" } : Jvm.MethodName)) ∈ lw_all := lw_g (lw_at lw_m1 29 rfl) rfl
theorem q80 : (Jvm.Cond.code ({ cls := "MustardFast", name := "<init>", desc := "()V" } : Jvm.MethodName) prog_1_method_1_code (1 : Nat) (Option.none : Option Jvm.ClassFile.FieldType)) ∈ lw_all := lw_g (lw_at lw_m1 30 rfl) rfl
theorem q81 : (Jvm.Cond.methodLink "MustardFast" (3 : Nat) ({ cls := "java/lang/Object", name := "<init>", desc := "()V" } : Jvm.MethodName)) ∈ lw_all := lw_g (lw_at lw_m1 31 rfl) rfl
theorem q84 : (Jvm.Cond.classLink "MustardFast" (9 : Nat) "java/util/ArrayList") ∈ lw_all := lw_g (lw_at lw_m1 34 rfl) rfl
theorem q86 : (Jvm.Cond.methodLink "MustardFast" (11 : Nat) ({ cls := "java/util/ArrayList", name := "<init>", desc := "()V" } : Jvm.MethodName)) ∈ lw_all := lw_g (lw_at lw_m1 36 rfl) rfl
theorem q110 : (Jvm.Cond.methodLink "MustardFast" (45 : Nat) ({ cls := "MustardFast", name := "places", desc := "(I)[LMustardFast$Place;" } : Jvm.MethodName)) ∈ lw_all := lw_g (lw_at lw_m1 60 rfl) rfl
theorem q111 : (Jvm.Cond.static ({ cls := "MustardFast", name := "places", desc := "(I)[LMustardFast$Place;" } : Jvm.MethodName)) ∈ lw_all := lw_g (lw_at lw_m1 61 rfl) rfl
theorem q112 : (Jvm.Cond.code ({ cls := "MustardFast", name := "places", desc := "(I)[LMustardFast$Place;" } : Jvm.MethodName) prog_1_method_49_code (3 : Nat) (Option.some (Jvm.ClassFile.FieldType.array (Jvm.ClassFile.FieldType.object "MustardFast$Place")))) ∈ lw_all := lw_g (lw_at lw_m1 62 rfl) rfl
theorem q113 : (Jvm.Cond.classLink "MustardFast" (159 : Nat) "MustardFast$Place") ∈ lw_all := lw_g (lw_at lw_m1 63 rfl) rfl
theorem q116 : (Jvm.Cond.methodLinkNest "MustardFast" (279 : Nat) ({ cls := "MustardFast$Place", name := "<init>", desc := "()V" } : Jvm.MethodName) "MustardFast") ∈ lw_tbl := lw_at lw_m1 66 rfl
theorem q120 : (Jvm.Cond.fieldLinkNest "MustardFast" (158 : Nat) "MustardFast$Place" "has" "Ljava/lang/Object;" "MustardFast") ∈ lw_tbl := lw_at lw_m1 70 rfl
theorem q126 : (Jvm.Cond.fieldLink "MustardFast" (59 : Nat) "MustardFast" "fault" "I") ∈ lw_all := lw_g (lw_at lw_m1 76 rfl) rfl
theorem q127 : (Jvm.Cond.fieldLink "MustardFast" (64 : Nat) "MustardFast" "trace" "I") ∈ lw_all := lw_g (lw_at lw_m1 77 rfl) rfl
theorem q128 : (Jvm.Cond.fieldLink "MustardFast" (12 : Nat) "MustardFast" "eaters" "Ljava/util/List;") ∈ lw_all := lw_g (lw_at lw_m1 78 rfl) rfl
theorem q129 : (Jvm.Cond.fieldLink "MustardFast" (128 : Nat) "MustardFast" "sourNow" "I") ∈ lw_all := lw_g (lw_at lw_m1 79 rfl) rfl
theorem q130 : (Jvm.Cond.fieldLink "MustardFast" (84 : Nat) "MustardFast" "days" "I") ∈ lw_all := lw_g (lw_at lw_m1 80 rfl) rfl
theorem q131 : (Jvm.Cond.fieldLink "MustardFast" (18 : Nat) "MustardFast" "looks" "[I") ∈ lw_all := lw_g (lw_at lw_m1 81 rfl) rfl
theorem q132 : (Jvm.Cond.fieldLink "MustardFast" (22 : Nat) "MustardFast" "changed" "I") ∈ lw_all := lw_g (lw_at lw_m1 82 rfl) rfl
theorem q135 : (Jvm.Cond.fieldLink "MustardFast" (272 : Nat) "MustardFast" "changedKind" "I") ∈ lw_all := lw_g (lw_at lw_m1 85 rfl) rfl
theorem q136 : (Jvm.Cond.fieldLink "MustardFast" (96 : Nat) "MustardFast" "at" "I") ∈ lw_all := lw_g (lw_at lw_m1 86 rfl) rfl
theorem q137 : (Jvm.Cond.fieldLink "MustardFast" (115 : Nat) "MustardFast" "readSour" "I") ∈ lw_all := lw_g (lw_at lw_m1 87 rfl) rfl
theorem q138 : (Jvm.Cond.fieldLink "MustardFast" (101 : Nat) "MustardFast" "readDays" "I") ∈ lw_all := lw_g (lw_at lw_m1 88 rfl) rfl
theorem q139 : (Jvm.Cond.fieldLink "MustardFast" (108 : Nat) "MustardFast" "readMany" "I") ∈ lw_all := lw_g (lw_at lw_m1 89 rfl) rfl
theorem q140 : (Jvm.Cond.fieldLink "MustardFast" (26 : Nat) "MustardFast" "readLook" "[I") ∈ lw_all := lw_g (lw_at lw_m1 90 rfl) rfl
theorem q142 : (Jvm.Cond.fieldLink "MustardFast" (29 : Nat) "MustardFast" "read" "[I") ∈ lw_all := lw_g (lw_at lw_m1 92 rfl) rfl
theorem q143 : (Jvm.Cond.fieldLink "MustardFast" (148 : Nat) "MustardFast" "readings" "I") ∈ lw_all := lw_g (lw_at lw_m1 93 rfl) rfl
theorem q144 : (Jvm.Cond.fieldLink "MustardFast" (32 : Nat) "MustardFast" "readWho" "[I") ∈ lw_all := lw_g (lw_at lw_m1 94 rfl) rfl
theorem q145 : (Jvm.Cond.fieldLink "MustardFast" (35 : Nat) "MustardFast" "readMeals" "[I") ∈ lw_all := lw_g (lw_at lw_m1 95 rfl) rfl
theorem q146 : (Jvm.Cond.fieldLink "MustardFast" (38 : Nat) "MustardFast" "readDay" "[I") ∈ lw_all := lw_g (lw_at lw_m1 96 rfl) rfl
theorem q147 : (Jvm.Cond.fieldLink "MustardFast" (41 : Nat) "MustardFast" "readWas" "[Z") ∈ lw_all := lw_g (lw_at lw_m1 97 rfl) rfl
theorem q148 : (Jvm.Cond.fieldLink "MustardFast" (49 : Nat) "MustardFast" "sheets" "[LMustardFast$Place;") ∈ lw_all := lw_g (lw_at lw_m1 98 rfl) rfl
theorem q149 : (Jvm.Cond.lays "MustardFast" "MustardFast" "fault" "I") ∈ lw_all := lw_g (lw_at lw_m1 99 rfl) rfl
theorem q150 : (Jvm.Cond.soleField "MustardFast" "fault") ∈ lw_all := lw_g (lw_at lw_m1 100 rfl) rfl
theorem q151 : (Jvm.Cond.lays "MustardFast" "MustardFast" "trace" "I") ∈ lw_all := lw_g (lw_at lw_m1 101 rfl) rfl
theorem q152 : (Jvm.Cond.soleField "MustardFast" "trace") ∈ lw_all := lw_g (lw_at lw_m1 102 rfl) rfl
theorem q153 : (Jvm.Cond.laysFinal "MustardFast" "MustardFast" "eaters" "Ljava/util/List;") ∈ lw_all := lw_g (lw_at lw_m1 103 rfl) rfl
theorem q154 : (Jvm.Cond.soleField "MustardFast" "eaters") ∈ lw_all := lw_g (lw_at lw_m1 104 rfl) rfl
theorem q155 : (Jvm.Cond.lays "MustardFast" "MustardFast" "sourNow" "I") ∈ lw_all := lw_g (lw_at lw_m1 105 rfl) rfl
theorem q156 : (Jvm.Cond.soleField "MustardFast" "sourNow") ∈ lw_all := lw_g (lw_at lw_m1 106 rfl) rfl
theorem q157 : (Jvm.Cond.lays "MustardFast" "MustardFast" "days" "I") ∈ lw_all := lw_g (lw_at lw_m1 107 rfl) rfl
theorem q158 : (Jvm.Cond.soleField "MustardFast" "days") ∈ lw_all := lw_g (lw_at lw_m1 108 rfl) rfl
theorem q159 : (Jvm.Cond.laysFinal "MustardFast" "MustardFast" "looks" "[I") ∈ lw_all := lw_g (lw_at lw_m1 109 rfl) rfl
theorem q160 : (Jvm.Cond.soleField "MustardFast" "looks") ∈ lw_all := lw_g (lw_at lw_m1 110 rfl) rfl
theorem q161 : (Jvm.Cond.lays "MustardFast" "MustardFast" "changed" "I") ∈ lw_all := lw_g (lw_at lw_m1 111 rfl) rfl
theorem q162 : (Jvm.Cond.soleField "MustardFast" "changed") ∈ lw_all := lw_g (lw_at lw_m1 112 rfl) rfl
theorem q163 : (Jvm.Cond.lays "MustardFast" "MustardFast" "changedKind" "I") ∈ lw_all := lw_g (lw_at lw_m1 113 rfl) rfl
theorem q164 : (Jvm.Cond.soleField "MustardFast" "changedKind") ∈ lw_all := lw_g (lw_at lw_m1 114 rfl) rfl
theorem q165 : (Jvm.Cond.lays "MustardFast" "MustardFast" "at" "I") ∈ lw_all := lw_g (lw_at lw_m1 115 rfl) rfl
theorem q166 : (Jvm.Cond.soleField "MustardFast" "at") ∈ lw_all := lw_g (lw_at lw_m1 116 rfl) rfl
theorem q167 : (Jvm.Cond.lays "MustardFast" "MustardFast" "readSour" "I") ∈ lw_all := lw_g (lw_at lw_m1 117 rfl) rfl
theorem q168 : (Jvm.Cond.soleField "MustardFast" "readSour") ∈ lw_all := lw_g (lw_at lw_m1 118 rfl) rfl
theorem q169 : (Jvm.Cond.lays "MustardFast" "MustardFast" "readDays" "I") ∈ lw_all := lw_g (lw_at lw_m1 119 rfl) rfl
theorem q170 : (Jvm.Cond.soleField "MustardFast" "readDays") ∈ lw_all := lw_g (lw_at lw_m1 120 rfl) rfl
theorem q171 : (Jvm.Cond.lays "MustardFast" "MustardFast" "readMany" "I") ∈ lw_all := lw_g (lw_at lw_m1 121 rfl) rfl
theorem q172 : (Jvm.Cond.soleField "MustardFast" "readMany") ∈ lw_all := lw_g (lw_at lw_m1 122 rfl) rfl
theorem q173 : (Jvm.Cond.laysFinal "MustardFast" "MustardFast" "readLook" "[I") ∈ lw_all := lw_g (lw_at lw_m1 123 rfl) rfl
theorem q174 : (Jvm.Cond.soleField "MustardFast" "readLook") ∈ lw_all := lw_g (lw_at lw_m1 124 rfl) rfl
theorem q175 : (Jvm.Cond.laysFinal "MustardFast" "MustardFast" "read" "[I") ∈ lw_all := lw_g (lw_at lw_m1 125 rfl) rfl
theorem q176 : (Jvm.Cond.soleField "MustardFast" "read") ∈ lw_all := lw_g (lw_at lw_m1 126 rfl) rfl
theorem q177 : (Jvm.Cond.lays "MustardFast" "MustardFast" "readings" "I") ∈ lw_all := lw_g (lw_at lw_m1 127 rfl) rfl
theorem q178 : (Jvm.Cond.soleField "MustardFast" "readings") ∈ lw_all := lw_g (lw_at lw_m1 128 rfl) rfl
theorem q179 : (Jvm.Cond.laysFinal "MustardFast" "MustardFast" "readWho" "[I") ∈ lw_all := lw_g (lw_at lw_m1 129 rfl) rfl
theorem q180 : (Jvm.Cond.soleField "MustardFast" "readWho") ∈ lw_all := lw_g (lw_at lw_m1 130 rfl) rfl
theorem q181 : (Jvm.Cond.laysFinal "MustardFast" "MustardFast" "readMeals" "[I") ∈ lw_all := lw_g (lw_at lw_m1 131 rfl) rfl
theorem q182 : (Jvm.Cond.soleField "MustardFast" "readMeals") ∈ lw_all := lw_g (lw_at lw_m1 132 rfl) rfl
theorem q183 : (Jvm.Cond.laysFinal "MustardFast" "MustardFast" "readDay" "[I") ∈ lw_all := lw_g (lw_at lw_m1 133 rfl) rfl
theorem q184 : (Jvm.Cond.soleField "MustardFast" "readDay") ∈ lw_all := lw_g (lw_at lw_m1 134 rfl) rfl
theorem q185 : (Jvm.Cond.laysFinal "MustardFast" "MustardFast" "readWas" "[Z") ∈ lw_all := lw_g (lw_at lw_m1 135 rfl) rfl
theorem q186 : (Jvm.Cond.soleField "MustardFast" "readWas") ∈ lw_all := lw_g (lw_at lw_m1 136 rfl) rfl
theorem q187 : (Jvm.Cond.laysFinal "MustardFast" "MustardFast" "sheets" "[LMustardFast$Place;") ∈ lw_all := lw_g (lw_at lw_m1 137 rfl) rfl
theorem q188 : (Jvm.Cond.soleField "MustardFast" "sheets") ∈ lw_all := lw_g (lw_at lw_m1 138 rfl) rfl
theorem q189 : (Jvm.Cond.superclass "MustardFast" "java/lang/Object") ∈ lw_all := lw_g (lw_at lw_m1 139 rfl) rfl
theorem q191 : (Jvm.Cond.instanceMethod ({ cls := "MustardFast", name := "duchy", desc := "(IIII)I" } : Jvm.MethodName)) ∈ lw_all := lw_g (lw_at lw_m1 141 rfl) rfl
theorem q192 : (Jvm.Cond.selects "MustardFast" ({ cls := "MustardFast", name := "duchy", desc := "(IIII)I" } : Jvm.MethodName) ({ cls := "MustardFast", name := "duchy", desc := "(IIII)I" } : Jvm.MethodName)) ∈ lw_all := lw_g (lw_at lw_m1 142 rfl) rfl
theorem q193 : (Jvm.Cond.codeWith ({ cls := "MustardFast", name := "duchy", desc := "(IIII)I" } : Jvm.MethodName) prog_1_method_22_code (6 : Nat) (Option.some Jvm.ClassFile.FieldType.int) [((24 : Nat), (47 : Nat), (48 : Nat), (176 : Nat)), ((24 : Nat), (47 : Nat), (56 : Nat), (182 : Nat)), ((24 : Nat), (47 : Nat), (64 : Nat), (184 : Nat)), ((24 : Nat), (47 : Nat), (72 : Nat), (186 : Nat))]) ∈ lw_all := lw_g (lw_at lw_m1 143 rfl) rfl
theorem q194 : (Jvm.Cond.classLink "MustardFast" (176 : Nat) "java/lang/ClassCastException") ∈ lw_all := lw_g (lw_at lw_m1 144 rfl) rfl
theorem q280 : (Jvm.Cond.classLink "MustardFast" (182 : Nat) "java/lang/NullPointerException") ∈ lw_all := lw_g (lw_at lw_m1 230 rfl) rfl
theorem q305 : (Jvm.Cond.classLink "MustardFast" (184 : Nat) "java/lang/NegativeArraySizeException") ∈ lw_all := lw_g (lw_at lw_m2 15 rfl) rfl
theorem q319 : (Jvm.Cond.classLink "MustardFast" (186 : Nat) "java/lang/ArrayIndexOutOfBoundsException") ∈ lw_all := lw_g (lw_at lw_m2 29 rfl) rfl
theorem q338 : (Jvm.Cond.methodLink "MustardFast" (151 : Nat) ({ cls := "MustardFast", name := "isSheet", desc := "(I)Z" } : Jvm.MethodName)) ∈ lw_all := lw_g (lw_at lw_m2 48 rfl) rfl
theorem q339 : (Jvm.Cond.static ({ cls := "MustardFast", name := "isSheet", desc := "(I)Z" } : Jvm.MethodName)) ∈ lw_all := lw_g (lw_at lw_m2 49 rfl) rfl
theorem q340 : (Jvm.Cond.code ({ cls := "MustardFast", name := "isSheet", desc := "(I)Z" } : Jvm.MethodName) prog_1_method_50_code (1 : Nat) (Option.some Jvm.ClassFile.FieldType.boolean)) ∈ lw_all := lw_g (lw_at lw_m2 50 rfl) rfl
theorem q341 : (Jvm.Cond.constantLong "MustardFast" (254 : Nat) (3 : Int64)) ∈ lw_all := lw_g (lw_at lw_m2 51 rfl) rfl
theorem q342 : (Jvm.Cond.methodLink "MustardFast" (55 : Nat) ({ cls := "MustardFast", name := "isIn", desc := "(JJJ)Z" } : Jvm.MethodName)) ∈ lw_all := lw_g (lw_at lw_m2 52 rfl) rfl
theorem q343 : (Jvm.Cond.static ({ cls := "MustardFast", name := "isIn", desc := "(JJJ)Z" } : Jvm.MethodName)) ∈ lw_all := lw_g (lw_at lw_m2 53 rfl) rfl
theorem q344 : (Jvm.Cond.code ({ cls := "MustardFast", name := "isIn", desc := "(JJJ)Z" } : Jvm.MethodName) prog_1_method_2_code (6 : Nat) (Option.some Jvm.ClassFile.FieldType.boolean)) ∈ lw_all := lw_g (lw_at lw_m2 54 rfl) rfl
theorem q345 : (Jvm.Cond.methodLink "MustardFast" (155 : Nat) ({ cls := "MustardFast", name := "isLane", desc := "(I)Z" } : Jvm.MethodName)) ∈ lw_all := lw_g (lw_at lw_m2 55 rfl) rfl
theorem q346 : (Jvm.Cond.static ({ cls := "MustardFast", name := "isLane", desc := "(I)Z" } : Jvm.MethodName)) ∈ lw_all := lw_g (lw_at lw_m2 56 rfl) rfl
theorem q347 : (Jvm.Cond.code ({ cls := "MustardFast", name := "isLane", desc := "(I)Z" } : Jvm.MethodName) prog_1_method_51_code (1 : Nat) (Option.some Jvm.ClassFile.FieldType.boolean)) ∈ lw_all := lw_g (lw_at lw_m2 57 rfl) rfl
theorem q348 : (Jvm.Cond.constantLong "MustardFast" (280 : Nat) (2 : Int64)) ∈ lw_all := lw_g (lw_at lw_m2 58 rfl) rfl
theorem q349 : (Jvm.Cond.methodLink "MustardFast" (164 : Nat) ({ cls := "MustardFast", name := "asLane", desc := "(Ljava/lang/Object;I)Ljava/lang/Object;" } : Jvm.MethodName)) ∈ lw_all := lw_g (lw_at lw_m2 59 rfl) rfl
theorem q350 : (Jvm.Cond.static ({ cls := "MustardFast", name := "asLane", desc := "(Ljava/lang/Object;I)Ljava/lang/Object;" } : Jvm.MethodName)) ∈ lw_all := lw_g (lw_at lw_m2 60 rfl) rfl
theorem q351 : (Jvm.Cond.code ({ cls := "MustardFast", name := "asLane", desc := "(Ljava/lang/Object;I)Ljava/lang/Object;" } : Jvm.MethodName) prog_1_method_52_code (2 : Nat) (Option.some (Jvm.ClassFile.FieldType.object "java/lang/Object"))) ∈ lw_all := lw_g (lw_at lw_m2 61 rfl) rfl
theorem q352 : (Jvm.Cond.classLink "MustardFast" (282 : Nat) "[B") ∈ lw_all := lw_g (lw_at lw_m2 62 rfl) rfl
theorem q353 : (Jvm.Cond.classLink "MustardFast" (284 : Nat) "[S") ∈ lw_all := lw_g (lw_at lw_m2 63 rfl) rfl
theorem q354 : (Jvm.Cond.classLink "MustardFast" (286 : Nat) "[I") ∈ lw_all := lw_g (lw_at lw_m2 64 rfl) rfl
theorem q355 : (Jvm.Cond.methodLink "MustardFast" (168 : Nat) ({ cls := "MustardFast", name := "rowOf", desc := "(Ljava/lang/Object;II)[I" } : Jvm.MethodName)) ∈ lw_all := lw_g (lw_at lw_m2 65 rfl) rfl
theorem q356 : (Jvm.Cond.static ({ cls := "MustardFast", name := "rowOf", desc := "(Ljava/lang/Object;II)[I" } : Jvm.MethodName)) ∈ lw_all := lw_g (lw_at lw_m2 66 rfl) rfl
theorem q357 : (Jvm.Cond.code ({ cls := "MustardFast", name := "rowOf", desc := "(Ljava/lang/Object;II)[I" } : Jvm.MethodName) prog_1_method_60_code (6 : Nat) (Option.some (Jvm.ClassFile.FieldType.array Jvm.ClassFile.FieldType.int))) ∈ lw_all := lw_g (lw_at lw_m2 67 rfl) rfl
theorem q358 : (Jvm.Cond.methodLink "MustardFast" (299 : Nat) ({ cls := "MustardFast", name := "lengthOf", desc := "(Ljava/lang/Object;)I" } : Jvm.MethodName)) ∈ lw_all := lw_g (lw_at lw_m2 68 rfl) rfl
theorem q359 : (Jvm.Cond.static ({ cls := "MustardFast", name := "lengthOf", desc := "(Ljava/lang/Object;)I" } : Jvm.MethodName)) ∈ lw_all := lw_g (lw_at lw_m2 69 rfl) rfl
theorem q360 : (Jvm.Cond.code ({ cls := "MustardFast", name := "lengthOf", desc := "(Ljava/lang/Object;)I" } : Jvm.MethodName) prog_1_method_54_code (2 : Nat) (Option.some Jvm.ClassFile.FieldType.int)) ∈ lw_all := lw_g (lw_at lw_m2 70 rfl) rfl
theorem q361 : (Jvm.Cond.methodLink "MustardFast" (303 : Nat) ({ cls := "java/lang/Math", name := "min", desc := "(II)I" } : Jvm.MethodName)) ∈ lw_all := lw_g (lw_at lw_m2 71 rfl) rfl
theorem q364 : (Jvm.Cond.methodLink "MustardFast" (306 : Nat) ({ cls := "java/lang/ArrayIndexOutOfBoundsException", name := "<init>", desc := "()V" } : Jvm.MethodName)) ∈ lw_all := lw_g (lw_at lw_m2 74 rfl) rfl
theorem q371 : (Jvm.Cond.methodLink "MustardFast" (287 : Nat) ({ cls := "MustardFast", name := "cellOf", desc := "(Ljava/lang/Object;I)I" } : Jvm.MethodName)) ∈ lw_all := lw_g (lw_at lw_m2 81 rfl) rfl
theorem q372 : (Jvm.Cond.static ({ cls := "MustardFast", name := "cellOf", desc := "(Ljava/lang/Object;I)I" } : Jvm.MethodName)) ∈ lw_all := lw_g (lw_at lw_m2 82 rfl) rfl
theorem q373 : (Jvm.Cond.code ({ cls := "MustardFast", name := "cellOf", desc := "(Ljava/lang/Object;I)I" } : Jvm.MethodName) prog_1_method_53_code (3 : Nat) (Option.some Jvm.ClassFile.FieldType.int)) ∈ lw_all := lw_g (lw_at lw_m2 83 rfl) rfl
theorem q374 : (Jvm.Cond.methodLink "MustardFast" (172 : Nat) ({ cls := "MustardFast", name := "comesDuchy", desc := "([I)I" } : Jvm.MethodName)) ∈ lw_all := lw_g (lw_at lw_m2 84 rfl) rfl
theorem q375 : (Jvm.Cond.privateMethod ({ cls := "MustardFast", name := "comesDuchy", desc := "([I)I" } : Jvm.MethodName)) ∈ lw_tbl := lw_at lw_m2 85 rfl
theorem q376 : (Jvm.Cond.instanceMethod ({ cls := "MustardFast", name := "comesDuchy", desc := "([I)I" } : Jvm.MethodName)) ∈ lw_all := lw_g (lw_at lw_m2 86 rfl) rfl
theorem q377 : (Jvm.Cond.code ({ cls := "MustardFast", name := "comesDuchy", desc := "([I)I" } : Jvm.MethodName) prog_1_method_21_code (3 : Nat) (Option.some Jvm.ClassFile.FieldType.int)) ∈ lw_all := lw_g (lw_at lw_m2 87 rfl) rfl
theorem q378 : (Jvm.Cond.methodLink "MustardFast" (125 : Nat) ({ cls := "MustardFast", name := "readAll", desc := "([I)Z" } : Jvm.MethodName)) ∈ lw_all := lw_g (lw_at lw_m2 88 rfl) rfl
theorem q379 : (Jvm.Cond.privateMethod ({ cls := "MustardFast", name := "readAll", desc := "([I)Z" } : Jvm.MethodName)) ∈ lw_tbl := lw_at lw_m2 89 rfl
theorem q380 : (Jvm.Cond.instanceMethod ({ cls := "MustardFast", name := "readAll", desc := "([I)Z" } : Jvm.MethodName)) ∈ lw_all := lw_g (lw_at lw_m2 90 rfl) rfl
theorem q381 : (Jvm.Cond.code ({ cls := "MustardFast", name := "readAll", desc := "([I)Z" } : Jvm.MethodName) prog_1_method_20_code (2 : Nat) (Option.some Jvm.ClassFile.FieldType.boolean)) ∈ lw_all := lw_g (lw_at lw_m2 91 rfl) rfl
theorem q382 : (Jvm.Cond.methodLink "MustardFast" (111 : Nat) ({ cls := "MustardFast", name := "isSign", desc := "([II)Z" } : Jvm.MethodName)) ∈ lw_all := lw_g (lw_at lw_m2 92 rfl) rfl
theorem q383 : (Jvm.Cond.privateMethod ({ cls := "MustardFast", name := "isSign", desc := "([II)Z" } : Jvm.MethodName)) ∈ lw_tbl := lw_at lw_m2 93 rfl
theorem q384 : (Jvm.Cond.instanceMethod ({ cls := "MustardFast", name := "isSign", desc := "([II)Z" } : Jvm.MethodName)) ∈ lw_all := lw_g (lw_at lw_m2 94 rfl) rfl
theorem q385 : (Jvm.Cond.code ({ cls := "MustardFast", name := "isSign", desc := "([II)Z" } : Jvm.MethodName) prog_1_method_16_code (3 : Nat) (Option.some Jvm.ClassFile.FieldType.boolean)) ∈ lw_all := lw_g (lw_at lw_m2 95 rfl) rfl
theorem q386 : (Jvm.Cond.methodLink "MustardFast" (104 : Nat) ({ cls := "MustardFast", name := "digit", desc := "([III)I" } : Jvm.MethodName)) ∈ lw_all := lw_g (lw_at lw_m2 96 rfl) rfl
theorem q387 : (Jvm.Cond.privateMethod ({ cls := "MustardFast", name := "digit", desc := "([III)I" } : Jvm.MethodName)) ∈ lw_tbl := lw_at lw_m2 97 rfl
theorem q388 : (Jvm.Cond.instanceMethod ({ cls := "MustardFast", name := "digit", desc := "([III)I" } : Jvm.MethodName)) ∈ lw_all := lw_g (lw_at lw_m2 98 rfl) rfl
theorem q389 : (Jvm.Cond.code ({ cls := "MustardFast", name := "digit", desc := "([III)I" } : Jvm.MethodName) prog_1_method_17_code (4 : Nat) (Option.some Jvm.ClassFile.FieldType.int)) ∈ lw_all := lw_g (lw_at lw_m2 99 rfl) rfl
theorem q390 : (Jvm.Cond.constantLong "MustardFast" (99 : Nat) (48 : Int64)) ∈ lw_all := lw_g (lw_at lw_m2 100 rfl) rfl
theorem q391 : (Jvm.Cond.methodLink "MustardFast" (118 : Nat) ({ cls := "MustardFast", name := "readTheDays", desc := "([I)Z" } : Jvm.MethodName)) ∈ lw_all := lw_g (lw_at lw_m2 101 rfl) rfl
theorem q392 : (Jvm.Cond.privateMethod ({ cls := "MustardFast", name := "readTheDays", desc := "([I)Z" } : Jvm.MethodName)) ∈ lw_tbl := lw_at lw_m2 102 rfl
theorem q393 : (Jvm.Cond.instanceMethod ({ cls := "MustardFast", name := "readTheDays", desc := "([I)Z" } : Jvm.MethodName)) ∈ lw_all := lw_g (lw_at lw_m2 103 rfl) rfl
theorem q394 : (Jvm.Cond.code ({ cls := "MustardFast", name := "readTheDays", desc := "([I)Z" } : Jvm.MethodName) prog_1_method_18_code (3 : Nat) (Option.some Jvm.ClassFile.FieldType.boolean)) ∈ lw_all := lw_g (lw_at lw_m2 104 rfl) rfl
theorem q395 : (Jvm.Cond.methodLink "MustardFast" (122 : Nat) ({ cls := "MustardFast", name := "readEater", desc := "([I)Z" } : Jvm.MethodName)) ∈ lw_all := lw_g (lw_at lw_m2 105 rfl) rfl
theorem q396 : (Jvm.Cond.privateMethod ({ cls := "MustardFast", name := "readEater", desc := "([I)Z" } : Jvm.MethodName)) ∈ lw_tbl := lw_at lw_m2 106 rfl
theorem q397 : (Jvm.Cond.instanceMethod ({ cls := "MustardFast", name := "readEater", desc := "([I)Z" } : Jvm.MethodName)) ∈ lw_all := lw_g (lw_at lw_m2 107 rfl) rfl
theorem q398 : (Jvm.Cond.code ({ cls := "MustardFast", name := "readEater", desc := "([I)Z" } : Jvm.MethodName) prog_1_method_19_code (3 : Nat) (Option.some Jvm.ClassFile.FieldType.boolean)) ∈ lw_all := lw_g (lw_at lw_m2 108 rfl) rfl
theorem q399 : (Jvm.Cond.methodLink "MustardFast" (131 : Nat) ({ cls := "java/lang/System", name := "arraycopy", desc := "(Ljava/lang/Object;ILjava/lang/Object;II)V" } : Jvm.MethodName)) ∈ lw_all := lw_g (lw_at lw_m2 109 rfl) rfl
theorem q402 : (Jvm.Cond.interfaceEntry "MustardFast" (137 : Nat)) ∈ lw_tbl := lw_at lw_m2 112 rfl
theorem q403 : (Jvm.Cond.methodLink "MustardFast" (137 : Nat) ({ cls := "java/util/List", name := "clear", desc := "()V" } : Jvm.MethodName)) ∈ lw_all := lw_g (lw_at lw_m2 113 rfl) rfl
theorem q412 : (Jvm.Cond.methodLink "MustardFast" (140 : Nat) ({ cls := "MustardFast", name := "newEater", desc := "(I)LMustardFast$Eater;" } : Jvm.MethodName)) ∈ lw_all := lw_g (lw_at lw_m2 122 rfl) rfl
theorem q413 : (Jvm.Cond.privateMethod ({ cls := "MustardFast", name := "newEater", desc := "(I)LMustardFast$Eater;" } : Jvm.MethodName)) ∈ lw_tbl := lw_at lw_m2 123 rfl
theorem q414 : (Jvm.Cond.instanceMethod ({ cls := "MustardFast", name := "newEater", desc := "(I)LMustardFast$Eater;" } : Jvm.MethodName)) ∈ lw_all := lw_g (lw_at lw_m2 124 rfl) rfl
theorem q415 : (Jvm.Cond.code ({ cls := "MustardFast", name := "newEater", desc := "(I)LMustardFast$Eater;" } : Jvm.MethodName) prog_1_method_9_code (3 : Nat) (Option.some (Jvm.ClassFile.FieldType.object "MustardFast$Eater"))) ∈ lw_all := lw_g (lw_at lw_m2 125 rfl) rfl
theorem q416 : (Jvm.Cond.classLink "MustardFast" (67 : Nat) "MustardFast$Eater") ∈ lw_all := lw_g (lw_at lw_m2 126 rfl) rfl
theorem q418 : (Jvm.Cond.methodLink "MustardFast" (69 : Nat) ({ cls := "MustardFast$Eater", name := "<init>", desc := "(LMustardFast;I)V" } : Jvm.MethodName)) ∈ lw_all := lw_g (lw_at lw_m2 128 rfl) rfl
theorem q424 : (Jvm.Cond.fieldLinkNest "MustardFast" (201 : Nat) "MustardFast$Eater" "spoons" "I" "MustardFast") ∈ lw_tbl := lw_at lw_m2 134 rfl
theorem q426 : (Jvm.Cond.fieldLinkNest "MustardFast" (198 : Nat) "MustardFast$Eater" "stay" "I" "MustardFast") ∈ lw_tbl := lw_at lw_m2 136 rfl
theorem q428 : (Jvm.Cond.fieldLinkNest "MustardFast" (204 : Nat) "MustardFast$Eater" "need" "I" "MustardFast") ∈ lw_tbl := lw_at lw_m2 138 rfl
theorem q441 : (Jvm.Cond.classLink "MustardFast" (72 : Nat) "MustardFast$Sly") ∈ lw_all := lw_g (lw_at lw_m2 151 rfl) rfl
theorem q443 : (Jvm.Cond.methodLink "MustardFast" (74 : Nat) ({ cls := "MustardFast$Sly", name := "<init>", desc := "(LMustardFast;I)V" } : Jvm.MethodName)) ∈ lw_all := lw_g (lw_at lw_m2 153 rfl) rfl
theorem q456 : (Jvm.Cond.classLink "MustardFast" (75 : Nat) "MustardFast$Stranger") ∈ lw_all := lw_g (lw_at lw_m2 166 rfl) rfl
theorem q458 : (Jvm.Cond.methodLink "MustardFast" (77 : Nat) ({ cls := "MustardFast$Stranger", name := "<init>", desc := "(LMustardFast;I)V" } : Jvm.MethodName)) ∈ lw_all := lw_g (lw_at lw_m2 168 rfl) rfl
theorem q472 : (Jvm.Cond.interfaceEntry "MustardFast" (144 : Nat)) ∈ lw_tbl := lw_at lw_m2 182 rfl
theorem q473 : (Jvm.Cond.methodLink "MustardFast" (144 : Nat) ({ cls := "java/util/List", name := "add", desc := "(Ljava/lang/Object;)Z" } : Jvm.MethodName)) ∈ lw_all := lw_g (lw_at lw_m2 183 rfl) rfl
theorem q509 : (Jvm.Cond.selects "MustardFast" ({ cls := "java/lang/Object", name := "getClass", desc := "()Ljava/lang/Class;" } : Jvm.MethodName) ({ cls := "java/lang/Object", name := "getClass", desc := "()Ljava/lang/Class;" } : Jvm.MethodName)) ∈ lw_all := lw_g (lw_at lw_m2 219 rfl) rfl
theorem q532 : (Jvm.Cond.methodLink "MustardFast" (178 : Nat) ({ cls := "MustardFast", name := "faulty", desc := "(I)I" } : Jvm.MethodName)) ∈ lw_all := lw_g (lw_at lw_m3 2 rfl) rfl
theorem q533 : (Jvm.Cond.privateMethod ({ cls := "MustardFast", name := "faulty", desc := "(I)I" } : Jvm.MethodName)) ∈ lw_tbl := lw_at lw_m3 3 rfl
theorem q534 : (Jvm.Cond.instanceMethod ({ cls := "MustardFast", name := "faulty", desc := "(I)I" } : Jvm.MethodName)) ∈ lw_all := lw_g (lw_at lw_m3 4 rfl) rfl
theorem q535 : (Jvm.Cond.code ({ cls := "MustardFast", name := "faulty", desc := "(I)I" } : Jvm.MethodName) prog_1_method_6_code (2 : Nat) (Option.some Jvm.ClassFile.FieldType.int)) ∈ lw_all := lw_g (lw_at lw_m3 5 rfl) rfl
theorem q537 : (Jvm.Cond.instanceMethod ({ cls := "MustardFast", name := "ofEater", desc := "(II)I" } : Jvm.MethodName)) ∈ lw_all := lw_g (lw_at lw_m3 7 rfl) rfl
theorem q538 : (Jvm.Cond.selects "MustardFast" ({ cls := "MustardFast", name := "ofEater", desc := "(II)I" } : Jvm.MethodName) ({ cls := "MustardFast", name := "ofEater", desc := "(II)I" } : Jvm.MethodName)) ∈ lw_all := lw_g (lw_at lw_m3 8 rfl) rfl
theorem q539 : (Jvm.Cond.code ({ cls := "MustardFast", name := "ofEater", desc := "(II)I" } : Jvm.MethodName) prog_1_method_23_code (4 : Nat) (Option.some Jvm.ClassFile.FieldType.int)) ∈ lw_all := lw_g (lw_at lw_m3 9 rfl) rfl
theorem q540 : (Jvm.Cond.methodLink "MustardFast" (188 : Nat) ({ cls := "MustardFast", name := "isEater", desc := "(I)Z" } : Jvm.MethodName)) ∈ lw_all := lw_g (lw_at lw_m3 10 rfl) rfl
theorem q541 : (Jvm.Cond.privateMethod ({ cls := "MustardFast", name := "isEater", desc := "(I)Z" } : Jvm.MethodName)) ∈ lw_tbl := lw_at lw_m3 11 rfl
theorem q542 : (Jvm.Cond.instanceMethod ({ cls := "MustardFast", name := "isEater", desc := "(I)Z" } : Jvm.MethodName)) ∈ lw_all := lw_g (lw_at lw_m3 12 rfl) rfl
theorem q543 : (Jvm.Cond.code ({ cls := "MustardFast", name := "isEater", desc := "(I)Z" } : Jvm.MethodName) prog_1_method_12_code (2 : Nat) (Option.some Jvm.ClassFile.FieldType.boolean)) ∈ lw_all := lw_g (lw_at lw_m3 13 rfl) rfl
theorem q544 : (Jvm.Cond.interfaceEntry "MustardFast" (87 : Nat)) ∈ lw_tbl := lw_at lw_m3 14 rfl
theorem q545 : (Jvm.Cond.methodLink "MustardFast" (87 : Nat) ({ cls := "java/util/List", name := "size", desc := "()I" } : Jvm.MethodName)) ∈ lw_all := lw_g (lw_at lw_m3 15 rfl) rfl
theorem q553 : (Jvm.Cond.interfaceEntry "MustardFast" (191 : Nat)) ∈ lw_tbl := lw_at lw_m3 23 rfl
theorem q554 : (Jvm.Cond.methodLink "MustardFast" (191 : Nat) ({ cls := "java/util/List", name := "get", desc := "(I)Ljava/lang/Object;" } : Jvm.MethodName)) ∈ lw_all := lw_g (lw_at lw_m3 24 rfl) rfl
theorem q572 : (Jvm.Cond.methodLink "MustardFast" (195 : Nat) ({ cls := "MustardFast$Eater", name := "kind", desc := "()I" } : Jvm.MethodName)) ∈ lw_all := lw_g (lw_at lw_m3 42 rfl) rfl
theorem q583 : (Jvm.Cond.methodLink "MustardFast" (207 : Nat) ({ cls := "MustardFast$Eater", name := "lasts", desc := "()I" } : Jvm.MethodName)) ∈ lw_all := lw_g (lw_at lw_m3 53 rfl) rfl
theorem q598 : (Jvm.Cond.instanceMethod ({ cls := "MustardFast", name := "look", desc := "(I)I" } : Jvm.MethodName)) ∈ lw_all := lw_g (lw_at lw_m3 68 rfl) rfl
theorem q599 : (Jvm.Cond.selects "MustardFast" ({ cls := "MustardFast", name := "look", desc := "(I)I" } : Jvm.MethodName) ({ cls := "MustardFast", name := "look", desc := "(I)I" } : Jvm.MethodName)) ∈ lw_all := lw_g (lw_at lw_m3 69 rfl) rfl
theorem q600 : (Jvm.Cond.code ({ cls := "MustardFast", name := "look", desc := "(I)I" } : Jvm.MethodName) prog_1_method_24_code (2 : Nat) (Option.some Jvm.ClassFile.FieldType.int)) ∈ lw_all := lw_g (lw_at lw_m3 70 rfl) rfl
theorem q601 : (Jvm.Cond.methodLink "MustardFast" (210 : Nat) ({ cls := "MustardFast", name := "isDay", desc := "(I)Z" } : Jvm.MethodName)) ∈ lw_all := lw_g (lw_at lw_m3 71 rfl) rfl
theorem q602 : (Jvm.Cond.privateMethod ({ cls := "MustardFast", name := "isDay", desc := "(I)Z" } : Jvm.MethodName)) ∈ lw_tbl := lw_at lw_m3 72 rfl
theorem q603 : (Jvm.Cond.instanceMethod ({ cls := "MustardFast", name := "isDay", desc := "(I)Z" } : Jvm.MethodName)) ∈ lw_all := lw_g (lw_at lw_m3 73 rfl) rfl
theorem q604 : (Jvm.Cond.code ({ cls := "MustardFast", name := "isDay", desc := "(I)Z" } : Jvm.MethodName) prog_1_method_13_code (2 : Nat) (Option.some Jvm.ClassFile.FieldType.boolean)) ∈ lw_all := lw_g (lw_at lw_m3 74 rfl) rfl
theorem q606 : (Jvm.Cond.instanceMethod ({ cls := "MustardFast", name := "pull", desc := "(II)I" } : Jvm.MethodName)) ∈ lw_all := lw_g (lw_at lw_m3 76 rfl) rfl
theorem q607 : (Jvm.Cond.selects "MustardFast" ({ cls := "MustardFast", name := "pull", desc := "(II)I" } : Jvm.MethodName) ({ cls := "MustardFast", name := "pull", desc := "(II)I" } : Jvm.MethodName)) ∈ lw_all := lw_g (lw_at lw_m3 77 rfl) rfl
theorem q608 : (Jvm.Cond.code ({ cls := "MustardFast", name := "pull", desc := "(II)I" } : Jvm.MethodName) prog_1_method_25_code (4 : Nat) (Option.some Jvm.ClassFile.FieldType.int)) ∈ lw_all := lw_g (lw_at lw_m3 78 rfl) rfl
theorem q609 : (Jvm.Cond.methodLink "MustardFast" (213 : Nat) ({ cls := "MustardFast", name := "isDigit", desc := "(I)Z" } : Jvm.MethodName)) ∈ lw_all := lw_g (lw_at lw_m3 79 rfl) rfl
theorem q610 : (Jvm.Cond.static ({ cls := "MustardFast", name := "isDigit", desc := "(I)Z" } : Jvm.MethodName)) ∈ lw_all := lw_g (lw_at lw_m3 80 rfl) rfl
theorem q611 : (Jvm.Cond.code ({ cls := "MustardFast", name := "isDigit", desc := "(I)Z" } : Jvm.MethodName) prog_1_method_3_code (1 : Nat) (Option.some Jvm.ClassFile.FieldType.boolean)) ∈ lw_all := lw_g (lw_at lw_m3 81 rfl) rfl
theorem q612 : (Jvm.Cond.constantLong "MustardFast" (53 : Nat) (9 : Int64)) ∈ lw_all := lw_g (lw_at lw_m3 82 rfl) rfl
theorem q614 : (Jvm.Cond.instanceMethod ({ cls := "MustardFast", name := "sour", desc := "(I)I" } : Jvm.MethodName)) ∈ lw_all := lw_g (lw_at lw_m3 84 rfl) rfl
theorem q615 : (Jvm.Cond.selects "MustardFast" ({ cls := "MustardFast", name := "sour", desc := "(I)I" } : Jvm.MethodName) ({ cls := "MustardFast", name := "sour", desc := "(I)I" } : Jvm.MethodName)) ∈ lw_all := lw_g (lw_at lw_m3 85 rfl) rfl
theorem q616 : (Jvm.Cond.code ({ cls := "MustardFast", name := "sour", desc := "(I)I" } : Jvm.MethodName) prog_1_method_26_code (3 : Nat) (Option.some Jvm.ClassFile.FieldType.int)) ∈ lw_all := lw_g (lw_at lw_m3 86 rfl) rfl
theorem q617 : (Jvm.Cond.methodLink "MustardFast" (216 : Nat) ({ cls := "MustardFast", name := "isDuchy", desc := "()Z" } : Jvm.MethodName)) ∈ lw_all := lw_g (lw_at lw_m3 87 rfl) rfl
theorem q618 : (Jvm.Cond.privateMethod ({ cls := "MustardFast", name := "isDuchy", desc := "()Z" } : Jvm.MethodName)) ∈ lw_tbl := lw_at lw_m3 88 rfl
theorem q619 : (Jvm.Cond.instanceMethod ({ cls := "MustardFast", name := "isDuchy", desc := "()Z" } : Jvm.MethodName)) ∈ lw_all := lw_g (lw_at lw_m3 89 rfl) rfl
theorem q620 : (Jvm.Cond.code ({ cls := "MustardFast", name := "isDuchy", desc := "()Z" } : Jvm.MethodName) prog_1_method_11_code (1 : Nat) (Option.some Jvm.ClassFile.FieldType.boolean)) ∈ lw_all := lw_g (lw_at lw_m3 90 rfl) rfl
theorem q622 : (Jvm.Cond.instanceMethod ({ cls := "MustardFast", name := "crave", desc := "(II)I" } : Jvm.MethodName)) ∈ lw_all := lw_g (lw_at lw_m3 92 rfl) rfl
theorem q623 : (Jvm.Cond.selects "MustardFast" ({ cls := "MustardFast", name := "crave", desc := "(II)I" } : Jvm.MethodName) ({ cls := "MustardFast", name := "crave", desc := "(II)I" } : Jvm.MethodName)) ∈ lw_all := lw_g (lw_at lw_m3 93 rfl) rfl
theorem q624 : (Jvm.Cond.code ({ cls := "MustardFast", name := "crave", desc := "(II)I" } : Jvm.MethodName) prog_1_method_27_code (4 : Nat) (Option.some Jvm.ClassFile.FieldType.int)) ∈ lw_all := lw_g (lw_at lw_m3 94 rfl) rfl
theorem q625 : (Jvm.Cond.constantLong "MustardFast" (220 : Nat) (6 : Int64)) ∈ lw_all := lw_g (lw_at lw_m3 95 rfl) rfl
theorem q627 : (Jvm.Cond.instanceMethod ({ cls := "MustardFast", name := "fasts", desc := "()I" } : Jvm.MethodName)) ∈ lw_all := lw_g (lw_at lw_m3 97 rfl) rfl
theorem q628 : (Jvm.Cond.selects "MustardFast" ({ cls := "MustardFast", name := "fasts", desc := "()I" } : Jvm.MethodName) ({ cls := "MustardFast", name := "fasts", desc := "()I" } : Jvm.MethodName)) ∈ lw_all := lw_g (lw_at lw_m3 98 rfl) rfl
theorem q629 : (Jvm.Cond.code ({ cls := "MustardFast", name := "fasts", desc := "()I" } : Jvm.MethodName) prog_1_method_30_code (1 : Nat) (Option.some Jvm.ClassFile.FieldType.int)) ∈ lw_all := lw_g (lw_at lw_m3 99 rfl) rfl
theorem q630 : (Jvm.Cond.methodLink "MustardFast" (225 : Nat) ({ cls := "MustardFast", name := "fastsNow", desc := "()I" } : Jvm.MethodName)) ∈ lw_all := lw_g (lw_at lw_m3 100 rfl) rfl
theorem q631 : (Jvm.Cond.privateMethod ({ cls := "MustardFast", name := "fastsNow", desc := "()I" } : Jvm.MethodName)) ∈ lw_tbl := lw_at lw_m3 101 rfl
theorem q632 : (Jvm.Cond.instanceMethod ({ cls := "MustardFast", name := "fastsNow", desc := "()I" } : Jvm.MethodName)) ∈ lw_all := lw_g (lw_at lw_m3 102 rfl) rfl
theorem q633 : (Jvm.Cond.code ({ cls := "MustardFast", name := "fastsNow", desc := "()I" } : Jvm.MethodName) prog_1_method_29_code (1 : Nat) (Option.some Jvm.ClassFile.FieldType.int)) ∈ lw_all := lw_g (lw_at lw_m3 103 rfl) rfl
theorem q634 : (Jvm.Cond.methodLink "MustardFast" (222 : Nat) ({ cls := "MustardFast", name := "fastsBy", desc := "(I)I" } : Jvm.MethodName)) ∈ lw_all := lw_g (lw_at lw_m3 104 rfl) rfl
theorem q635 : (Jvm.Cond.privateMethod ({ cls := "MustardFast", name := "fastsBy", desc := "(I)I" } : Jvm.MethodName)) ∈ lw_tbl := lw_at lw_m3 105 rfl
theorem q636 : (Jvm.Cond.instanceMethod ({ cls := "MustardFast", name := "fastsBy", desc := "(I)I" } : Jvm.MethodName)) ∈ lw_all := lw_g (lw_at lw_m3 106 rfl) rfl
theorem q637 : (Jvm.Cond.code ({ cls := "MustardFast", name := "fastsBy", desc := "(I)I" } : Jvm.MethodName) prog_1_method_28_code (4 : Nat) (Option.some Jvm.ClassFile.FieldType.int)) ∈ lw_all := lw_g (lw_at lw_m3 107 rfl) rfl
theorem q639 : (Jvm.Cond.instanceMethod ({ cls := "MustardFast", name := "yellow", desc := "(II)I" } : Jvm.MethodName)) ∈ lw_all := lw_g (lw_at lw_m3 109 rfl) rfl
theorem q640 : (Jvm.Cond.selects "MustardFast" ({ cls := "MustardFast", name := "yellow", desc := "(II)I" } : Jvm.MethodName) ({ cls := "MustardFast", name := "yellow", desc := "(II)I" } : Jvm.MethodName)) ∈ lw_all := lw_g (lw_at lw_m3 110 rfl) rfl
theorem q641 : (Jvm.Cond.code ({ cls := "MustardFast", name := "yellow", desc := "(II)I" } : Jvm.MethodName) prog_1_method_31_code (3 : Nat) (Option.some Jvm.ClassFile.FieldType.int)) ∈ lw_all := lw_g (lw_at lw_m3 111 rfl) rfl
theorem q642 : (Jvm.Cond.methodLink "MustardFast" (228 : Nat) ({ cls := "MustardFast", name := "isSet", desc := "(I)Z" } : Jvm.MethodName)) ∈ lw_all := lw_g (lw_at lw_m3 112 rfl) rfl
theorem q643 : (Jvm.Cond.privateMethod ({ cls := "MustardFast", name := "isSet", desc := "(I)Z" } : Jvm.MethodName)) ∈ lw_tbl := lw_at lw_m3 113 rfl
theorem q644 : (Jvm.Cond.instanceMethod ({ cls := "MustardFast", name := "isSet", desc := "(I)Z" } : Jvm.MethodName)) ∈ lw_all := lw_g (lw_at lw_m3 114 rfl) rfl
theorem q645 : (Jvm.Cond.code ({ cls := "MustardFast", name := "isSet", desc := "(I)Z" } : Jvm.MethodName) prog_1_method_15_code (2 : Nat) (Option.some Jvm.ClassFile.FieldType.boolean)) ∈ lw_all := lw_g (lw_at lw_m3 115 rfl) rfl
theorem q646 : (Jvm.Cond.methodLink "MustardFast" (93 : Nat) ({ cls := "MustardFast", name := "all", desc := "()I" } : Jvm.MethodName)) ∈ lw_all := lw_g (lw_at lw_m3 116 rfl) rfl
theorem q647 : (Jvm.Cond.privateMethod ({ cls := "MustardFast", name := "all", desc := "()I" } : Jvm.MethodName)) ∈ lw_tbl := lw_at lw_m3 117 rfl
theorem q648 : (Jvm.Cond.instanceMethod ({ cls := "MustardFast", name := "all", desc := "()I" } : Jvm.MethodName)) ∈ lw_all := lw_g (lw_at lw_m3 118 rfl) rfl
theorem q649 : (Jvm.Cond.code ({ cls := "MustardFast", name := "all", desc := "()I" } : Jvm.MethodName) prog_1_method_14_code (1 : Nat) (Option.some Jvm.ClassFile.FieldType.int)) ∈ lw_all := lw_g (lw_at lw_m3 119 rfl) rfl
theorem q650 : (Jvm.Cond.methodLink "MustardFast" (231 : Nat) ({ cls := "MustardFast$Eater", name := "yellow", desc := "(I)I" } : Jvm.MethodName)) ∈ lw_all := lw_g (lw_at lw_m3 120 rfl) rfl
theorem q665 : (Jvm.Cond.static ({ cls := "MustardFast", name := "asKind", desc := "(II)I" } : Jvm.MethodName)) ∈ lw_all := lw_g (lw_at lw_m3 135 rfl) rfl
theorem q666 : (Jvm.Cond.code ({ cls := "MustardFast", name := "asKind", desc := "(II)I" } : Jvm.MethodName) prog_1_method_10_code (3 : Nat) (Option.some Jvm.ClassFile.FieldType.int)) ∈ lw_all := lw_g (lw_at lw_m3 136 rfl) rfl
theorem q667 : (Jvm.Cond.methodLink "MustardFast" (78 : Nat) ({ cls := "java/lang/Math", name := "max", desc := "(II)I" } : Jvm.MethodName)) ∈ lw_all := lw_g (lw_at lw_m3 137 rfl) rfl
theorem q671 : (Jvm.Cond.instanceMethod ({ cls := "MustardFast", name := "found", desc := "(III)I" } : Jvm.MethodName)) ∈ lw_all := lw_g (lw_at lw_m3 141 rfl) rfl
theorem q672 : (Jvm.Cond.selects "MustardFast" ({ cls := "MustardFast", name := "found", desc := "(III)I" } : Jvm.MethodName) ({ cls := "MustardFast", name := "found", desc := "(III)I" } : Jvm.MethodName)) ∈ lw_all := lw_g (lw_at lw_m3 142 rfl) rfl
theorem q673 : (Jvm.Cond.code ({ cls := "MustardFast", name := "found", desc := "(III)I" } : Jvm.MethodName) prog_1_method_32_code (5 : Nat) (Option.some Jvm.ClassFile.FieldType.int)) ∈ lw_all := lw_g (lw_at lw_m3 143 rfl) rfl
theorem q674 : (Jvm.Cond.methodLink "MustardFast" (234 : Nat) ({ cls := "MustardFast$Eater", name := "found", desc := "(II)I" } : Jvm.MethodName)) ∈ lw_all := lw_g (lw_at lw_m3 144 rfl) rfl
theorem q682 : (Jvm.Cond.methodLink "MustardFast" (237 : Nat) ({ cls := "MustardFast$Eater", name := "fine", desc := "(II)I" } : Jvm.MethodName)) ∈ lw_all := lw_g (lw_at lw_m3 152 rfl) rfl
theorem q691 : (Jvm.Cond.static ({ cls := "MustardFast", name := "bits", desc := "(I)I" } : Jvm.MethodName)) ∈ lw_all := lw_g (lw_at lw_m3 161 rfl) rfl
theorem q692 : (Jvm.Cond.code ({ cls := "MustardFast", name := "bits", desc := "(I)I" } : Jvm.MethodName) prog_1_method_5_code (3 : Nat) (Option.some Jvm.ClassFile.FieldType.int)) ∈ lw_all := lw_g (lw_at lw_m3 162 rfl) rfl
theorem q694 : (Jvm.Cond.instanceMethod ({ cls := "MustardFast", name := "plan", desc := "(IIIII)I" } : Jvm.MethodName)) ∈ lw_all := lw_g (lw_at lw_m3 164 rfl) rfl
theorem q695 : (Jvm.Cond.selects "MustardFast" ({ cls := "MustardFast", name := "plan", desc := "(IIIII)I" } : Jvm.MethodName) ({ cls := "MustardFast", name := "plan", desc := "(IIIII)I" } : Jvm.MethodName)) ∈ lw_all := lw_g (lw_at lw_m3 165 rfl) rfl
theorem q696 : (Jvm.Cond.codeWith ({ cls := "MustardFast", name := "plan", desc := "(IIIII)I" } : Jvm.MethodName) prog_1_method_36_code (7 : Nat) (Option.some Jvm.ClassFile.FieldType.int) [((62 : Nat), (87 : Nat), (88 : Nat), (176 : Nat)), ((62 : Nat), (87 : Nat), (96 : Nat), (182 : Nat)), ((62 : Nat), (87 : Nat), (104 : Nat), (184 : Nat)), ((62 : Nat), (87 : Nat), (112 : Nat), (186 : Nat))]) ∈ lw_all := lw_g (lw_at lw_m3 166 rfl) rfl
theorem q697 : (Jvm.Cond.constantLong "MustardFast" (256 : Nat) (10 : Int64)) ∈ lw_all := lw_g (lw_at lw_m3 167 rfl) rfl
theorem q698 : (Jvm.Cond.constantLong "MustardFast" (258 : Nat) (15 : Int64)) ∈ lw_all := lw_g (lw_at lw_m3 168 rfl) rfl
theorem q699 : (Jvm.Cond.methodLink "MustardFast" (260 : Nat) ({ cls := "MustardFast", name := "told", desc := "([II)I" } : Jvm.MethodName)) ∈ lw_all := lw_g (lw_at lw_m3 169 rfl) rfl
theorem q700 : (Jvm.Cond.privateMethod ({ cls := "MustardFast", name := "told", desc := "([II)I" } : Jvm.MethodName)) ∈ lw_tbl := lw_at lw_m3 170 rfl
theorem q701 : (Jvm.Cond.instanceMethod ({ cls := "MustardFast", name := "told", desc := "([II)I" } : Jvm.MethodName)) ∈ lw_all := lw_g (lw_at lw_m3 171 rfl) rfl
theorem q702 : (Jvm.Cond.code ({ cls := "MustardFast", name := "told", desc := "([II)I" } : Jvm.MethodName) prog_1_method_35_code (8 : Nat) (Option.some Jvm.ClassFile.FieldType.int)) ∈ lw_all := lw_g (lw_at lw_m3 172 rfl) rfl
theorem q703 : (Jvm.Cond.methodLink "MustardFast" (244 : Nat) ({ cls := "MustardFast", name := "foundOn", desc := "([II)I" } : Jvm.MethodName)) ∈ lw_all := lw_g (lw_at lw_m3 173 rfl) rfl
theorem q704 : (Jvm.Cond.privateMethod ({ cls := "MustardFast", name := "foundOn", desc := "([II)I" } : Jvm.MethodName)) ∈ lw_tbl := lw_at lw_m3 174 rfl
theorem q705 : (Jvm.Cond.instanceMethod ({ cls := "MustardFast", name := "foundOn", desc := "([II)I" } : Jvm.MethodName)) ∈ lw_all := lw_g (lw_at lw_m3 175 rfl) rfl
theorem q706 : (Jvm.Cond.code ({ cls := "MustardFast", name := "foundOn", desc := "([II)I" } : Jvm.MethodName) prog_1_method_33_code (5 : Nat) (Option.some Jvm.ClassFile.FieldType.int)) ∈ lw_all := lw_g (lw_at lw_m3 176 rfl) rfl
theorem q707 : (Jvm.Cond.methodLink "MustardFast" (240 : Nat) ({ cls := "MustardFast", name := "isOf", desc := "(II)Z" } : Jvm.MethodName)) ∈ lw_all := lw_g (lw_at lw_m3 177 rfl) rfl
theorem q708 : (Jvm.Cond.static ({ cls := "MustardFast", name := "isOf", desc := "(II)Z" } : Jvm.MethodName)) ∈ lw_all := lw_g (lw_at lw_m3 178 rfl) rfl
theorem q709 : (Jvm.Cond.code ({ cls := "MustardFast", name := "isOf", desc := "(II)Z" } : Jvm.MethodName) prog_1_method_4_code (2 : Nat) (Option.some Jvm.ClassFile.FieldType.boolean)) ∈ lw_all := lw_g (lw_at lw_m3 179 rfl) rfl
theorem q710 : (Jvm.Cond.methodLink "MustardFast" (248 : Nat) ({ cls := "MustardFast", name := "firstFound", desc := "([I)I" } : Jvm.MethodName)) ∈ lw_all := lw_g (lw_at lw_m3 180 rfl) rfl
theorem q711 : (Jvm.Cond.privateMethod ({ cls := "MustardFast", name := "firstFound", desc := "([I)I" } : Jvm.MethodName)) ∈ lw_tbl := lw_at lw_m3 181 rfl
theorem q712 : (Jvm.Cond.instanceMethod ({ cls := "MustardFast", name := "firstFound", desc := "([I)I" } : Jvm.MethodName)) ∈ lw_all := lw_g (lw_at lw_m3 182 rfl) rfl
theorem q713 : (Jvm.Cond.code ({ cls := "MustardFast", name := "firstFound", desc := "([I)I" } : Jvm.MethodName) prog_1_method_34_code (3 : Nat) (Option.some Jvm.ClassFile.FieldType.int)) ∈ lw_all := lw_g (lw_at lw_m3 183 rfl) rfl
theorem q714 : (Jvm.Cond.methodLink "MustardFast" (251 : Nat) ({ cls := "MustardFast", name := "bits", desc := "(I)I" } : Jvm.MethodName)) ∈ lw_all := lw_g (lw_at lw_m3 184 rfl) rfl
theorem q716 : (Jvm.Cond.instanceMethod ({ cls := "MustardFast", name := "best", desc := "(II)I" } : Jvm.MethodName)) ∈ lw_all := lw_g (lw_at lw_m3 186 rfl) rfl
theorem q717 : (Jvm.Cond.selects "MustardFast" ({ cls := "MustardFast", name := "best", desc := "(II)I" } : Jvm.MethodName) ({ cls := "MustardFast", name := "best", desc := "(II)I" } : Jvm.MethodName)) ∈ lw_all := lw_g (lw_at lw_m3 187 rfl) rfl
theorem q718 : (Jvm.Cond.code ({ cls := "MustardFast", name := "best", desc := "(II)I" } : Jvm.MethodName) prog_1_method_37_code (4 : Nat) (Option.some Jvm.ClassFile.FieldType.int)) ∈ lw_all := lw_g (lw_at lw_m3 188 rfl) rfl
theorem q719 : (Jvm.Cond.methodLink "MustardFast" (263 : Nat) ({ cls := "MustardFast$Eater", name := "best", desc := "(I)I" } : Jvm.MethodName)) ∈ lw_all := lw_g (lw_at lw_m3 189 rfl) rfl
theorem q728 : (Jvm.Cond.instanceMethod ({ cls := "MustardFast", name := "village", desc := "()I" } : Jvm.MethodName)) ∈ lw_all := lw_g (lw_at lw_m3 198 rfl) rfl
theorem q729 : (Jvm.Cond.selects "MustardFast" ({ cls := "MustardFast", name := "village", desc := "()I" } : Jvm.MethodName) ({ cls := "MustardFast", name := "village", desc := "()I" } : Jvm.MethodName)) ∈ lw_all := lw_g (lw_at lw_m3 199 rfl) rfl
theorem q730 : (Jvm.Cond.code ({ cls := "MustardFast", name := "village", desc := "()I" } : Jvm.MethodName) prog_1_method_39_code (1 : Nat) (Option.some Jvm.ClassFile.FieldType.int)) ∈ lw_all := lw_g (lw_at lw_m3 200 rfl) rfl
theorem q731 : (Jvm.Cond.methodLink "MustardFast" (266 : Nat) ({ cls := "MustardFast", name := "villageBy", desc := "(I)I" } : Jvm.MethodName)) ∈ lw_all := lw_g (lw_at lw_m3 201 rfl) rfl
theorem q732 : (Jvm.Cond.privateMethod ({ cls := "MustardFast", name := "villageBy", desc := "(I)I" } : Jvm.MethodName)) ∈ lw_tbl := lw_at lw_m3 202 rfl
theorem q733 : (Jvm.Cond.instanceMethod ({ cls := "MustardFast", name := "villageBy", desc := "(I)I" } : Jvm.MethodName)) ∈ lw_all := lw_g (lw_at lw_m3 203 rfl) rfl
theorem q734 : (Jvm.Cond.code ({ cls := "MustardFast", name := "villageBy", desc := "(I)I" } : Jvm.MethodName) prog_1_method_38_code (6 : Nat) (Option.some Jvm.ClassFile.FieldType.int)) ∈ lw_all := lw_g (lw_at lw_m3 204 rfl) rfl
theorem q736 : (Jvm.Cond.instanceMethod ({ cls := "MustardFast", name := "smile", desc := "(I)I" } : Jvm.MethodName)) ∈ lw_all := lw_g (lw_at lw_m3 206 rfl) rfl
theorem q737 : (Jvm.Cond.selects "MustardFast" ({ cls := "MustardFast", name := "smile", desc := "(I)I" } : Jvm.MethodName) ({ cls := "MustardFast", name := "smile", desc := "(I)I" } : Jvm.MethodName)) ∈ lw_all := lw_g (lw_at lw_m3 207 rfl) rfl
theorem q738 : (Jvm.Cond.code ({ cls := "MustardFast", name := "smile", desc := "(I)I" } : Jvm.MethodName) prog_1_method_40_code (7 : Nat) (Option.some Jvm.ClassFile.FieldType.int)) ∈ lw_all := lw_g (lw_at lw_m3 208 rfl) rfl
theorem q740 : (Jvm.Cond.instanceMethod ({ cls := "MustardFast", name := "reading", desc := "(IIIZ)I" } : Jvm.MethodName)) ∈ lw_all := lw_g (lw_at lw_m3 210 rfl) rfl
theorem q741 : (Jvm.Cond.selects "MustardFast" ({ cls := "MustardFast", name := "reading", desc := "(IIIZ)I" } : Jvm.MethodName) ({ cls := "MustardFast", name := "reading", desc := "(IIIZ)I" } : Jvm.MethodName)) ∈ lw_all := lw_g (lw_at lw_m3 211 rfl) rfl
theorem q742 : (Jvm.Cond.code ({ cls := "MustardFast", name := "reading", desc := "(IIIZ)I" } : Jvm.MethodName) prog_1_method_41_code (5 : Nat) (Option.some Jvm.ClassFile.FieldType.int)) ∈ lw_all := lw_g (lw_at lw_m3 212 rfl) rfl
theorem q744 : (Jvm.Cond.instanceMethod ({ cls := "MustardFast", name := "back", desc := "(I)I" } : Jvm.MethodName)) ∈ lw_all := lw_g (lw_at lw_m3 214 rfl) rfl
theorem q745 : (Jvm.Cond.selects "MustardFast" ({ cls := "MustardFast", name := "back", desc := "(I)I" } : Jvm.MethodName) ({ cls := "MustardFast", name := "back", desc := "(I)I" } : Jvm.MethodName)) ∈ lw_all := lw_g (lw_at lw_m3 215 rfl) rfl
theorem q746 : (Jvm.Cond.code ({ cls := "MustardFast", name := "back", desc := "(I)I" } : Jvm.MethodName) prog_1_method_42_code (2 : Nat) (Option.some Jvm.ClassFile.FieldType.int)) ∈ lw_all := lw_g (lw_at lw_m3 216 rfl) rfl
theorem q748 : (Jvm.Cond.instanceMethod ({ cls := "MustardFast", name := "stays", desc := "(I)I" } : Jvm.MethodName)) ∈ lw_all := lw_g (lw_at lw_m3 218 rfl) rfl
theorem q749 : (Jvm.Cond.selects "MustardFast" ({ cls := "MustardFast", name := "stays", desc := "(I)I" } : Jvm.MethodName) ({ cls := "MustardFast", name := "stays", desc := "(I)I" } : Jvm.MethodName)) ∈ lw_all := lw_g (lw_at lw_m3 219 rfl) rfl
theorem q750 : (Jvm.Cond.code ({ cls := "MustardFast", name := "stays", desc := "(I)I" } : Jvm.MethodName) prog_1_method_44_code (5 : Nat) (Option.some Jvm.ClassFile.FieldType.int)) ∈ lw_all := lw_g (lw_at lw_m3 220 rfl) rfl
theorem q751 : (Jvm.Cond.methodLink "MustardFast" (269 : Nat) ({ cls := "MustardFast", name := "areSo", desc := "(I)Z" } : Jvm.MethodName)) ∈ lw_all := lw_g (lw_at lw_m3 221 rfl) rfl
theorem q752 : (Jvm.Cond.privateMethod ({ cls := "MustardFast", name := "areSo", desc := "(I)Z" } : Jvm.MethodName)) ∈ lw_tbl := lw_at lw_m3 222 rfl
theorem q753 : (Jvm.Cond.instanceMethod ({ cls := "MustardFast", name := "areSo", desc := "(I)Z" } : Jvm.MethodName)) ∈ lw_all := lw_g (lw_at lw_m3 223 rfl) rfl
theorem q754 : (Jvm.Cond.code ({ cls := "MustardFast", name := "areSo", desc := "(I)Z" } : Jvm.MethodName) prog_1_method_43_code (4 : Nat) (Option.some Jvm.ClassFile.FieldType.boolean)) ∈ lw_all := lw_g (lw_at lw_m3 224 rfl) rfl
theorem q756 : (Jvm.Cond.instanceMethod ({ cls := "MustardFast", name := "kinds", desc := "(I)I" } : Jvm.MethodName)) ∈ lw_all := lw_g (lw_at lw_m3 226 rfl) rfl
theorem q757 : (Jvm.Cond.selects "MustardFast" ({ cls := "MustardFast", name := "kinds", desc := "(I)I" } : Jvm.MethodName) ({ cls := "MustardFast", name := "kinds", desc := "(I)I" } : Jvm.MethodName)) ∈ lw_all := lw_g (lw_at lw_m3 227 rfl) rfl
theorem q758 : (Jvm.Cond.code ({ cls := "MustardFast", name := "kinds", desc := "(I)I" } : Jvm.MethodName) prog_1_method_45_code (3 : Nat) (Option.some Jvm.ClassFile.FieldType.int)) ∈ lw_all := lw_g (lw_at lw_m3 228 rfl) rfl
theorem q760 : (Jvm.Cond.instanceMethod ({ cls := "MustardFast", name := "sours", desc := "()I" } : Jvm.MethodName)) ∈ lw_all := lw_g (lw_at lw_m3 230 rfl) rfl
theorem q761 : (Jvm.Cond.selects "MustardFast" ({ cls := "MustardFast", name := "sours", desc := "()I" } : Jvm.MethodName) ({ cls := "MustardFast", name := "sours", desc := "()I" } : Jvm.MethodName)) ∈ lw_all := lw_g (lw_at lw_m3 231 rfl) rfl
theorem q762 : (Jvm.Cond.code ({ cls := "MustardFast", name := "sours", desc := "()I" } : Jvm.MethodName) prog_1_method_46_code (3 : Nat) (Option.some Jvm.ClassFile.FieldType.int)) ∈ lw_all := lw_g (lw_at lw_m3 232 rfl) rfl
theorem q764 : (Jvm.Cond.instanceMethod ({ cls := "MustardFast", name := "odds", desc := "(III)J" } : Jvm.MethodName)) ∈ lw_all := lw_g (lw_at lw_m3 234 rfl) rfl
theorem q765 : (Jvm.Cond.selects "MustardFast" ({ cls := "MustardFast", name := "odds", desc := "(III)J" } : Jvm.MethodName) ({ cls := "MustardFast", name := "odds", desc := "(III)J" } : Jvm.MethodName)) ∈ lw_all := lw_g (lw_at lw_m3 235 rfl) rfl
theorem q766 : (Jvm.Cond.code ({ cls := "MustardFast", name := "odds", desc := "(III)J" } : Jvm.MethodName) prog_1_method_48_code (6 : Nat) (Option.some Jvm.ClassFile.FieldType.long)) ∈ lw_all := lw_g (lw_at lw_m3 236 rfl) rfl
theorem q767 : (Jvm.Cond.constantLong "MustardFast" (62 : Nat) (-9223372036854775808 : Int64)) ∈ lw_all := lw_g (lw_at lw_m3 237 rfl) rfl
theorem q768 : (Jvm.Cond.methodLink "MustardFast" (275 : Nat) ({ cls := "MustardFast", name := "inLeastTerms", desc := "(JJI)J" } : Jvm.MethodName)) ∈ lw_all := lw_g (lw_at lw_m3 238 rfl) rfl
theorem q769 : (Jvm.Cond.static ({ cls := "MustardFast", name := "inLeastTerms", desc := "(JJI)J" } : Jvm.MethodName)) ∈ lw_all := lw_g (lw_at lw_m3 239 rfl) rfl
theorem q770 : (Jvm.Cond.code ({ cls := "MustardFast", name := "inLeastTerms", desc := "(JJI)J" } : Jvm.MethodName) prog_1_method_47_code (11 : Nat) (Option.some Jvm.ClassFile.FieldType.long)) ∈ lw_all := lw_g (lw_at lw_m4 0 rfl) rfl
theorem q772 : (Jvm.Cond.instanceMethod ({ cls := "MustardFast", name := "sheet", desc := "(III)I" } : Jvm.MethodName)) ∈ lw_all := lw_g (lw_at lw_m4 2 rfl) rfl
theorem q773 : (Jvm.Cond.selects "MustardFast" ({ cls := "MustardFast", name := "sheet", desc := "(III)I" } : Jvm.MethodName) ({ cls := "MustardFast", name := "sheet", desc := "(III)I" } : Jvm.MethodName)) ∈ lw_all := lw_g (lw_at lw_m4 3 rfl) rfl
theorem q774 : (Jvm.Cond.codeWith ({ cls := "MustardFast", name := "sheet", desc := "(III)I" } : Jvm.MethodName) prog_1_method_55_code (5 : Nat) (Option.some Jvm.ClassFile.FieldType.int) [((30 : Nat), (64 : Nat), (65 : Nat), (184 : Nat))]) ∈ lw_all := lw_g (lw_at lw_m4 4 rfl) rfl
theorem q777 : (Jvm.Cond.instanceMethod ({ cls := "MustardFast", name := "lose", desc := "(I)I" } : Jvm.MethodName)) ∈ lw_all := lw_g (lw_at lw_m4 7 rfl) rfl
theorem q778 : (Jvm.Cond.selects "MustardFast" ({ cls := "MustardFast", name := "lose", desc := "(I)I" } : Jvm.MethodName) ({ cls := "MustardFast", name := "lose", desc := "(I)I" } : Jvm.MethodName)) ∈ lw_all := lw_g (lw_at lw_m4 8 rfl) rfl
theorem q779 : (Jvm.Cond.code ({ cls := "MustardFast", name := "lose", desc := "(I)I" } : Jvm.MethodName) prog_1_method_56_code (3 : Nat) (Option.some Jvm.ClassFile.FieldType.int)) ∈ lw_all := lw_g (lw_at lw_m4 9 rfl) rfl
theorem q781 : (Jvm.Cond.instanceMethod ({ cls := "MustardFast", name := "put", desc := "(III)I" } : Jvm.MethodName)) ∈ lw_all := lw_g (lw_at lw_m4 11 rfl) rfl
theorem q782 : (Jvm.Cond.selects "MustardFast" ({ cls := "MustardFast", name := "put", desc := "(III)I" } : Jvm.MethodName) ({ cls := "MustardFast", name := "put", desc := "(III)I" } : Jvm.MethodName)) ∈ lw_all := lw_g (lw_at lw_m4 12 rfl) rfl
theorem q783 : (Jvm.Cond.codeWith ({ cls := "MustardFast", name := "put", desc := "(III)I" } : Jvm.MethodName) prog_1_method_57_code (7 : Nat) (Option.some Jvm.ClassFile.FieldType.int) [((14 : Nat), (100 : Nat), (101 : Nat), (182 : Nat)), ((14 : Nat), (100 : Nat), (109 : Nat), (186 : Nat))]) ∈ lw_all := lw_g (lw_at lw_m4 13 rfl) rfl
theorem q785 : (Jvm.Cond.instanceMethod ({ cls := "MustardFast", name := "cell", desc := "(III)J" } : Jvm.MethodName)) ∈ lw_all := lw_g (lw_at lw_m4 15 rfl) rfl
theorem q786 : (Jvm.Cond.selects "MustardFast" ({ cls := "MustardFast", name := "cell", desc := "(III)J" } : Jvm.MethodName) ({ cls := "MustardFast", name := "cell", desc := "(III)J" } : Jvm.MethodName)) ∈ lw_all := lw_g (lw_at lw_m4 16 rfl) rfl
theorem q787 : (Jvm.Cond.codeWith ({ cls := "MustardFast", name := "cell", desc := "(III)J" } : Jvm.MethodName) prog_1_method_58_code (5 : Nat) (Option.some Jvm.ClassFile.FieldType.long) [((23 : Nat), (41 : Nat), (42 : Nat), (176 : Nat)), ((23 : Nat), (41 : Nat), (50 : Nat), (182 : Nat)), ((23 : Nat), (41 : Nat), (58 : Nat), (186 : Nat))]) ∈ lw_all := lw_g (lw_at lw_m4 17 rfl) rfl
theorem q788 : (Jvm.Cond.methodLink "MustardFast" (291 : Nat) ({ cls := "MustardFast", name := "lost", desc := "(I)J" } : Jvm.MethodName)) ∈ lw_all := lw_g (lw_at lw_m4 18 rfl) rfl
theorem q789 : (Jvm.Cond.privateMethod ({ cls := "MustardFast", name := "lost", desc := "(I)J" } : Jvm.MethodName)) ∈ lw_tbl := lw_at lw_m4 19 rfl
theorem q790 : (Jvm.Cond.instanceMethod ({ cls := "MustardFast", name := "lost", desc := "(I)J" } : Jvm.MethodName)) ∈ lw_all := lw_g (lw_at lw_m4 20 rfl) rfl
theorem q791 : (Jvm.Cond.code ({ cls := "MustardFast", name := "lost", desc := "(I)J" } : Jvm.MethodName) prog_1_method_7_code (2 : Nat) (Option.some Jvm.ClassFile.FieldType.long)) ∈ lw_all := lw_g (lw_at lw_m4 21 rfl) rfl
theorem q793 : (Jvm.Cond.instanceMethod ({ cls := "MustardFast", name := "copy", desc := "(IIIII)I" } : Jvm.MethodName)) ∈ lw_all := lw_g (lw_at lw_m4 23 rfl) rfl
theorem q794 : (Jvm.Cond.selects "MustardFast" ({ cls := "MustardFast", name := "copy", desc := "(IIIII)I" } : Jvm.MethodName) ({ cls := "MustardFast", name := "copy", desc := "(IIIII)I" } : Jvm.MethodName)) ∈ lw_all := lw_g (lw_at lw_m4 24 rfl) rfl
theorem q795 : (Jvm.Cond.codeWith ({ cls := "MustardFast", name := "copy", desc := "(IIIII)I" } : Jvm.MethodName) prog_1_method_59_code (7 : Nat) (Option.some Jvm.ClassFile.FieldType.int) [((21 : Nat), (49 : Nat), (50 : Nat), (182 : Nat)), ((21 : Nat), (49 : Nat), (58 : Nat), (295 : Nat)), ((21 : Nat), (49 : Nat), (66 : Nat), (297 : Nat))]) ∈ lw_all := lw_g (lw_at lw_m4 25 rfl) rfl
theorem q796 : (Jvm.Cond.classLink "MustardFast" (295 : Nat) "java/lang/ArrayStoreException") ∈ lw_all := lw_g (lw_at lw_m4 26 rfl) rfl
theorem q810 : (Jvm.Cond.classLink "MustardFast" (297 : Nat) "java/lang/IndexOutOfBoundsException") ∈ lw_all := lw_g (lw_at lw_m4 40 rfl) rfl
theorem q812 : (Jvm.Cond.instanceMethod ({ cls := "MustardFast", name := "tell", desc := "(I)I" } : Jvm.MethodName)) ∈ lw_all := lw_g (lw_at lw_m4 42 rfl) rfl
theorem q813 : (Jvm.Cond.selects "MustardFast" ({ cls := "MustardFast", name := "tell", desc := "(I)I" } : Jvm.MethodName) ({ cls := "MustardFast", name := "tell", desc := "(I)I" } : Jvm.MethodName)) ∈ lw_all := lw_g (lw_at lw_m4 43 rfl) rfl
theorem q814 : (Jvm.Cond.code ({ cls := "MustardFast", name := "tell", desc := "(I)I" } : Jvm.MethodName) prog_1_method_61_code (2 : Nat) (Option.some Jvm.ClassFile.FieldType.int)) ∈ lw_all := lw_g (lw_at lw_m4 44 rfl) rfl
theorem q815 : (Jvm.Cond.methodLink "MustardFast" (307 : Nat) ({ cls := "MustardFast$Eater", name := "tell", desc := "()I" } : Jvm.MethodName)) ∈ lw_all := lw_g (lw_at lw_m4 45 rfl) rfl
theorem q823 : (Jvm.Cond.privateMethod ({ cls := "MustardFast", name := "begins", desc := "(I)V" } : Jvm.MethodName)) ∈ lw_tbl := lw_at lw_m4 53 rfl
theorem q824 : (Jvm.Cond.instanceMethod ({ cls := "MustardFast", name := "begins", desc := "(I)V" } : Jvm.MethodName)) ∈ lw_all := lw_g (lw_at lw_m4 54 rfl) rfl
theorem q825 : (Jvm.Cond.code ({ cls := "MustardFast", name := "begins", desc := "(I)V" } : Jvm.MethodName) prog_1_method_8_code (2 : Nat) (Option.none : Option Jvm.ClassFile.FieldType)) ∈ lw_all := lw_g (lw_at lw_m4 55 rfl) rfl
theorem q842 : (Jvm.Cond.instanceMethod ({ cls := "MustardFast", name := "sniff", desc := "(I)I" } : Jvm.MethodName)) ∈ lw_all := lw_g (lw_at lw_m4 72 rfl) rfl
theorem q843 : (Jvm.Cond.selects "MustardFast" ({ cls := "MustardFast", name := "sniff", desc := "(I)I" } : Jvm.MethodName) ({ cls := "MustardFast", name := "sniff", desc := "(I)I" } : Jvm.MethodName)) ∈ lw_all := lw_g (lw_at lw_m4 73 rfl) rfl
theorem q844 : (Jvm.Cond.code ({ cls := "MustardFast", name := "sniff", desc := "(I)I" } : Jvm.MethodName) prog_1_method_63_code (2 : Nat) (Option.some Jvm.ClassFile.FieldType.int)) ∈ lw_all := lw_g (lw_at lw_m4 74 rfl) rfl
theorem q845 : (Jvm.Cond.classLink "MustardFast" (311 : Nat) "MustardFast$Sniffed") ∈ lw_all := lw_g (lw_at lw_m4 75 rfl) rfl
theorem q846 : (Jvm.Cond.methodLink "MustardFast" (315 : Nat) ({ cls := "MustardFast", name := "sniffed", desc := "(LMustardFast$Sniffed;)I" } : Jvm.MethodName)) ∈ lw_all := lw_g (lw_at lw_m4 76 rfl) rfl
theorem q847 : (Jvm.Cond.static ({ cls := "MustardFast", name := "sniffed", desc := "(LMustardFast$Sniffed;)I" } : Jvm.MethodName)) ∈ lw_all := lw_g (lw_at lw_m4 77 rfl) rfl
theorem q848 : (Jvm.Cond.code ({ cls := "MustardFast", name := "sniffed", desc := "(LMustardFast$Sniffed;)I" } : Jvm.MethodName) prog_1_method_62_code (1 : Nat) (Option.some Jvm.ClassFile.FieldType.int)) ∈ lw_all := lw_g (lw_at lw_m4 78 rfl) rfl
theorem q849 : (Jvm.Cond.interfaceEntry "MustardFast" (310 : Nat)) ∈ lw_tbl := lw_at lw_m4 79 rfl
theorem q850 : (Jvm.Cond.methodLink "MustardFast" (310 : Nat) ({ cls := "MustardFast$Sniffed", name := "sniff", desc := "()I" } : Jvm.MethodName)) ∈ lw_all := lw_g (lw_at lw_m4 80 rfl) rfl
theorem q880 : (Jvm.Cond.instanceMethod ({ cls := "MustardFast", name := "as", desc := "(II)I" } : Jvm.MethodName)) ∈ lw_all := lw_g (lw_at lw_m4 110 rfl) rfl
theorem q881 : (Jvm.Cond.selects "MustardFast" ({ cls := "MustardFast", name := "as", desc := "(II)I" } : Jvm.MethodName) ({ cls := "MustardFast", name := "as", desc := "(II)I" } : Jvm.MethodName)) ∈ lw_all := lw_g (lw_at lw_m4 111 rfl) rfl
theorem q882 : (Jvm.Cond.codeWith ({ cls := "MustardFast", name := "as", desc := "(II)I" } : Jvm.MethodName) prog_1_method_65_code (4 : Nat) (Option.some Jvm.ClassFile.FieldType.int) [((30 : Nat), (59 : Nat), (60 : Nat), (176 : Nat))]) ∈ lw_all := lw_g (lw_at lw_m4 112 rfl) rfl
theorem q883 : (Jvm.Cond.methodLink "MustardFast" (319 : Nat) ({ cls := "MustardFast", name := "of", desc := "(LMustardFast$Eater;I)LMustardFast$Eater;" } : Jvm.MethodName)) ∈ lw_all := lw_g (lw_at lw_m4 113 rfl) rfl
theorem q884 : (Jvm.Cond.static ({ cls := "MustardFast", name := "of", desc := "(LMustardFast$Eater;I)LMustardFast$Eater;" } : Jvm.MethodName)) ∈ lw_all := lw_g (lw_at lw_m4 114 rfl) rfl
theorem q885 : (Jvm.Cond.code ({ cls := "MustardFast", name := "of", desc := "(LMustardFast$Eater;I)LMustardFast$Eater;" } : Jvm.MethodName) prog_1_method_64_code (2 : Nat) (Option.some (Jvm.ClassFile.FieldType.object "MustardFast$Eater"))) ∈ lw_all := lw_g (lw_at lw_m4 115 rfl) rfl
theorem q887 : (Jvm.Cond.instanceMethod ({ cls := "MustardFast", name := "trace", desc := "()I" } : Jvm.MethodName)) ∈ lw_all := lw_g (lw_at lw_m4 117 rfl) rfl
theorem q888 : (Jvm.Cond.selects "MustardFast" ({ cls := "MustardFast", name := "trace", desc := "()I" } : Jvm.MethodName) ({ cls := "MustardFast", name := "trace", desc := "()I" } : Jvm.MethodName)) ∈ lw_all := lw_g (lw_at lw_m4 118 rfl) rfl
theorem q889 : (Jvm.Cond.code ({ cls := "MustardFast", name := "trace", desc := "()I" } : Jvm.MethodName) prog_1_method_66_code (1 : Nat) (Option.some Jvm.ClassFile.FieldType.int)) ∈ lw_all := lw_g (lw_at lw_m4 119 rfl) rfl
theorem q891 : (Jvm.Cond.instanceMethod ({ cls := "MustardFast", name := "fault", desc := "()I" } : Jvm.MethodName)) ∈ lw_all := lw_g (lw_at lw_m4 121 rfl) rfl
theorem q892 : (Jvm.Cond.selects "MustardFast" ({ cls := "MustardFast", name := "fault", desc := "()I" } : Jvm.MethodName) ({ cls := "MustardFast", name := "fault", desc := "()I" } : Jvm.MethodName)) ∈ lw_all := lw_g (lw_at lw_m4 122 rfl) rfl
theorem q893 : (Jvm.Cond.code ({ cls := "MustardFast", name := "fault", desc := "()I" } : Jvm.MethodName) prog_1_method_67_code (1 : Nat) (Option.some Jvm.ClassFile.FieldType.int)) ∈ lw_all := lw_g (lw_at lw_m4 123 rfl) rfl
theorem q895 : (Jvm.Cond.instanceMethod ({ cls := "MustardFast", name := "many", desc := "(I)I" } : Jvm.MethodName)) ∈ lw_all := lw_g (lw_at lw_m4 125 rfl) rfl
theorem q896 : (Jvm.Cond.selects "MustardFast" ({ cls := "MustardFast", name := "many", desc := "(I)I" } : Jvm.MethodName) ({ cls := "MustardFast", name := "many", desc := "(I)I" } : Jvm.MethodName)) ∈ lw_all := lw_g (lw_at lw_m4 126 rfl) rfl
theorem q897 : (Jvm.Cond.code ({ cls := "MustardFast", name := "many", desc := "(I)I" } : Jvm.MethodName) prog_1_method_68_code (2 : Nat) (Option.some Jvm.ClassFile.FieldType.int)) ∈ lw_all := lw_g (lw_at lw_m4 127 rfl) rfl
theorem q1244 : (Jvm.Cond.castable "MustardFast" "java/lang/Object") ∈ lw_tbl := lw_at lw_m5 234 rfl
theorem in_X0 : ∀ w ∈ wsX00, w ∈ lw_all := lw_in wsX00 [149, 151, 153, 155, 157, 159, 161, 163, 165, 167, 169, 171, 173, 175, 177, 179, 181, 183, 185, 187] (by decide +kernel) (by decide +kernel)
