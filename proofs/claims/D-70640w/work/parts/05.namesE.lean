/-! MustardFast$Place -/
set_option maxRecDepth 100000
def RX1 : String := "MustardFast$Place"
def TX1 : u_T := fun k => match k with
  | _ => ("MustardFast$Place", "has", "Ljava/lang/Object;", false)
def tyX1 : Nat → FieldType := fun k => match k with
  | _ => .object "java/lang/Object"
abbrev wsX10 : List Cond := u_ws RX1 TX1 1
theorem nmX1 : ∀ a, a < 1 → ∀ b, b < 1 → a ≠ b → (TX1 a).2.1 ≠ (TX1 b).2.1 := by decide +kernel
theorem tyX1_ok : ∀ k, k < 1 → parseFieldDescriptor (TX1 k).2.2.1 = some (tyX1 k) := by decide +kernel
abbrev cX1_init : ByteArray := prog_3_method_1_code
def yX1_init : MethodName := ⟨RX1, "<init>", "()V"⟩
theorem dX1_init_0 : decode cX1_init 0 = .ok (.aload_n 0, 1) := by decide +kernel
theorem dX1_init_1 : decode cX1_init 1 = .ok (.invokespecial 1, 3) := by decide +kernel
theorem dX1_init_4 : decode cX1_init 4 = .ok (.return_, 1) := by decide +kernel
theorem q55 : (Jvm.Cond.initialized "MustardFast$Place") ∈ lw_all := lw_g (lw_at lw_m1 5 rfl) rfl
theorem q115 : (Jvm.Cond.instantiable "MustardFast$Place" (1 : Nat)) ∈ lw_all := lw_g (lw_at lw_m1 65 rfl) rfl
theorem q117 : (Jvm.Cond.instanceMethod ({ cls := "MustardFast$Place", name := "<init>", desc := "()V" } : Jvm.MethodName)) ∈ lw_all := lw_g (lw_at lw_m1 67 rfl) rfl
theorem q118 : (Jvm.Cond.code ({ cls := "MustardFast$Place", name := "<init>", desc := "()V" } : Jvm.MethodName) prog_3_method_1_code (1 : Nat) (Option.none : Option Jvm.ClassFile.FieldType)) ∈ lw_all := lw_g (lw_at lw_m1 68 rfl) rfl
theorem q119 : (Jvm.Cond.methodLink "MustardFast$Place" (1 : Nat) ({ cls := "java/lang/Object", name := "<init>", desc := "()V" } : Jvm.MethodName)) ∈ lw_all := lw_g (lw_at lw_m1 69 rfl) rfl
theorem q121 : (Jvm.Cond.lays "MustardFast$Place" "MustardFast$Place" "has" "Ljava/lang/Object;") ∈ lw_all := lw_g (lw_at lw_m1 71 rfl) rfl
theorem q122 : (Jvm.Cond.soleField "MustardFast$Place" "has") ∈ lw_all := lw_g (lw_at lw_m1 72 rfl) rfl
theorem q123 : (Jvm.Cond.superclass "MustardFast$Place" "java/lang/Object") ∈ lw_all := lw_g (lw_at lw_m1 73 rfl) rfl
theorem q511 : (Jvm.Cond.selects "MustardFast$Place" ({ cls := "java/lang/Object", name := "getClass", desc := "()Ljava/lang/Class;" } : Jvm.MethodName) ({ cls := "java/lang/Object", name := "getClass", desc := "()Ljava/lang/Class;" } : Jvm.MethodName)) ∈ lw_all := lw_g (lw_at lw_m2 221 rfl) rfl
theorem q1243 : (Jvm.Cond.castable "MustardFast$Place" "java/lang/Object") ∈ lw_tbl := lw_at lw_m5 233 rfl
theorem in_X1 : ∀ w ∈ wsX10, w ∈ lw_all := lw_in wsX10 [121] (by decide +kernel) (by decide +kernel)

/-! MustardFast$Eater -/
set_option maxRecDepth 100000
def RX3 : String := "MustardFast$Eater"
def TX3 : u_T := fun k => match k with
  | 0 => ("MustardFast$Eater", "number", "I", true)
  | 1 => ("MustardFast$Eater", "spoons", "I", true)
  | 2 => ("MustardFast$Eater", "stay", "I", false)
  | 3 => ("MustardFast$Eater", "need", "I", false)
  | _ => ("MustardFast$Eater", "this$0", "LMustardFast;", true)
def tyX3 : Nat → FieldType := fun k => match k with
  | 0 => .int
  | 1 => .int
  | 2 => .int
  | 3 => .int
  | _ => .object "MustardFast"
abbrev wsX30 : List Cond := u_ws RX3 TX3 5
theorem nmX3 : ∀ a, a < 5 → ∀ b, b < 5 → a ≠ b → (TX3 a).2.1 ≠ (TX3 b).2.1 := by decide +kernel
theorem tyX3_ok : ∀ k, k < 5 → parseFieldDescriptor (TX3 k).2.2.1 = some (tyX3 k) := by decide +kernel
abbrev cX3_init : ByteArray := prog_2_method_1_code
def yX3_init : MethodName := ⟨RX3, "<init>", "(LMustardFast;I)V"⟩
def dkwX3_init_2 : List UInt8 := [28, 104, 6, 96, 46, 181, 0, 29, 177]
abbrev dktX3_init_2 : List UInt8 := dkwX3_init_2 ++ []
def dkwX3_init_1 : List UInt8 := [46, 181, 0, 23, 42, 43, 180, 0, 19, 7, 28, 104, 5, 96, 46, 181, 0, 26, 42, 43, 180, 0, 19, 7]
abbrev dktX3_init_1 : List UInt8 := dkwX3_init_1 ++ dktX3_init_2
def dkwX3_init_0 : List UInt8 := [42, 43, 181, 0, 3, 42, 183, 0, 9, 42, 28, 181, 0, 15, 42, 43, 180, 0, 19, 7, 28, 104, 4, 96]
abbrev dktX3_init_0 : List UInt8 := dkwX3_init_0 ++ dktX3_init_1
theorem dksX3_init_0 : cX3_init.data.toList.drop 0 = dktX3_init_0 := by decide +kernel
theorem dksX3_init_1 : cX3_init.data.toList.drop 24 = dktX3_init_1 := dk_seg dksX3_init_0 24 rfl rfl
theorem dksX3_init_2 : cX3_init.data.toList.drop 48 = dktX3_init_2 := dk_seg dksX3_init_1 24 rfl rfl
theorem dX3_init_0 : decode cX3_init 0 = .ok (.aload_n 0, 1) := dk_42 (dk_at dksX3_init_0 0 rfl rfl)
theorem dX3_init_1 : decode cX3_init 1 = .ok (.aload_n 1, 1) := dk_43 (dk_at dksX3_init_0 1 rfl rfl)
theorem dX3_init_2 : decode cX3_init 2 = .ok (.putfield 3, 3) := dk_181 0 3 (dk_at dksX3_init_0 2 rfl rfl)
theorem dX3_init_5 : decode cX3_init 5 = .ok (.aload_n 0, 1) := dk_42 (dk_at dksX3_init_0 5 rfl rfl)
theorem dX3_init_6 : decode cX3_init 6 = .ok (.invokespecial 9, 3) := dk_183 0 9 (dk_at dksX3_init_0 6 rfl rfl)
theorem dX3_init_9 : decode cX3_init 9 = .ok (.aload_n 0, 1) := dk_42 (dk_at dksX3_init_0 9 rfl rfl)
theorem dX3_init_10 : decode cX3_init 10 = .ok (.iload_n 2, 1) := dk_28 (dk_at dksX3_init_0 10 rfl rfl)
theorem dX3_init_11 : decode cX3_init 11 = .ok (.putfield 15, 3) := dk_181 0 15 (dk_at dksX3_init_0 11 rfl rfl)
theorem dX3_init_14 : decode cX3_init 14 = .ok (.aload_n 0, 1) := dk_42 (dk_at dksX3_init_0 14 rfl rfl)
theorem dX3_init_15 : decode cX3_init 15 = .ok (.aload_n 1, 1) := dk_43 (dk_at dksX3_init_0 15 rfl rfl)
theorem dX3_init_16 : decode cX3_init 16 = .ok (.getfield 19, 3) := dk_180 0 19 (dk_at dksX3_init_0 16 rfl rfl)
theorem dX3_init_19 : decode cX3_init 19 = .ok (.iconst 4, 1) := dk_7 (dk_at dksX3_init_0 19 rfl rfl)
theorem dX3_init_20 : decode cX3_init 20 = .ok (.iload_n 2, 1) := dk_28 (dk_at dksX3_init_0 20 rfl rfl)
theorem dX3_init_21 : decode cX3_init 21 = .ok (.imul, 1) := dk_104 (dk_at dksX3_init_0 21 rfl rfl)
theorem dX3_init_22 : decode cX3_init 22 = .ok (.iconst 1, 1) := dk_4 (dk_at dksX3_init_0 22 rfl rfl)
theorem dX3_init_23 : decode cX3_init 23 = .ok (.iadd, 1) := dk_96 (dk_at dksX3_init_0 23 rfl rfl)
theorem dX3_init_24 : decode cX3_init 24 = .ok (.iaload, 1) := dk_46 (dk_at dksX3_init_1 0 rfl rfl)
theorem dX3_init_25 : decode cX3_init 25 = .ok (.putfield 23, 3) := dk_181 0 23 (dk_at dksX3_init_1 1 rfl rfl)
theorem dX3_init_28 : decode cX3_init 28 = .ok (.aload_n 0, 1) := dk_42 (dk_at dksX3_init_1 4 rfl rfl)
theorem dX3_init_29 : decode cX3_init 29 = .ok (.aload_n 1, 1) := dk_43 (dk_at dksX3_init_1 5 rfl rfl)
theorem dX3_init_30 : decode cX3_init 30 = .ok (.getfield 19, 3) := dk_180 0 19 (dk_at dksX3_init_1 6 rfl rfl)
theorem dX3_init_33 : decode cX3_init 33 = .ok (.iconst 4, 1) := dk_7 (dk_at dksX3_init_1 9 rfl rfl)
theorem dX3_init_34 : decode cX3_init 34 = .ok (.iload_n 2, 1) := dk_28 (dk_at dksX3_init_1 10 rfl rfl)
theorem dX3_init_35 : decode cX3_init 35 = .ok (.imul, 1) := dk_104 (dk_at dksX3_init_1 11 rfl rfl)
theorem dX3_init_36 : decode cX3_init 36 = .ok (.iconst 2, 1) := dk_5 (dk_at dksX3_init_1 12 rfl rfl)
theorem dX3_init_37 : decode cX3_init 37 = .ok (.iadd, 1) := dk_96 (dk_at dksX3_init_1 13 rfl rfl)
theorem dX3_init_38 : decode cX3_init 38 = .ok (.iaload, 1) := dk_46 (dk_at dksX3_init_1 14 rfl rfl)
theorem dX3_init_39 : decode cX3_init 39 = .ok (.putfield 26, 3) := dk_181 0 26 (dk_at dksX3_init_1 15 rfl rfl)
theorem dX3_init_42 : decode cX3_init 42 = .ok (.aload_n 0, 1) := dk_42 (dk_at dksX3_init_1 18 rfl rfl)
theorem dX3_init_43 : decode cX3_init 43 = .ok (.aload_n 1, 1) := dk_43 (dk_at dksX3_init_1 19 rfl rfl)
theorem dX3_init_44 : decode cX3_init 44 = .ok (.getfield 19, 3) := dk_180 0 19 (dk_at dksX3_init_1 20 rfl rfl)
theorem dX3_init_47 : decode cX3_init 47 = .ok (.iconst 4, 1) := dk_7 (dk_at dksX3_init_1 23 rfl rfl)
theorem dX3_init_48 : decode cX3_init 48 = .ok (.iload_n 2, 1) := dk_28 (dk_at dksX3_init_2 0 rfl rfl)
theorem dX3_init_49 : decode cX3_init 49 = .ok (.imul, 1) := dk_104 (dk_at dksX3_init_2 1 rfl rfl)
theorem dX3_init_50 : decode cX3_init 50 = .ok (.iconst 3, 1) := dk_6 (dk_at dksX3_init_2 2 rfl rfl)
theorem dX3_init_51 : decode cX3_init 51 = .ok (.iadd, 1) := dk_96 (dk_at dksX3_init_2 3 rfl rfl)
theorem dX3_init_52 : decode cX3_init 52 = .ok (.iaload, 1) := dk_46 (dk_at dksX3_init_2 4 rfl rfl)
theorem dX3_init_53 : decode cX3_init 53 = .ok (.putfield 29, 3) := dk_181 0 29 (dk_at dksX3_init_2 5 rfl rfl)
theorem dX3_init_56 : decode cX3_init 56 = .ok (.return_, 1) := dk_177 (dk_at dksX3_init_2 8 rfl rfl)
abbrev cX3_kind : ByteArray := prog_2_method_2_code
def yX3_kind : MethodName := ⟨RX3, "kind", "()I"⟩
theorem dX3_kind_0 : decode cX3_kind 0 = .ok (.iconst 0, 1) := by decide +kernel
theorem dX3_kind_1 : decode cX3_kind 1 = .ok (.ireturn, 1) := by decide +kernel
abbrev cX3_lasts : ByteArray := prog_2_method_3_code
def yX3_lasts : MethodName := ⟨RX3, "lasts", "()I"⟩
theorem dX3_lasts_0 : decode cX3_lasts 0 = .ok (.aload_n 0, 1) := by decide +kernel
theorem dX3_lasts_1 : decode cX3_lasts 1 = .ok (.getfield 23, 3) := by decide +kernel
theorem dX3_lasts_4 : decode cX3_lasts 4 = .ok (.ireturn, 1) := by decide +kernel
abbrev cX3_yellow : ByteArray := prog_2_method_5_code
def yX3_yellow : MethodName := ⟨RX3, "yellow", "(I)I"⟩
def dkwX3_yellow_1 : List UInt8 := [128, 61, 132, 3, 1, 167, 255, 231, 28, 172]
abbrev dktX3_yellow_1 : List UInt8 := dkwX3_yellow_1 ++ []
def dkwX3_yellow_0 : List UInt8 := [27, 61, 3, 62, 29, 42, 182, 0, 46, 162, 0, 23, 28, 28, 4, 120, 42, 180, 0, 3, 182, 0, 49, 126]
abbrev dktX3_yellow_0 : List UInt8 := dkwX3_yellow_0 ++ dktX3_yellow_1
theorem dksX3_yellow_0 : cX3_yellow.data.toList.drop 0 = dktX3_yellow_0 := by decide +kernel
theorem dksX3_yellow_1 : cX3_yellow.data.toList.drop 24 = dktX3_yellow_1 := dk_seg dksX3_yellow_0 24 rfl rfl
theorem dX3_yellow_0 : decode cX3_yellow 0 = .ok (.iload_n 1, 1) := dk_27 (dk_at dksX3_yellow_0 0 rfl rfl)
theorem dX3_yellow_1 : decode cX3_yellow 1 = .ok (.istore_n 2, 1) := dk_61 (dk_at dksX3_yellow_0 1 rfl rfl)
theorem dX3_yellow_2 : decode cX3_yellow 2 = .ok (.iconst 0, 1) := dk_3 (dk_at dksX3_yellow_0 2 rfl rfl)
theorem dX3_yellow_3 : decode cX3_yellow 3 = .ok (.istore_n 3, 1) := dk_62 (dk_at dksX3_yellow_0 3 rfl rfl)
theorem dX3_yellow_4 : decode cX3_yellow 4 = .ok (.iload_n 3, 1) := dk_29 (dk_at dksX3_yellow_0 4 rfl rfl)
theorem dX3_yellow_5 : decode cX3_yellow 5 = .ok (.aload_n 0, 1) := dk_42 (dk_at dksX3_yellow_0 5 rfl rfl)
theorem dX3_yellow_6 : decode cX3_yellow 6 = .ok (.invokevirtual 46, 3) := dk_182 0 46 (dk_at dksX3_yellow_0 6 rfl rfl)
theorem dX3_yellow_9 : decode cX3_yellow 9 = .ok (.if_icmp .ge 23, 3) := dk_162 0 23 (dk_at dksX3_yellow_0 9 rfl rfl)
theorem dX3_yellow_12 : decode cX3_yellow 12 = .ok (.iload_n 2, 1) := dk_28 (dk_at dksX3_yellow_0 12 rfl rfl)
theorem dX3_yellow_13 : decode cX3_yellow 13 = .ok (.iload_n 2, 1) := dk_28 (dk_at dksX3_yellow_0 13 rfl rfl)
theorem dX3_yellow_14 : decode cX3_yellow 14 = .ok (.iconst 1, 1) := dk_4 (dk_at dksX3_yellow_0 14 rfl rfl)
theorem dX3_yellow_15 : decode cX3_yellow 15 = .ok (.ishl, 1) := dk_120 (dk_at dksX3_yellow_0 15 rfl rfl)
theorem dX3_yellow_16 : decode cX3_yellow 16 = .ok (.aload_n 0, 1) := dk_42 (dk_at dksX3_yellow_0 16 rfl rfl)
theorem dX3_yellow_17 : decode cX3_yellow 17 = .ok (.getfield 3, 3) := dk_180 0 3 (dk_at dksX3_yellow_0 17 rfl rfl)
theorem dX3_yellow_20 : decode cX3_yellow 20 = .ok (.invokevirtual 49, 3) := dk_182 0 49 (dk_at dksX3_yellow_0 20 rfl rfl)
theorem dX3_yellow_23 : decode cX3_yellow 23 = .ok (.iand, 1) := dk_126 (dk_at dksX3_yellow_0 23 rfl rfl)
theorem dX3_yellow_24 : decode cX3_yellow 24 = .ok (.ior, 1) := dk_128 (dk_at dksX3_yellow_1 0 rfl rfl)
theorem dX3_yellow_25 : decode cX3_yellow 25 = .ok (.istore_n 2, 1) := dk_61 (dk_at dksX3_yellow_1 1 rfl rfl)
theorem dX3_yellow_26 : decode cX3_yellow 26 = .ok (.iinc 3 1, 3) := dk_132 3 1 (dk_at dksX3_yellow_1 2 rfl rfl)
theorem dX3_yellow_29 : decode cX3_yellow 29 = .ok (.goto (-25), 3) := dk_167 255 231 (dk_at dksX3_yellow_1 5 rfl rfl)
theorem dX3_yellow_32 : decode cX3_yellow 32 = .ok (.iload_n 2, 1) := dk_28 (dk_at dksX3_yellow_1 8 rfl rfl)
theorem dX3_yellow_33 : decode cX3_yellow 33 = .ok (.ireturn, 1) := dk_172 (dk_at dksX3_yellow_1 9 rfl rfl)
abbrev cX3_lastsNow : ByteArray := prog_2_method_4_code
def yX3_lastsNow : MethodName := ⟨RX3, "lastsNow", "()I"⟩
def dkwX3_lastsNow_1 : List UInt8 := [180, 0, 35, 184, 0, 38, 167, 0, 7, 42, 182, 0, 42, 172]
abbrev dktX3_lastsNow_1 : List UInt8 := dkwX3_lastsNow_1 ++ []
def dkwX3_lastsNow_0 : List UInt8 := [42, 180, 0, 15, 42, 180, 0, 3, 180, 0, 32, 160, 0, 20, 42, 180, 0, 23, 42, 180, 0, 3]
abbrev dktX3_lastsNow_0 : List UInt8 := dkwX3_lastsNow_0 ++ dktX3_lastsNow_1
theorem dksX3_lastsNow_0 : cX3_lastsNow.data.toList.drop 0 = dktX3_lastsNow_0 := by decide +kernel
theorem dksX3_lastsNow_1 : cX3_lastsNow.data.toList.drop 22 = dktX3_lastsNow_1 := dk_seg dksX3_lastsNow_0 22 rfl rfl
theorem dX3_lastsNow_0 : decode cX3_lastsNow 0 = .ok (.aload_n 0, 1) := dk_42 (dk_at dksX3_lastsNow_0 0 rfl rfl)
theorem dX3_lastsNow_1 : decode cX3_lastsNow 1 = .ok (.getfield 15, 3) := dk_180 0 15 (dk_at dksX3_lastsNow_0 1 rfl rfl)
theorem dX3_lastsNow_4 : decode cX3_lastsNow 4 = .ok (.aload_n 0, 1) := dk_42 (dk_at dksX3_lastsNow_0 4 rfl rfl)
theorem dX3_lastsNow_5 : decode cX3_lastsNow 5 = .ok (.getfield 3, 3) := dk_180 0 3 (dk_at dksX3_lastsNow_0 5 rfl rfl)
theorem dX3_lastsNow_8 : decode cX3_lastsNow 8 = .ok (.getfield 32, 3) := dk_180 0 32 (dk_at dksX3_lastsNow_0 8 rfl rfl)
theorem dX3_lastsNow_11 : decode cX3_lastsNow 11 = .ok (.if_icmp .ne 20, 3) := dk_160 0 20 (dk_at dksX3_lastsNow_0 11 rfl rfl)
theorem dX3_lastsNow_14 : decode cX3_lastsNow 14 = .ok (.aload_n 0, 1) := dk_42 (dk_at dksX3_lastsNow_0 14 rfl rfl)
theorem dX3_lastsNow_15 : decode cX3_lastsNow 15 = .ok (.getfield 23, 3) := dk_180 0 23 (dk_at dksX3_lastsNow_0 15 rfl rfl)
theorem dX3_lastsNow_18 : decode cX3_lastsNow 18 = .ok (.aload_n 0, 1) := dk_42 (dk_at dksX3_lastsNow_0 18 rfl rfl)
theorem dX3_lastsNow_19 : decode cX3_lastsNow 19 = .ok (.getfield 3, 3) := dk_180 0 3 (dk_at dksX3_lastsNow_0 19 rfl rfl)
theorem dX3_lastsNow_22 : decode cX3_lastsNow 22 = .ok (.getfield 35, 3) := dk_180 0 35 (dk_at dksX3_lastsNow_1 0 rfl rfl)
theorem dX3_lastsNow_25 : decode cX3_lastsNow 25 = .ok (.invokestatic 38, 3) := dk_184 0 38 (dk_at dksX3_lastsNow_1 3 rfl rfl)
theorem dX3_lastsNow_28 : decode cX3_lastsNow 28 = .ok (.goto 7, 3) := dk_167 0 7 (dk_at dksX3_lastsNow_1 6 rfl rfl)
theorem dX3_lastsNow_31 : decode cX3_lastsNow 31 = .ok (.aload_n 0, 1) := dk_42 (dk_at dksX3_lastsNow_1 9 rfl rfl)
theorem dX3_lastsNow_32 : decode cX3_lastsNow 32 = .ok (.invokevirtual 42, 3) := dk_182 0 42 (dk_at dksX3_lastsNow_1 10 rfl rfl)
theorem dX3_lastsNow_35 : decode cX3_lastsNow 35 = .ok (.ireturn, 1) := dk_172 (dk_at dksX3_lastsNow_1 13 rfl rfl)
abbrev cX3_found : ByteArray := prog_2_method_6_code
def yX3_found : MethodName := ⟨RX3, "found", "(II)I"⟩
def dkwX3_found_0 : List UInt8 := [42, 27, 182, 0, 52, 28, 126, 172]
abbrev dktX3_found_0 : List UInt8 := dkwX3_found_0 ++ []
theorem dksX3_found_0 : cX3_found.data.toList.drop 0 = dktX3_found_0 := by decide +kernel
theorem dX3_found_0 : decode cX3_found 0 = .ok (.aload_n 0, 1) := dk_42 (dk_at dksX3_found_0 0 rfl rfl)
theorem dX3_found_1 : decode cX3_found 1 = .ok (.iload_n 1, 1) := dk_27 (dk_at dksX3_found_0 1 rfl rfl)
theorem dX3_found_2 : decode cX3_found 2 = .ok (.invokevirtual 52, 3) := dk_182 0 52 (dk_at dksX3_found_0 2 rfl rfl)
theorem dX3_found_5 : decode cX3_found 5 = .ok (.iload_n 2, 1) := dk_28 (dk_at dksX3_found_0 5 rfl rfl)
theorem dX3_found_6 : decode cX3_found 6 = .ok (.iand, 1) := dk_126 (dk_at dksX3_found_0 6 rfl rfl)
theorem dX3_found_7 : decode cX3_found 7 = .ok (.ireturn, 1) := dk_172 (dk_at dksX3_found_0 7 rfl rfl)
abbrev cX3_fine : ByteArray := prog_2_method_7_code
def yX3_fine : MethodName := ⟨RX3, "fine", "(II)I"⟩
def dkwX3_fine_0 : List UInt8 := [42, 180, 0, 26, 42, 27, 28, 182, 0, 56, 184, 0, 59, 104, 172]
abbrev dktX3_fine_0 : List UInt8 := dkwX3_fine_0 ++ []
theorem dksX3_fine_0 : cX3_fine.data.toList.drop 0 = dktX3_fine_0 := by decide +kernel
theorem dX3_fine_0 : decode cX3_fine 0 = .ok (.aload_n 0, 1) := dk_42 (dk_at dksX3_fine_0 0 rfl rfl)
theorem dX3_fine_1 : decode cX3_fine 1 = .ok (.getfield 26, 3) := dk_180 0 26 (dk_at dksX3_fine_0 1 rfl rfl)
theorem dX3_fine_4 : decode cX3_fine 4 = .ok (.aload_n 0, 1) := dk_42 (dk_at dksX3_fine_0 4 rfl rfl)
theorem dX3_fine_5 : decode cX3_fine 5 = .ok (.iload_n 1, 1) := dk_27 (dk_at dksX3_fine_0 5 rfl rfl)
theorem dX3_fine_6 : decode cX3_fine 6 = .ok (.iload_n 2, 1) := dk_28 (dk_at dksX3_fine_0 6 rfl rfl)
theorem dX3_fine_7 : decode cX3_fine 7 = .ok (.invokevirtual 56, 3) := dk_182 0 56 (dk_at dksX3_fine_0 7 rfl rfl)
theorem dX3_fine_10 : decode cX3_fine 10 = .ok (.invokestatic 59, 3) := dk_184 0 59 (dk_at dksX3_fine_0 10 rfl rfl)
theorem dX3_fine_13 : decode cX3_fine 13 = .ok (.imul, 1) := dk_104 (dk_at dksX3_fine_0 13 rfl rfl)
theorem dX3_fine_14 : decode cX3_fine 14 = .ok (.ireturn, 1) := dk_172 (dk_at dksX3_fine_0 14 rfl rfl)
abbrev cX3_best : ByteArray := prog_2_method_8_code
def yX3_best : MethodName := ⟨RX3, "best", "(I)I"⟩
def dkwX3_best_3 : List UInt8 := [184, 0, 59, 162, 0, 5, 29, 61, 132, 3, 1, 167, 255, 179, 28, 172]
abbrev dktX3_best_3 : List UInt8 := dkwX3_best_3 ++ []
def dkwX3_best_2 : List UInt8 := [161, 0, 29, 42, 29, 27, 182, 0, 62, 42, 28, 27, 182, 0, 62, 160, 0, 16, 29, 184, 0, 59, 28]
abbrev dktX3_best_2 : List UInt8 := dkwX3_best_2 ++ dktX3_best_3
def dkwX3_best_1 : List UInt8 := [162, 0, 6, 167, 0, 52, 28, 16, 247, 159, 0, 44, 42, 29, 27, 182, 0, 62, 42, 28, 27, 182, 0, 62]
abbrev dktX3_best_1 : List UInt8 := dkwX3_best_1 ++ dktX3_best_2
def dkwX3_best_0 : List UInt8 := [16, 247, 61, 3, 62, 29, 42, 180, 0, 3, 182, 0, 49, 163, 0, 72, 29, 184, 0, 59, 42, 180, 0, 29]
abbrev dktX3_best_0 : List UInt8 := dkwX3_best_0 ++ dktX3_best_1
theorem dksX3_best_0 : cX3_best.data.toList.drop 0 = dktX3_best_0 := by decide +kernel
theorem dksX3_best_1 : cX3_best.data.toList.drop 24 = dktX3_best_1 := dk_seg dksX3_best_0 24 rfl rfl
theorem dksX3_best_2 : cX3_best.data.toList.drop 48 = dktX3_best_2 := dk_seg dksX3_best_1 24 rfl rfl
theorem dksX3_best_3 : cX3_best.data.toList.drop 71 = dktX3_best_3 := dk_seg dksX3_best_2 23 rfl rfl
theorem dX3_best_0 : decode cX3_best 0 = .ok (.bipush (-9), 2) := dk_16 247 (dk_at dksX3_best_0 0 rfl rfl)
theorem dX3_best_2 : decode cX3_best 2 = .ok (.istore_n 2, 1) := dk_61 (dk_at dksX3_best_0 2 rfl rfl)
theorem dX3_best_3 : decode cX3_best 3 = .ok (.iconst 0, 1) := dk_3 (dk_at dksX3_best_0 3 rfl rfl)
theorem dX3_best_4 : decode cX3_best 4 = .ok (.istore_n 3, 1) := dk_62 (dk_at dksX3_best_0 4 rfl rfl)
theorem dX3_best_5 : decode cX3_best 5 = .ok (.iload_n 3, 1) := dk_29 (dk_at dksX3_best_0 5 rfl rfl)
theorem dX3_best_6 : decode cX3_best 6 = .ok (.aload_n 0, 1) := dk_42 (dk_at dksX3_best_0 6 rfl rfl)
theorem dX3_best_7 : decode cX3_best 7 = .ok (.getfield 3, 3) := dk_180 0 3 (dk_at dksX3_best_0 7 rfl rfl)
theorem dX3_best_10 : decode cX3_best 10 = .ok (.invokevirtual 49, 3) := dk_182 0 49 (dk_at dksX3_best_0 10 rfl rfl)
theorem dX3_best_13 : decode cX3_best 13 = .ok (.if_icmp .gt 72, 3) := dk_163 0 72 (dk_at dksX3_best_0 13 rfl rfl)
theorem dX3_best_16 : decode cX3_best 16 = .ok (.iload_n 3, 1) := dk_29 (dk_at dksX3_best_0 16 rfl rfl)
theorem dX3_best_17 : decode cX3_best 17 = .ok (.invokestatic 59, 3) := dk_184 0 59 (dk_at dksX3_best_0 17 rfl rfl)
theorem dX3_best_20 : decode cX3_best 20 = .ok (.aload_n 0, 1) := dk_42 (dk_at dksX3_best_0 20 rfl rfl)
theorem dX3_best_21 : decode cX3_best 21 = .ok (.getfield 29, 3) := dk_180 0 29 (dk_at dksX3_best_0 21 rfl rfl)
theorem dX3_best_24 : decode cX3_best 24 = .ok (.if_icmp .ge 6, 3) := dk_162 0 6 (dk_at dksX3_best_1 0 rfl rfl)
theorem dX3_best_27 : decode cX3_best 27 = .ok (.goto 52, 3) := dk_167 0 52 (dk_at dksX3_best_1 3 rfl rfl)
theorem dX3_best_30 : decode cX3_best 30 = .ok (.iload_n 2, 1) := dk_28 (dk_at dksX3_best_1 6 rfl rfl)
theorem dX3_best_31 : decode cX3_best 31 = .ok (.bipush (-9), 2) := dk_16 247 (dk_at dksX3_best_1 7 rfl rfl)
theorem dX3_best_33 : decode cX3_best 33 = .ok (.if_icmp .eq 44, 3) := dk_159 0 44 (dk_at dksX3_best_1 9 rfl rfl)
theorem dX3_best_36 : decode cX3_best 36 = .ok (.aload_n 0, 1) := dk_42 (dk_at dksX3_best_1 12 rfl rfl)
theorem dX3_best_37 : decode cX3_best 37 = .ok (.iload_n 3, 1) := dk_29 (dk_at dksX3_best_1 13 rfl rfl)
theorem dX3_best_38 : decode cX3_best 38 = .ok (.iload_n 1, 1) := dk_27 (dk_at dksX3_best_1 14 rfl rfl)
theorem dX3_best_39 : decode cX3_best 39 = .ok (.invokevirtual 62, 3) := dk_182 0 62 (dk_at dksX3_best_1 15 rfl rfl)
theorem dX3_best_42 : decode cX3_best 42 = .ok (.aload_n 0, 1) := dk_42 (dk_at dksX3_best_1 18 rfl rfl)
theorem dX3_best_43 : decode cX3_best 43 = .ok (.iload_n 2, 1) := dk_28 (dk_at dksX3_best_1 19 rfl rfl)
theorem dX3_best_44 : decode cX3_best 44 = .ok (.iload_n 1, 1) := dk_27 (dk_at dksX3_best_1 20 rfl rfl)
theorem dX3_best_45 : decode cX3_best 45 = .ok (.invokevirtual 62, 3) := dk_182 0 62 (dk_at dksX3_best_1 21 rfl rfl)
theorem dX3_best_48 : decode cX3_best 48 = .ok (.if_icmp .lt 29, 3) := dk_161 0 29 (dk_at dksX3_best_2 0 rfl rfl)
theorem dX3_best_51 : decode cX3_best 51 = .ok (.aload_n 0, 1) := dk_42 (dk_at dksX3_best_2 3 rfl rfl)
theorem dX3_best_52 : decode cX3_best 52 = .ok (.iload_n 3, 1) := dk_29 (dk_at dksX3_best_2 4 rfl rfl)
theorem dX3_best_53 : decode cX3_best 53 = .ok (.iload_n 1, 1) := dk_27 (dk_at dksX3_best_2 5 rfl rfl)
theorem dX3_best_54 : decode cX3_best 54 = .ok (.invokevirtual 62, 3) := dk_182 0 62 (dk_at dksX3_best_2 6 rfl rfl)
theorem dX3_best_57 : decode cX3_best 57 = .ok (.aload_n 0, 1) := dk_42 (dk_at dksX3_best_2 9 rfl rfl)
theorem dX3_best_58 : decode cX3_best 58 = .ok (.iload_n 2, 1) := dk_28 (dk_at dksX3_best_2 10 rfl rfl)
theorem dX3_best_59 : decode cX3_best 59 = .ok (.iload_n 1, 1) := dk_27 (dk_at dksX3_best_2 11 rfl rfl)
theorem dX3_best_60 : decode cX3_best 60 = .ok (.invokevirtual 62, 3) := dk_182 0 62 (dk_at dksX3_best_2 12 rfl rfl)
theorem dX3_best_63 : decode cX3_best 63 = .ok (.if_icmp .ne 16, 3) := dk_160 0 16 (dk_at dksX3_best_2 15 rfl rfl)
theorem dX3_best_66 : decode cX3_best 66 = .ok (.iload_n 3, 1) := dk_29 (dk_at dksX3_best_2 18 rfl rfl)
theorem dX3_best_67 : decode cX3_best 67 = .ok (.invokestatic 59, 3) := dk_184 0 59 (dk_at dksX3_best_2 19 rfl rfl)
theorem dX3_best_70 : decode cX3_best 70 = .ok (.iload_n 2, 1) := dk_28 (dk_at dksX3_best_2 22 rfl rfl)
theorem dX3_best_71 : decode cX3_best 71 = .ok (.invokestatic 59, 3) := dk_184 0 59 (dk_at dksX3_best_3 0 rfl rfl)
theorem dX3_best_74 : decode cX3_best 74 = .ok (.if_icmp .ge 5, 3) := dk_162 0 5 (dk_at dksX3_best_3 3 rfl rfl)
theorem dX3_best_77 : decode cX3_best 77 = .ok (.iload_n 3, 1) := dk_29 (dk_at dksX3_best_3 6 rfl rfl)
theorem dX3_best_78 : decode cX3_best 78 = .ok (.istore_n 2, 1) := dk_61 (dk_at dksX3_best_3 7 rfl rfl)
theorem dX3_best_79 : decode cX3_best 79 = .ok (.iinc 3 1, 3) := dk_132 3 1 (dk_at dksX3_best_3 8 rfl rfl)
theorem dX3_best_82 : decode cX3_best 82 = .ok (.goto (-77), 3) := dk_167 255 179 (dk_at dksX3_best_3 11 rfl rfl)
theorem dX3_best_85 : decode cX3_best 85 = .ok (.iload_n 2, 1) := dk_28 (dk_at dksX3_best_3 14 rfl rfl)
theorem dX3_best_86 : decode cX3_best 86 = .ok (.ireturn, 1) := dk_172 (dk_at dksX3_best_3 15 rfl rfl)
abbrev cX3_plain : ByteArray := prog_2_method_10_code
def yX3_plain : MethodName := ⟨RX3, "plain", "()I"⟩
def dkwX3_plain_0 : List UInt8 := [42, 180, 0, 3, 4, 182, 0, 65, 42, 180, 0, 26, 172]
abbrev dktX3_plain_0 : List UInt8 := dkwX3_plain_0 ++ []
theorem dksX3_plain_0 : cX3_plain.data.toList.drop 0 = dktX3_plain_0 := by decide +kernel
theorem dX3_plain_0 : decode cX3_plain 0 = .ok (.aload_n 0, 1) := dk_42 (dk_at dksX3_plain_0 0 rfl rfl)
theorem dX3_plain_1 : decode cX3_plain 1 = .ok (.getfield 3, 3) := dk_180 0 3 (dk_at dksX3_plain_0 1 rfl rfl)
theorem dX3_plain_4 : decode cX3_plain 4 = .ok (.iconst 1, 1) := dk_4 (dk_at dksX3_plain_0 4 rfl rfl)
theorem dX3_plain_5 : decode cX3_plain 5 = .ok (.invokevirtual 65, 3) := dk_182 0 65 (dk_at dksX3_plain_0 5 rfl rfl)
theorem dX3_plain_8 : decode cX3_plain 8 = .ok (.aload_n 0, 1) := dk_42 (dk_at dksX3_plain_0 8 rfl rfl)
theorem dX3_plain_9 : decode cX3_plain 9 = .ok (.getfield 26, 3) := dk_180 0 26 (dk_at dksX3_plain_0 9 rfl rfl)
theorem dX3_plain_12 : decode cX3_plain 12 = .ok (.ireturn, 1) := dk_172 (dk_at dksX3_plain_0 12 rfl rfl)
abbrev cX3_tell : ByteArray := prog_2_method_11_code
def yX3_tell : MethodName := ⟨RX3, "tell", "()I"⟩
theorem dX3_tell_0 : decode cX3_tell 0 = .ok (.aload_n 0, 1) := by decide +kernel
theorem dX3_tell_1 : decode cX3_tell 1 = .ok (.invokevirtual 69, 3) := by decide +kernel
theorem dX3_tell_4 : decode cX3_tell 4 = .ok (.ireturn, 1) := by decide +kernel
abbrev cX3_usual : ByteArray := prog_2_method_9_code
def yX3_usual : MethodName := ⟨RX3, "usual", "()I"⟩
def dkwX3_usual_0 : List UInt8 := [42, 180, 0, 3, 7, 182, 0, 65, 42, 180, 0, 15, 172]
abbrev dktX3_usual_0 : List UInt8 := dkwX3_usual_0 ++ []
theorem dksX3_usual_0 : cX3_usual.data.toList.drop 0 = dktX3_usual_0 := by decide +kernel
theorem dX3_usual_0 : decode cX3_usual 0 = .ok (.aload_n 0, 1) := dk_42 (dk_at dksX3_usual_0 0 rfl rfl)
theorem dX3_usual_1 : decode cX3_usual 1 = .ok (.getfield 3, 3) := dk_180 0 3 (dk_at dksX3_usual_0 1 rfl rfl)
theorem dX3_usual_4 : decode cX3_usual 4 = .ok (.iconst 4, 1) := dk_7 (dk_at dksX3_usual_0 4 rfl rfl)
theorem dX3_usual_5 : decode cX3_usual 5 = .ok (.invokevirtual 65, 3) := dk_182 0 65 (dk_at dksX3_usual_0 5 rfl rfl)
theorem dX3_usual_8 : decode cX3_usual 8 = .ok (.aload_n 0, 1) := dk_42 (dk_at dksX3_usual_0 8 rfl rfl)
theorem dX3_usual_9 : decode cX3_usual 9 = .ok (.getfield 15, 3) := dk_180 0 15 (dk_at dksX3_usual_0 9 rfl rfl)
theorem dX3_usual_12 : decode cX3_usual 12 = .ok (.ireturn, 1) := dk_172 (dk_at dksX3_usual_0 12 rfl rfl)
theorem q68 : (Jvm.Cond.initialized "MustardFast$Eater") ∈ lw_all := lw_g (lw_at lw_m1 18 rfl) rfl
theorem q133 : (Jvm.Cond.fieldLinkNest "MustardFast$Eater" (32 : Nat) "MustardFast" "changed" "I" "MustardFast") ∈ lw_tbl := lw_at lw_m1 83 rfl
theorem q134 : (Jvm.Cond.fieldLinkNest "MustardFast$Eater" (35 : Nat) "MustardFast" "changedKind" "I" "MustardFast") ∈ lw_tbl := lw_at lw_m1 84 rfl
theorem q141 : (Jvm.Cond.fieldLinkNest "MustardFast$Eater" (19 : Nat) "MustardFast" "read" "[I" "MustardFast") ∈ lw_tbl := lw_at lw_m1 91 rfl
theorem q417 : (Jvm.Cond.instantiable "MustardFast$Eater" (5 : Nat)) ∈ lw_all := lw_g (lw_at lw_m2 127 rfl) rfl
theorem q419 : (Jvm.Cond.instanceMethod ({ cls := "MustardFast$Eater", name := "<init>", desc := "(LMustardFast;I)V" } : Jvm.MethodName)) ∈ lw_all := lw_g (lw_at lw_m2 129 rfl) rfl
theorem q420 : (Jvm.Cond.code ({ cls := "MustardFast$Eater", name := "<init>", desc := "(LMustardFast;I)V" } : Jvm.MethodName) prog_2_method_1_code (3 : Nat) (Option.none : Option Jvm.ClassFile.FieldType)) ∈ lw_all := lw_g (lw_at lw_m2 130 rfl) rfl
theorem q421 : (Jvm.Cond.methodLink "MustardFast$Eater" (9 : Nat) ({ cls := "java/lang/Object", name := "<init>", desc := "()V" } : Jvm.MethodName)) ∈ lw_all := lw_g (lw_at lw_m2 131 rfl) rfl
theorem q422 : (Jvm.Cond.fieldLink "MustardFast$Eater" (15 : Nat) "MustardFast$Eater" "number" "I") ∈ lw_all := lw_g (lw_at lw_m2 132 rfl) rfl
theorem q423 : (Jvm.Cond.fieldLink "MustardFast$Eater" (26 : Nat) "MustardFast$Eater" "spoons" "I") ∈ lw_all := lw_g (lw_at lw_m2 133 rfl) rfl
theorem q425 : (Jvm.Cond.fieldLink "MustardFast$Eater" (23 : Nat) "MustardFast$Eater" "stay" "I") ∈ lw_all := lw_g (lw_at lw_m2 135 rfl) rfl
theorem q427 : (Jvm.Cond.fieldLink "MustardFast$Eater" (29 : Nat) "MustardFast$Eater" "need" "I") ∈ lw_all := lw_g (lw_at lw_m2 137 rfl) rfl
theorem q429 : (Jvm.Cond.fieldLink "MustardFast$Eater" (3 : Nat) "MustardFast$Eater" "this$0" "LMustardFast;") ∈ lw_all := lw_g (lw_at lw_m2 139 rfl) rfl
theorem q430 : (Jvm.Cond.laysFinal "MustardFast$Eater" "MustardFast$Eater" "number" "I") ∈ lw_all := lw_g (lw_at lw_m2 140 rfl) rfl
theorem q431 : (Jvm.Cond.soleField "MustardFast$Eater" "number") ∈ lw_all := lw_g (lw_at lw_m2 141 rfl) rfl
theorem q432 : (Jvm.Cond.laysFinal "MustardFast$Eater" "MustardFast$Eater" "spoons" "I") ∈ lw_all := lw_g (lw_at lw_m2 142 rfl) rfl
theorem q433 : (Jvm.Cond.soleField "MustardFast$Eater" "spoons") ∈ lw_all := lw_g (lw_at lw_m2 143 rfl) rfl
theorem q434 : (Jvm.Cond.lays "MustardFast$Eater" "MustardFast$Eater" "stay" "I") ∈ lw_all := lw_g (lw_at lw_m2 144 rfl) rfl
theorem q435 : (Jvm.Cond.soleField "MustardFast$Eater" "stay") ∈ lw_all := lw_g (lw_at lw_m2 145 rfl) rfl
theorem q436 : (Jvm.Cond.lays "MustardFast$Eater" "MustardFast$Eater" "need" "I") ∈ lw_all := lw_g (lw_at lw_m2 146 rfl) rfl
theorem q437 : (Jvm.Cond.soleField "MustardFast$Eater" "need") ∈ lw_all := lw_g (lw_at lw_m2 147 rfl) rfl
theorem q438 : (Jvm.Cond.laysFinal "MustardFast$Eater" "MustardFast$Eater" "this$0" "LMustardFast;") ∈ lw_all := lw_g (lw_at lw_m2 148 rfl) rfl
theorem q439 : (Jvm.Cond.soleField "MustardFast$Eater" "this$0") ∈ lw_all := lw_g (lw_at lw_m2 149 rfl) rfl
theorem q440 : (Jvm.Cond.superclass "MustardFast$Eater" "java/lang/Object") ∈ lw_all := lw_g (lw_at lw_m2 150 rfl) rfl
theorem q510 : (Jvm.Cond.selects "MustardFast$Eater" ({ cls := "java/lang/Object", name := "getClass", desc := "()Ljava/lang/Class;" } : Jvm.MethodName) ({ cls := "java/lang/Object", name := "getClass", desc := "()Ljava/lang/Class;" } : Jvm.MethodName)) ∈ lw_all := lw_g (lw_at lw_m2 220 rfl) rfl
theorem q573 : (Jvm.Cond.instanceMethod ({ cls := "MustardFast$Eater", name := "kind", desc := "()I" } : Jvm.MethodName)) ∈ lw_all := lw_g (lw_at lw_m3 43 rfl) rfl
theorem q574 : (Jvm.Cond.selects "MustardFast$Eater" ({ cls := "MustardFast$Eater", name := "kind", desc := "()I" } : Jvm.MethodName) ({ cls := "MustardFast$Eater", name := "kind", desc := "()I" } : Jvm.MethodName)) ∈ lw_all := lw_g (lw_at lw_m3 44 rfl) rfl
theorem q575 : (Jvm.Cond.sameMethod "MustardFast$Eater" "MustardFast$Eater" "kind" "()I") ∈ lw_all := lw_g (lw_at lw_m3 45 rfl) rfl
theorem q582 : (Jvm.Cond.code ({ cls := "MustardFast$Eater", name := "kind", desc := "()I" } : Jvm.MethodName) prog_2_method_2_code (1 : Nat) (Option.some Jvm.ClassFile.FieldType.int)) ∈ lw_all := lw_g (lw_at lw_m3 52 rfl) rfl
theorem q584 : (Jvm.Cond.instanceMethod ({ cls := "MustardFast$Eater", name := "lasts", desc := "()I" } : Jvm.MethodName)) ∈ lw_all := lw_g (lw_at lw_m3 54 rfl) rfl
theorem q585 : (Jvm.Cond.selects "MustardFast$Eater" ({ cls := "MustardFast$Eater", name := "lasts", desc := "()I" } : Jvm.MethodName) ({ cls := "MustardFast$Eater", name := "lasts", desc := "()I" } : Jvm.MethodName)) ∈ lw_all := lw_g (lw_at lw_m3 55 rfl) rfl
theorem q586 : (Jvm.Cond.sameMethod "MustardFast$Eater" "MustardFast$Eater" "lasts" "()I") ∈ lw_all := lw_g (lw_at lw_m3 56 rfl) rfl
theorem q596 : (Jvm.Cond.code ({ cls := "MustardFast$Eater", name := "lasts", desc := "()I" } : Jvm.MethodName) prog_2_method_3_code (1 : Nat) (Option.some Jvm.ClassFile.FieldType.int)) ∈ lw_all := lw_g (lw_at lw_m3 66 rfl) rfl
theorem q651 : (Jvm.Cond.instanceMethod ({ cls := "MustardFast$Eater", name := "yellow", desc := "(I)I" } : Jvm.MethodName)) ∈ lw_all := lw_g (lw_at lw_m3 121 rfl) rfl
theorem q652 : (Jvm.Cond.selects "MustardFast$Eater" ({ cls := "MustardFast$Eater", name := "yellow", desc := "(I)I" } : Jvm.MethodName) ({ cls := "MustardFast$Eater", name := "yellow", desc := "(I)I" } : Jvm.MethodName)) ∈ lw_all := lw_g (lw_at lw_m3 122 rfl) rfl
theorem q653 : (Jvm.Cond.sameMethod "MustardFast$Eater" "MustardFast$Eater" "yellow" "(I)I") ∈ lw_all := lw_g (lw_at lw_m3 123 rfl) rfl
theorem q656 : (Jvm.Cond.code ({ cls := "MustardFast$Eater", name := "yellow", desc := "(I)I" } : Jvm.MethodName) prog_2_method_5_code (4 : Nat) (Option.some Jvm.ClassFile.FieldType.int)) ∈ lw_all := lw_g (lw_at lw_m3 126 rfl) rfl
theorem q657 : (Jvm.Cond.methodLink "MustardFast$Eater" (46 : Nat) ({ cls := "MustardFast$Eater", name := "lastsNow", desc := "()I" } : Jvm.MethodName)) ∈ lw_all := lw_g (lw_at lw_m3 127 rfl) rfl
theorem q658 : (Jvm.Cond.instanceMethod ({ cls := "MustardFast$Eater", name := "lastsNow", desc := "()I" } : Jvm.MethodName)) ∈ lw_all := lw_g (lw_at lw_m3 128 rfl) rfl
theorem q659 : (Jvm.Cond.selects "MustardFast$Eater" ({ cls := "MustardFast$Eater", name := "lastsNow", desc := "()I" } : Jvm.MethodName) ({ cls := "MustardFast$Eater", name := "lastsNow", desc := "()I" } : Jvm.MethodName)) ∈ lw_all := lw_g (lw_at lw_m3 129 rfl) rfl
theorem q660 : (Jvm.Cond.sameMethod "MustardFast$Eater" "MustardFast$Eater" "lastsNow" "()I") ∈ lw_all := lw_g (lw_at lw_m3 130 rfl) rfl
theorem q663 : (Jvm.Cond.code ({ cls := "MustardFast$Eater", name := "lastsNow", desc := "()I" } : Jvm.MethodName) prog_2_method_4_code (1 : Nat) (Option.some Jvm.ClassFile.FieldType.int)) ∈ lw_all := lw_g (lw_at lw_m3 133 rfl) rfl
theorem q664 : (Jvm.Cond.methodLinkNest "MustardFast$Eater" (38 : Nat) ({ cls := "MustardFast", name := "asKind", desc := "(II)I" } : Jvm.MethodName) "MustardFast") ∈ lw_tbl := lw_at lw_m3 134 rfl
theorem q668 : (Jvm.Cond.methodLink "MustardFast$Eater" (42 : Nat) ({ cls := "MustardFast$Eater", name := "lasts", desc := "()I" } : Jvm.MethodName)) ∈ lw_all := lw_g (lw_at lw_m3 138 rfl) rfl
theorem q669 : (Jvm.Cond.methodLinkNest "MustardFast$Eater" (49 : Nat) ({ cls := "MustardFast", name := "all", desc := "()I" } : Jvm.MethodName) "MustardFast") ∈ lw_tbl := lw_at lw_m3 139 rfl
theorem q675 : (Jvm.Cond.instanceMethod ({ cls := "MustardFast$Eater", name := "found", desc := "(II)I" } : Jvm.MethodName)) ∈ lw_all := lw_g (lw_at lw_m3 145 rfl) rfl
theorem q676 : (Jvm.Cond.selects "MustardFast$Eater" ({ cls := "MustardFast$Eater", name := "found", desc := "(II)I" } : Jvm.MethodName) ({ cls := "MustardFast$Eater", name := "found", desc := "(II)I" } : Jvm.MethodName)) ∈ lw_all := lw_g (lw_at lw_m3 146 rfl) rfl
theorem q677 : (Jvm.Cond.sameMethod "MustardFast$Eater" "MustardFast$Eater" "found" "(II)I") ∈ lw_all := lw_g (lw_at lw_m3 147 rfl) rfl
theorem q680 : (Jvm.Cond.code ({ cls := "MustardFast$Eater", name := "found", desc := "(II)I" } : Jvm.MethodName) prog_2_method_6_code (3 : Nat) (Option.some Jvm.ClassFile.FieldType.int)) ∈ lw_all := lw_g (lw_at lw_m3 150 rfl) rfl
theorem q681 : (Jvm.Cond.methodLink "MustardFast$Eater" (52 : Nat) ({ cls := "MustardFast$Eater", name := "yellow", desc := "(I)I" } : Jvm.MethodName)) ∈ lw_all := lw_g (lw_at lw_m3 151 rfl) rfl
theorem q683 : (Jvm.Cond.instanceMethod ({ cls := "MustardFast$Eater", name := "fine", desc := "(II)I" } : Jvm.MethodName)) ∈ lw_all := lw_g (lw_at lw_m3 153 rfl) rfl
theorem q684 : (Jvm.Cond.selects "MustardFast$Eater" ({ cls := "MustardFast$Eater", name := "fine", desc := "(II)I" } : Jvm.MethodName) ({ cls := "MustardFast$Eater", name := "fine", desc := "(II)I" } : Jvm.MethodName)) ∈ lw_all := lw_g (lw_at lw_m3 154 rfl) rfl
theorem q685 : (Jvm.Cond.sameMethod "MustardFast$Eater" "MustardFast$Eater" "fine" "(II)I") ∈ lw_all := lw_g (lw_at lw_m3 155 rfl) rfl
theorem q688 : (Jvm.Cond.code ({ cls := "MustardFast$Eater", name := "fine", desc := "(II)I" } : Jvm.MethodName) prog_2_method_7_code (3 : Nat) (Option.some Jvm.ClassFile.FieldType.int)) ∈ lw_all := lw_g (lw_at lw_m3 158 rfl) rfl
theorem q689 : (Jvm.Cond.methodLink "MustardFast$Eater" (56 : Nat) ({ cls := "MustardFast$Eater", name := "found", desc := "(II)I" } : Jvm.MethodName)) ∈ lw_all := lw_g (lw_at lw_m3 159 rfl) rfl
theorem q690 : (Jvm.Cond.methodLinkNest "MustardFast$Eater" (59 : Nat) ({ cls := "MustardFast", name := "bits", desc := "(I)I" } : Jvm.MethodName) "MustardFast") ∈ lw_tbl := lw_at lw_m3 160 rfl
theorem q720 : (Jvm.Cond.instanceMethod ({ cls := "MustardFast$Eater", name := "best", desc := "(I)I" } : Jvm.MethodName)) ∈ lw_all := lw_g (lw_at lw_m3 190 rfl) rfl
theorem q721 : (Jvm.Cond.selects "MustardFast$Eater" ({ cls := "MustardFast$Eater", name := "best", desc := "(I)I" } : Jvm.MethodName) ({ cls := "MustardFast$Eater", name := "best", desc := "(I)I" } : Jvm.MethodName)) ∈ lw_all := lw_g (lw_at lw_m3 191 rfl) rfl
theorem q722 : (Jvm.Cond.sameMethod "MustardFast$Eater" "MustardFast$Eater" "best" "(I)I") ∈ lw_all := lw_g (lw_at lw_m3 192 rfl) rfl
theorem q725 : (Jvm.Cond.code ({ cls := "MustardFast$Eater", name := "best", desc := "(I)I" } : Jvm.MethodName) prog_2_method_8_code (4 : Nat) (Option.some Jvm.ClassFile.FieldType.int)) ∈ lw_all := lw_g (lw_at lw_m3 195 rfl) rfl
theorem q726 : (Jvm.Cond.methodLink "MustardFast$Eater" (62 : Nat) ({ cls := "MustardFast$Eater", name := "fine", desc := "(II)I" } : Jvm.MethodName)) ∈ lw_all := lw_g (lw_at lw_m3 196 rfl) rfl
theorem q816 : (Jvm.Cond.instanceMethod ({ cls := "MustardFast$Eater", name := "tell", desc := "()I" } : Jvm.MethodName)) ∈ lw_all := lw_g (lw_at lw_m4 46 rfl) rfl
theorem q817 : (Jvm.Cond.selects "MustardFast$Eater" ({ cls := "MustardFast$Eater", name := "tell", desc := "()I" } : Jvm.MethodName) ({ cls := "MustardFast$Eater", name := "tell", desc := "()I" } : Jvm.MethodName)) ∈ lw_all := lw_g (lw_at lw_m4 47 rfl) rfl
theorem q818 : (Jvm.Cond.sameMethod "MustardFast$Eater" "MustardFast$Eater" "tell" "()I") ∈ lw_all := lw_g (lw_at lw_m4 48 rfl) rfl
theorem q834 : (Jvm.Cond.declares ({ cls := "MustardFast$Eater", name := "plain", desc := "()I" } : Jvm.MethodName)) ∈ lw_tbl := lw_at lw_m4 64 rfl
theorem q836 : (Jvm.Cond.instanceMethod ({ cls := "MustardFast$Eater", name := "plain", desc := "()I" } : Jvm.MethodName)) ∈ lw_all := lw_g (lw_at lw_m4 66 rfl) rfl
theorem q837 : (Jvm.Cond.code ({ cls := "MustardFast$Eater", name := "plain", desc := "()I" } : Jvm.MethodName) prog_2_method_10_code (1 : Nat) (Option.some Jvm.ClassFile.FieldType.int)) ∈ lw_all := lw_g (lw_at lw_m4 67 rfl) rfl
theorem q838 : (Jvm.Cond.methodLinkNest "MustardFast$Eater" (65 : Nat) ({ cls := "MustardFast", name := "begins", desc := "(I)V" } : Jvm.MethodName) "MustardFast") ∈ lw_tbl := lw_at lw_m4 68 rfl
theorem q839 : (Jvm.Cond.code ({ cls := "MustardFast$Eater", name := "tell", desc := "()I" } : Jvm.MethodName) prog_2_method_11_code (1 : Nat) (Option.some Jvm.ClassFile.FieldType.int)) ∈ lw_all := lw_g (lw_at lw_m4 69 rfl) rfl
theorem q840 : (Jvm.Cond.methodLink "MustardFast$Eater" (69 : Nat) ({ cls := "MustardFast$Eater", name := "plain", desc := "()I" } : Jvm.MethodName)) ∈ lw_all := lw_g (lw_at lw_m4 70 rfl) rfl
theorem q853 : (Jvm.Cond.castable "MustardFast$Eater" "MustardFast$Sniffed") ∈ lw_tbl := lw_at lw_m4 83 rfl
theorem q854 : (Jvm.Cond.unhidden "MustardFast$Eater" "sniff" "()I") ∈ lw_tbl := lw_at lw_m4 84 rfl
theorem q862 : (Jvm.Cond.selects "MustardFast$Eater" ({ cls := "MustardFast$Sniffed", name := "usual", desc := "()I" } : Jvm.MethodName) ({ cls := "MustardFast$Eater", name := "usual", desc := "()I" } : Jvm.MethodName)) ∈ lw_all := lw_g (lw_at lw_m4 92 rfl) rfl
theorem q863 : (Jvm.Cond.unhidden "MustardFast$Eater" "usual" "()I") ∈ lw_tbl := lw_at lw_m4 93 rfl
theorem q864 : (Jvm.Cond.instanceMethod ({ cls := "MustardFast$Eater", name := "usual", desc := "()I" } : Jvm.MethodName)) ∈ lw_all := lw_g (lw_at lw_m4 94 rfl) rfl
theorem q865 : (Jvm.Cond.publicMethod ({ cls := "MustardFast$Eater", name := "usual", desc := "()I" } : Jvm.MethodName)) ∈ lw_tbl := lw_at lw_m4 95 rfl
theorem q866 : (Jvm.Cond.code ({ cls := "MustardFast$Eater", name := "usual", desc := "()I" } : Jvm.MethodName) prog_2_method_9_code (1 : Nat) (Option.some Jvm.ClassFile.FieldType.int)) ∈ lw_all := lw_g (lw_at lw_m4 96 rfl) rfl
theorem q1235 : (Jvm.Cond.sameMethod "MustardFast$Eater" "MustardFast$Eater" "plain" "()I") ∈ lw_all := lw_g (lw_at lw_m5 225 rfl) rfl
theorem q1236 : (Jvm.Cond.selects "MustardFast$Eater" ({ cls := "MustardFast$Eater", name := "plain", desc := "()I" } : Jvm.MethodName) ({ cls := "MustardFast$Eater", name := "plain", desc := "()I" } : Jvm.MethodName)) ∈ lw_all := lw_g (lw_at lw_m5 226 rfl) rfl
theorem q1251 : (Jvm.Cond.castable "MustardFast$Eater" "java/lang/Object") ∈ lw_tbl := lw_at lw_m6 1 rfl
theorem in_X3 : ∀ w ∈ wsX30, w ∈ lw_all := lw_in wsX30 [430, 432, 434, 436, 438] (by decide +kernel) (by decide +kernel)

/-! MustardFast$Sly -/
set_option maxRecDepth 100000
def RX4 : String := "MustardFast$Sly"
def TX4 : u_T := fun k => match k with
  | 0 => ("MustardFast$Eater", "number", "I", true)
  | 1 => ("MustardFast$Eater", "spoons", "I", true)
  | 2 => ("MustardFast$Eater", "stay", "I", false)
  | 3 => ("MustardFast$Eater", "need", "I", false)
  | 4 => ("MustardFast$Eater", "this$0", "LMustardFast;", true)
  | _ => ("MustardFast$Sly", "this$0", "LMustardFast;", true)
def tyX4 : Nat → FieldType := fun k => match k with
  | 0 => .int
  | 1 => .int
  | 2 => .int
  | 3 => .int
  | 4 => .object "MustardFast"
  | _ => .object "MustardFast"
abbrev wsX40 : List Cond := u_ws RX4 TX4 6
-- two fields of one name: no nmX4
theorem tyX4_ok : ∀ k, k < 6 → parseFieldDescriptor (TX4 k).2.2.1 = some (tyX4 k) := by decide +kernel
abbrev cX4_init : ByteArray := prog_4_method_1_code
def yX4_init : MethodName := ⟨RX4, "<init>", "(LMustardFast;I)V"⟩
def dkwX4_init_0 : List UInt8 := [42, 43, 181, 0, 1, 42, 43, 28, 183, 0, 7, 177]
abbrev dktX4_init_0 : List UInt8 := dkwX4_init_0 ++ []
theorem dksX4_init_0 : cX4_init.data.toList.drop 0 = dktX4_init_0 := by decide +kernel
theorem dX4_init_0 : decode cX4_init 0 = .ok (.aload_n 0, 1) := dk_42 (dk_at dksX4_init_0 0 rfl rfl)
theorem dX4_init_1 : decode cX4_init 1 = .ok (.aload_n 1, 1) := dk_43 (dk_at dksX4_init_0 1 rfl rfl)
theorem dX4_init_2 : decode cX4_init 2 = .ok (.putfield 1, 3) := dk_181 0 1 (dk_at dksX4_init_0 2 rfl rfl)
theorem dX4_init_5 : decode cX4_init 5 = .ok (.aload_n 0, 1) := dk_42 (dk_at dksX4_init_0 5 rfl rfl)
theorem dX4_init_6 : decode cX4_init 6 = .ok (.aload_n 1, 1) := dk_43 (dk_at dksX4_init_0 6 rfl rfl)
theorem dX4_init_7 : decode cX4_init 7 = .ok (.iload_n 2, 1) := dk_28 (dk_at dksX4_init_0 7 rfl rfl)
theorem dX4_init_8 : decode cX4_init 8 = .ok (.invokespecial 7, 3) := dk_183 0 7 (dk_at dksX4_init_0 8 rfl rfl)
theorem dX4_init_11 : decode cX4_init 11 = .ok (.return_, 1) := dk_177 (dk_at dksX4_init_0 11 rfl rfl)
abbrev cX4_kind : ByteArray := prog_4_method_2_code
def yX4_kind : MethodName := ⟨RX4, "kind", "()I"⟩
theorem dX4_kind_0 : decode cX4_kind 0 = .ok (.iconst 1, 1) := by decide +kernel
theorem dX4_kind_1 : decode cX4_kind 1 = .ok (.ireturn, 1) := by decide +kernel
abbrev cX4_lasts : ByteArray := prog_4_method_3_code
def yX4_lasts : MethodName := ⟨RX4, "lasts", "()I"⟩
def dkwX4_lasts_0 : List UInt8 := [3, 42, 183, 0, 13, 4, 100, 184, 0, 17, 172]
abbrev dktX4_lasts_0 : List UInt8 := dkwX4_lasts_0 ++ []
theorem dksX4_lasts_0 : cX4_lasts.data.toList.drop 0 = dktX4_lasts_0 := by decide +kernel
theorem dX4_lasts_0 : decode cX4_lasts 0 = .ok (.iconst 0, 1) := dk_3 (dk_at dksX4_lasts_0 0 rfl rfl)
theorem dX4_lasts_1 : decode cX4_lasts 1 = .ok (.aload_n 0, 1) := dk_42 (dk_at dksX4_lasts_0 1 rfl rfl)
theorem dX4_lasts_2 : decode cX4_lasts 2 = .ok (.invokespecial 13, 3) := dk_183 0 13 (dk_at dksX4_lasts_0 2 rfl rfl)
theorem dX4_lasts_5 : decode cX4_lasts 5 = .ok (.iconst 1, 1) := dk_4 (dk_at dksX4_lasts_0 5 rfl rfl)
theorem dX4_lasts_6 : decode cX4_lasts 6 = .ok (.isub, 1) := dk_100 (dk_at dksX4_lasts_0 6 rfl rfl)
theorem dX4_lasts_7 : decode cX4_lasts 7 = .ok (.invokestatic 17, 3) := dk_184 0 17 (dk_at dksX4_lasts_0 7 rfl rfl)
theorem dX4_lasts_10 : decode cX4_lasts 10 = .ok (.ireturn, 1) := dk_172 (dk_at dksX4_lasts_0 10 rfl rfl)
abbrev cX4_tell : ByteArray := prog_4_method_4_code
def yX4_tell : MethodName := ⟨RX4, "tell", "()I"⟩
def dkwX4_tell_0 : List UInt8 := [42, 180, 0, 1, 5, 182, 0, 23, 42, 183, 0, 29, 16, 100, 96, 172]
abbrev dktX4_tell_0 : List UInt8 := dkwX4_tell_0 ++ []
theorem dksX4_tell_0 : cX4_tell.data.toList.drop 0 = dktX4_tell_0 := by decide +kernel
theorem dX4_tell_0 : decode cX4_tell 0 = .ok (.aload_n 0, 1) := dk_42 (dk_at dksX4_tell_0 0 rfl rfl)
theorem dX4_tell_1 : decode cX4_tell 1 = .ok (.getfield 1, 3) := dk_180 0 1 (dk_at dksX4_tell_0 1 rfl rfl)
theorem dX4_tell_4 : decode cX4_tell 4 = .ok (.iconst 2, 1) := dk_5 (dk_at dksX4_tell_0 4 rfl rfl)
theorem dX4_tell_5 : decode cX4_tell 5 = .ok (.invokevirtual 23, 3) := dk_182 0 23 (dk_at dksX4_tell_0 5 rfl rfl)
theorem dX4_tell_8 : decode cX4_tell 8 = .ok (.aload_n 0, 1) := dk_42 (dk_at dksX4_tell_0 8 rfl rfl)
theorem dX4_tell_9 : decode cX4_tell 9 = .ok (.invokespecial 29, 3) := dk_183 0 29 (dk_at dksX4_tell_0 9 rfl rfl)
theorem dX4_tell_12 : decode cX4_tell 12 = .ok (.bipush 100, 2) := dk_16 100 (dk_at dksX4_tell_0 12 rfl rfl)
theorem dX4_tell_14 : decode cX4_tell 14 = .ok (.iadd, 1) := dk_96 (dk_at dksX4_tell_0 14 rfl rfl)
theorem dX4_tell_15 : decode cX4_tell 15 = .ok (.ireturn, 1) := dk_172 (dk_at dksX4_tell_0 15 rfl rfl)
theorem q69 : (Jvm.Cond.initialized "MustardFast$Sly") ∈ lw_all := lw_g (lw_at lw_m1 19 rfl) rfl
theorem q442 : (Jvm.Cond.instantiable "MustardFast$Sly" (6 : Nat)) ∈ lw_all := lw_g (lw_at lw_m2 152 rfl) rfl
theorem q444 : (Jvm.Cond.instanceMethod ({ cls := "MustardFast$Sly", name := "<init>", desc := "(LMustardFast;I)V" } : Jvm.MethodName)) ∈ lw_all := lw_g (lw_at lw_m2 154 rfl) rfl
theorem q445 : (Jvm.Cond.code ({ cls := "MustardFast$Sly", name := "<init>", desc := "(LMustardFast;I)V" } : Jvm.MethodName) prog_4_method_1_code (3 : Nat) (Option.none : Option Jvm.ClassFile.FieldType)) ∈ lw_all := lw_g (lw_at lw_m2 155 rfl) rfl
theorem q446 : (Jvm.Cond.methodLink "MustardFast$Sly" (7 : Nat) ({ cls := "MustardFast$Eater", name := "<init>", desc := "(LMustardFast;I)V" } : Jvm.MethodName)) ∈ lw_all := lw_g (lw_at lw_m2 156 rfl) rfl
theorem q447 : (Jvm.Cond.fieldLink "MustardFast$Sly" (1 : Nat) "MustardFast$Sly" "this$0" "LMustardFast;") ∈ lw_all := lw_g (lw_at lw_m2 157 rfl) rfl
theorem q448 : (Jvm.Cond.laysFinal "MustardFast$Sly" "MustardFast$Sly" "this$0" "LMustardFast;") ∈ lw_all := lw_g (lw_at lw_m2 158 rfl) rfl
theorem q449 : (Jvm.Cond.soleField "MustardFast$Sly" "this$0") ∈ lw_all := lw_g (lw_at lw_m2 159 rfl) rfl
theorem q450 : (Jvm.Cond.laysFinal "MustardFast$Sly" "MustardFast$Eater" "number" "I") ∈ lw_all := lw_g (lw_at lw_m2 160 rfl) rfl
theorem q451 : (Jvm.Cond.laysFinal "MustardFast$Sly" "MustardFast$Eater" "spoons" "I") ∈ lw_all := lw_g (lw_at lw_m2 161 rfl) rfl
theorem q452 : (Jvm.Cond.lays "MustardFast$Sly" "MustardFast$Eater" "stay" "I") ∈ lw_all := lw_g (lw_at lw_m2 162 rfl) rfl
theorem q453 : (Jvm.Cond.lays "MustardFast$Sly" "MustardFast$Eater" "need" "I") ∈ lw_all := lw_g (lw_at lw_m2 163 rfl) rfl
theorem q454 : (Jvm.Cond.laysFinal "MustardFast$Sly" "MustardFast$Eater" "this$0" "LMustardFast;") ∈ lw_all := lw_g (lw_at lw_m2 164 rfl) rfl
theorem q455 : (Jvm.Cond.superclass "MustardFast$Sly" "MustardFast$Eater") ∈ lw_all := lw_g (lw_at lw_m2 165 rfl) rfl
theorem q512 : (Jvm.Cond.selects "MustardFast$Sly" ({ cls := "java/lang/Object", name := "getClass", desc := "()Ljava/lang/Class;" } : Jvm.MethodName) ({ cls := "java/lang/Object", name := "getClass", desc := "()Ljava/lang/Class;" } : Jvm.MethodName)) ∈ lw_all := lw_g (lw_at lw_m2 222 rfl) rfl
theorem q576 : (Jvm.Cond.selects "MustardFast$Sly" ({ cls := "MustardFast$Eater", name := "kind", desc := "()I" } : Jvm.MethodName) ({ cls := "MustardFast$Sly", name := "kind", desc := "()I" } : Jvm.MethodName)) ∈ lw_all := lw_g (lw_at lw_m3 46 rfl) rfl
theorem q577 : (Jvm.Cond.instanceMethod ({ cls := "MustardFast$Sly", name := "kind", desc := "()I" } : Jvm.MethodName)) ∈ lw_all := lw_g (lw_at lw_m3 47 rfl) rfl
theorem q578 : (Jvm.Cond.code ({ cls := "MustardFast$Sly", name := "kind", desc := "()I" } : Jvm.MethodName) prog_4_method_2_code (1 : Nat) (Option.some Jvm.ClassFile.FieldType.int)) ∈ lw_all := lw_g (lw_at lw_m3 48 rfl) rfl
theorem q587 : (Jvm.Cond.selects "MustardFast$Sly" ({ cls := "MustardFast$Eater", name := "lasts", desc := "()I" } : Jvm.MethodName) ({ cls := "MustardFast$Sly", name := "lasts", desc := "()I" } : Jvm.MethodName)) ∈ lw_all := lw_g (lw_at lw_m3 57 rfl) rfl
theorem q588 : (Jvm.Cond.instanceMethod ({ cls := "MustardFast$Sly", name := "lasts", desc := "()I" } : Jvm.MethodName)) ∈ lw_all := lw_g (lw_at lw_m3 58 rfl) rfl
theorem q589 : (Jvm.Cond.code ({ cls := "MustardFast$Sly", name := "lasts", desc := "()I" } : Jvm.MethodName) prog_4_method_3_code (1 : Nat) (Option.some Jvm.ClassFile.FieldType.int)) ∈ lw_all := lw_g (lw_at lw_m3 59 rfl) rfl
theorem q590 : (Jvm.Cond.methodLink "MustardFast$Sly" (13 : Nat) ({ cls := "MustardFast$Eater", name := "lasts", desc := "()I" } : Jvm.MethodName)) ∈ lw_all := lw_g (lw_at lw_m3 60 rfl) rfl
theorem q591 : (Jvm.Cond.methodLink "MustardFast$Sly" (17 : Nat) ({ cls := "java/lang/Math", name := "max", desc := "(II)I" } : Jvm.MethodName)) ∈ lw_all := lw_g (lw_at lw_m3 61 rfl) rfl
theorem q654 : (Jvm.Cond.selects "MustardFast$Sly" ({ cls := "MustardFast$Eater", name := "yellow", desc := "(I)I" } : Jvm.MethodName) ({ cls := "MustardFast$Eater", name := "yellow", desc := "(I)I" } : Jvm.MethodName)) ∈ lw_all := lw_g (lw_at lw_m3 124 rfl) rfl
theorem q661 : (Jvm.Cond.selects "MustardFast$Sly" ({ cls := "MustardFast$Eater", name := "lastsNow", desc := "()I" } : Jvm.MethodName) ({ cls := "MustardFast$Eater", name := "lastsNow", desc := "()I" } : Jvm.MethodName)) ∈ lw_all := lw_g (lw_at lw_m3 131 rfl) rfl
theorem q678 : (Jvm.Cond.selects "MustardFast$Sly" ({ cls := "MustardFast$Eater", name := "found", desc := "(II)I" } : Jvm.MethodName) ({ cls := "MustardFast$Eater", name := "found", desc := "(II)I" } : Jvm.MethodName)) ∈ lw_all := lw_g (lw_at lw_m3 148 rfl) rfl
theorem q686 : (Jvm.Cond.selects "MustardFast$Sly" ({ cls := "MustardFast$Eater", name := "fine", desc := "(II)I" } : Jvm.MethodName) ({ cls := "MustardFast$Eater", name := "fine", desc := "(II)I" } : Jvm.MethodName)) ∈ lw_all := lw_g (lw_at lw_m3 156 rfl) rfl
theorem q723 : (Jvm.Cond.selects "MustardFast$Sly" ({ cls := "MustardFast$Eater", name := "best", desc := "(I)I" } : Jvm.MethodName) ({ cls := "MustardFast$Eater", name := "best", desc := "(I)I" } : Jvm.MethodName)) ∈ lw_all := lw_g (lw_at lw_m3 193 rfl) rfl
theorem q819 : (Jvm.Cond.selects "MustardFast$Sly" ({ cls := "MustardFast$Eater", name := "tell", desc := "()I" } : Jvm.MethodName) ({ cls := "MustardFast$Sly", name := "tell", desc := "()I" } : Jvm.MethodName)) ∈ lw_all := lw_g (lw_at lw_m4 49 rfl) rfl
theorem q820 : (Jvm.Cond.instanceMethod ({ cls := "MustardFast$Sly", name := "tell", desc := "()I" } : Jvm.MethodName)) ∈ lw_all := lw_g (lw_at lw_m4 50 rfl) rfl
theorem q821 : (Jvm.Cond.code ({ cls := "MustardFast$Sly", name := "tell", desc := "()I" } : Jvm.MethodName) prog_4_method_4_code (1 : Nat) (Option.some Jvm.ClassFile.FieldType.int)) ∈ lw_all := lw_g (lw_at lw_m4 51 rfl) rfl
theorem q822 : (Jvm.Cond.methodLinkNest "MustardFast$Sly" (23 : Nat) ({ cls := "MustardFast", name := "begins", desc := "(I)V" } : Jvm.MethodName) "MustardFast") ∈ lw_tbl := lw_at lw_m4 52 rfl
theorem q826 : (Jvm.Cond.methodLink "MustardFast$Sly" (29 : Nat) ({ cls := "MustardFast$Eater", name := "tell", desc := "()I" } : Jvm.MethodName)) ∈ lw_all := lw_g (lw_at lw_m4 56 rfl) rfl
theorem q867 : (Jvm.Cond.castable "MustardFast$Sly" "MustardFast$Sniffed") ∈ lw_tbl := lw_at lw_m4 97 rfl
theorem q868 : (Jvm.Cond.selects "MustardFast$Sly" ({ cls := "MustardFast$Sniffed", name := "usual", desc := "()I" } : Jvm.MethodName) ({ cls := "MustardFast$Eater", name := "usual", desc := "()I" } : Jvm.MethodName)) ∈ lw_all := lw_g (lw_at lw_m4 98 rfl) rfl
theorem q869 : (Jvm.Cond.unhidden "MustardFast$Sly" "usual" "()I") ∈ lw_tbl := lw_at lw_m4 99 rfl
theorem q873 : (Jvm.Cond.unhidden "MustardFast$Sly" "sniff" "()I") ∈ lw_tbl := lw_at lw_m4 103 rfl
theorem q1233 : (Jvm.Cond.sameMethod "MustardFast$Sly" "MustardFast$Sly" "lasts" "()I") ∈ lw_all := lw_g (lw_at lw_m5 223 rfl) rfl
theorem q1234 : (Jvm.Cond.sameMethod "MustardFast$Sly" "MustardFast$Sly" "tell" "()I") ∈ lw_all := lw_g (lw_at lw_m5 224 rfl) rfl
theorem q1237 : (Jvm.Cond.selects "MustardFast$Sly" ({ cls := "MustardFast$Eater", name := "plain", desc := "()I" } : Jvm.MethodName) ({ cls := "MustardFast$Eater", name := "plain", desc := "()I" } : Jvm.MethodName)) ∈ lw_all := lw_g (lw_at lw_m5 227 rfl) rfl
theorem q1240 : (Jvm.Cond.castable "MustardFast$Sly" "MustardFast$Eater") ∈ lw_tbl := lw_at lw_m5 230 rfl
theorem q1252 : (Jvm.Cond.castable "MustardFast$Sly" "java/lang/Object") ∈ lw_tbl := lw_at lw_m6 2 rfl
theorem in_X4 : ∀ w ∈ wsX40, w ∈ lw_all := lw_in wsX40 [450, 451, 452, 453, 454, 448] (by decide +kernel) (by decide +kernel)

/-! MustardFast$Stranger -/
set_option maxRecDepth 100000
def RX5 : String := "MustardFast$Stranger"
def TX5 : u_T := fun k => match k with
  | 0 => ("MustardFast$Eater", "number", "I", true)
  | 1 => ("MustardFast$Eater", "spoons", "I", true)
  | 2 => ("MustardFast$Eater", "stay", "I", false)
  | 3 => ("MustardFast$Eater", "need", "I", false)
  | 4 => ("MustardFast$Eater", "this$0", "LMustardFast;", true)
  | 5 => ("MustardFast$Sly", "this$0", "LMustardFast;", true)
  | _ => ("MustardFast$Stranger", "this$0", "LMustardFast;", true)
def tyX5 : Nat → FieldType := fun k => match k with
  | 0 => .int
  | 1 => .int
  | 2 => .int
  | 3 => .int
  | 4 => .object "MustardFast"
  | 5 => .object "MustardFast"
  | _ => .object "MustardFast"
abbrev wsX50 : List Cond := u_ws RX5 TX5 7
-- two fields of one name: no nmX5
theorem tyX5_ok : ∀ k, k < 7 → parseFieldDescriptor (TX5 k).2.2.1 = some (tyX5 k) := by decide +kernel
abbrev cX5_init : ByteArray := prog_6_method_1_code
def yX5_init : MethodName := ⟨RX5, "<init>", "(LMustardFast;I)V"⟩
def dkwX5_init_0 : List UInt8 := [42, 43, 181, 0, 1, 42, 43, 28, 183, 0, 7, 177]
abbrev dktX5_init_0 : List UInt8 := dkwX5_init_0 ++ []
theorem dksX5_init_0 : cX5_init.data.toList.drop 0 = dktX5_init_0 := by decide +kernel
theorem dX5_init_0 : decode cX5_init 0 = .ok (.aload_n 0, 1) := dk_42 (dk_at dksX5_init_0 0 rfl rfl)
theorem dX5_init_1 : decode cX5_init 1 = .ok (.aload_n 1, 1) := dk_43 (dk_at dksX5_init_0 1 rfl rfl)
theorem dX5_init_2 : decode cX5_init 2 = .ok (.putfield 1, 3) := dk_181 0 1 (dk_at dksX5_init_0 2 rfl rfl)
theorem dX5_init_5 : decode cX5_init 5 = .ok (.aload_n 0, 1) := dk_42 (dk_at dksX5_init_0 5 rfl rfl)
theorem dX5_init_6 : decode cX5_init 6 = .ok (.aload_n 1, 1) := dk_43 (dk_at dksX5_init_0 6 rfl rfl)
theorem dX5_init_7 : decode cX5_init 7 = .ok (.iload_n 2, 1) := dk_28 (dk_at dksX5_init_0 7 rfl rfl)
theorem dX5_init_8 : decode cX5_init 8 = .ok (.invokespecial 7, 3) := dk_183 0 7 (dk_at dksX5_init_0 8 rfl rfl)
theorem dX5_init_11 : decode cX5_init 11 = .ok (.return_, 1) := dk_177 (dk_at dksX5_init_0 11 rfl rfl)
abbrev cX5_kind : ByteArray := prog_6_method_2_code
def yX5_kind : MethodName := ⟨RX5, "kind", "()I"⟩
theorem dX5_kind_0 : decode cX5_kind 0 = .ok (.iconst 2, 1) := by decide +kernel
theorem dX5_kind_1 : decode cX5_kind 1 = .ok (.ireturn, 1) := by decide +kernel
abbrev cX5_lasts : ByteArray := prog_6_method_3_code
def yX5_lasts : MethodName := ⟨RX5, "lasts", "()I"⟩
def dkwX5_lasts_0 : List UInt8 := [42, 183, 0, 13, 5, 108, 172]
abbrev dktX5_lasts_0 : List UInt8 := dkwX5_lasts_0 ++ []
theorem dksX5_lasts_0 : cX5_lasts.data.toList.drop 0 = dktX5_lasts_0 := by decide +kernel
theorem dX5_lasts_0 : decode cX5_lasts 0 = .ok (.aload_n 0, 1) := dk_42 (dk_at dksX5_lasts_0 0 rfl rfl)
theorem dX5_lasts_1 : decode cX5_lasts 1 = .ok (.invokespecial 13, 3) := dk_183 0 13 (dk_at dksX5_lasts_0 1 rfl rfl)
theorem dX5_lasts_4 : decode cX5_lasts 4 = .ok (.iconst 2, 1) := dk_5 (dk_at dksX5_lasts_0 4 rfl rfl)
theorem dX5_lasts_5 : decode cX5_lasts 5 = .ok (.idiv, 1) := dk_108 (dk_at dksX5_lasts_0 5 rfl rfl)
theorem dX5_lasts_6 : decode cX5_lasts 6 = .ok (.ireturn, 1) := dk_172 (dk_at dksX5_lasts_0 6 rfl rfl)
abbrev cX5_tell : ByteArray := prog_6_method_4_code
def yX5_tell : MethodName := ⟨RX5, "tell", "()I"⟩
def dkwX5_tell_0 : List UInt8 := [42, 180, 0, 1, 6, 182, 0, 17, 42, 183, 0, 23, 42, 182, 0, 26, 96, 172]
abbrev dktX5_tell_0 : List UInt8 := dkwX5_tell_0 ++ []
theorem dksX5_tell_0 : cX5_tell.data.toList.drop 0 = dktX5_tell_0 := by decide +kernel
theorem dX5_tell_0 : decode cX5_tell 0 = .ok (.aload_n 0, 1) := dk_42 (dk_at dksX5_tell_0 0 rfl rfl)
theorem dX5_tell_1 : decode cX5_tell 1 = .ok (.getfield 1, 3) := dk_180 0 1 (dk_at dksX5_tell_0 1 rfl rfl)
theorem dX5_tell_4 : decode cX5_tell 4 = .ok (.iconst 3, 1) := dk_6 (dk_at dksX5_tell_0 4 rfl rfl)
theorem dX5_tell_5 : decode cX5_tell 5 = .ok (.invokevirtual 17, 3) := dk_182 0 17 (dk_at dksX5_tell_0 5 rfl rfl)
theorem dX5_tell_8 : decode cX5_tell 8 = .ok (.aload_n 0, 1) := dk_42 (dk_at dksX5_tell_0 8 rfl rfl)
theorem dX5_tell_9 : decode cX5_tell 9 = .ok (.invokespecial 23, 3) := dk_183 0 23 (dk_at dksX5_tell_0 9 rfl rfl)
theorem dX5_tell_12 : decode cX5_tell 12 = .ok (.aload_n 0, 1) := dk_42 (dk_at dksX5_tell_0 12 rfl rfl)
theorem dX5_tell_13 : decode cX5_tell 13 = .ok (.invokevirtual 26, 3) := dk_182 0 26 (dk_at dksX5_tell_0 13 rfl rfl)
theorem dX5_tell_16 : decode cX5_tell 16 = .ok (.iadd, 1) := dk_96 (dk_at dksX5_tell_0 16 rfl rfl)
theorem dX5_tell_17 : decode cX5_tell 17 = .ok (.ireturn, 1) := dk_172 (dk_at dksX5_tell_0 17 rfl rfl)
abbrev cX5_sniff : ByteArray := prog_6_method_5_code
def yX5_sniff : MethodName := ⟨RX5, "sniff", "()I"⟩
def dkwX5_sniff_0 : List UInt8 := [42, 180, 0, 1, 8, 182, 0, 17, 16, 40, 172]
abbrev dktX5_sniff_0 : List UInt8 := dkwX5_sniff_0 ++ []
theorem dksX5_sniff_0 : cX5_sniff.data.toList.drop 0 = dktX5_sniff_0 := by decide +kernel
theorem dX5_sniff_0 : decode cX5_sniff 0 = .ok (.aload_n 0, 1) := dk_42 (dk_at dksX5_sniff_0 0 rfl rfl)
theorem dX5_sniff_1 : decode cX5_sniff 1 = .ok (.getfield 1, 3) := dk_180 0 1 (dk_at dksX5_sniff_0 1 rfl rfl)
theorem dX5_sniff_4 : decode cX5_sniff 4 = .ok (.iconst 5, 1) := dk_8 (dk_at dksX5_sniff_0 4 rfl rfl)
theorem dX5_sniff_5 : decode cX5_sniff 5 = .ok (.invokevirtual 17, 3) := dk_182 0 17 (dk_at dksX5_sniff_0 5 rfl rfl)
theorem dX5_sniff_8 : decode cX5_sniff 8 = .ok (.bipush 40, 2) := dk_16 40 (dk_at dksX5_sniff_0 8 rfl rfl)
theorem dX5_sniff_10 : decode cX5_sniff 10 = .ok (.ireturn, 1) := dk_172 (dk_at dksX5_sniff_0 10 rfl rfl)
theorem q70 : (Jvm.Cond.initialized "MustardFast$Stranger") ∈ lw_all := lw_g (lw_at lw_m1 20 rfl) rfl
theorem q457 : (Jvm.Cond.instantiable "MustardFast$Stranger" (7 : Nat)) ∈ lw_all := lw_g (lw_at lw_m2 167 rfl) rfl
theorem q459 : (Jvm.Cond.instanceMethod ({ cls := "MustardFast$Stranger", name := "<init>", desc := "(LMustardFast;I)V" } : Jvm.MethodName)) ∈ lw_all := lw_g (lw_at lw_m2 169 rfl) rfl
theorem q460 : (Jvm.Cond.code ({ cls := "MustardFast$Stranger", name := "<init>", desc := "(LMustardFast;I)V" } : Jvm.MethodName) prog_6_method_1_code (3 : Nat) (Option.none : Option Jvm.ClassFile.FieldType)) ∈ lw_all := lw_g (lw_at lw_m2 170 rfl) rfl
theorem q461 : (Jvm.Cond.methodLink "MustardFast$Stranger" (7 : Nat) ({ cls := "MustardFast$Sly", name := "<init>", desc := "(LMustardFast;I)V" } : Jvm.MethodName)) ∈ lw_all := lw_g (lw_at lw_m2 171 rfl) rfl
theorem q462 : (Jvm.Cond.fieldLink "MustardFast$Stranger" (1 : Nat) "MustardFast$Stranger" "this$0" "LMustardFast;") ∈ lw_all := lw_g (lw_at lw_m2 172 rfl) rfl
theorem q463 : (Jvm.Cond.laysFinal "MustardFast$Stranger" "MustardFast$Stranger" "this$0" "LMustardFast;") ∈ lw_all := lw_g (lw_at lw_m2 173 rfl) rfl
theorem q464 : (Jvm.Cond.soleField "MustardFast$Stranger" "this$0") ∈ lw_all := lw_g (lw_at lw_m2 174 rfl) rfl
theorem q465 : (Jvm.Cond.laysFinal "MustardFast$Stranger" "MustardFast$Sly" "this$0" "LMustardFast;") ∈ lw_all := lw_g (lw_at lw_m2 175 rfl) rfl
theorem q466 : (Jvm.Cond.laysFinal "MustardFast$Stranger" "MustardFast$Eater" "number" "I") ∈ lw_all := lw_g (lw_at lw_m2 176 rfl) rfl
theorem q467 : (Jvm.Cond.laysFinal "MustardFast$Stranger" "MustardFast$Eater" "spoons" "I") ∈ lw_all := lw_g (lw_at lw_m2 177 rfl) rfl
theorem q468 : (Jvm.Cond.lays "MustardFast$Stranger" "MustardFast$Eater" "stay" "I") ∈ lw_all := lw_g (lw_at lw_m2 178 rfl) rfl
theorem q469 : (Jvm.Cond.lays "MustardFast$Stranger" "MustardFast$Eater" "need" "I") ∈ lw_all := lw_g (lw_at lw_m2 179 rfl) rfl
theorem q470 : (Jvm.Cond.laysFinal "MustardFast$Stranger" "MustardFast$Eater" "this$0" "LMustardFast;") ∈ lw_all := lw_g (lw_at lw_m2 180 rfl) rfl
theorem q471 : (Jvm.Cond.superclass "MustardFast$Stranger" "MustardFast$Sly") ∈ lw_all := lw_g (lw_at lw_m2 181 rfl) rfl
theorem q513 : (Jvm.Cond.selects "MustardFast$Stranger" ({ cls := "java/lang/Object", name := "getClass", desc := "()Ljava/lang/Class;" } : Jvm.MethodName) ({ cls := "java/lang/Object", name := "getClass", desc := "()Ljava/lang/Class;" } : Jvm.MethodName)) ∈ lw_all := lw_g (lw_at lw_m2 223 rfl) rfl
theorem q579 : (Jvm.Cond.selects "MustardFast$Stranger" ({ cls := "MustardFast$Eater", name := "kind", desc := "()I" } : Jvm.MethodName) ({ cls := "MustardFast$Stranger", name := "kind", desc := "()I" } : Jvm.MethodName)) ∈ lw_all := lw_g (lw_at lw_m3 49 rfl) rfl
theorem q580 : (Jvm.Cond.instanceMethod ({ cls := "MustardFast$Stranger", name := "kind", desc := "()I" } : Jvm.MethodName)) ∈ lw_all := lw_g (lw_at lw_m3 50 rfl) rfl
theorem q581 : (Jvm.Cond.code ({ cls := "MustardFast$Stranger", name := "kind", desc := "()I" } : Jvm.MethodName) prog_6_method_2_code (1 : Nat) (Option.some Jvm.ClassFile.FieldType.int)) ∈ lw_all := lw_g (lw_at lw_m3 51 rfl) rfl
theorem q592 : (Jvm.Cond.selects "MustardFast$Stranger" ({ cls := "MustardFast$Eater", name := "lasts", desc := "()I" } : Jvm.MethodName) ({ cls := "MustardFast$Stranger", name := "lasts", desc := "()I" } : Jvm.MethodName)) ∈ lw_all := lw_g (lw_at lw_m3 62 rfl) rfl
theorem q593 : (Jvm.Cond.instanceMethod ({ cls := "MustardFast$Stranger", name := "lasts", desc := "()I" } : Jvm.MethodName)) ∈ lw_all := lw_g (lw_at lw_m3 63 rfl) rfl
theorem q594 : (Jvm.Cond.code ({ cls := "MustardFast$Stranger", name := "lasts", desc := "()I" } : Jvm.MethodName) prog_6_method_3_code (1 : Nat) (Option.some Jvm.ClassFile.FieldType.int)) ∈ lw_all := lw_g (lw_at lw_m3 64 rfl) rfl
theorem q595 : (Jvm.Cond.methodLink "MustardFast$Stranger" (13 : Nat) ({ cls := "MustardFast$Sly", name := "lasts", desc := "()I" } : Jvm.MethodName)) ∈ lw_all := lw_g (lw_at lw_m3 65 rfl) rfl
theorem q655 : (Jvm.Cond.selects "MustardFast$Stranger" ({ cls := "MustardFast$Eater", name := "yellow", desc := "(I)I" } : Jvm.MethodName) ({ cls := "MustardFast$Eater", name := "yellow", desc := "(I)I" } : Jvm.MethodName)) ∈ lw_all := lw_g (lw_at lw_m3 125 rfl) rfl
theorem q662 : (Jvm.Cond.selects "MustardFast$Stranger" ({ cls := "MustardFast$Eater", name := "lastsNow", desc := "()I" } : Jvm.MethodName) ({ cls := "MustardFast$Eater", name := "lastsNow", desc := "()I" } : Jvm.MethodName)) ∈ lw_all := lw_g (lw_at lw_m3 132 rfl) rfl
theorem q679 : (Jvm.Cond.selects "MustardFast$Stranger" ({ cls := "MustardFast$Eater", name := "found", desc := "(II)I" } : Jvm.MethodName) ({ cls := "MustardFast$Eater", name := "found", desc := "(II)I" } : Jvm.MethodName)) ∈ lw_all := lw_g (lw_at lw_m3 149 rfl) rfl
theorem q687 : (Jvm.Cond.selects "MustardFast$Stranger" ({ cls := "MustardFast$Eater", name := "fine", desc := "(II)I" } : Jvm.MethodName) ({ cls := "MustardFast$Eater", name := "fine", desc := "(II)I" } : Jvm.MethodName)) ∈ lw_all := lw_g (lw_at lw_m3 157 rfl) rfl
theorem q724 : (Jvm.Cond.selects "MustardFast$Stranger" ({ cls := "MustardFast$Eater", name := "best", desc := "(I)I" } : Jvm.MethodName) ({ cls := "MustardFast$Eater", name := "best", desc := "(I)I" } : Jvm.MethodName)) ∈ lw_all := lw_g (lw_at lw_m3 194 rfl) rfl
theorem q827 : (Jvm.Cond.selects "MustardFast$Stranger" ({ cls := "MustardFast$Eater", name := "tell", desc := "()I" } : Jvm.MethodName) ({ cls := "MustardFast$Stranger", name := "tell", desc := "()I" } : Jvm.MethodName)) ∈ lw_all := lw_g (lw_at lw_m4 57 rfl) rfl
theorem q828 : (Jvm.Cond.instanceMethod ({ cls := "MustardFast$Stranger", name := "tell", desc := "()I" } : Jvm.MethodName)) ∈ lw_all := lw_g (lw_at lw_m4 58 rfl) rfl
theorem q829 : (Jvm.Cond.code ({ cls := "MustardFast$Stranger", name := "tell", desc := "()I" } : Jvm.MethodName) prog_6_method_4_code (1 : Nat) (Option.some Jvm.ClassFile.FieldType.int)) ∈ lw_all := lw_g (lw_at lw_m4 59 rfl) rfl
theorem q830 : (Jvm.Cond.methodLinkNest "MustardFast$Stranger" (17 : Nat) ({ cls := "MustardFast", name := "begins", desc := "(I)V" } : Jvm.MethodName) "MustardFast") ∈ lw_tbl := lw_at lw_m4 60 rfl
theorem q831 : (Jvm.Cond.methodLink "MustardFast$Stranger" (23 : Nat) ({ cls := "MustardFast$Sly", name := "tell", desc := "()I" } : Jvm.MethodName)) ∈ lw_all := lw_g (lw_at lw_m4 61 rfl) rfl
theorem q832 : (Jvm.Cond.methodLink "MustardFast$Stranger" (26 : Nat) ({ cls := "MustardFast$Stranger", name := "plain", desc := "()I" } : Jvm.MethodName)) ∈ lw_all := lw_g (lw_at lw_m4 62 rfl) rfl
theorem q833 : (Jvm.Cond.sameMethod "MustardFast$Stranger" "MustardFast$Eater" "plain" "()I") ∈ lw_all := lw_g (lw_at lw_m4 63 rfl) rfl
theorem q835 : (Jvm.Cond.selects "MustardFast$Stranger" ({ cls := "MustardFast$Stranger", name := "plain", desc := "()I" } : Jvm.MethodName) ({ cls := "MustardFast$Eater", name := "plain", desc := "()I" } : Jvm.MethodName)) ∈ lw_all := lw_g (lw_at lw_m4 65 rfl) rfl
theorem q870 : (Jvm.Cond.castable "MustardFast$Stranger" "MustardFast$Sniffed") ∈ lw_tbl := lw_at lw_m4 100 rfl
theorem q871 : (Jvm.Cond.selects "MustardFast$Stranger" ({ cls := "MustardFast$Sniffed", name := "usual", desc := "()I" } : Jvm.MethodName) ({ cls := "MustardFast$Eater", name := "usual", desc := "()I" } : Jvm.MethodName)) ∈ lw_all := lw_g (lw_at lw_m4 101 rfl) rfl
theorem q872 : (Jvm.Cond.unhidden "MustardFast$Stranger" "usual" "()I") ∈ lw_tbl := lw_at lw_m4 102 rfl
theorem q874 : (Jvm.Cond.selects "MustardFast$Stranger" ({ cls := "MustardFast$Sniffed", name := "sniff", desc := "()I" } : Jvm.MethodName) ({ cls := "MustardFast$Stranger", name := "sniff", desc := "()I" } : Jvm.MethodName)) ∈ lw_all := lw_g (lw_at lw_m4 104 rfl) rfl
theorem q875 : (Jvm.Cond.unhidden "MustardFast$Stranger" "sniff" "()I") ∈ lw_tbl := lw_at lw_m4 105 rfl
theorem q876 : (Jvm.Cond.instanceMethod ({ cls := "MustardFast$Stranger", name := "sniff", desc := "()I" } : Jvm.MethodName)) ∈ lw_all := lw_g (lw_at lw_m4 106 rfl) rfl
theorem q877 : (Jvm.Cond.publicMethod ({ cls := "MustardFast$Stranger", name := "sniff", desc := "()I" } : Jvm.MethodName)) ∈ lw_tbl := lw_at lw_m4 107 rfl
theorem q878 : (Jvm.Cond.code ({ cls := "MustardFast$Stranger", name := "sniff", desc := "()I" } : Jvm.MethodName) prog_6_method_5_code (1 : Nat) (Option.some Jvm.ClassFile.FieldType.int)) ∈ lw_all := lw_g (lw_at lw_m4 108 rfl) rfl
theorem q1238 : (Jvm.Cond.selects "MustardFast$Stranger" ({ cls := "MustardFast$Eater", name := "plain", desc := "()I" } : Jvm.MethodName) ({ cls := "MustardFast$Eater", name := "plain", desc := "()I" } : Jvm.MethodName)) ∈ lw_all := lw_g (lw_at lw_m5 228 rfl) rfl
theorem q1241 : (Jvm.Cond.castable "MustardFast$Stranger" "MustardFast$Eater") ∈ lw_tbl := lw_at lw_m5 231 rfl
theorem q1242 : (Jvm.Cond.castable "MustardFast$Stranger" "MustardFast$Sly") ∈ lw_tbl := lw_at lw_m5 232 rfl
theorem q1253 : (Jvm.Cond.castable "MustardFast$Stranger" "java/lang/Object") ∈ lw_tbl := lw_at lw_m6 3 rfl
theorem in_X5 : ∀ w ∈ wsX50, w ∈ lw_all := lw_in wsX50 [466, 467, 468, 469, 470, 465, 463] (by decide +kernel) (by decide +kernel)

/-! MustardFast$Sniffed -/
set_option maxRecDepth 100000
def RX6 : String := "MustardFast$Sniffed"
abbrev cX6_sniff : ByteArray := prog_5_method_2_code
def yX6_sniff : MethodName := ⟨RX6, "sniff", "()I"⟩
theorem dX6_sniff_0 : decode cX6_sniff 0 = .ok (.aload_n 0, 1) := by decide +kernel
theorem dX6_sniff_1 : decode cX6_sniff 1 = .ok (.invokeinterface 1 1, 5) := by decide +kernel
theorem dX6_sniff_6 : decode cX6_sniff 6 = .ok (.ireturn, 1) := by decide +kernel
theorem q851 : (Jvm.Cond.interfaceMethod "MustardFast$Sniffed" "MustardFast$Sniffed" "sniff" "()I") ∈ lw_tbl := lw_at lw_m4 81 rfl
theorem q852 : (Jvm.Cond.declares ({ cls := "MustardFast$Sniffed", name := "sniff", desc := "()I" } : Jvm.MethodName)) ∈ lw_tbl := lw_at lw_m4 82 rfl
theorem q855 : (Jvm.Cond.instanceMethod ({ cls := "MustardFast$Sniffed", name := "sniff", desc := "()I" } : Jvm.MethodName)) ∈ lw_all := lw_g (lw_at lw_m4 85 rfl) rfl
theorem q856 : (Jvm.Cond.publicMethod ({ cls := "MustardFast$Sniffed", name := "sniff", desc := "()I" } : Jvm.MethodName)) ∈ lw_tbl := lw_at lw_m4 86 rfl
theorem q857 : (Jvm.Cond.code ({ cls := "MustardFast$Sniffed", name := "sniff", desc := "()I" } : Jvm.MethodName) prog_5_method_2_code (1 : Nat) (Option.some Jvm.ClassFile.FieldType.int)) ∈ lw_all := lw_g (lw_at lw_m4 87 rfl) rfl
theorem q858 : (Jvm.Cond.interfaceEntry "MustardFast$Sniffed" (1 : Nat)) ∈ lw_tbl := lw_at lw_m4 88 rfl
theorem q859 : (Jvm.Cond.methodLink "MustardFast$Sniffed" (1 : Nat) ({ cls := "MustardFast$Sniffed", name := "usual", desc := "()I" } : Jvm.MethodName)) ∈ lw_all := lw_g (lw_at lw_m4 89 rfl) rfl
theorem q860 : (Jvm.Cond.interfaceMethod "MustardFast$Sniffed" "MustardFast$Sniffed" "usual" "()I") ∈ lw_tbl := lw_at lw_m4 90 rfl
theorem q861 : (Jvm.Cond.declares ({ cls := "MustardFast$Sniffed", name := "usual", desc := "()I" } : Jvm.MethodName)) ∈ lw_tbl := lw_at lw_m4 91 rfl
