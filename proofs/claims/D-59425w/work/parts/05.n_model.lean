/-! PermissionDeskModel -/
set_option maxRecDepth 100000
def RX4 : String := "PermissionDeskModel"
def TX4 : u_T := fun k => match k with
  | 0 => ("PermissionDeskModel", "s", "[I", true)
  | 1 => ("PermissionDeskModel", "past", "[I", true)
  | 2 => ("PermissionDeskModel", "slots", "[I", true)
  | 3 => ("PermissionDeskModel", "filled", "[Z", true)
  | 4 => ("PermissionDeskModel", "pasts", "I", false)
  | 5 => ("PermissionDeskModel", "last", "I", false)
  | 6 => ("PermissionDeskModel", "pad", "[I", true)
  | 7 => ("PermissionDeskModel", "typed", "I", false)
  | 8 => ("PermissionDeskModel", "was", "[I", true)
  | 9 => ("PermissionDeskModel", "one", "[I", true)
  | 10 => ("PermissionDeskModel", "spot", "I", false)
  | 11 => ("PermissionDeskModel", "told", "I", false)
  | 12 => ("PermissionDeskModel", "parts", "I", false)
  | 13 => ("PermissionDeskModel", "value", "I", false)
  | _ => ("PermissionDeskModel", "part", "[I", true)
def tyX4 : Nat → FieldType := fun k => match k with
  | 0 => .array .int
  | 1 => .array .int
  | 2 => .array .int
  | 3 => .array .boolean
  | 4 => .int
  | 5 => .int
  | 6 => .array .int
  | 7 => .int
  | 8 => .array .int
  | 9 => .array .int
  | 10 => .int
  | 11 => .int
  | 12 => .int
  | 13 => .int
  | _ => .array .int
abbrev wsX40 : List Cond := u_ws RX4 TX4 15
set_option maxRecDepth 100000 in
theorem nmX4 : ∀ a, a < 15 → ∀ b, b < 15 → a ≠ b → (TX4 a).2.1 ≠ (TX4 b).2.1 := by decide +kernel
set_option maxRecDepth 100000 in
theorem tyX4_ok : ∀ k, k < 15 → parseFieldDescriptor (TX4 k).2.2.1 = some (tyX4 k) := by decide +kernel
abbrev cX4_init : ByteArray := prog_14_method_1_code
def yX4_init : MethodName := ⟨RX4, "<init>", "()V"⟩
def dkwX4_init_3 : List UInt8 := [180, 0, 7, 3, 4, 79, 42, 3, 2, 3, 182, 0, 35, 177]
abbrev dktX4_init_3 : List UInt8 := dkwX4_init_3 ++ []
def dkwX4_init_2 : List UInt8 := [17, 0, 240, 188, 10, 181, 0, 26, 42, 8, 188, 10, 181, 0, 29, 42, 16, 35, 188, 10, 181, 0, 32, 42]
abbrev dktX4_init_2 : List UInt8 := dkwX4_init_2 ++ dktX4_init_3
def dkwX4_init_1 : List UInt8 := [17, 5, 250, 188, 10, 181, 0, 16, 42, 5, 188, 4, 181, 0, 19, 42, 16, 80, 188, 10, 181, 0, 23, 42]
abbrev dktX4_init_1 : List UInt8 := dkwX4_init_1 ++ dktX4_init_2
def dkwX4_init_0 : List UInt8 := [42, 183, 0, 1, 42, 17, 2, 253, 188, 10, 181, 0, 7, 42, 17, 14, 241, 188, 10, 181, 0, 13, 42]
abbrev dktX4_init_0 : List UInt8 := dkwX4_init_0 ++ dktX4_init_1
theorem dksX4_init_0 : cX4_init.data.toList.drop 0 = dktX4_init_0 := by decide +kernel
theorem dksX4_init_1 : cX4_init.data.toList.drop 23 = dktX4_init_1 := dk_seg dksX4_init_0 23 rfl rfl
theorem dksX4_init_2 : cX4_init.data.toList.drop 47 = dktX4_init_2 := dk_seg dksX4_init_1 24 rfl rfl
theorem dksX4_init_3 : cX4_init.data.toList.drop 71 = dktX4_init_3 := dk_seg dksX4_init_2 24 rfl rfl
theorem dX4_init_0 : decode cX4_init 0 = .ok (.aload_n 0, 1) := dk_42 (dk_at dksX4_init_0 0 rfl rfl)
theorem dX4_init_1 : decode cX4_init 1 = .ok (.invokespecial 1, 3) := dk_183 0 1 (dk_at dksX4_init_0 1 rfl rfl)
theorem dX4_init_4 : decode cX4_init 4 = .ok (.aload_n 0, 1) := dk_42 (dk_at dksX4_init_0 4 rfl rfl)
theorem dX4_init_5 : decode cX4_init 5 = .ok (.sipush 765, 3) := dk_17 2 253 (dk_at dksX4_init_0 5 rfl rfl)
theorem dX4_init_8 : decode cX4_init 8 = .ok (.newarray .int, 2) := dk_188_10 (dk_at dksX4_init_0 8 rfl rfl)
theorem dX4_init_10 : decode cX4_init 10 = .ok (.putfield 7, 3) := dk_181 0 7 (dk_at dksX4_init_0 10 rfl rfl)
theorem dX4_init_13 : decode cX4_init 13 = .ok (.aload_n 0, 1) := dk_42 (dk_at dksX4_init_0 13 rfl rfl)
theorem dX4_init_14 : decode cX4_init 14 = .ok (.sipush 3825, 3) := dk_17 14 241 (dk_at dksX4_init_0 14 rfl rfl)
theorem dX4_init_17 : decode cX4_init 17 = .ok (.newarray .int, 2) := dk_188_10 (dk_at dksX4_init_0 17 rfl rfl)
theorem dX4_init_19 : decode cX4_init 19 = .ok (.putfield 13, 3) := dk_181 0 13 (dk_at dksX4_init_0 19 rfl rfl)
theorem dX4_init_22 : decode cX4_init 22 = .ok (.aload_n 0, 1) := dk_42 (dk_at dksX4_init_0 22 rfl rfl)
theorem dX4_init_23 : decode cX4_init 23 = .ok (.sipush 1530, 3) := dk_17 5 250 (dk_at dksX4_init_1 0 rfl rfl)
theorem dX4_init_26 : decode cX4_init 26 = .ok (.newarray .int, 2) := dk_188_10 (dk_at dksX4_init_1 3 rfl rfl)
theorem dX4_init_28 : decode cX4_init 28 = .ok (.putfield 16, 3) := dk_181 0 16 (dk_at dksX4_init_1 5 rfl rfl)
theorem dX4_init_31 : decode cX4_init 31 = .ok (.aload_n 0, 1) := dk_42 (dk_at dksX4_init_1 8 rfl rfl)
theorem dX4_init_32 : decode cX4_init 32 = .ok (.iconst 2, 1) := dk_5 (dk_at dksX4_init_1 9 rfl rfl)
theorem dX4_init_33 : decode cX4_init 33 = .ok (.newarray .boolean, 2) := dk_188_4 (dk_at dksX4_init_1 10 rfl rfl)
theorem dX4_init_35 : decode cX4_init 35 = .ok (.putfield 19, 3) := dk_181 0 19 (dk_at dksX4_init_1 12 rfl rfl)
theorem dX4_init_38 : decode cX4_init 38 = .ok (.aload_n 0, 1) := dk_42 (dk_at dksX4_init_1 15 rfl rfl)
theorem dX4_init_39 : decode cX4_init 39 = .ok (.bipush 80, 2) := dk_16 80 (dk_at dksX4_init_1 16 rfl rfl)
theorem dX4_init_41 : decode cX4_init 41 = .ok (.newarray .int, 2) := dk_188_10 (dk_at dksX4_init_1 18 rfl rfl)
theorem dX4_init_43 : decode cX4_init 43 = .ok (.putfield 23, 3) := dk_181 0 23 (dk_at dksX4_init_1 20 rfl rfl)
theorem dX4_init_46 : decode cX4_init 46 = .ok (.aload_n 0, 1) := dk_42 (dk_at dksX4_init_1 23 rfl rfl)
theorem dX4_init_47 : decode cX4_init 47 = .ok (.sipush 240, 3) := dk_17 0 240 (dk_at dksX4_init_2 0 rfl rfl)
theorem dX4_init_50 : decode cX4_init 50 = .ok (.newarray .int, 2) := dk_188_10 (dk_at dksX4_init_2 3 rfl rfl)
theorem dX4_init_52 : decode cX4_init 52 = .ok (.putfield 26, 3) := dk_181 0 26 (dk_at dksX4_init_2 5 rfl rfl)
theorem dX4_init_55 : decode cX4_init 55 = .ok (.aload_n 0, 1) := dk_42 (dk_at dksX4_init_2 8 rfl rfl)
theorem dX4_init_56 : decode cX4_init 56 = .ok (.iconst 5, 1) := dk_8 (dk_at dksX4_init_2 9 rfl rfl)
theorem dX4_init_57 : decode cX4_init 57 = .ok (.newarray .int, 2) := dk_188_10 (dk_at dksX4_init_2 10 rfl rfl)
theorem dX4_init_59 : decode cX4_init 59 = .ok (.putfield 29, 3) := dk_181 0 29 (dk_at dksX4_init_2 12 rfl rfl)
theorem dX4_init_62 : decode cX4_init 62 = .ok (.aload_n 0, 1) := dk_42 (dk_at dksX4_init_2 15 rfl rfl)
theorem dX4_init_63 : decode cX4_init 63 = .ok (.bipush 35, 2) := dk_16 35 (dk_at dksX4_init_2 16 rfl rfl)
theorem dX4_init_65 : decode cX4_init 65 = .ok (.newarray .int, 2) := dk_188_10 (dk_at dksX4_init_2 18 rfl rfl)
theorem dX4_init_67 : decode cX4_init 67 = .ok (.putfield 32, 3) := dk_181 0 32 (dk_at dksX4_init_2 20 rfl rfl)
theorem dX4_init_70 : decode cX4_init 70 = .ok (.aload_n 0, 1) := dk_42 (dk_at dksX4_init_2 23 rfl rfl)
theorem dX4_init_71 : decode cX4_init 71 = .ok (.getfield 7, 3) := dk_180 0 7 (dk_at dksX4_init_3 0 rfl rfl)
theorem dX4_init_74 : decode cX4_init 74 = .ok (.iconst 0, 1) := dk_3 (dk_at dksX4_init_3 3 rfl rfl)
theorem dX4_init_75 : decode cX4_init 75 = .ok (.iconst 1, 1) := dk_4 (dk_at dksX4_init_3 4 rfl rfl)
theorem dX4_init_76 : decode cX4_init 76 = .ok (.iastore, 1) := dk_79 (dk_at dksX4_init_3 5 rfl rfl)
theorem dX4_init_77 : decode cX4_init 77 = .ok (.aload_n 0, 1) := dk_42 (dk_at dksX4_init_3 6 rfl rfl)
theorem dX4_init_78 : decode cX4_init 78 = .ok (.iconst 0, 1) := dk_3 (dk_at dksX4_init_3 7 rfl rfl)
theorem dX4_init_79 : decode cX4_init 79 = .ok (.iconst (-1), 1) := dk_2 (dk_at dksX4_init_3 8 rfl rfl)
theorem dX4_init_80 : decode cX4_init 80 = .ok (.iconst 0, 1) := dk_3 (dk_at dksX4_init_3 9 rfl rfl)
theorem dX4_init_81 : decode cX4_init 81 = .ok (.invokevirtual 35, 3) := dk_182 0 35 (dk_at dksX4_init_3 10 rfl rfl)
theorem dX4_init_84 : decode cX4_init 84 = .ok (.return_, 1) := dk_177 (dk_at dksX4_init_3 13 rfl rfl)
abbrev cX4_founds : ByteArray := prog_14_method_27_code
def yX4_founds : MethodName := ⟨RX4, "founds", "(III)V"⟩
def dkwX4_founds_3 : List UInt8 := [184, 0, 50, 16, 15, 79, 42, 180, 0, 7, 27, 7, 184, 0, 50, 4, 79, 177]
abbrev dktX4_founds_3 : List UInt8 := dkwX4_founds_3 ++ []
def dkwX4_founds_2 : List UInt8 := [184, 0, 50, 28, 79, 42, 180, 0, 7, 27, 5, 184, 0, 50, 29, 79, 42, 180, 0, 7, 27, 6]
abbrev dktX4_founds_2 : List UInt8 := dkwX4_founds_2 ++ dktX4_founds_3
def dkwX4_founds_1 : List UInt8 := [132, 4, 1, 167, 255, 234, 42, 180, 0, 7, 27, 3, 184, 0, 50, 4, 79, 42, 180, 0, 7, 27, 4]
abbrev dktX4_founds_1 : List UInt8 := dkwX4_founds_1 ++ dktX4_founds_2
def dkwX4_founds_0 : List UInt8 := [3, 54, 4, 21, 4, 16, 36, 162, 0, 21, 42, 180, 0, 7, 27, 21, 4, 184, 0, 50, 3, 79]
abbrev dktX4_founds_0 : List UInt8 := dkwX4_founds_0 ++ dktX4_founds_1
theorem dksX4_founds_0 : cX4_founds.data.toList.drop 0 = dktX4_founds_0 := by decide +kernel
theorem dksX4_founds_1 : cX4_founds.data.toList.drop 22 = dktX4_founds_1 := dk_seg dksX4_founds_0 22 rfl rfl
theorem dksX4_founds_2 : cX4_founds.data.toList.drop 45 = dktX4_founds_2 := dk_seg dksX4_founds_1 23 rfl rfl
theorem dksX4_founds_3 : cX4_founds.data.toList.drop 67 = dktX4_founds_3 := dk_seg dksX4_founds_2 22 rfl rfl
theorem dX4_founds_0 : decode cX4_founds 0 = .ok (.iconst 0, 1) := dk_3 (dk_at dksX4_founds_0 0 rfl rfl)
theorem dX4_founds_1 : decode cX4_founds 1 = .ok (.istore 4, 2) := dk_54 4 (dk_at dksX4_founds_0 1 rfl rfl)
theorem dX4_founds_3 : decode cX4_founds 3 = .ok (.iload 4, 2) := dk_21 4 (dk_at dksX4_founds_0 3 rfl rfl)
theorem dX4_founds_5 : decode cX4_founds 5 = .ok (.bipush 36, 2) := dk_16 36 (dk_at dksX4_founds_0 5 rfl rfl)
theorem dX4_founds_7 : decode cX4_founds 7 = .ok (.if_icmp .ge 21, 3) := dk_162 0 21 (dk_at dksX4_founds_0 7 rfl rfl)
theorem dX4_founds_10 : decode cX4_founds 10 = .ok (.aload_n 0, 1) := dk_42 (dk_at dksX4_founds_0 10 rfl rfl)
theorem dX4_founds_11 : decode cX4_founds 11 = .ok (.getfield 7, 3) := dk_180 0 7 (dk_at dksX4_founds_0 11 rfl rfl)
theorem dX4_founds_14 : decode cX4_founds 14 = .ok (.iload_n 1, 1) := dk_27 (dk_at dksX4_founds_0 14 rfl rfl)
theorem dX4_founds_15 : decode cX4_founds 15 = .ok (.iload 4, 2) := dk_21 4 (dk_at dksX4_founds_0 15 rfl rfl)
theorem dX4_founds_17 : decode cX4_founds 17 = .ok (.invokestatic 50, 3) := dk_184 0 50 (dk_at dksX4_founds_0 17 rfl rfl)
theorem dX4_founds_20 : decode cX4_founds 20 = .ok (.iconst 0, 1) := dk_3 (dk_at dksX4_founds_0 20 rfl rfl)
theorem dX4_founds_21 : decode cX4_founds 21 = .ok (.iastore, 1) := dk_79 (dk_at dksX4_founds_0 21 rfl rfl)
theorem dX4_founds_22 : decode cX4_founds 22 = .ok (.iinc 4 1, 3) := dk_132 4 1 (dk_at dksX4_founds_1 0 rfl rfl)
theorem dX4_founds_25 : decode cX4_founds 25 = .ok (.goto (-22), 3) := dk_167 255 234 (dk_at dksX4_founds_1 3 rfl rfl)
theorem dX4_founds_28 : decode cX4_founds 28 = .ok (.aload_n 0, 1) := dk_42 (dk_at dksX4_founds_1 6 rfl rfl)
theorem dX4_founds_29 : decode cX4_founds 29 = .ok (.getfield 7, 3) := dk_180 0 7 (dk_at dksX4_founds_1 7 rfl rfl)
theorem dX4_founds_32 : decode cX4_founds 32 = .ok (.iload_n 1, 1) := dk_27 (dk_at dksX4_founds_1 10 rfl rfl)
theorem dX4_founds_33 : decode cX4_founds 33 = .ok (.iconst 0, 1) := dk_3 (dk_at dksX4_founds_1 11 rfl rfl)
theorem dX4_founds_34 : decode cX4_founds 34 = .ok (.invokestatic 50, 3) := dk_184 0 50 (dk_at dksX4_founds_1 12 rfl rfl)
theorem dX4_founds_37 : decode cX4_founds 37 = .ok (.iconst 1, 1) := dk_4 (dk_at dksX4_founds_1 15 rfl rfl)
theorem dX4_founds_38 : decode cX4_founds 38 = .ok (.iastore, 1) := dk_79 (dk_at dksX4_founds_1 16 rfl rfl)
theorem dX4_founds_39 : decode cX4_founds 39 = .ok (.aload_n 0, 1) := dk_42 (dk_at dksX4_founds_1 17 rfl rfl)
theorem dX4_founds_40 : decode cX4_founds 40 = .ok (.getfield 7, 3) := dk_180 0 7 (dk_at dksX4_founds_1 18 rfl rfl)
theorem dX4_founds_43 : decode cX4_founds 43 = .ok (.iload_n 1, 1) := dk_27 (dk_at dksX4_founds_1 21 rfl rfl)
theorem dX4_founds_44 : decode cX4_founds 44 = .ok (.iconst 1, 1) := dk_4 (dk_at dksX4_founds_1 22 rfl rfl)
theorem dX4_founds_45 : decode cX4_founds 45 = .ok (.invokestatic 50, 3) := dk_184 0 50 (dk_at dksX4_founds_2 0 rfl rfl)
theorem dX4_founds_48 : decode cX4_founds 48 = .ok (.iload_n 2, 1) := dk_28 (dk_at dksX4_founds_2 3 rfl rfl)
theorem dX4_founds_49 : decode cX4_founds 49 = .ok (.iastore, 1) := dk_79 (dk_at dksX4_founds_2 4 rfl rfl)
theorem dX4_founds_50 : decode cX4_founds 50 = .ok (.aload_n 0, 1) := dk_42 (dk_at dksX4_founds_2 5 rfl rfl)
theorem dX4_founds_51 : decode cX4_founds 51 = .ok (.getfield 7, 3) := dk_180 0 7 (dk_at dksX4_founds_2 6 rfl rfl)
theorem dX4_founds_54 : decode cX4_founds 54 = .ok (.iload_n 1, 1) := dk_27 (dk_at dksX4_founds_2 9 rfl rfl)
theorem dX4_founds_55 : decode cX4_founds 55 = .ok (.iconst 2, 1) := dk_5 (dk_at dksX4_founds_2 10 rfl rfl)
theorem dX4_founds_56 : decode cX4_founds 56 = .ok (.invokestatic 50, 3) := dk_184 0 50 (dk_at dksX4_founds_2 11 rfl rfl)
theorem dX4_founds_59 : decode cX4_founds 59 = .ok (.iload_n 3, 1) := dk_29 (dk_at dksX4_founds_2 14 rfl rfl)
theorem dX4_founds_60 : decode cX4_founds 60 = .ok (.iastore, 1) := dk_79 (dk_at dksX4_founds_2 15 rfl rfl)
theorem dX4_founds_61 : decode cX4_founds 61 = .ok (.aload_n 0, 1) := dk_42 (dk_at dksX4_founds_2 16 rfl rfl)
theorem dX4_founds_62 : decode cX4_founds 62 = .ok (.getfield 7, 3) := dk_180 0 7 (dk_at dksX4_founds_2 17 rfl rfl)
theorem dX4_founds_65 : decode cX4_founds 65 = .ok (.iload_n 1, 1) := dk_27 (dk_at dksX4_founds_2 20 rfl rfl)
theorem dX4_founds_66 : decode cX4_founds 66 = .ok (.iconst 3, 1) := dk_6 (dk_at dksX4_founds_2 21 rfl rfl)
theorem dX4_founds_67 : decode cX4_founds 67 = .ok (.invokestatic 50, 3) := dk_184 0 50 (dk_at dksX4_founds_3 0 rfl rfl)
theorem dX4_founds_70 : decode cX4_founds 70 = .ok (.bipush 15, 2) := dk_16 15 (dk_at dksX4_founds_3 3 rfl rfl)
theorem dX4_founds_72 : decode cX4_founds 72 = .ok (.iastore, 1) := dk_79 (dk_at dksX4_founds_3 5 rfl rfl)
theorem dX4_founds_73 : decode cX4_founds 73 = .ok (.aload_n 0, 1) := dk_42 (dk_at dksX4_founds_3 6 rfl rfl)
theorem dX4_founds_74 : decode cX4_founds 74 = .ok (.getfield 7, 3) := dk_180 0 7 (dk_at dksX4_founds_3 7 rfl rfl)
theorem dX4_founds_77 : decode cX4_founds 77 = .ok (.iload_n 1, 1) := dk_27 (dk_at dksX4_founds_3 10 rfl rfl)
theorem dX4_founds_78 : decode cX4_founds 78 = .ok (.iconst 4, 1) := dk_7 (dk_at dksX4_founds_3 11 rfl rfl)
theorem dX4_founds_79 : decode cX4_founds 79 = .ok (.invokestatic 50, 3) := dk_184 0 50 (dk_at dksX4_founds_3 12 rfl rfl)
theorem dX4_founds_82 : decode cX4_founds 82 = .ok (.iconst 1, 1) := dk_4 (dk_at dksX4_founds_3 15 rfl rfl)
theorem dX4_founds_83 : decode cX4_founds 83 = .ok (.iastore, 1) := dk_79 (dk_at dksX4_founds_3 16 rfl rfl)
theorem dX4_founds_84 : decode cX4_founds 84 = .ok (.return_, 1) := dk_177 (dk_at dksX4_founds_3 17 rfl rfl)
abbrev cX4_at : ByteArray := prog_14_method_8_code
def yX4_at : MethodName := ⟨RX4, "at", "(II)I"⟩
def dkwX4_at_0 : List UInt8 := [16, 18, 16, 36, 26, 104, 96, 27, 96, 172]
abbrev dktX4_at_0 : List UInt8 := dkwX4_at_0 ++ []
theorem dksX4_at_0 : cX4_at.data.toList.drop 0 = dktX4_at_0 := by decide +kernel
theorem dX4_at_0 : decode cX4_at 0 = .ok (.bipush 18, 2) := dk_16 18 (dk_at dksX4_at_0 0 rfl rfl)
theorem dX4_at_2 : decode cX4_at 2 = .ok (.bipush 36, 2) := dk_16 36 (dk_at dksX4_at_0 2 rfl rfl)
theorem dX4_at_4 : decode cX4_at 4 = .ok (.iload_n 0, 1) := dk_26 (dk_at dksX4_at_0 4 rfl rfl)
theorem dX4_at_5 : decode cX4_at 5 = .ok (.imul, 1) := dk_104 (dk_at dksX4_at_0 5 rfl rfl)
theorem dX4_at_6 : decode cX4_at 6 = .ok (.iadd, 1) := dk_96 (dk_at dksX4_at_0 6 rfl rfl)
theorem dX4_at_7 : decode cX4_at 7 = .ok (.iload_n 1, 1) := dk_27 (dk_at dksX4_at_0 7 rfl rfl)
theorem dX4_at_8 : decode cX4_at 8 = .ok (.iadd, 1) := dk_96 (dk_at dksX4_at_0 8 rfl rfl)
theorem dX4_at_9 : decode cX4_at 9 = .ok (.ireturn, 1) := dk_172 (dk_at dksX4_at_0 9 rfl rfl)
abbrev cX4_thrown : ByteArray := prog_14_method_2_code
def yX4_thrown : MethodName := ⟨RX4, "thrown", "()I"⟩
theorem dX4_thrown_0 : decode cX4_thrown 0 = .ok (.aload_n 0, 1) := by decide +kernel
theorem dX4_thrown_1 : decode cX4_thrown 1 = .ok (.getfield 39, 3) := by decide +kernel
theorem dX4_thrown_4 : decode cX4_thrown 4 = .ok (.ireturn, 1) := by decide +kernel
abbrev cX4_addUser : ByteArray := prog_14_method_21_code
def yX4_addUser : MethodName := ⟨RX4, "addUser", "()I"⟩
def dkwX4_addUser_1 : List UInt8 := [182, 0, 79, 42, 180, 0, 7, 3, 92, 46, 4, 96, 79, 42, 180, 0, 7, 3, 46, 4, 100, 172]
abbrev dktX4_addUser_1 : List UInt8 := dkwX4_addUser_1 ++ []
def dkwX4_addUser_0 : List UInt8 := [42, 3, 181, 0, 39, 42, 180, 0, 7, 3, 46, 16, 12, 160, 0, 9, 42, 4, 182, 0, 76, 172, 42]
abbrev dktX4_addUser_0 : List UInt8 := dkwX4_addUser_0 ++ dktX4_addUser_1
theorem dksX4_addUser_0 : cX4_addUser.data.toList.drop 0 = dktX4_addUser_0 := by decide +kernel
theorem dksX4_addUser_1 : cX4_addUser.data.toList.drop 23 = dktX4_addUser_1 := dk_seg dksX4_addUser_0 23 rfl rfl
theorem dX4_addUser_0 : decode cX4_addUser 0 = .ok (.aload_n 0, 1) := dk_42 (dk_at dksX4_addUser_0 0 rfl rfl)
theorem dX4_addUser_1 : decode cX4_addUser 1 = .ok (.iconst 0, 1) := dk_3 (dk_at dksX4_addUser_0 1 rfl rfl)
theorem dX4_addUser_2 : decode cX4_addUser 2 = .ok (.putfield 39, 3) := dk_181 0 39 (dk_at dksX4_addUser_0 2 rfl rfl)
theorem dX4_addUser_5 : decode cX4_addUser 5 = .ok (.aload_n 0, 1) := dk_42 (dk_at dksX4_addUser_0 5 rfl rfl)
theorem dX4_addUser_6 : decode cX4_addUser 6 = .ok (.getfield 7, 3) := dk_180 0 7 (dk_at dksX4_addUser_0 6 rfl rfl)
theorem dX4_addUser_9 : decode cX4_addUser 9 = .ok (.iconst 0, 1) := dk_3 (dk_at dksX4_addUser_0 9 rfl rfl)
theorem dX4_addUser_10 : decode cX4_addUser 10 = .ok (.iaload, 1) := dk_46 (dk_at dksX4_addUser_0 10 rfl rfl)
theorem dX4_addUser_11 : decode cX4_addUser 11 = .ok (.bipush 12, 2) := dk_16 12 (dk_at dksX4_addUser_0 11 rfl rfl)
theorem dX4_addUser_13 : decode cX4_addUser 13 = .ok (.if_icmp .ne 9, 3) := dk_160 0 9 (dk_at dksX4_addUser_0 13 rfl rfl)
theorem dX4_addUser_16 : decode cX4_addUser 16 = .ok (.aload_n 0, 1) := dk_42 (dk_at dksX4_addUser_0 16 rfl rfl)
theorem dX4_addUser_17 : decode cX4_addUser 17 = .ok (.iconst 1, 1) := dk_4 (dk_at dksX4_addUser_0 17 rfl rfl)
theorem dX4_addUser_18 : decode cX4_addUser 18 = .ok (.invokevirtual 76, 3) := dk_182 0 76 (dk_at dksX4_addUser_0 18 rfl rfl)
theorem dX4_addUser_21 : decode cX4_addUser 21 = .ok (.ireturn, 1) := dk_172 (dk_at dksX4_addUser_0 21 rfl rfl)
theorem dX4_addUser_22 : decode cX4_addUser 22 = .ok (.aload_n 0, 1) := dk_42 (dk_at dksX4_addUser_0 22 rfl rfl)
theorem dX4_addUser_23 : decode cX4_addUser 23 = .ok (.invokevirtual 79, 3) := dk_182 0 79 (dk_at dksX4_addUser_1 0 rfl rfl)
theorem dX4_addUser_26 : decode cX4_addUser 26 = .ok (.aload_n 0, 1) := dk_42 (dk_at dksX4_addUser_1 3 rfl rfl)
theorem dX4_addUser_27 : decode cX4_addUser 27 = .ok (.getfield 7, 3) := dk_180 0 7 (dk_at dksX4_addUser_1 4 rfl rfl)
theorem dX4_addUser_30 : decode cX4_addUser 30 = .ok (.iconst 0, 1) := dk_3 (dk_at dksX4_addUser_1 7 rfl rfl)
theorem dX4_addUser_31 : decode cX4_addUser 31 = .ok (.dup2, 1) := dk_92 (dk_at dksX4_addUser_1 8 rfl rfl)
theorem dX4_addUser_32 : decode cX4_addUser 32 = .ok (.iaload, 1) := dk_46 (dk_at dksX4_addUser_1 9 rfl rfl)
theorem dX4_addUser_33 : decode cX4_addUser 33 = .ok (.iconst 1, 1) := dk_4 (dk_at dksX4_addUser_1 10 rfl rfl)
theorem dX4_addUser_34 : decode cX4_addUser 34 = .ok (.iadd, 1) := dk_96 (dk_at dksX4_addUser_1 11 rfl rfl)
theorem dX4_addUser_35 : decode cX4_addUser 35 = .ok (.iastore, 1) := dk_79 (dk_at dksX4_addUser_1 12 rfl rfl)
theorem dX4_addUser_36 : decode cX4_addUser 36 = .ok (.aload_n 0, 1) := dk_42 (dk_at dksX4_addUser_1 13 rfl rfl)
theorem dX4_addUser_37 : decode cX4_addUser 37 = .ok (.getfield 7, 3) := dk_180 0 7 (dk_at dksX4_addUser_1 14 rfl rfl)
theorem dX4_addUser_40 : decode cX4_addUser 40 = .ok (.iconst 0, 1) := dk_3 (dk_at dksX4_addUser_1 17 rfl rfl)
theorem dX4_addUser_41 : decode cX4_addUser 41 = .ok (.iaload, 1) := dk_46 (dk_at dksX4_addUser_1 18 rfl rfl)
theorem dX4_addUser_42 : decode cX4_addUser 42 = .ok (.iconst 1, 1) := dk_4 (dk_at dksX4_addUser_1 19 rfl rfl)
theorem dX4_addUser_43 : decode cX4_addUser 43 = .ok (.isub, 1) := dk_100 (dk_at dksX4_addUser_1 20 rfl rfl)
theorem dX4_addUser_44 : decode cX4_addUser 44 = .ok (.ireturn, 1) := dk_172 (dk_at dksX4_addUser_1 21 rfl rfl)
abbrev cX4_fails : ByteArray := prog_14_method_4_code
def yX4_fails : MethodName := ⟨RX4, "fails", "(I)I"⟩
def dkwX4_fails_0 : List UInt8 := [42, 27, 181, 0, 39, 3, 172]
abbrev dktX4_fails_0 : List UInt8 := dkwX4_fails_0 ++ []
theorem dksX4_fails_0 : cX4_fails.data.toList.drop 0 = dktX4_fails_0 := by decide +kernel
theorem dX4_fails_0 : decode cX4_fails 0 = .ok (.aload_n 0, 1) := dk_42 (dk_at dksX4_fails_0 0 rfl rfl)
theorem dX4_fails_1 : decode cX4_fails 1 = .ok (.iload_n 1, 1) := dk_27 (dk_at dksX4_fails_0 1 rfl rfl)
theorem dX4_fails_2 : decode cX4_fails 2 = .ok (.putfield 39, 3) := dk_181 0 39 (dk_at dksX4_fails_0 2 rfl rfl)
theorem dX4_fails_5 : decode cX4_fails 5 = .ok (.iconst 0, 1) := dk_3 (dk_at dksX4_fails_0 5 rfl rfl)
theorem dX4_fails_6 : decode cX4_fails 6 = .ok (.ireturn, 1) := dk_172 (dk_at dksX4_fails_0 6 rfl rfl)
abbrev cX4_changes : ByteArray := prog_14_method_5_code
def yX4_changes : MethodName := ⟨RX4, "changes", "()V"⟩
def dkwX4_changes_4 : List UInt8 := [181, 0, 43, 177]
abbrev dktX4_changes_4 : List UInt8 := dkwX4_changes_4 ++ []
def dkwX4_changes_3 : List UInt8 := [27, 96, 42, 180, 0, 7, 27, 46, 79, 132, 1, 1, 167, 255, 225, 42, 89, 180, 0, 43, 4, 96]
abbrev dktX4_changes_3 : List UInt8 := dkwX4_changes_3 ++ dktX4_changes_4
def dkwX4_changes_2 : List UInt8 := [181, 0, 43, 3, 60, 27, 17, 2, 253, 162, 0, 30, 42, 180, 0, 13, 17, 2, 253, 42, 180, 0, 43, 104]
abbrev dktX4_changes_2 : List UInt8 := dkwX4_changes_2 ++ dktX4_changes_3
def dkwX4_changes_1 : List UInt8 := [180, 0, 13, 27, 17, 2, 253, 96, 46, 79, 132, 1, 1, 167, 255, 230, 42, 89, 180, 0, 43, 4, 100]
abbrev dktX4_changes_1 : List UInt8 := dkwX4_changes_1 ++ dktX4_changes_2
def dkwX4_changes_0 : List UInt8 := [42, 180, 0, 43, 8, 160, 0, 44, 3, 60, 27, 17, 11, 244, 162, 0, 25, 42, 180, 0, 13, 27, 42]
abbrev dktX4_changes_0 : List UInt8 := dkwX4_changes_0 ++ dktX4_changes_1
theorem dksX4_changes_0 : cX4_changes.data.toList.drop 0 = dktX4_changes_0 := by decide +kernel
theorem dksX4_changes_1 : cX4_changes.data.toList.drop 23 = dktX4_changes_1 := dk_seg dksX4_changes_0 23 rfl rfl
theorem dksX4_changes_2 : cX4_changes.data.toList.drop 46 = dktX4_changes_2 := dk_seg dksX4_changes_1 23 rfl rfl
theorem dksX4_changes_3 : cX4_changes.data.toList.drop 70 = dktX4_changes_3 := dk_seg dksX4_changes_2 24 rfl rfl
theorem dksX4_changes_4 : cX4_changes.data.toList.drop 92 = dktX4_changes_4 := dk_seg dksX4_changes_3 22 rfl rfl
theorem dX4_changes_0 : decode cX4_changes 0 = .ok (.aload_n 0, 1) := dk_42 (dk_at dksX4_changes_0 0 rfl rfl)
theorem dX4_changes_1 : decode cX4_changes 1 = .ok (.getfield 43, 3) := dk_180 0 43 (dk_at dksX4_changes_0 1 rfl rfl)
theorem dX4_changes_4 : decode cX4_changes 4 = .ok (.iconst 5, 1) := dk_8 (dk_at dksX4_changes_0 4 rfl rfl)
theorem dX4_changes_5 : decode cX4_changes 5 = .ok (.if_icmp .ne 44, 3) := dk_160 0 44 (dk_at dksX4_changes_0 5 rfl rfl)
theorem dX4_changes_8 : decode cX4_changes 8 = .ok (.iconst 0, 1) := dk_3 (dk_at dksX4_changes_0 8 rfl rfl)
theorem dX4_changes_9 : decode cX4_changes 9 = .ok (.istore_n 1, 1) := dk_60 (dk_at dksX4_changes_0 9 rfl rfl)
theorem dX4_changes_10 : decode cX4_changes 10 = .ok (.iload_n 1, 1) := dk_27 (dk_at dksX4_changes_0 10 rfl rfl)
theorem dX4_changes_11 : decode cX4_changes 11 = .ok (.sipush 3060, 3) := dk_17 11 244 (dk_at dksX4_changes_0 11 rfl rfl)
theorem dX4_changes_14 : decode cX4_changes 14 = .ok (.if_icmp .ge 25, 3) := dk_162 0 25 (dk_at dksX4_changes_0 14 rfl rfl)
theorem dX4_changes_17 : decode cX4_changes 17 = .ok (.aload_n 0, 1) := dk_42 (dk_at dksX4_changes_0 17 rfl rfl)
theorem dX4_changes_18 : decode cX4_changes 18 = .ok (.getfield 13, 3) := dk_180 0 13 (dk_at dksX4_changes_0 18 rfl rfl)
theorem dX4_changes_21 : decode cX4_changes 21 = .ok (.iload_n 1, 1) := dk_27 (dk_at dksX4_changes_0 21 rfl rfl)
theorem dX4_changes_22 : decode cX4_changes 22 = .ok (.aload_n 0, 1) := dk_42 (dk_at dksX4_changes_0 22 rfl rfl)
theorem dX4_changes_23 : decode cX4_changes 23 = .ok (.getfield 13, 3) := dk_180 0 13 (dk_at dksX4_changes_1 0 rfl rfl)
theorem dX4_changes_26 : decode cX4_changes 26 = .ok (.iload_n 1, 1) := dk_27 (dk_at dksX4_changes_1 3 rfl rfl)
theorem dX4_changes_27 : decode cX4_changes 27 = .ok (.sipush 765, 3) := dk_17 2 253 (dk_at dksX4_changes_1 4 rfl rfl)
theorem dX4_changes_30 : decode cX4_changes 30 = .ok (.iadd, 1) := dk_96 (dk_at dksX4_changes_1 7 rfl rfl)
theorem dX4_changes_31 : decode cX4_changes 31 = .ok (.iaload, 1) := dk_46 (dk_at dksX4_changes_1 8 rfl rfl)
theorem dX4_changes_32 : decode cX4_changes 32 = .ok (.iastore, 1) := dk_79 (dk_at dksX4_changes_1 9 rfl rfl)
theorem dX4_changes_33 : decode cX4_changes 33 = .ok (.iinc 1 1, 3) := dk_132 1 1 (dk_at dksX4_changes_1 10 rfl rfl)
theorem dX4_changes_36 : decode cX4_changes 36 = .ok (.goto (-26), 3) := dk_167 255 230 (dk_at dksX4_changes_1 13 rfl rfl)
theorem dX4_changes_39 : decode cX4_changes 39 = .ok (.aload_n 0, 1) := dk_42 (dk_at dksX4_changes_1 16 rfl rfl)
theorem dX4_changes_40 : decode cX4_changes 40 = .ok (.dup, 1) := dk_89 (dk_at dksX4_changes_1 17 rfl rfl)
theorem dX4_changes_41 : decode cX4_changes 41 = .ok (.getfield 43, 3) := dk_180 0 43 (dk_at dksX4_changes_1 18 rfl rfl)
theorem dX4_changes_44 : decode cX4_changes 44 = .ok (.iconst 1, 1) := dk_4 (dk_at dksX4_changes_1 21 rfl rfl)
theorem dX4_changes_45 : decode cX4_changes 45 = .ok (.isub, 1) := dk_100 (dk_at dksX4_changes_1 22 rfl rfl)
theorem dX4_changes_46 : decode cX4_changes 46 = .ok (.putfield 43, 3) := dk_181 0 43 (dk_at dksX4_changes_2 0 rfl rfl)
theorem dX4_changes_49 : decode cX4_changes 49 = .ok (.iconst 0, 1) := dk_3 (dk_at dksX4_changes_2 3 rfl rfl)
theorem dX4_changes_50 : decode cX4_changes 50 = .ok (.istore_n 1, 1) := dk_60 (dk_at dksX4_changes_2 4 rfl rfl)
theorem dX4_changes_51 : decode cX4_changes 51 = .ok (.iload_n 1, 1) := dk_27 (dk_at dksX4_changes_2 5 rfl rfl)
theorem dX4_changes_52 : decode cX4_changes 52 = .ok (.sipush 765, 3) := dk_17 2 253 (dk_at dksX4_changes_2 6 rfl rfl)
theorem dX4_changes_55 : decode cX4_changes 55 = .ok (.if_icmp .ge 30, 3) := dk_162 0 30 (dk_at dksX4_changes_2 9 rfl rfl)
theorem dX4_changes_58 : decode cX4_changes 58 = .ok (.aload_n 0, 1) := dk_42 (dk_at dksX4_changes_2 12 rfl rfl)
theorem dX4_changes_59 : decode cX4_changes 59 = .ok (.getfield 13, 3) := dk_180 0 13 (dk_at dksX4_changes_2 13 rfl rfl)
theorem dX4_changes_62 : decode cX4_changes 62 = .ok (.sipush 765, 3) := dk_17 2 253 (dk_at dksX4_changes_2 16 rfl rfl)
theorem dX4_changes_65 : decode cX4_changes 65 = .ok (.aload_n 0, 1) := dk_42 (dk_at dksX4_changes_2 19 rfl rfl)
theorem dX4_changes_66 : decode cX4_changes 66 = .ok (.getfield 43, 3) := dk_180 0 43 (dk_at dksX4_changes_2 20 rfl rfl)
theorem dX4_changes_69 : decode cX4_changes 69 = .ok (.imul, 1) := dk_104 (dk_at dksX4_changes_2 23 rfl rfl)
theorem dX4_changes_70 : decode cX4_changes 70 = .ok (.iload_n 1, 1) := dk_27 (dk_at dksX4_changes_3 0 rfl rfl)
theorem dX4_changes_71 : decode cX4_changes 71 = .ok (.iadd, 1) := dk_96 (dk_at dksX4_changes_3 1 rfl rfl)
theorem dX4_changes_72 : decode cX4_changes 72 = .ok (.aload_n 0, 1) := dk_42 (dk_at dksX4_changes_3 2 rfl rfl)
theorem dX4_changes_73 : decode cX4_changes 73 = .ok (.getfield 7, 3) := dk_180 0 7 (dk_at dksX4_changes_3 3 rfl rfl)
theorem dX4_changes_76 : decode cX4_changes 76 = .ok (.iload_n 1, 1) := dk_27 (dk_at dksX4_changes_3 6 rfl rfl)
theorem dX4_changes_77 : decode cX4_changes 77 = .ok (.iaload, 1) := dk_46 (dk_at dksX4_changes_3 7 rfl rfl)
theorem dX4_changes_78 : decode cX4_changes 78 = .ok (.iastore, 1) := dk_79 (dk_at dksX4_changes_3 8 rfl rfl)
theorem dX4_changes_79 : decode cX4_changes 79 = .ok (.iinc 1 1, 3) := dk_132 1 1 (dk_at dksX4_changes_3 9 rfl rfl)
theorem dX4_changes_82 : decode cX4_changes 82 = .ok (.goto (-31), 3) := dk_167 255 225 (dk_at dksX4_changes_3 12 rfl rfl)
theorem dX4_changes_85 : decode cX4_changes 85 = .ok (.aload_n 0, 1) := dk_42 (dk_at dksX4_changes_3 15 rfl rfl)
theorem dX4_changes_86 : decode cX4_changes 86 = .ok (.dup, 1) := dk_89 (dk_at dksX4_changes_3 16 rfl rfl)
theorem dX4_changes_87 : decode cX4_changes 87 = .ok (.getfield 43, 3) := dk_180 0 43 (dk_at dksX4_changes_3 17 rfl rfl)
theorem dX4_changes_90 : decode cX4_changes 90 = .ok (.iconst 1, 1) := dk_4 (dk_at dksX4_changes_3 20 rfl rfl)
theorem dX4_changes_91 : decode cX4_changes 91 = .ok (.iadd, 1) := dk_96 (dk_at dksX4_changes_3 21 rfl rfl)
theorem dX4_changes_92 : decode cX4_changes 92 = .ok (.putfield 43, 3) := dk_181 0 43 (dk_at dksX4_changes_4 0 rfl rfl)
theorem dX4_changes_95 : decode cX4_changes 95 = .ok (.return_, 1) := dk_177 (dk_at dksX4_changes_4 3 rfl rfl)
abbrev cX4_addGroup : ByteArray := prog_14_method_22_code
def yX4_addGroup : MethodName := ⟨RX4, "addGroup", "()I"⟩
def dkwX4_addGroup_1 : List UInt8 := [182, 0, 79, 42, 180, 0, 7, 4, 92, 46, 4, 96, 79, 42, 180, 0, 7, 4, 46, 4, 100, 172]
abbrev dktX4_addGroup_1 : List UInt8 := dkwX4_addGroup_1 ++ []
def dkwX4_addGroup_0 : List UInt8 := [42, 3, 181, 0, 39, 42, 180, 0, 7, 4, 46, 16, 8, 160, 0, 9, 42, 4, 182, 0, 76, 172, 42]
abbrev dktX4_addGroup_0 : List UInt8 := dkwX4_addGroup_0 ++ dktX4_addGroup_1
theorem dksX4_addGroup_0 : cX4_addGroup.data.toList.drop 0 = dktX4_addGroup_0 := by decide +kernel
theorem dksX4_addGroup_1 : cX4_addGroup.data.toList.drop 23 = dktX4_addGroup_1 := dk_seg dksX4_addGroup_0 23 rfl rfl
theorem dX4_addGroup_0 : decode cX4_addGroup 0 = .ok (.aload_n 0, 1) := dk_42 (dk_at dksX4_addGroup_0 0 rfl rfl)
theorem dX4_addGroup_1 : decode cX4_addGroup 1 = .ok (.iconst 0, 1) := dk_3 (dk_at dksX4_addGroup_0 1 rfl rfl)
theorem dX4_addGroup_2 : decode cX4_addGroup 2 = .ok (.putfield 39, 3) := dk_181 0 39 (dk_at dksX4_addGroup_0 2 rfl rfl)
theorem dX4_addGroup_5 : decode cX4_addGroup 5 = .ok (.aload_n 0, 1) := dk_42 (dk_at dksX4_addGroup_0 5 rfl rfl)
theorem dX4_addGroup_6 : decode cX4_addGroup 6 = .ok (.getfield 7, 3) := dk_180 0 7 (dk_at dksX4_addGroup_0 6 rfl rfl)
theorem dX4_addGroup_9 : decode cX4_addGroup 9 = .ok (.iconst 1, 1) := dk_4 (dk_at dksX4_addGroup_0 9 rfl rfl)
theorem dX4_addGroup_10 : decode cX4_addGroup 10 = .ok (.iaload, 1) := dk_46 (dk_at dksX4_addGroup_0 10 rfl rfl)
theorem dX4_addGroup_11 : decode cX4_addGroup 11 = .ok (.bipush 8, 2) := dk_16 8 (dk_at dksX4_addGroup_0 11 rfl rfl)
theorem dX4_addGroup_13 : decode cX4_addGroup 13 = .ok (.if_icmp .ne 9, 3) := dk_160 0 9 (dk_at dksX4_addGroup_0 13 rfl rfl)
theorem dX4_addGroup_16 : decode cX4_addGroup 16 = .ok (.aload_n 0, 1) := dk_42 (dk_at dksX4_addGroup_0 16 rfl rfl)
theorem dX4_addGroup_17 : decode cX4_addGroup 17 = .ok (.iconst 1, 1) := dk_4 (dk_at dksX4_addGroup_0 17 rfl rfl)
theorem dX4_addGroup_18 : decode cX4_addGroup 18 = .ok (.invokevirtual 76, 3) := dk_182 0 76 (dk_at dksX4_addGroup_0 18 rfl rfl)
theorem dX4_addGroup_21 : decode cX4_addGroup 21 = .ok (.ireturn, 1) := dk_172 (dk_at dksX4_addGroup_0 21 rfl rfl)
theorem dX4_addGroup_22 : decode cX4_addGroup 22 = .ok (.aload_n 0, 1) := dk_42 (dk_at dksX4_addGroup_0 22 rfl rfl)
theorem dX4_addGroup_23 : decode cX4_addGroup 23 = .ok (.invokevirtual 79, 3) := dk_182 0 79 (dk_at dksX4_addGroup_1 0 rfl rfl)
theorem dX4_addGroup_26 : decode cX4_addGroup 26 = .ok (.aload_n 0, 1) := dk_42 (dk_at dksX4_addGroup_1 3 rfl rfl)
theorem dX4_addGroup_27 : decode cX4_addGroup 27 = .ok (.getfield 7, 3) := dk_180 0 7 (dk_at dksX4_addGroup_1 4 rfl rfl)
theorem dX4_addGroup_30 : decode cX4_addGroup 30 = .ok (.iconst 1, 1) := dk_4 (dk_at dksX4_addGroup_1 7 rfl rfl)
theorem dX4_addGroup_31 : decode cX4_addGroup 31 = .ok (.dup2, 1) := dk_92 (dk_at dksX4_addGroup_1 8 rfl rfl)
theorem dX4_addGroup_32 : decode cX4_addGroup 32 = .ok (.iaload, 1) := dk_46 (dk_at dksX4_addGroup_1 9 rfl rfl)
theorem dX4_addGroup_33 : decode cX4_addGroup 33 = .ok (.iconst 1, 1) := dk_4 (dk_at dksX4_addGroup_1 10 rfl rfl)
theorem dX4_addGroup_34 : decode cX4_addGroup 34 = .ok (.iadd, 1) := dk_96 (dk_at dksX4_addGroup_1 11 rfl rfl)
theorem dX4_addGroup_35 : decode cX4_addGroup 35 = .ok (.iastore, 1) := dk_79 (dk_at dksX4_addGroup_1 12 rfl rfl)
theorem dX4_addGroup_36 : decode cX4_addGroup 36 = .ok (.aload_n 0, 1) := dk_42 (dk_at dksX4_addGroup_1 13 rfl rfl)
theorem dX4_addGroup_37 : decode cX4_addGroup 37 = .ok (.getfield 7, 3) := dk_180 0 7 (dk_at dksX4_addGroup_1 14 rfl rfl)
theorem dX4_addGroup_40 : decode cX4_addGroup 40 = .ok (.iconst 1, 1) := dk_4 (dk_at dksX4_addGroup_1 17 rfl rfl)
theorem dX4_addGroup_41 : decode cX4_addGroup 41 = .ok (.iaload, 1) := dk_46 (dk_at dksX4_addGroup_1 18 rfl rfl)
theorem dX4_addGroup_42 : decode cX4_addGroup 42 = .ok (.iconst 1, 1) := dk_4 (dk_at dksX4_addGroup_1 19 rfl rfl)
theorem dX4_addGroup_43 : decode cX4_addGroup 43 = .ok (.isub, 1) := dk_100 (dk_at dksX4_addGroup_1 20 rfl rfl)
theorem dX4_addGroup_44 : decode cX4_addGroup 44 = .ok (.ireturn, 1) := dk_172 (dk_at dksX4_addGroup_1 21 rfl rfl)
abbrev cX4_join : ByteArray := prog_14_method_23_code
def yX4_join : MethodName := ⟨RX4, "join", "(II)I"⟩
def dkwX4_join_3 : List UInt8 := [172]
abbrev dktX4_join_3 : List UInt8 := dkwX4_join_3 ++ []
def dkwX4_join_2 : List UInt8 := [172, 42, 182, 0, 79, 42, 180, 0, 7, 5, 28, 96, 92, 46, 4, 27, 120, 128, 79, 42, 28, 182, 0, 88]
abbrev dktX4_join_2 : List UInt8 := dkwX4_join_2 ++ dktX4_join_3
def dkwX4_join_1 : List UInt8 := [182, 0, 76, 172, 42, 180, 0, 7, 5, 28, 96, 46, 27, 184, 0, 65, 153, 0, 9, 42, 5, 182, 0, 76]
abbrev dktX4_join_1 : List UInt8 := dkwX4_join_1 ++ dktX4_join_2
def dkwX4_join_0 : List UInt8 := [42, 3, 181, 0, 39, 42, 27, 182, 0, 82, 153, 0, 11, 42, 28, 182, 0, 85, 154, 0, 9, 42, 4]
abbrev dktX4_join_0 : List UInt8 := dkwX4_join_0 ++ dktX4_join_1
theorem dksX4_join_0 : cX4_join.data.toList.drop 0 = dktX4_join_0 := by decide +kernel
theorem dksX4_join_1 : cX4_join.data.toList.drop 23 = dktX4_join_1 := dk_seg dksX4_join_0 23 rfl rfl
theorem dksX4_join_2 : cX4_join.data.toList.drop 47 = dktX4_join_2 := dk_seg dksX4_join_1 24 rfl rfl
theorem dksX4_join_3 : cX4_join.data.toList.drop 71 = dktX4_join_3 := dk_seg dksX4_join_2 24 rfl rfl
theorem dX4_join_0 : decode cX4_join 0 = .ok (.aload_n 0, 1) := dk_42 (dk_at dksX4_join_0 0 rfl rfl)
theorem dX4_join_1 : decode cX4_join 1 = .ok (.iconst 0, 1) := dk_3 (dk_at dksX4_join_0 1 rfl rfl)
theorem dX4_join_2 : decode cX4_join 2 = .ok (.putfield 39, 3) := dk_181 0 39 (dk_at dksX4_join_0 2 rfl rfl)
theorem dX4_join_5 : decode cX4_join 5 = .ok (.aload_n 0, 1) := dk_42 (dk_at dksX4_join_0 5 rfl rfl)
theorem dX4_join_6 : decode cX4_join 6 = .ok (.iload_n 1, 1) := dk_27 (dk_at dksX4_join_0 6 rfl rfl)
theorem dX4_join_7 : decode cX4_join 7 = .ok (.invokevirtual 82, 3) := dk_182 0 82 (dk_at dksX4_join_0 7 rfl rfl)
theorem dX4_join_10 : decode cX4_join 10 = .ok (.ifCond .eq 11, 3) := dk_153 0 11 (dk_at dksX4_join_0 10 rfl rfl)
theorem dX4_join_13 : decode cX4_join 13 = .ok (.aload_n 0, 1) := dk_42 (dk_at dksX4_join_0 13 rfl rfl)
theorem dX4_join_14 : decode cX4_join 14 = .ok (.iload_n 2, 1) := dk_28 (dk_at dksX4_join_0 14 rfl rfl)
theorem dX4_join_15 : decode cX4_join 15 = .ok (.invokevirtual 85, 3) := dk_182 0 85 (dk_at dksX4_join_0 15 rfl rfl)
theorem dX4_join_18 : decode cX4_join 18 = .ok (.ifCond .ne 9, 3) := dk_154 0 9 (dk_at dksX4_join_0 18 rfl rfl)
theorem dX4_join_21 : decode cX4_join 21 = .ok (.aload_n 0, 1) := dk_42 (dk_at dksX4_join_0 21 rfl rfl)
theorem dX4_join_22 : decode cX4_join 22 = .ok (.iconst 1, 1) := dk_4 (dk_at dksX4_join_0 22 rfl rfl)
theorem dX4_join_23 : decode cX4_join 23 = .ok (.invokevirtual 76, 3) := dk_182 0 76 (dk_at dksX4_join_1 0 rfl rfl)
theorem dX4_join_26 : decode cX4_join 26 = .ok (.ireturn, 1) := dk_172 (dk_at dksX4_join_1 3 rfl rfl)
theorem dX4_join_27 : decode cX4_join 27 = .ok (.aload_n 0, 1) := dk_42 (dk_at dksX4_join_1 4 rfl rfl)
theorem dX4_join_28 : decode cX4_join 28 = .ok (.getfield 7, 3) := dk_180 0 7 (dk_at dksX4_join_1 5 rfl rfl)
theorem dX4_join_31 : decode cX4_join 31 = .ok (.iconst 2, 1) := dk_5 (dk_at dksX4_join_1 8 rfl rfl)
theorem dX4_join_32 : decode cX4_join 32 = .ok (.iload_n 2, 1) := dk_28 (dk_at dksX4_join_1 9 rfl rfl)
theorem dX4_join_33 : decode cX4_join 33 = .ok (.iadd, 1) := dk_96 (dk_at dksX4_join_1 10 rfl rfl)
theorem dX4_join_34 : decode cX4_join 34 = .ok (.iaload, 1) := dk_46 (dk_at dksX4_join_1 11 rfl rfl)
theorem dX4_join_35 : decode cX4_join 35 = .ok (.iload_n 1, 1) := dk_27 (dk_at dksX4_join_1 12 rfl rfl)
theorem dX4_join_36 : decode cX4_join 36 = .ok (.invokestatic 65, 3) := dk_184 0 65 (dk_at dksX4_join_1 13 rfl rfl)
theorem dX4_join_39 : decode cX4_join 39 = .ok (.ifCond .eq 9, 3) := dk_153 0 9 (dk_at dksX4_join_1 16 rfl rfl)
theorem dX4_join_42 : decode cX4_join 42 = .ok (.aload_n 0, 1) := dk_42 (dk_at dksX4_join_1 19 rfl rfl)
theorem dX4_join_43 : decode cX4_join 43 = .ok (.iconst 2, 1) := dk_5 (dk_at dksX4_join_1 20 rfl rfl)
theorem dX4_join_44 : decode cX4_join 44 = .ok (.invokevirtual 76, 3) := dk_182 0 76 (dk_at dksX4_join_1 21 rfl rfl)
theorem dX4_join_47 : decode cX4_join 47 = .ok (.ireturn, 1) := dk_172 (dk_at dksX4_join_2 0 rfl rfl)
theorem dX4_join_48 : decode cX4_join 48 = .ok (.aload_n 0, 1) := dk_42 (dk_at dksX4_join_2 1 rfl rfl)
theorem dX4_join_49 : decode cX4_join 49 = .ok (.invokevirtual 79, 3) := dk_182 0 79 (dk_at dksX4_join_2 2 rfl rfl)
theorem dX4_join_52 : decode cX4_join 52 = .ok (.aload_n 0, 1) := dk_42 (dk_at dksX4_join_2 5 rfl rfl)
theorem dX4_join_53 : decode cX4_join 53 = .ok (.getfield 7, 3) := dk_180 0 7 (dk_at dksX4_join_2 6 rfl rfl)
theorem dX4_join_56 : decode cX4_join 56 = .ok (.iconst 2, 1) := dk_5 (dk_at dksX4_join_2 9 rfl rfl)
theorem dX4_join_57 : decode cX4_join 57 = .ok (.iload_n 2, 1) := dk_28 (dk_at dksX4_join_2 10 rfl rfl)
theorem dX4_join_58 : decode cX4_join 58 = .ok (.iadd, 1) := dk_96 (dk_at dksX4_join_2 11 rfl rfl)
theorem dX4_join_59 : decode cX4_join 59 = .ok (.dup2, 1) := dk_92 (dk_at dksX4_join_2 12 rfl rfl)
theorem dX4_join_60 : decode cX4_join 60 = .ok (.iaload, 1) := dk_46 (dk_at dksX4_join_2 13 rfl rfl)
theorem dX4_join_61 : decode cX4_join 61 = .ok (.iconst 1, 1) := dk_4 (dk_at dksX4_join_2 14 rfl rfl)
theorem dX4_join_62 : decode cX4_join 62 = .ok (.iload_n 1, 1) := dk_27 (dk_at dksX4_join_2 15 rfl rfl)
theorem dX4_join_63 : decode cX4_join 63 = .ok (.ishl, 1) := dk_120 (dk_at dksX4_join_2 16 rfl rfl)
theorem dX4_join_64 : decode cX4_join 64 = .ok (.ior, 1) := dk_128 (dk_at dksX4_join_2 17 rfl rfl)
theorem dX4_join_65 : decode cX4_join 65 = .ok (.iastore, 1) := dk_79 (dk_at dksX4_join_2 18 rfl rfl)
theorem dX4_join_66 : decode cX4_join 66 = .ok (.aload_n 0, 1) := dk_42 (dk_at dksX4_join_2 19 rfl rfl)
theorem dX4_join_67 : decode cX4_join 67 = .ok (.iload_n 2, 1) := dk_28 (dk_at dksX4_join_2 20 rfl rfl)
theorem dX4_join_68 : decode cX4_join 68 = .ok (.invokevirtual 88, 3) := dk_182 0 88 (dk_at dksX4_join_2 21 rfl rfl)
theorem dX4_join_71 : decode cX4_join 71 = .ok (.ireturn, 1) := dk_172 (dk_at dksX4_join_3 0 rfl rfl)
abbrev cX4_isUser : ByteArray := prog_14_method_6_code
def yX4_isUser : MethodName := ⟨RX4, "isUser", "(I)Z"⟩
def dkwX4_isUser_0 : List UInt8 := [27, 3, 42, 180, 0, 7, 3, 46, 4, 100, 184, 0, 46, 172]
abbrev dktX4_isUser_0 : List UInt8 := dkwX4_isUser_0 ++ []
theorem dksX4_isUser_0 : cX4_isUser.data.toList.drop 0 = dktX4_isUser_0 := by decide +kernel
theorem dX4_isUser_0 : decode cX4_isUser 0 = .ok (.iload_n 1, 1) := dk_27 (dk_at dksX4_isUser_0 0 rfl rfl)
theorem dX4_isUser_1 : decode cX4_isUser 1 = .ok (.iconst 0, 1) := dk_3 (dk_at dksX4_isUser_0 1 rfl rfl)
theorem dX4_isUser_2 : decode cX4_isUser 2 = .ok (.aload_n 0, 1) := dk_42 (dk_at dksX4_isUser_0 2 rfl rfl)
theorem dX4_isUser_3 : decode cX4_isUser 3 = .ok (.getfield 7, 3) := dk_180 0 7 (dk_at dksX4_isUser_0 3 rfl rfl)
theorem dX4_isUser_6 : decode cX4_isUser 6 = .ok (.iconst 0, 1) := dk_3 (dk_at dksX4_isUser_0 6 rfl rfl)
theorem dX4_isUser_7 : decode cX4_isUser 7 = .ok (.iaload, 1) := dk_46 (dk_at dksX4_isUser_0 7 rfl rfl)
theorem dX4_isUser_8 : decode cX4_isUser 8 = .ok (.iconst 1, 1) := dk_4 (dk_at dksX4_isUser_0 8 rfl rfl)
theorem dX4_isUser_9 : decode cX4_isUser 9 = .ok (.isub, 1) := dk_100 (dk_at dksX4_isUser_0 9 rfl rfl)
theorem dX4_isUser_10 : decode cX4_isUser 10 = .ok (.invokestatic 46, 3) := dk_184 0 46 (dk_at dksX4_isUser_0 10 rfl rfl)
theorem dX4_isUser_13 : decode cX4_isUser 13 = .ok (.ireturn, 1) := dk_172 (dk_at dksX4_isUser_0 13 rfl rfl)
abbrev cX4_in : ByteArray := prog_14_method_3_code
def yX4_in : MethodName := ⟨RX4, "in", "(III)Z"⟩
def dkwX4_in_0 : List UInt8 := [26, 27, 161, 0, 12, 26, 28, 163, 0, 7, 4, 167, 0, 4, 3, 172]
abbrev dktX4_in_0 : List UInt8 := dkwX4_in_0 ++ []
theorem dksX4_in_0 : cX4_in.data.toList.drop 0 = dktX4_in_0 := by decide +kernel
theorem dX4_in_0 : decode cX4_in 0 = .ok (.iload_n 0, 1) := dk_26 (dk_at dksX4_in_0 0 rfl rfl)
theorem dX4_in_1 : decode cX4_in 1 = .ok (.iload_n 1, 1) := dk_27 (dk_at dksX4_in_0 1 rfl rfl)
theorem dX4_in_2 : decode cX4_in 2 = .ok (.if_icmp .lt 12, 3) := dk_161 0 12 (dk_at dksX4_in_0 2 rfl rfl)
theorem dX4_in_5 : decode cX4_in 5 = .ok (.iload_n 0, 1) := dk_26 (dk_at dksX4_in_0 5 rfl rfl)
theorem dX4_in_6 : decode cX4_in 6 = .ok (.iload_n 2, 1) := dk_28 (dk_at dksX4_in_0 6 rfl rfl)
theorem dX4_in_7 : decode cX4_in 7 = .ok (.if_icmp .gt 7, 3) := dk_163 0 7 (dk_at dksX4_in_0 7 rfl rfl)
theorem dX4_in_10 : decode cX4_in 10 = .ok (.iconst 1, 1) := dk_4 (dk_at dksX4_in_0 10 rfl rfl)
theorem dX4_in_11 : decode cX4_in 11 = .ok (.goto 4, 3) := dk_167 0 4 (dk_at dksX4_in_0 11 rfl rfl)
theorem dX4_in_14 : decode cX4_in 14 = .ok (.iconst 0, 1) := dk_3 (dk_at dksX4_in_0 14 rfl rfl)
theorem dX4_in_15 : decode cX4_in 15 = .ok (.ireturn, 1) := dk_172 (dk_at dksX4_in_0 15 rfl rfl)
abbrev cX4_isGroup : ByteArray := prog_14_method_7_code
def yX4_isGroup : MethodName := ⟨RX4, "isGroup", "(I)Z"⟩
def dkwX4_isGroup_0 : List UInt8 := [27, 3, 42, 180, 0, 7, 4, 46, 4, 100, 184, 0, 46, 172]
abbrev dktX4_isGroup_0 : List UInt8 := dkwX4_isGroup_0 ++ []
theorem dksX4_isGroup_0 : cX4_isGroup.data.toList.drop 0 = dktX4_isGroup_0 := by decide +kernel
theorem dX4_isGroup_0 : decode cX4_isGroup 0 = .ok (.iload_n 1, 1) := dk_27 (dk_at dksX4_isGroup_0 0 rfl rfl)
theorem dX4_isGroup_1 : decode cX4_isGroup 1 = .ok (.iconst 0, 1) := dk_3 (dk_at dksX4_isGroup_0 1 rfl rfl)
theorem dX4_isGroup_2 : decode cX4_isGroup 2 = .ok (.aload_n 0, 1) := dk_42 (dk_at dksX4_isGroup_0 2 rfl rfl)
theorem dX4_isGroup_3 : decode cX4_isGroup 3 = .ok (.getfield 7, 3) := dk_180 0 7 (dk_at dksX4_isGroup_0 3 rfl rfl)
theorem dX4_isGroup_6 : decode cX4_isGroup 6 = .ok (.iconst 1, 1) := dk_4 (dk_at dksX4_isGroup_0 6 rfl rfl)
theorem dX4_isGroup_7 : decode cX4_isGroup 7 = .ok (.iaload, 1) := dk_46 (dk_at dksX4_isGroup_0 7 rfl rfl)
theorem dX4_isGroup_8 : decode cX4_isGroup 8 = .ok (.iconst 1, 1) := dk_4 (dk_at dksX4_isGroup_0 8 rfl rfl)
theorem dX4_isGroup_9 : decode cX4_isGroup 9 = .ok (.isub, 1) := dk_100 (dk_at dksX4_isGroup_0 9 rfl rfl)
theorem dX4_isGroup_10 : decode cX4_isGroup 10 = .ok (.invokestatic 46, 3) := dk_184 0 46 (dk_at dksX4_isGroup_0 10 rfl rfl)
theorem dX4_isGroup_13 : decode cX4_isGroup 13 = .ok (.ireturn, 1) := dk_172 (dk_at dksX4_isGroup_0 13 rfl rfl)
abbrev cX4_has : ByteArray := prog_14_method_16_code
def yX4_has : MethodName := ⟨RX4, "has", "(II)Z"⟩
def dkwX4_has_0 : List UInt8 := [26, 27, 122, 4, 126, 4, 160, 0, 7, 4, 167, 0, 4, 3, 172]
abbrev dktX4_has_0 : List UInt8 := dkwX4_has_0 ++ []
theorem dksX4_has_0 : cX4_has.data.toList.drop 0 = dktX4_has_0 := by decide +kernel
theorem dX4_has_0 : decode cX4_has 0 = .ok (.iload_n 0, 1) := dk_26 (dk_at dksX4_has_0 0 rfl rfl)
theorem dX4_has_1 : decode cX4_has 1 = .ok (.iload_n 1, 1) := dk_27 (dk_at dksX4_has_0 1 rfl rfl)
theorem dX4_has_2 : decode cX4_has 2 = .ok (.ishr, 1) := dk_122 (dk_at dksX4_has_0 2 rfl rfl)
theorem dX4_has_3 : decode cX4_has 3 = .ok (.iconst 1, 1) := dk_4 (dk_at dksX4_has_0 3 rfl rfl)
theorem dX4_has_4 : decode cX4_has 4 = .ok (.iand, 1) := dk_126 (dk_at dksX4_has_0 4 rfl rfl)
theorem dX4_has_5 : decode cX4_has 5 = .ok (.iconst 1, 1) := dk_4 (dk_at dksX4_has_0 5 rfl rfl)
theorem dX4_has_6 : decode cX4_has 6 = .ok (.if_icmp .ne 7, 3) := dk_160 0 7 (dk_at dksX4_has_0 6 rfl rfl)
theorem dX4_has_9 : decode cX4_has 9 = .ok (.iconst 1, 1) := dk_4 (dk_at dksX4_has_0 9 rfl rfl)
theorem dX4_has_10 : decode cX4_has 10 = .ok (.goto 4, 3) := dk_167 0 4 (dk_at dksX4_has_0 10 rfl rfl)
theorem dX4_has_13 : decode cX4_has 13 = .ok (.iconst 0, 1) := dk_3 (dk_at dksX4_has_0 13 rfl rfl)
theorem dX4_has_14 : decode cX4_has 14 = .ok (.ireturn, 1) := dk_172 (dk_at dksX4_has_0 14 rfl rfl)
abbrev cX4_howMany : ByteArray := prog_14_method_20_code
def yX4_howMany : MethodName := ⟨RX4, "howMany", "(I)I"⟩
def dkwX4_howMany_1 : List UInt8 := [4, 167, 0, 4, 3, 96, 61, 132, 3, 1, 167, 255, 226, 28, 172]
abbrev dktX4_howMany_1 : List UInt8 := dkwX4_howMany_1 ++ []
def dkwX4_howMany_0 : List UInt8 := [3, 61, 3, 62, 29, 42, 180, 0, 7, 3, 46, 162, 0, 26, 28, 42, 29, 27, 182, 0, 73, 153, 0, 7]
abbrev dktX4_howMany_0 : List UInt8 := dkwX4_howMany_0 ++ dktX4_howMany_1
theorem dksX4_howMany_0 : cX4_howMany.data.toList.drop 0 = dktX4_howMany_0 := by decide +kernel
theorem dksX4_howMany_1 : cX4_howMany.data.toList.drop 24 = dktX4_howMany_1 := dk_seg dksX4_howMany_0 24 rfl rfl
theorem dX4_howMany_0 : decode cX4_howMany 0 = .ok (.iconst 0, 1) := dk_3 (dk_at dksX4_howMany_0 0 rfl rfl)
theorem dX4_howMany_1 : decode cX4_howMany 1 = .ok (.istore_n 2, 1) := dk_61 (dk_at dksX4_howMany_0 1 rfl rfl)
theorem dX4_howMany_2 : decode cX4_howMany 2 = .ok (.iconst 0, 1) := dk_3 (dk_at dksX4_howMany_0 2 rfl rfl)
theorem dX4_howMany_3 : decode cX4_howMany 3 = .ok (.istore_n 3, 1) := dk_62 (dk_at dksX4_howMany_0 3 rfl rfl)
theorem dX4_howMany_4 : decode cX4_howMany 4 = .ok (.iload_n 3, 1) := dk_29 (dk_at dksX4_howMany_0 4 rfl rfl)
theorem dX4_howMany_5 : decode cX4_howMany 5 = .ok (.aload_n 0, 1) := dk_42 (dk_at dksX4_howMany_0 5 rfl rfl)
theorem dX4_howMany_6 : decode cX4_howMany 6 = .ok (.getfield 7, 3) := dk_180 0 7 (dk_at dksX4_howMany_0 6 rfl rfl)
theorem dX4_howMany_9 : decode cX4_howMany 9 = .ok (.iconst 0, 1) := dk_3 (dk_at dksX4_howMany_0 9 rfl rfl)
theorem dX4_howMany_10 : decode cX4_howMany 10 = .ok (.iaload, 1) := dk_46 (dk_at dksX4_howMany_0 10 rfl rfl)
theorem dX4_howMany_11 : decode cX4_howMany 11 = .ok (.if_icmp .ge 26, 3) := dk_162 0 26 (dk_at dksX4_howMany_0 11 rfl rfl)
theorem dX4_howMany_14 : decode cX4_howMany 14 = .ok (.iload_n 2, 1) := dk_28 (dk_at dksX4_howMany_0 14 rfl rfl)
theorem dX4_howMany_15 : decode cX4_howMany 15 = .ok (.aload_n 0, 1) := dk_42 (dk_at dksX4_howMany_0 15 rfl rfl)
theorem dX4_howMany_16 : decode cX4_howMany 16 = .ok (.iload_n 3, 1) := dk_29 (dk_at dksX4_howMany_0 16 rfl rfl)
theorem dX4_howMany_17 : decode cX4_howMany 17 = .ok (.iload_n 1, 1) := dk_27 (dk_at dksX4_howMany_0 17 rfl rfl)
theorem dX4_howMany_18 : decode cX4_howMany 18 = .ok (.invokevirtual 73, 3) := dk_182 0 73 (dk_at dksX4_howMany_0 18 rfl rfl)
theorem dX4_howMany_21 : decode cX4_howMany 21 = .ok (.ifCond .eq 7, 3) := dk_153 0 7 (dk_at dksX4_howMany_0 21 rfl rfl)
theorem dX4_howMany_24 : decode cX4_howMany 24 = .ok (.iconst 1, 1) := dk_4 (dk_at dksX4_howMany_1 0 rfl rfl)
theorem dX4_howMany_25 : decode cX4_howMany 25 = .ok (.goto 4, 3) := dk_167 0 4 (dk_at dksX4_howMany_1 1 rfl rfl)
theorem dX4_howMany_28 : decode cX4_howMany 28 = .ok (.iconst 0, 1) := dk_3 (dk_at dksX4_howMany_1 4 rfl rfl)
theorem dX4_howMany_29 : decode cX4_howMany 29 = .ok (.iadd, 1) := dk_96 (dk_at dksX4_howMany_1 5 rfl rfl)
theorem dX4_howMany_30 : decode cX4_howMany 30 = .ok (.istore_n 2, 1) := dk_61 (dk_at dksX4_howMany_1 6 rfl rfl)
theorem dX4_howMany_31 : decode cX4_howMany 31 = .ok (.iinc 3 1, 3) := dk_132 3 1 (dk_at dksX4_howMany_1 7 rfl rfl)
theorem dX4_howMany_34 : decode cX4_howMany 34 = .ok (.goto (-30), 3) := dk_167 255 226 (dk_at dksX4_howMany_1 10 rfl rfl)
theorem dX4_howMany_37 : decode cX4_howMany 37 = .ok (.iload_n 2, 1) := dk_28 (dk_at dksX4_howMany_1 13 rfl rfl)
theorem dX4_howMany_38 : decode cX4_howMany 38 = .ok (.ireturn, 1) := dk_172 (dk_at dksX4_howMany_1 14 rfl rfl)
abbrev cX4_isOf : ByteArray := prog_14_method_19_code
def yX4_isOf : MethodName := ⟨RX4, "isOf", "(II)Z"⟩
def dkwX4_isOf_3 : List UInt8 := [29, 172]
abbrev dktX4_isOf_3 : List UInt8 := dkwX4_isOf_3 ++ []
def dkwX4_isOf_2 : List UInt8 := [21, 4, 182, 0, 69, 28, 184, 0, 65, 153, 0, 7, 4, 167, 0, 4, 3, 62, 132, 4, 1, 167, 255, 203]
abbrev dktX4_isOf_2 : List UInt8 := dkwX4_isOf_2 ++ dktX4_isOf_3
def dkwX4_isOf_1 : List UInt8 := [162, 0, 48, 29, 154, 0, 32, 42, 180, 0, 7, 5, 21, 4, 96, 46, 27, 184, 0, 65, 153, 0, 20, 42]
abbrev dktX4_isOf_1 : List UInt8 := dkwX4_isOf_1 ++ dktX4_isOf_2
def dkwX4_isOf_0 : List UInt8 := [42, 180, 0, 7, 5, 28, 96, 46, 27, 184, 0, 65, 62, 3, 54, 4, 21, 4, 42, 180, 0, 7, 4, 46]
abbrev dktX4_isOf_0 : List UInt8 := dkwX4_isOf_0 ++ dktX4_isOf_1
theorem dksX4_isOf_0 : cX4_isOf.data.toList.drop 0 = dktX4_isOf_0 := by decide +kernel
theorem dksX4_isOf_1 : cX4_isOf.data.toList.drop 24 = dktX4_isOf_1 := dk_seg dksX4_isOf_0 24 rfl rfl
theorem dksX4_isOf_2 : cX4_isOf.data.toList.drop 48 = dktX4_isOf_2 := dk_seg dksX4_isOf_1 24 rfl rfl
theorem dksX4_isOf_3 : cX4_isOf.data.toList.drop 72 = dktX4_isOf_3 := dk_seg dksX4_isOf_2 24 rfl rfl
theorem dX4_isOf_0 : decode cX4_isOf 0 = .ok (.aload_n 0, 1) := dk_42 (dk_at dksX4_isOf_0 0 rfl rfl)
theorem dX4_isOf_1 : decode cX4_isOf 1 = .ok (.getfield 7, 3) := dk_180 0 7 (dk_at dksX4_isOf_0 1 rfl rfl)
theorem dX4_isOf_4 : decode cX4_isOf 4 = .ok (.iconst 2, 1) := dk_5 (dk_at dksX4_isOf_0 4 rfl rfl)
theorem dX4_isOf_5 : decode cX4_isOf 5 = .ok (.iload_n 2, 1) := dk_28 (dk_at dksX4_isOf_0 5 rfl rfl)
theorem dX4_isOf_6 : decode cX4_isOf 6 = .ok (.iadd, 1) := dk_96 (dk_at dksX4_isOf_0 6 rfl rfl)
theorem dX4_isOf_7 : decode cX4_isOf 7 = .ok (.iaload, 1) := dk_46 (dk_at dksX4_isOf_0 7 rfl rfl)
theorem dX4_isOf_8 : decode cX4_isOf 8 = .ok (.iload_n 1, 1) := dk_27 (dk_at dksX4_isOf_0 8 rfl rfl)
theorem dX4_isOf_9 : decode cX4_isOf 9 = .ok (.invokestatic 65, 3) := dk_184 0 65 (dk_at dksX4_isOf_0 9 rfl rfl)
theorem dX4_isOf_12 : decode cX4_isOf 12 = .ok (.istore_n 3, 1) := dk_62 (dk_at dksX4_isOf_0 12 rfl rfl)
theorem dX4_isOf_13 : decode cX4_isOf 13 = .ok (.iconst 0, 1) := dk_3 (dk_at dksX4_isOf_0 13 rfl rfl)
theorem dX4_isOf_14 : decode cX4_isOf 14 = .ok (.istore 4, 2) := dk_54 4 (dk_at dksX4_isOf_0 14 rfl rfl)
theorem dX4_isOf_16 : decode cX4_isOf 16 = .ok (.iload 4, 2) := dk_21 4 (dk_at dksX4_isOf_0 16 rfl rfl)
theorem dX4_isOf_18 : decode cX4_isOf 18 = .ok (.aload_n 0, 1) := dk_42 (dk_at dksX4_isOf_0 18 rfl rfl)
theorem dX4_isOf_19 : decode cX4_isOf 19 = .ok (.getfield 7, 3) := dk_180 0 7 (dk_at dksX4_isOf_0 19 rfl rfl)
theorem dX4_isOf_22 : decode cX4_isOf 22 = .ok (.iconst 1, 1) := dk_4 (dk_at dksX4_isOf_0 22 rfl rfl)
theorem dX4_isOf_23 : decode cX4_isOf 23 = .ok (.iaload, 1) := dk_46 (dk_at dksX4_isOf_0 23 rfl rfl)
theorem dX4_isOf_24 : decode cX4_isOf 24 = .ok (.if_icmp .ge 48, 3) := dk_162 0 48 (dk_at dksX4_isOf_1 0 rfl rfl)
theorem dX4_isOf_27 : decode cX4_isOf 27 = .ok (.iload_n 3, 1) := dk_29 (dk_at dksX4_isOf_1 3 rfl rfl)
theorem dX4_isOf_28 : decode cX4_isOf 28 = .ok (.ifCond .ne 32, 3) := dk_154 0 32 (dk_at dksX4_isOf_1 4 rfl rfl)
theorem dX4_isOf_31 : decode cX4_isOf 31 = .ok (.aload_n 0, 1) := dk_42 (dk_at dksX4_isOf_1 7 rfl rfl)
theorem dX4_isOf_32 : decode cX4_isOf 32 = .ok (.getfield 7, 3) := dk_180 0 7 (dk_at dksX4_isOf_1 8 rfl rfl)
theorem dX4_isOf_35 : decode cX4_isOf 35 = .ok (.iconst 2, 1) := dk_5 (dk_at dksX4_isOf_1 11 rfl rfl)
theorem dX4_isOf_36 : decode cX4_isOf 36 = .ok (.iload 4, 2) := dk_21 4 (dk_at dksX4_isOf_1 12 rfl rfl)
theorem dX4_isOf_38 : decode cX4_isOf 38 = .ok (.iadd, 1) := dk_96 (dk_at dksX4_isOf_1 14 rfl rfl)
theorem dX4_isOf_39 : decode cX4_isOf 39 = .ok (.iaload, 1) := dk_46 (dk_at dksX4_isOf_1 15 rfl rfl)
theorem dX4_isOf_40 : decode cX4_isOf 40 = .ok (.iload_n 1, 1) := dk_27 (dk_at dksX4_isOf_1 16 rfl rfl)
theorem dX4_isOf_41 : decode cX4_isOf 41 = .ok (.invokestatic 65, 3) := dk_184 0 65 (dk_at dksX4_isOf_1 17 rfl rfl)
theorem dX4_isOf_44 : decode cX4_isOf 44 = .ok (.ifCond .eq 20, 3) := dk_153 0 20 (dk_at dksX4_isOf_1 20 rfl rfl)
theorem dX4_isOf_47 : decode cX4_isOf 47 = .ok (.aload_n 0, 1) := dk_42 (dk_at dksX4_isOf_1 23 rfl rfl)
theorem dX4_isOf_48 : decode cX4_isOf 48 = .ok (.iload 4, 2) := dk_21 4 (dk_at dksX4_isOf_2 0 rfl rfl)
theorem dX4_isOf_50 : decode cX4_isOf 50 = .ok (.invokevirtual 69, 3) := dk_182 0 69 (dk_at dksX4_isOf_2 2 rfl rfl)
theorem dX4_isOf_53 : decode cX4_isOf 53 = .ok (.iload_n 2, 1) := dk_28 (dk_at dksX4_isOf_2 5 rfl rfl)
theorem dX4_isOf_54 : decode cX4_isOf 54 = .ok (.invokestatic 65, 3) := dk_184 0 65 (dk_at dksX4_isOf_2 6 rfl rfl)
theorem dX4_isOf_57 : decode cX4_isOf 57 = .ok (.ifCond .eq 7, 3) := dk_153 0 7 (dk_at dksX4_isOf_2 9 rfl rfl)
theorem dX4_isOf_60 : decode cX4_isOf 60 = .ok (.iconst 1, 1) := dk_4 (dk_at dksX4_isOf_2 12 rfl rfl)
theorem dX4_isOf_61 : decode cX4_isOf 61 = .ok (.goto 4, 3) := dk_167 0 4 (dk_at dksX4_isOf_2 13 rfl rfl)
theorem dX4_isOf_64 : decode cX4_isOf 64 = .ok (.iconst 0, 1) := dk_3 (dk_at dksX4_isOf_2 16 rfl rfl)
theorem dX4_isOf_65 : decode cX4_isOf 65 = .ok (.istore_n 3, 1) := dk_62 (dk_at dksX4_isOf_2 17 rfl rfl)
theorem dX4_isOf_66 : decode cX4_isOf 66 = .ok (.iinc 4 1, 3) := dk_132 4 1 (dk_at dksX4_isOf_2 18 rfl rfl)
theorem dX4_isOf_69 : decode cX4_isOf 69 = .ok (.goto (-53), 3) := dk_167 255 203 (dk_at dksX4_isOf_2 21 rfl rfl)
theorem dX4_isOf_72 : decode cX4_isOf 72 = .ok (.iload_n 3, 1) := dk_29 (dk_at dksX4_isOf_3 0 rfl rfl)
theorem dX4_isOf_73 : decode cX4_isOf 73 = .ok (.ireturn, 1) := dk_172 (dk_at dksX4_isOf_3 1 rfl rfl)
abbrev cX4_outers : ByteArray := prog_14_method_18_code
def yX4_outers : MethodName := ⟨RX4, "outers", "(I)I"⟩
def dkwX4_outers_2 : List UInt8 := [46, 167, 0, 4, 3, 128, 61, 132, 4, 1, 167, 255, 220, 132, 3, 1, 167, 255, 205, 28, 172]
abbrev dktX4_outers_2 : List UInt8 := dkwX4_outers_2 ++ []
def dkwX4_outers_1 : List UInt8 := [16, 8, 162, 0, 35, 28, 28, 21, 4, 184, 0, 65, 153, 0, 16, 42, 180, 0, 7, 16, 10, 21, 4, 96]
abbrev dktX4_outers_1 : List UInt8 := dkwX4_outers_1 ++ dktX4_outers_2
def dkwX4_outers_0 : List UInt8 := [42, 180, 0, 7, 16, 10, 27, 96, 46, 61, 3, 62, 29, 16, 8, 162, 0, 51, 3, 54, 4, 21, 4]
abbrev dktX4_outers_0 : List UInt8 := dkwX4_outers_0 ++ dktX4_outers_1
theorem dksX4_outers_0 : cX4_outers.data.toList.drop 0 = dktX4_outers_0 := by decide +kernel
theorem dksX4_outers_1 : cX4_outers.data.toList.drop 23 = dktX4_outers_1 := dk_seg dksX4_outers_0 23 rfl rfl
theorem dksX4_outers_2 : cX4_outers.data.toList.drop 47 = dktX4_outers_2 := dk_seg dksX4_outers_1 24 rfl rfl
theorem dX4_outers_0 : decode cX4_outers 0 = .ok (.aload_n 0, 1) := dk_42 (dk_at dksX4_outers_0 0 rfl rfl)
theorem dX4_outers_1 : decode cX4_outers 1 = .ok (.getfield 7, 3) := dk_180 0 7 (dk_at dksX4_outers_0 1 rfl rfl)
theorem dX4_outers_4 : decode cX4_outers 4 = .ok (.bipush 10, 2) := dk_16 10 (dk_at dksX4_outers_0 4 rfl rfl)
theorem dX4_outers_6 : decode cX4_outers 6 = .ok (.iload_n 1, 1) := dk_27 (dk_at dksX4_outers_0 6 rfl rfl)
theorem dX4_outers_7 : decode cX4_outers 7 = .ok (.iadd, 1) := dk_96 (dk_at dksX4_outers_0 7 rfl rfl)
theorem dX4_outers_8 : decode cX4_outers 8 = .ok (.iaload, 1) := dk_46 (dk_at dksX4_outers_0 8 rfl rfl)
theorem dX4_outers_9 : decode cX4_outers 9 = .ok (.istore_n 2, 1) := dk_61 (dk_at dksX4_outers_0 9 rfl rfl)
theorem dX4_outers_10 : decode cX4_outers 10 = .ok (.iconst 0, 1) := dk_3 (dk_at dksX4_outers_0 10 rfl rfl)
theorem dX4_outers_11 : decode cX4_outers 11 = .ok (.istore_n 3, 1) := dk_62 (dk_at dksX4_outers_0 11 rfl rfl)
theorem dX4_outers_12 : decode cX4_outers 12 = .ok (.iload_n 3, 1) := dk_29 (dk_at dksX4_outers_0 12 rfl rfl)
theorem dX4_outers_13 : decode cX4_outers 13 = .ok (.bipush 8, 2) := dk_16 8 (dk_at dksX4_outers_0 13 rfl rfl)
theorem dX4_outers_15 : decode cX4_outers 15 = .ok (.if_icmp .ge 51, 3) := dk_162 0 51 (dk_at dksX4_outers_0 15 rfl rfl)
theorem dX4_outers_18 : decode cX4_outers 18 = .ok (.iconst 0, 1) := dk_3 (dk_at dksX4_outers_0 18 rfl rfl)
theorem dX4_outers_19 : decode cX4_outers 19 = .ok (.istore 4, 2) := dk_54 4 (dk_at dksX4_outers_0 19 rfl rfl)
theorem dX4_outers_21 : decode cX4_outers 21 = .ok (.iload 4, 2) := dk_21 4 (dk_at dksX4_outers_0 21 rfl rfl)
theorem dX4_outers_23 : decode cX4_outers 23 = .ok (.bipush 8, 2) := dk_16 8 (dk_at dksX4_outers_1 0 rfl rfl)
theorem dX4_outers_25 : decode cX4_outers 25 = .ok (.if_icmp .ge 35, 3) := dk_162 0 35 (dk_at dksX4_outers_1 2 rfl rfl)
theorem dX4_outers_28 : decode cX4_outers 28 = .ok (.iload_n 2, 1) := dk_28 (dk_at dksX4_outers_1 5 rfl rfl)
theorem dX4_outers_29 : decode cX4_outers 29 = .ok (.iload_n 2, 1) := dk_28 (dk_at dksX4_outers_1 6 rfl rfl)
theorem dX4_outers_30 : decode cX4_outers 30 = .ok (.iload 4, 2) := dk_21 4 (dk_at dksX4_outers_1 7 rfl rfl)
theorem dX4_outers_32 : decode cX4_outers 32 = .ok (.invokestatic 65, 3) := dk_184 0 65 (dk_at dksX4_outers_1 9 rfl rfl)
theorem dX4_outers_35 : decode cX4_outers 35 = .ok (.ifCond .eq 16, 3) := dk_153 0 16 (dk_at dksX4_outers_1 12 rfl rfl)
theorem dX4_outers_38 : decode cX4_outers 38 = .ok (.aload_n 0, 1) := dk_42 (dk_at dksX4_outers_1 15 rfl rfl)
theorem dX4_outers_39 : decode cX4_outers 39 = .ok (.getfield 7, 3) := dk_180 0 7 (dk_at dksX4_outers_1 16 rfl rfl)
theorem dX4_outers_42 : decode cX4_outers 42 = .ok (.bipush 10, 2) := dk_16 10 (dk_at dksX4_outers_1 19 rfl rfl)
theorem dX4_outers_44 : decode cX4_outers 44 = .ok (.iload 4, 2) := dk_21 4 (dk_at dksX4_outers_1 21 rfl rfl)
theorem dX4_outers_46 : decode cX4_outers 46 = .ok (.iadd, 1) := dk_96 (dk_at dksX4_outers_1 23 rfl rfl)
theorem dX4_outers_47 : decode cX4_outers 47 = .ok (.iaload, 1) := dk_46 (dk_at dksX4_outers_2 0 rfl rfl)
theorem dX4_outers_48 : decode cX4_outers 48 = .ok (.goto 4, 3) := dk_167 0 4 (dk_at dksX4_outers_2 1 rfl rfl)
theorem dX4_outers_51 : decode cX4_outers 51 = .ok (.iconst 0, 1) := dk_3 (dk_at dksX4_outers_2 4 rfl rfl)
theorem dX4_outers_52 : decode cX4_outers 52 = .ok (.ior, 1) := dk_128 (dk_at dksX4_outers_2 5 rfl rfl)
theorem dX4_outers_53 : decode cX4_outers 53 = .ok (.istore_n 2, 1) := dk_61 (dk_at dksX4_outers_2 6 rfl rfl)
theorem dX4_outers_54 : decode cX4_outers 54 = .ok (.iinc 4 1, 3) := dk_132 4 1 (dk_at dksX4_outers_2 7 rfl rfl)
theorem dX4_outers_57 : decode cX4_outers 57 = .ok (.goto (-36), 3) := dk_167 255 220 (dk_at dksX4_outers_2 10 rfl rfl)
theorem dX4_outers_60 : decode cX4_outers 60 = .ok (.iinc 3 1, 3) := dk_132 3 1 (dk_at dksX4_outers_2 13 rfl rfl)
theorem dX4_outers_63 : decode cX4_outers 63 = .ok (.goto (-51), 3) := dk_167 255 205 (dk_at dksX4_outers_2 16 rfl rfl)
theorem dX4_outers_66 : decode cX4_outers 66 = .ok (.iload_n 2, 1) := dk_28 (dk_at dksX4_outers_2 19 rfl rfl)
theorem dX4_outers_67 : decode cX4_outers 67 = .ok (.ireturn, 1) := dk_172 (dk_at dksX4_outers_2 20 rfl rfl)
abbrev cX4_leave : ByteArray := prog_14_method_24_code
def yX4_leave : MethodName := ⟨RX4, "leave", "(II)I"⟩
def dkwX4_leave_3 : List UInt8 := [172]
abbrev dktX4_leave_3 : List UInt8 := dkwX4_leave_3 ++ []
def dkwX4_leave_2 : List UInt8 := [172, 42, 182, 0, 79, 42, 180, 0, 7, 5, 28, 96, 92, 46, 4, 27, 120, 100, 79, 42, 28, 182, 0, 88]
abbrev dktX4_leave_2 : List UInt8 := dkwX4_leave_2 ++ dktX4_leave_3
def dkwX4_leave_1 : List UInt8 := [182, 0, 76, 172, 42, 180, 0, 7, 5, 28, 96, 46, 27, 184, 0, 65, 154, 0, 9, 42, 5, 182, 0, 76]
abbrev dktX4_leave_1 : List UInt8 := dkwX4_leave_1 ++ dktX4_leave_2
def dkwX4_leave_0 : List UInt8 := [42, 3, 181, 0, 39, 42, 27, 182, 0, 82, 153, 0, 11, 42, 28, 182, 0, 85, 154, 0, 9, 42, 4]
abbrev dktX4_leave_0 : List UInt8 := dkwX4_leave_0 ++ dktX4_leave_1
theorem dksX4_leave_0 : cX4_leave.data.toList.drop 0 = dktX4_leave_0 := by decide +kernel
theorem dksX4_leave_1 : cX4_leave.data.toList.drop 23 = dktX4_leave_1 := dk_seg dksX4_leave_0 23 rfl rfl
theorem dksX4_leave_2 : cX4_leave.data.toList.drop 47 = dktX4_leave_2 := dk_seg dksX4_leave_1 24 rfl rfl
theorem dksX4_leave_3 : cX4_leave.data.toList.drop 71 = dktX4_leave_3 := dk_seg dksX4_leave_2 24 rfl rfl
theorem dX4_leave_0 : decode cX4_leave 0 = .ok (.aload_n 0, 1) := dk_42 (dk_at dksX4_leave_0 0 rfl rfl)
theorem dX4_leave_1 : decode cX4_leave 1 = .ok (.iconst 0, 1) := dk_3 (dk_at dksX4_leave_0 1 rfl rfl)
theorem dX4_leave_2 : decode cX4_leave 2 = .ok (.putfield 39, 3) := dk_181 0 39 (dk_at dksX4_leave_0 2 rfl rfl)
theorem dX4_leave_5 : decode cX4_leave 5 = .ok (.aload_n 0, 1) := dk_42 (dk_at dksX4_leave_0 5 rfl rfl)
theorem dX4_leave_6 : decode cX4_leave 6 = .ok (.iload_n 1, 1) := dk_27 (dk_at dksX4_leave_0 6 rfl rfl)
theorem dX4_leave_7 : decode cX4_leave 7 = .ok (.invokevirtual 82, 3) := dk_182 0 82 (dk_at dksX4_leave_0 7 rfl rfl)
theorem dX4_leave_10 : decode cX4_leave 10 = .ok (.ifCond .eq 11, 3) := dk_153 0 11 (dk_at dksX4_leave_0 10 rfl rfl)
theorem dX4_leave_13 : decode cX4_leave 13 = .ok (.aload_n 0, 1) := dk_42 (dk_at dksX4_leave_0 13 rfl rfl)
theorem dX4_leave_14 : decode cX4_leave 14 = .ok (.iload_n 2, 1) := dk_28 (dk_at dksX4_leave_0 14 rfl rfl)
theorem dX4_leave_15 : decode cX4_leave 15 = .ok (.invokevirtual 85, 3) := dk_182 0 85 (dk_at dksX4_leave_0 15 rfl rfl)
theorem dX4_leave_18 : decode cX4_leave 18 = .ok (.ifCond .ne 9, 3) := dk_154 0 9 (dk_at dksX4_leave_0 18 rfl rfl)
theorem dX4_leave_21 : decode cX4_leave 21 = .ok (.aload_n 0, 1) := dk_42 (dk_at dksX4_leave_0 21 rfl rfl)
theorem dX4_leave_22 : decode cX4_leave 22 = .ok (.iconst 1, 1) := dk_4 (dk_at dksX4_leave_0 22 rfl rfl)
theorem dX4_leave_23 : decode cX4_leave 23 = .ok (.invokevirtual 76, 3) := dk_182 0 76 (dk_at dksX4_leave_1 0 rfl rfl)
theorem dX4_leave_26 : decode cX4_leave 26 = .ok (.ireturn, 1) := dk_172 (dk_at dksX4_leave_1 3 rfl rfl)
theorem dX4_leave_27 : decode cX4_leave 27 = .ok (.aload_n 0, 1) := dk_42 (dk_at dksX4_leave_1 4 rfl rfl)
theorem dX4_leave_28 : decode cX4_leave 28 = .ok (.getfield 7, 3) := dk_180 0 7 (dk_at dksX4_leave_1 5 rfl rfl)
theorem dX4_leave_31 : decode cX4_leave 31 = .ok (.iconst 2, 1) := dk_5 (dk_at dksX4_leave_1 8 rfl rfl)
theorem dX4_leave_32 : decode cX4_leave 32 = .ok (.iload_n 2, 1) := dk_28 (dk_at dksX4_leave_1 9 rfl rfl)
theorem dX4_leave_33 : decode cX4_leave 33 = .ok (.iadd, 1) := dk_96 (dk_at dksX4_leave_1 10 rfl rfl)
theorem dX4_leave_34 : decode cX4_leave 34 = .ok (.iaload, 1) := dk_46 (dk_at dksX4_leave_1 11 rfl rfl)
theorem dX4_leave_35 : decode cX4_leave 35 = .ok (.iload_n 1, 1) := dk_27 (dk_at dksX4_leave_1 12 rfl rfl)
theorem dX4_leave_36 : decode cX4_leave 36 = .ok (.invokestatic 65, 3) := dk_184 0 65 (dk_at dksX4_leave_1 13 rfl rfl)
theorem dX4_leave_39 : decode cX4_leave 39 = .ok (.ifCond .ne 9, 3) := dk_154 0 9 (dk_at dksX4_leave_1 16 rfl rfl)
theorem dX4_leave_42 : decode cX4_leave 42 = .ok (.aload_n 0, 1) := dk_42 (dk_at dksX4_leave_1 19 rfl rfl)
theorem dX4_leave_43 : decode cX4_leave 43 = .ok (.iconst 2, 1) := dk_5 (dk_at dksX4_leave_1 20 rfl rfl)
theorem dX4_leave_44 : decode cX4_leave 44 = .ok (.invokevirtual 76, 3) := dk_182 0 76 (dk_at dksX4_leave_1 21 rfl rfl)
theorem dX4_leave_47 : decode cX4_leave 47 = .ok (.ireturn, 1) := dk_172 (dk_at dksX4_leave_2 0 rfl rfl)
theorem dX4_leave_48 : decode cX4_leave 48 = .ok (.aload_n 0, 1) := dk_42 (dk_at dksX4_leave_2 1 rfl rfl)
theorem dX4_leave_49 : decode cX4_leave 49 = .ok (.invokevirtual 79, 3) := dk_182 0 79 (dk_at dksX4_leave_2 2 rfl rfl)
theorem dX4_leave_52 : decode cX4_leave 52 = .ok (.aload_n 0, 1) := dk_42 (dk_at dksX4_leave_2 5 rfl rfl)
theorem dX4_leave_53 : decode cX4_leave 53 = .ok (.getfield 7, 3) := dk_180 0 7 (dk_at dksX4_leave_2 6 rfl rfl)
theorem dX4_leave_56 : decode cX4_leave 56 = .ok (.iconst 2, 1) := dk_5 (dk_at dksX4_leave_2 9 rfl rfl)
theorem dX4_leave_57 : decode cX4_leave 57 = .ok (.iload_n 2, 1) := dk_28 (dk_at dksX4_leave_2 10 rfl rfl)
theorem dX4_leave_58 : decode cX4_leave 58 = .ok (.iadd, 1) := dk_96 (dk_at dksX4_leave_2 11 rfl rfl)
theorem dX4_leave_59 : decode cX4_leave 59 = .ok (.dup2, 1) := dk_92 (dk_at dksX4_leave_2 12 rfl rfl)
theorem dX4_leave_60 : decode cX4_leave 60 = .ok (.iaload, 1) := dk_46 (dk_at dksX4_leave_2 13 rfl rfl)
theorem dX4_leave_61 : decode cX4_leave 61 = .ok (.iconst 1, 1) := dk_4 (dk_at dksX4_leave_2 14 rfl rfl)
theorem dX4_leave_62 : decode cX4_leave 62 = .ok (.iload_n 1, 1) := dk_27 (dk_at dksX4_leave_2 15 rfl rfl)
theorem dX4_leave_63 : decode cX4_leave 63 = .ok (.ishl, 1) := dk_120 (dk_at dksX4_leave_2 16 rfl rfl)
theorem dX4_leave_64 : decode cX4_leave 64 = .ok (.isub, 1) := dk_100 (dk_at dksX4_leave_2 17 rfl rfl)
theorem dX4_leave_65 : decode cX4_leave 65 = .ok (.iastore, 1) := dk_79 (dk_at dksX4_leave_2 18 rfl rfl)
theorem dX4_leave_66 : decode cX4_leave 66 = .ok (.aload_n 0, 1) := dk_42 (dk_at dksX4_leave_2 19 rfl rfl)
theorem dX4_leave_67 : decode cX4_leave 67 = .ok (.iload_n 2, 1) := dk_28 (dk_at dksX4_leave_2 20 rfl rfl)
theorem dX4_leave_68 : decode cX4_leave 68 = .ok (.invokevirtual 88, 3) := dk_182 0 88 (dk_at dksX4_leave_2 21 rfl rfl)
theorem dX4_leave_71 : decode cX4_leave 71 = .ok (.ireturn, 1) := dk_172 (dk_at dksX4_leave_3 0 rfl rfl)
abbrev cX4_nest : ByteArray := prog_14_method_25_code
def yX4_nest : MethodName := ⟨RX4, "nest", "(II)I"⟩
def dkwX4_nest_3 : List UInt8 := [182, 0, 79, 42, 180, 0, 7, 16, 10, 27, 96, 92, 46, 4, 28, 120, 128, 79, 42, 28, 182, 0, 88, 172]
abbrev dktX4_nest_3 : List UInt8 := dkwX4_nest_3 ++ []
def dkwX4_nest_2 : List UInt8 := [154, 0, 15, 42, 28, 182, 0, 69, 27, 184, 0, 65, 153, 0, 9, 42, 5, 182, 0, 76, 172, 42]
abbrev dktX4_nest_2 : List UInt8 := dkwX4_nest_2 ++ dktX4_nest_3
def dkwX4_nest_1 : List UInt8 := [182, 0, 76, 172, 27, 28, 159, 0, 31, 42, 180, 0, 7, 16, 10, 27, 96, 46, 28, 184, 0, 65]
abbrev dktX4_nest_1 : List UInt8 := dkwX4_nest_1 ++ dktX4_nest_2
def dkwX4_nest_0 : List UInt8 := [42, 3, 181, 0, 39, 42, 27, 182, 0, 85, 153, 0, 11, 42, 28, 182, 0, 85, 154, 0, 9, 42, 4]
abbrev dktX4_nest_0 : List UInt8 := dkwX4_nest_0 ++ dktX4_nest_1
theorem dksX4_nest_0 : cX4_nest.data.toList.drop 0 = dktX4_nest_0 := by decide +kernel
theorem dksX4_nest_1 : cX4_nest.data.toList.drop 23 = dktX4_nest_1 := dk_seg dksX4_nest_0 23 rfl rfl
theorem dksX4_nest_2 : cX4_nest.data.toList.drop 45 = dktX4_nest_2 := dk_seg dksX4_nest_1 22 rfl rfl
theorem dksX4_nest_3 : cX4_nest.data.toList.drop 67 = dktX4_nest_3 := dk_seg dksX4_nest_2 22 rfl rfl
theorem dX4_nest_0 : decode cX4_nest 0 = .ok (.aload_n 0, 1) := dk_42 (dk_at dksX4_nest_0 0 rfl rfl)
theorem dX4_nest_1 : decode cX4_nest 1 = .ok (.iconst 0, 1) := dk_3 (dk_at dksX4_nest_0 1 rfl rfl)
theorem dX4_nest_2 : decode cX4_nest 2 = .ok (.putfield 39, 3) := dk_181 0 39 (dk_at dksX4_nest_0 2 rfl rfl)
theorem dX4_nest_5 : decode cX4_nest 5 = .ok (.aload_n 0, 1) := dk_42 (dk_at dksX4_nest_0 5 rfl rfl)
theorem dX4_nest_6 : decode cX4_nest 6 = .ok (.iload_n 1, 1) := dk_27 (dk_at dksX4_nest_0 6 rfl rfl)
theorem dX4_nest_7 : decode cX4_nest 7 = .ok (.invokevirtual 85, 3) := dk_182 0 85 (dk_at dksX4_nest_0 7 rfl rfl)
theorem dX4_nest_10 : decode cX4_nest 10 = .ok (.ifCond .eq 11, 3) := dk_153 0 11 (dk_at dksX4_nest_0 10 rfl rfl)
theorem dX4_nest_13 : decode cX4_nest 13 = .ok (.aload_n 0, 1) := dk_42 (dk_at dksX4_nest_0 13 rfl rfl)
theorem dX4_nest_14 : decode cX4_nest 14 = .ok (.iload_n 2, 1) := dk_28 (dk_at dksX4_nest_0 14 rfl rfl)
theorem dX4_nest_15 : decode cX4_nest 15 = .ok (.invokevirtual 85, 3) := dk_182 0 85 (dk_at dksX4_nest_0 15 rfl rfl)
theorem dX4_nest_18 : decode cX4_nest 18 = .ok (.ifCond .ne 9, 3) := dk_154 0 9 (dk_at dksX4_nest_0 18 rfl rfl)
theorem dX4_nest_21 : decode cX4_nest 21 = .ok (.aload_n 0, 1) := dk_42 (dk_at dksX4_nest_0 21 rfl rfl)
theorem dX4_nest_22 : decode cX4_nest 22 = .ok (.iconst 1, 1) := dk_4 (dk_at dksX4_nest_0 22 rfl rfl)
theorem dX4_nest_23 : decode cX4_nest 23 = .ok (.invokevirtual 76, 3) := dk_182 0 76 (dk_at dksX4_nest_1 0 rfl rfl)
theorem dX4_nest_26 : decode cX4_nest 26 = .ok (.ireturn, 1) := dk_172 (dk_at dksX4_nest_1 3 rfl rfl)
theorem dX4_nest_27 : decode cX4_nest 27 = .ok (.iload_n 1, 1) := dk_27 (dk_at dksX4_nest_1 4 rfl rfl)
theorem dX4_nest_28 : decode cX4_nest 28 = .ok (.iload_n 2, 1) := dk_28 (dk_at dksX4_nest_1 5 rfl rfl)
theorem dX4_nest_29 : decode cX4_nest 29 = .ok (.if_icmp .eq 31, 3) := dk_159 0 31 (dk_at dksX4_nest_1 6 rfl rfl)
theorem dX4_nest_32 : decode cX4_nest 32 = .ok (.aload_n 0, 1) := dk_42 (dk_at dksX4_nest_1 9 rfl rfl)
theorem dX4_nest_33 : decode cX4_nest 33 = .ok (.getfield 7, 3) := dk_180 0 7 (dk_at dksX4_nest_1 10 rfl rfl)
theorem dX4_nest_36 : decode cX4_nest 36 = .ok (.bipush 10, 2) := dk_16 10 (dk_at dksX4_nest_1 13 rfl rfl)
theorem dX4_nest_38 : decode cX4_nest 38 = .ok (.iload_n 1, 1) := dk_27 (dk_at dksX4_nest_1 15 rfl rfl)
theorem dX4_nest_39 : decode cX4_nest 39 = .ok (.iadd, 1) := dk_96 (dk_at dksX4_nest_1 16 rfl rfl)
theorem dX4_nest_40 : decode cX4_nest 40 = .ok (.iaload, 1) := dk_46 (dk_at dksX4_nest_1 17 rfl rfl)
theorem dX4_nest_41 : decode cX4_nest 41 = .ok (.iload_n 2, 1) := dk_28 (dk_at dksX4_nest_1 18 rfl rfl)
theorem dX4_nest_42 : decode cX4_nest 42 = .ok (.invokestatic 65, 3) := dk_184 0 65 (dk_at dksX4_nest_1 19 rfl rfl)
theorem dX4_nest_45 : decode cX4_nest 45 = .ok (.ifCond .ne 15, 3) := dk_154 0 15 (dk_at dksX4_nest_2 0 rfl rfl)
theorem dX4_nest_48 : decode cX4_nest 48 = .ok (.aload_n 0, 1) := dk_42 (dk_at dksX4_nest_2 3 rfl rfl)
theorem dX4_nest_49 : decode cX4_nest 49 = .ok (.iload_n 2, 1) := dk_28 (dk_at dksX4_nest_2 4 rfl rfl)
theorem dX4_nest_50 : decode cX4_nest 50 = .ok (.invokevirtual 69, 3) := dk_182 0 69 (dk_at dksX4_nest_2 5 rfl rfl)
theorem dX4_nest_53 : decode cX4_nest 53 = .ok (.iload_n 1, 1) := dk_27 (dk_at dksX4_nest_2 8 rfl rfl)
theorem dX4_nest_54 : decode cX4_nest 54 = .ok (.invokestatic 65, 3) := dk_184 0 65 (dk_at dksX4_nest_2 9 rfl rfl)
theorem dX4_nest_57 : decode cX4_nest 57 = .ok (.ifCond .eq 9, 3) := dk_153 0 9 (dk_at dksX4_nest_2 12 rfl rfl)
theorem dX4_nest_60 : decode cX4_nest 60 = .ok (.aload_n 0, 1) := dk_42 (dk_at dksX4_nest_2 15 rfl rfl)
theorem dX4_nest_61 : decode cX4_nest 61 = .ok (.iconst 2, 1) := dk_5 (dk_at dksX4_nest_2 16 rfl rfl)
theorem dX4_nest_62 : decode cX4_nest 62 = .ok (.invokevirtual 76, 3) := dk_182 0 76 (dk_at dksX4_nest_2 17 rfl rfl)
theorem dX4_nest_65 : decode cX4_nest 65 = .ok (.ireturn, 1) := dk_172 (dk_at dksX4_nest_2 20 rfl rfl)
theorem dX4_nest_66 : decode cX4_nest 66 = .ok (.aload_n 0, 1) := dk_42 (dk_at dksX4_nest_2 21 rfl rfl)
theorem dX4_nest_67 : decode cX4_nest 67 = .ok (.invokevirtual 79, 3) := dk_182 0 79 (dk_at dksX4_nest_3 0 rfl rfl)
theorem dX4_nest_70 : decode cX4_nest 70 = .ok (.aload_n 0, 1) := dk_42 (dk_at dksX4_nest_3 3 rfl rfl)
theorem dX4_nest_71 : decode cX4_nest 71 = .ok (.getfield 7, 3) := dk_180 0 7 (dk_at dksX4_nest_3 4 rfl rfl)
theorem dX4_nest_74 : decode cX4_nest 74 = .ok (.bipush 10, 2) := dk_16 10 (dk_at dksX4_nest_3 7 rfl rfl)
theorem dX4_nest_76 : decode cX4_nest 76 = .ok (.iload_n 1, 1) := dk_27 (dk_at dksX4_nest_3 9 rfl rfl)
theorem dX4_nest_77 : decode cX4_nest 77 = .ok (.iadd, 1) := dk_96 (dk_at dksX4_nest_3 10 rfl rfl)
theorem dX4_nest_78 : decode cX4_nest 78 = .ok (.dup2, 1) := dk_92 (dk_at dksX4_nest_3 11 rfl rfl)
theorem dX4_nest_79 : decode cX4_nest 79 = .ok (.iaload, 1) := dk_46 (dk_at dksX4_nest_3 12 rfl rfl)
theorem dX4_nest_80 : decode cX4_nest 80 = .ok (.iconst 1, 1) := dk_4 (dk_at dksX4_nest_3 13 rfl rfl)
theorem dX4_nest_81 : decode cX4_nest 81 = .ok (.iload_n 2, 1) := dk_28 (dk_at dksX4_nest_3 14 rfl rfl)
theorem dX4_nest_82 : decode cX4_nest 82 = .ok (.ishl, 1) := dk_120 (dk_at dksX4_nest_3 15 rfl rfl)
theorem dX4_nest_83 : decode cX4_nest 83 = .ok (.ior, 1) := dk_128 (dk_at dksX4_nest_3 16 rfl rfl)
theorem dX4_nest_84 : decode cX4_nest 84 = .ok (.iastore, 1) := dk_79 (dk_at dksX4_nest_3 17 rfl rfl)
theorem dX4_nest_85 : decode cX4_nest 85 = .ok (.aload_n 0, 1) := dk_42 (dk_at dksX4_nest_3 18 rfl rfl)
theorem dX4_nest_86 : decode cX4_nest 86 = .ok (.iload_n 2, 1) := dk_28 (dk_at dksX4_nest_3 19 rfl rfl)
theorem dX4_nest_87 : decode cX4_nest 87 = .ok (.invokevirtual 88, 3) := dk_182 0 88 (dk_at dksX4_nest_3 20 rfl rfl)
theorem dX4_nest_90 : decode cX4_nest 90 = .ok (.ireturn, 1) := dk_172 (dk_at dksX4_nest_3 23 rfl rfl)
abbrev cX4_unnest : ByteArray := prog_14_method_26_code
def yX4_unnest : MethodName := ⟨RX4, "unnest", "(II)I"⟩
def dkwX4_unnest_3 : List UInt8 := [28, 182, 0, 88, 172]
abbrev dktX4_unnest_3 : List UInt8 := dkwX4_unnest_3 ++ []
def dkwX4_unnest_2 : List UInt8 := [182, 0, 76, 172, 42, 182, 0, 79, 42, 180, 0, 7, 16, 10, 27, 96, 92, 46, 4, 28, 120, 100, 79, 42]
abbrev dktX4_unnest_2 : List UInt8 := dkwX4_unnest_2 ++ dktX4_unnest_3
def dkwX4_unnest_1 : List UInt8 := [182, 0, 76, 172, 42, 180, 0, 7, 16, 10, 27, 96, 46, 28, 184, 0, 65, 154, 0, 9, 42, 5]
abbrev dktX4_unnest_1 : List UInt8 := dkwX4_unnest_1 ++ dktX4_unnest_2
def dkwX4_unnest_0 : List UInt8 := [42, 3, 181, 0, 39, 42, 27, 182, 0, 85, 153, 0, 11, 42, 28, 182, 0, 85, 154, 0, 9, 42, 4]
abbrev dktX4_unnest_0 : List UInt8 := dkwX4_unnest_0 ++ dktX4_unnest_1
theorem dksX4_unnest_0 : cX4_unnest.data.toList.drop 0 = dktX4_unnest_0 := by decide +kernel
theorem dksX4_unnest_1 : cX4_unnest.data.toList.drop 23 = dktX4_unnest_1 := dk_seg dksX4_unnest_0 23 rfl rfl
theorem dksX4_unnest_2 : cX4_unnest.data.toList.drop 45 = dktX4_unnest_2 := dk_seg dksX4_unnest_1 22 rfl rfl
theorem dksX4_unnest_3 : cX4_unnest.data.toList.drop 69 = dktX4_unnest_3 := dk_seg dksX4_unnest_2 24 rfl rfl
theorem dX4_unnest_0 : decode cX4_unnest 0 = .ok (.aload_n 0, 1) := dk_42 (dk_at dksX4_unnest_0 0 rfl rfl)
theorem dX4_unnest_1 : decode cX4_unnest 1 = .ok (.iconst 0, 1) := dk_3 (dk_at dksX4_unnest_0 1 rfl rfl)
theorem dX4_unnest_2 : decode cX4_unnest 2 = .ok (.putfield 39, 3) := dk_181 0 39 (dk_at dksX4_unnest_0 2 rfl rfl)
theorem dX4_unnest_5 : decode cX4_unnest 5 = .ok (.aload_n 0, 1) := dk_42 (dk_at dksX4_unnest_0 5 rfl rfl)
theorem dX4_unnest_6 : decode cX4_unnest 6 = .ok (.iload_n 1, 1) := dk_27 (dk_at dksX4_unnest_0 6 rfl rfl)
theorem dX4_unnest_7 : decode cX4_unnest 7 = .ok (.invokevirtual 85, 3) := dk_182 0 85 (dk_at dksX4_unnest_0 7 rfl rfl)
theorem dX4_unnest_10 : decode cX4_unnest 10 = .ok (.ifCond .eq 11, 3) := dk_153 0 11 (dk_at dksX4_unnest_0 10 rfl rfl)
theorem dX4_unnest_13 : decode cX4_unnest 13 = .ok (.aload_n 0, 1) := dk_42 (dk_at dksX4_unnest_0 13 rfl rfl)
theorem dX4_unnest_14 : decode cX4_unnest 14 = .ok (.iload_n 2, 1) := dk_28 (dk_at dksX4_unnest_0 14 rfl rfl)
theorem dX4_unnest_15 : decode cX4_unnest 15 = .ok (.invokevirtual 85, 3) := dk_182 0 85 (dk_at dksX4_unnest_0 15 rfl rfl)
theorem dX4_unnest_18 : decode cX4_unnest 18 = .ok (.ifCond .ne 9, 3) := dk_154 0 9 (dk_at dksX4_unnest_0 18 rfl rfl)
theorem dX4_unnest_21 : decode cX4_unnest 21 = .ok (.aload_n 0, 1) := dk_42 (dk_at dksX4_unnest_0 21 rfl rfl)
theorem dX4_unnest_22 : decode cX4_unnest 22 = .ok (.iconst 1, 1) := dk_4 (dk_at dksX4_unnest_0 22 rfl rfl)
theorem dX4_unnest_23 : decode cX4_unnest 23 = .ok (.invokevirtual 76, 3) := dk_182 0 76 (dk_at dksX4_unnest_1 0 rfl rfl)
theorem dX4_unnest_26 : decode cX4_unnest 26 = .ok (.ireturn, 1) := dk_172 (dk_at dksX4_unnest_1 3 rfl rfl)
theorem dX4_unnest_27 : decode cX4_unnest 27 = .ok (.aload_n 0, 1) := dk_42 (dk_at dksX4_unnest_1 4 rfl rfl)
theorem dX4_unnest_28 : decode cX4_unnest 28 = .ok (.getfield 7, 3) := dk_180 0 7 (dk_at dksX4_unnest_1 5 rfl rfl)
theorem dX4_unnest_31 : decode cX4_unnest 31 = .ok (.bipush 10, 2) := dk_16 10 (dk_at dksX4_unnest_1 8 rfl rfl)
theorem dX4_unnest_33 : decode cX4_unnest 33 = .ok (.iload_n 1, 1) := dk_27 (dk_at dksX4_unnest_1 10 rfl rfl)
theorem dX4_unnest_34 : decode cX4_unnest 34 = .ok (.iadd, 1) := dk_96 (dk_at dksX4_unnest_1 11 rfl rfl)
theorem dX4_unnest_35 : decode cX4_unnest 35 = .ok (.iaload, 1) := dk_46 (dk_at dksX4_unnest_1 12 rfl rfl)
theorem dX4_unnest_36 : decode cX4_unnest 36 = .ok (.iload_n 2, 1) := dk_28 (dk_at dksX4_unnest_1 13 rfl rfl)
theorem dX4_unnest_37 : decode cX4_unnest 37 = .ok (.invokestatic 65, 3) := dk_184 0 65 (dk_at dksX4_unnest_1 14 rfl rfl)
theorem dX4_unnest_40 : decode cX4_unnest 40 = .ok (.ifCond .ne 9, 3) := dk_154 0 9 (dk_at dksX4_unnest_1 17 rfl rfl)
theorem dX4_unnest_43 : decode cX4_unnest 43 = .ok (.aload_n 0, 1) := dk_42 (dk_at dksX4_unnest_1 20 rfl rfl)
theorem dX4_unnest_44 : decode cX4_unnest 44 = .ok (.iconst 2, 1) := dk_5 (dk_at dksX4_unnest_1 21 rfl rfl)
theorem dX4_unnest_45 : decode cX4_unnest 45 = .ok (.invokevirtual 76, 3) := dk_182 0 76 (dk_at dksX4_unnest_2 0 rfl rfl)
theorem dX4_unnest_48 : decode cX4_unnest 48 = .ok (.ireturn, 1) := dk_172 (dk_at dksX4_unnest_2 3 rfl rfl)
theorem dX4_unnest_49 : decode cX4_unnest 49 = .ok (.aload_n 0, 1) := dk_42 (dk_at dksX4_unnest_2 4 rfl rfl)
theorem dX4_unnest_50 : decode cX4_unnest 50 = .ok (.invokevirtual 79, 3) := dk_182 0 79 (dk_at dksX4_unnest_2 5 rfl rfl)
theorem dX4_unnest_53 : decode cX4_unnest 53 = .ok (.aload_n 0, 1) := dk_42 (dk_at dksX4_unnest_2 8 rfl rfl)
theorem dX4_unnest_54 : decode cX4_unnest 54 = .ok (.getfield 7, 3) := dk_180 0 7 (dk_at dksX4_unnest_2 9 rfl rfl)
theorem dX4_unnest_57 : decode cX4_unnest 57 = .ok (.bipush 10, 2) := dk_16 10 (dk_at dksX4_unnest_2 12 rfl rfl)
theorem dX4_unnest_59 : decode cX4_unnest 59 = .ok (.iload_n 1, 1) := dk_27 (dk_at dksX4_unnest_2 14 rfl rfl)
theorem dX4_unnest_60 : decode cX4_unnest 60 = .ok (.iadd, 1) := dk_96 (dk_at dksX4_unnest_2 15 rfl rfl)
theorem dX4_unnest_61 : decode cX4_unnest 61 = .ok (.dup2, 1) := dk_92 (dk_at dksX4_unnest_2 16 rfl rfl)
theorem dX4_unnest_62 : decode cX4_unnest 62 = .ok (.iaload, 1) := dk_46 (dk_at dksX4_unnest_2 17 rfl rfl)
theorem dX4_unnest_63 : decode cX4_unnest 63 = .ok (.iconst 1, 1) := dk_4 (dk_at dksX4_unnest_2 18 rfl rfl)
theorem dX4_unnest_64 : decode cX4_unnest 64 = .ok (.iload_n 2, 1) := dk_28 (dk_at dksX4_unnest_2 19 rfl rfl)
theorem dX4_unnest_65 : decode cX4_unnest 65 = .ok (.ishl, 1) := dk_120 (dk_at dksX4_unnest_2 20 rfl rfl)
theorem dX4_unnest_66 : decode cX4_unnest 66 = .ok (.isub, 1) := dk_100 (dk_at dksX4_unnest_2 21 rfl rfl)
theorem dX4_unnest_67 : decode cX4_unnest 67 = .ok (.iastore, 1) := dk_79 (dk_at dksX4_unnest_2 22 rfl rfl)
theorem dX4_unnest_68 : decode cX4_unnest 68 = .ok (.aload_n 0, 1) := dk_42 (dk_at dksX4_unnest_2 23 rfl rfl)
theorem dX4_unnest_69 : decode cX4_unnest 69 = .ok (.iload_n 2, 1) := dk_28 (dk_at dksX4_unnest_3 0 rfl rfl)
theorem dX4_unnest_70 : decode cX4_unnest 70 = .ok (.invokevirtual 88, 3) := dk_182 0 88 (dk_at dksX4_unnest_3 1 rfl rfl)
theorem dX4_unnest_73 : decode cX4_unnest 73 = .ok (.ireturn, 1) := dk_172 (dk_at dksX4_unnest_3 4 rfl rfl)
abbrev cX4_make : ByteArray := prog_14_method_31_code
def yX4_make : MethodName := ⟨RX4, "make", "(II)I"⟩
def dkwX4_make_2 : List UInt8 := [62, 42, 29, 182, 0, 57, 153, 0, 9, 132, 3, 1, 167, 255, 245, 42, 29, 27, 28, 182, 0, 35, 29, 172]
abbrev dktX4_make_2 : List UInt8 := dkwX4_make_2 ++ []
def dkwX4_make_1 : List UInt8 := [182, 0, 76, 172, 42, 182, 0, 94, 16, 20, 160, 0, 9, 42, 5, 182, 0, 76, 172, 42, 182, 0, 79, 3]
abbrev dktX4_make_1 : List UInt8 := dkwX4_make_1 ++ dktX4_make_2
def dkwX4_make_0 : List UInt8 := [42, 3, 181, 0, 39, 42, 27, 182, 0, 57, 153, 0, 11, 42, 28, 182, 0, 82, 154, 0, 9, 42, 4]
abbrev dktX4_make_0 : List UInt8 := dkwX4_make_0 ++ dktX4_make_1
theorem dksX4_make_0 : cX4_make.data.toList.drop 0 = dktX4_make_0 := by decide +kernel
theorem dksX4_make_1 : cX4_make.data.toList.drop 23 = dktX4_make_1 := dk_seg dksX4_make_0 23 rfl rfl
theorem dksX4_make_2 : cX4_make.data.toList.drop 47 = dktX4_make_2 := dk_seg dksX4_make_1 24 rfl rfl
theorem dX4_make_0 : decode cX4_make 0 = .ok (.aload_n 0, 1) := dk_42 (dk_at dksX4_make_0 0 rfl rfl)
theorem dX4_make_1 : decode cX4_make 1 = .ok (.iconst 0, 1) := dk_3 (dk_at dksX4_make_0 1 rfl rfl)
theorem dX4_make_2 : decode cX4_make 2 = .ok (.putfield 39, 3) := dk_181 0 39 (dk_at dksX4_make_0 2 rfl rfl)
theorem dX4_make_5 : decode cX4_make 5 = .ok (.aload_n 0, 1) := dk_42 (dk_at dksX4_make_0 5 rfl rfl)
theorem dX4_make_6 : decode cX4_make 6 = .ok (.iload_n 1, 1) := dk_27 (dk_at dksX4_make_0 6 rfl rfl)
theorem dX4_make_7 : decode cX4_make 7 = .ok (.invokevirtual 57, 3) := dk_182 0 57 (dk_at dksX4_make_0 7 rfl rfl)
theorem dX4_make_10 : decode cX4_make 10 = .ok (.ifCond .eq 11, 3) := dk_153 0 11 (dk_at dksX4_make_0 10 rfl rfl)
theorem dX4_make_13 : decode cX4_make 13 = .ok (.aload_n 0, 1) := dk_42 (dk_at dksX4_make_0 13 rfl rfl)
theorem dX4_make_14 : decode cX4_make 14 = .ok (.iload_n 2, 1) := dk_28 (dk_at dksX4_make_0 14 rfl rfl)
theorem dX4_make_15 : decode cX4_make 15 = .ok (.invokevirtual 82, 3) := dk_182 0 82 (dk_at dksX4_make_0 15 rfl rfl)
theorem dX4_make_18 : decode cX4_make 18 = .ok (.ifCond .ne 9, 3) := dk_154 0 9 (dk_at dksX4_make_0 18 rfl rfl)
theorem dX4_make_21 : decode cX4_make 21 = .ok (.aload_n 0, 1) := dk_42 (dk_at dksX4_make_0 21 rfl rfl)
theorem dX4_make_22 : decode cX4_make 22 = .ok (.iconst 1, 1) := dk_4 (dk_at dksX4_make_0 22 rfl rfl)
theorem dX4_make_23 : decode cX4_make 23 = .ok (.invokevirtual 76, 3) := dk_182 0 76 (dk_at dksX4_make_1 0 rfl rfl)
theorem dX4_make_26 : decode cX4_make 26 = .ok (.ireturn, 1) := dk_172 (dk_at dksX4_make_1 3 rfl rfl)
theorem dX4_make_27 : decode cX4_make 27 = .ok (.aload_n 0, 1) := dk_42 (dk_at dksX4_make_1 4 rfl rfl)
theorem dX4_make_28 : decode cX4_make 28 = .ok (.invokevirtual 94, 3) := dk_182 0 94 (dk_at dksX4_make_1 5 rfl rfl)
theorem dX4_make_31 : decode cX4_make 31 = .ok (.bipush 20, 2) := dk_16 20 (dk_at dksX4_make_1 8 rfl rfl)
theorem dX4_make_33 : decode cX4_make 33 = .ok (.if_icmp .ne 9, 3) := dk_160 0 9 (dk_at dksX4_make_1 10 rfl rfl)
theorem dX4_make_36 : decode cX4_make 36 = .ok (.aload_n 0, 1) := dk_42 (dk_at dksX4_make_1 13 rfl rfl)
theorem dX4_make_37 : decode cX4_make 37 = .ok (.iconst 2, 1) := dk_5 (dk_at dksX4_make_1 14 rfl rfl)
theorem dX4_make_38 : decode cX4_make 38 = .ok (.invokevirtual 76, 3) := dk_182 0 76 (dk_at dksX4_make_1 15 rfl rfl)
theorem dX4_make_41 : decode cX4_make 41 = .ok (.ireturn, 1) := dk_172 (dk_at dksX4_make_1 18 rfl rfl)
theorem dX4_make_42 : decode cX4_make 42 = .ok (.aload_n 0, 1) := dk_42 (dk_at dksX4_make_1 19 rfl rfl)
theorem dX4_make_43 : decode cX4_make 43 = .ok (.invokevirtual 79, 3) := dk_182 0 79 (dk_at dksX4_make_1 20 rfl rfl)
theorem dX4_make_46 : decode cX4_make 46 = .ok (.iconst 0, 1) := dk_3 (dk_at dksX4_make_1 23 rfl rfl)
theorem dX4_make_47 : decode cX4_make 47 = .ok (.istore_n 3, 1) := dk_62 (dk_at dksX4_make_2 0 rfl rfl)
theorem dX4_make_48 : decode cX4_make 48 = .ok (.aload_n 0, 1) := dk_42 (dk_at dksX4_make_2 1 rfl rfl)
theorem dX4_make_49 : decode cX4_make 49 = .ok (.iload_n 3, 1) := dk_29 (dk_at dksX4_make_2 2 rfl rfl)
theorem dX4_make_50 : decode cX4_make 50 = .ok (.invokevirtual 57, 3) := dk_182 0 57 (dk_at dksX4_make_2 3 rfl rfl)
theorem dX4_make_53 : decode cX4_make 53 = .ok (.ifCond .eq 9, 3) := dk_153 0 9 (dk_at dksX4_make_2 6 rfl rfl)
theorem dX4_make_56 : decode cX4_make 56 = .ok (.iinc 3 1, 3) := dk_132 3 1 (dk_at dksX4_make_2 9 rfl rfl)
theorem dX4_make_59 : decode cX4_make 59 = .ok (.goto (-11), 3) := dk_167 255 245 (dk_at dksX4_make_2 12 rfl rfl)
theorem dX4_make_62 : decode cX4_make 62 = .ok (.aload_n 0, 1) := dk_42 (dk_at dksX4_make_2 15 rfl rfl)
theorem dX4_make_63 : decode cX4_make 63 = .ok (.iload_n 3, 1) := dk_29 (dk_at dksX4_make_2 16 rfl rfl)
theorem dX4_make_64 : decode cX4_make 64 = .ok (.iload_n 1, 1) := dk_27 (dk_at dksX4_make_2 17 rfl rfl)
theorem dX4_make_65 : decode cX4_make 65 = .ok (.iload_n 2, 1) := dk_28 (dk_at dksX4_make_2 18 rfl rfl)
theorem dX4_make_66 : decode cX4_make 66 = .ok (.invokevirtual 35, 3) := dk_182 0 35 (dk_at dksX4_make_2 19 rfl rfl)
theorem dX4_make_69 : decode cX4_make 69 = .ok (.iload_n 3, 1) := dk_29 (dk_at dksX4_make_2 22 rfl rfl)
theorem dX4_make_70 : decode cX4_make 70 = .ok (.ireturn, 1) := dk_172 (dk_at dksX4_make_2 23 rfl rfl)
abbrev cX4_isObject : ByteArray := prog_14_method_10_code
def yX4_isObject : MethodName := ⟨RX4, "isObject", "(I)Z"⟩
def dkwX4_isObject_1 : List UInt8 := [3, 172]
abbrev dktX4_isObject_1 : List UInt8 := dkwX4_isObject_1 ++ []
def dkwX4_isObject_0 : List UInt8 := [27, 3, 16, 19, 184, 0, 46, 153, 0, 17, 42, 27, 3, 182, 0, 54, 4, 160, 0, 7, 4, 167, 0, 4]
abbrev dktX4_isObject_0 : List UInt8 := dkwX4_isObject_0 ++ dktX4_isObject_1
theorem dksX4_isObject_0 : cX4_isObject.data.toList.drop 0 = dktX4_isObject_0 := by decide +kernel
theorem dksX4_isObject_1 : cX4_isObject.data.toList.drop 24 = dktX4_isObject_1 := dk_seg dksX4_isObject_0 24 rfl rfl
theorem dX4_isObject_0 : decode cX4_isObject 0 = .ok (.iload_n 1, 1) := dk_27 (dk_at dksX4_isObject_0 0 rfl rfl)
theorem dX4_isObject_1 : decode cX4_isObject 1 = .ok (.iconst 0, 1) := dk_3 (dk_at dksX4_isObject_0 1 rfl rfl)
theorem dX4_isObject_2 : decode cX4_isObject 2 = .ok (.bipush 19, 2) := dk_16 19 (dk_at dksX4_isObject_0 2 rfl rfl)
theorem dX4_isObject_4 : decode cX4_isObject 4 = .ok (.invokestatic 46, 3) := dk_184 0 46 (dk_at dksX4_isObject_0 4 rfl rfl)
theorem dX4_isObject_7 : decode cX4_isObject 7 = .ok (.ifCond .eq 17, 3) := dk_153 0 17 (dk_at dksX4_isObject_0 7 rfl rfl)
theorem dX4_isObject_10 : decode cX4_isObject 10 = .ok (.aload_n 0, 1) := dk_42 (dk_at dksX4_isObject_0 10 rfl rfl)
theorem dX4_isObject_11 : decode cX4_isObject 11 = .ok (.iload_n 1, 1) := dk_27 (dk_at dksX4_isObject_0 11 rfl rfl)
theorem dX4_isObject_12 : decode cX4_isObject 12 = .ok (.iconst 0, 1) := dk_3 (dk_at dksX4_isObject_0 12 rfl rfl)
theorem dX4_isObject_13 : decode cX4_isObject 13 = .ok (.invokevirtual 54, 3) := dk_182 0 54 (dk_at dksX4_isObject_0 13 rfl rfl)
theorem dX4_isObject_16 : decode cX4_isObject 16 = .ok (.iconst 1, 1) := dk_4 (dk_at dksX4_isObject_0 16 rfl rfl)
theorem dX4_isObject_17 : decode cX4_isObject 17 = .ok (.if_icmp .ne 7, 3) := dk_160 0 7 (dk_at dksX4_isObject_0 17 rfl rfl)
theorem dX4_isObject_20 : decode cX4_isObject 20 = .ok (.iconst 1, 1) := dk_4 (dk_at dksX4_isObject_0 20 rfl rfl)
theorem dX4_isObject_21 : decode cX4_isObject 21 = .ok (.goto 4, 3) := dk_167 0 4 (dk_at dksX4_isObject_0 21 rfl rfl)
theorem dX4_isObject_24 : decode cX4_isObject 24 = .ok (.iconst 0, 1) := dk_3 (dk_at dksX4_isObject_1 0 rfl rfl)
theorem dX4_isObject_25 : decode cX4_isObject 25 = .ok (.ireturn, 1) := dk_172 (dk_at dksX4_isObject_1 1 rfl rfl)
abbrev cX4_of : ByteArray := prog_14_method_9_code
def yX4_of : MethodName := ⟨RX4, "of", "(II)I"⟩
def dkwX4_of_0 : List UInt8 := [42, 180, 0, 7, 27, 28, 184, 0, 50, 46, 172]
abbrev dktX4_of_0 : List UInt8 := dkwX4_of_0 ++ []
theorem dksX4_of_0 : cX4_of.data.toList.drop 0 = dktX4_of_0 := by decide +kernel
theorem dX4_of_0 : decode cX4_of 0 = .ok (.aload_n 0, 1) := dk_42 (dk_at dksX4_of_0 0 rfl rfl)
theorem dX4_of_1 : decode cX4_of 1 = .ok (.getfield 7, 3) := dk_180 0 7 (dk_at dksX4_of_0 1 rfl rfl)
theorem dX4_of_4 : decode cX4_of 4 = .ok (.iload_n 1, 1) := dk_27 (dk_at dksX4_of_0 4 rfl rfl)
theorem dX4_of_5 : decode cX4_of 5 = .ok (.iload_n 2, 1) := dk_28 (dk_at dksX4_of_0 5 rfl rfl)
theorem dX4_of_6 : decode cX4_of 6 = .ok (.invokestatic 50, 3) := dk_184 0 50 (dk_at dksX4_of_0 6 rfl rfl)
theorem dX4_of_9 : decode cX4_of 9 = .ok (.iaload, 1) := dk_46 (dk_at dksX4_of_0 9 rfl rfl)
theorem dX4_of_10 : decode cX4_of 10 = .ok (.ireturn, 1) := dk_172 (dk_at dksX4_of_0 10 rfl rfl)
abbrev cX4_howManyObjects : ByteArray := prog_14_method_28_code
def yX4_howManyObjects : MethodName := ⟨RX4, "howManyObjects", "()I"⟩
def dkwX4_howManyObjects_1 : List UInt8 := [167, 255, 238, 27, 172]
abbrev dktX4_howManyObjects_1 : List UInt8 := dkwX4_howManyObjects_1 ++ []
def dkwX4_howManyObjects_0 : List UInt8 := [3, 60, 3, 61, 28, 16, 20, 162, 0, 18, 27, 42, 28, 3, 182, 0, 54, 96, 60, 132, 2, 1]
abbrev dktX4_howManyObjects_0 : List UInt8 := dkwX4_howManyObjects_0 ++ dktX4_howManyObjects_1
theorem dksX4_howManyObjects_0 : cX4_howManyObjects.data.toList.drop 0 = dktX4_howManyObjects_0 := by decide +kernel
theorem dksX4_howManyObjects_1 : cX4_howManyObjects.data.toList.drop 22 = dktX4_howManyObjects_1 := dk_seg dksX4_howManyObjects_0 22 rfl rfl
theorem dX4_howManyObjects_0 : decode cX4_howManyObjects 0 = .ok (.iconst 0, 1) := dk_3 (dk_at dksX4_howManyObjects_0 0 rfl rfl)
theorem dX4_howManyObjects_1 : decode cX4_howManyObjects 1 = .ok (.istore_n 1, 1) := dk_60 (dk_at dksX4_howManyObjects_0 1 rfl rfl)
theorem dX4_howManyObjects_2 : decode cX4_howManyObjects 2 = .ok (.iconst 0, 1) := dk_3 (dk_at dksX4_howManyObjects_0 2 rfl rfl)
theorem dX4_howManyObjects_3 : decode cX4_howManyObjects 3 = .ok (.istore_n 2, 1) := dk_61 (dk_at dksX4_howManyObjects_0 3 rfl rfl)
theorem dX4_howManyObjects_4 : decode cX4_howManyObjects 4 = .ok (.iload_n 2, 1) := dk_28 (dk_at dksX4_howManyObjects_0 4 rfl rfl)
theorem dX4_howManyObjects_5 : decode cX4_howManyObjects 5 = .ok (.bipush 20, 2) := dk_16 20 (dk_at dksX4_howManyObjects_0 5 rfl rfl)
theorem dX4_howManyObjects_7 : decode cX4_howManyObjects 7 = .ok (.if_icmp .ge 18, 3) := dk_162 0 18 (dk_at dksX4_howManyObjects_0 7 rfl rfl)
theorem dX4_howManyObjects_10 : decode cX4_howManyObjects 10 = .ok (.iload_n 1, 1) := dk_27 (dk_at dksX4_howManyObjects_0 10 rfl rfl)
theorem dX4_howManyObjects_11 : decode cX4_howManyObjects 11 = .ok (.aload_n 0, 1) := dk_42 (dk_at dksX4_howManyObjects_0 11 rfl rfl)
theorem dX4_howManyObjects_12 : decode cX4_howManyObjects 12 = .ok (.iload_n 2, 1) := dk_28 (dk_at dksX4_howManyObjects_0 12 rfl rfl)
theorem dX4_howManyObjects_13 : decode cX4_howManyObjects 13 = .ok (.iconst 0, 1) := dk_3 (dk_at dksX4_howManyObjects_0 13 rfl rfl)
theorem dX4_howManyObjects_14 : decode cX4_howManyObjects 14 = .ok (.invokevirtual 54, 3) := dk_182 0 54 (dk_at dksX4_howManyObjects_0 14 rfl rfl)
theorem dX4_howManyObjects_17 : decode cX4_howManyObjects 17 = .ok (.iadd, 1) := dk_96 (dk_at dksX4_howManyObjects_0 17 rfl rfl)
theorem dX4_howManyObjects_18 : decode cX4_howManyObjects 18 = .ok (.istore_n 1, 1) := dk_60 (dk_at dksX4_howManyObjects_0 18 rfl rfl)
theorem dX4_howManyObjects_19 : decode cX4_howManyObjects 19 = .ok (.iinc 2 1, 3) := dk_132 2 1 (dk_at dksX4_howManyObjects_0 19 rfl rfl)
theorem dX4_howManyObjects_22 : decode cX4_howManyObjects 22 = .ok (.goto (-18), 3) := dk_167 255 238 (dk_at dksX4_howManyObjects_1 0 rfl rfl)
theorem dX4_howManyObjects_25 : decode cX4_howManyObjects 25 = .ok (.iload_n 1, 1) := dk_27 (dk_at dksX4_howManyObjects_1 3 rfl rfl)
theorem dX4_howManyObjects_26 : decode cX4_howManyObjects 26 = .ok (.ireturn, 1) := dk_172 (dk_at dksX4_howManyObjects_1 4 rfl rfl)
abbrev cX4_remove : ByteArray := prog_14_method_32_code
def yX4_remove : MethodName := ⟨RX4, "remove", "(I)I"⟩
def dkwX4_remove_3 : List UInt8 := [172]
abbrev dktX4_remove_3 : List UInt8 := dkwX4_remove_3 ++ []
def dkwX4_remove_2 : List UInt8 := [162, 0, 20, 42, 180, 0, 7, 27, 28, 184, 0, 50, 3, 79, 132, 2, 1, 167, 255, 236, 42, 182, 0, 94]
abbrev dktX4_remove_2 : List UInt8 := dkwX4_remove_2 ++ dktX4_remove_3
def dkwX4_remove_1 : List UInt8 := [27, 182, 0, 98, 158, 0, 9, 42, 5, 182, 0, 76, 172, 42, 182, 0, 79, 3, 61, 28, 16, 36]
abbrev dktX4_remove_1 : List UInt8 := dkwX4_remove_1 ++ dktX4_remove_2
def dkwX4_remove_0 : List UInt8 := [42, 3, 181, 0, 39, 42, 27, 182, 0, 57, 154, 0, 9, 42, 4, 182, 0, 76, 172, 27, 153, 0, 11, 42]
abbrev dktX4_remove_0 : List UInt8 := dkwX4_remove_0 ++ dktX4_remove_1
theorem dksX4_remove_0 : cX4_remove.data.toList.drop 0 = dktX4_remove_0 := by decide +kernel
theorem dksX4_remove_1 : cX4_remove.data.toList.drop 24 = dktX4_remove_1 := dk_seg dksX4_remove_0 24 rfl rfl
theorem dksX4_remove_2 : cX4_remove.data.toList.drop 46 = dktX4_remove_2 := dk_seg dksX4_remove_1 22 rfl rfl
theorem dksX4_remove_3 : cX4_remove.data.toList.drop 70 = dktX4_remove_3 := dk_seg dksX4_remove_2 24 rfl rfl
theorem dX4_remove_0 : decode cX4_remove 0 = .ok (.aload_n 0, 1) := dk_42 (dk_at dksX4_remove_0 0 rfl rfl)
theorem dX4_remove_1 : decode cX4_remove 1 = .ok (.iconst 0, 1) := dk_3 (dk_at dksX4_remove_0 1 rfl rfl)
theorem dX4_remove_2 : decode cX4_remove 2 = .ok (.putfield 39, 3) := dk_181 0 39 (dk_at dksX4_remove_0 2 rfl rfl)
theorem dX4_remove_5 : decode cX4_remove 5 = .ok (.aload_n 0, 1) := dk_42 (dk_at dksX4_remove_0 5 rfl rfl)
theorem dX4_remove_6 : decode cX4_remove 6 = .ok (.iload_n 1, 1) := dk_27 (dk_at dksX4_remove_0 6 rfl rfl)
theorem dX4_remove_7 : decode cX4_remove 7 = .ok (.invokevirtual 57, 3) := dk_182 0 57 (dk_at dksX4_remove_0 7 rfl rfl)
theorem dX4_remove_10 : decode cX4_remove 10 = .ok (.ifCond .ne 9, 3) := dk_154 0 9 (dk_at dksX4_remove_0 10 rfl rfl)
theorem dX4_remove_13 : decode cX4_remove 13 = .ok (.aload_n 0, 1) := dk_42 (dk_at dksX4_remove_0 13 rfl rfl)
theorem dX4_remove_14 : decode cX4_remove 14 = .ok (.iconst 1, 1) := dk_4 (dk_at dksX4_remove_0 14 rfl rfl)
theorem dX4_remove_15 : decode cX4_remove 15 = .ok (.invokevirtual 76, 3) := dk_182 0 76 (dk_at dksX4_remove_0 15 rfl rfl)
theorem dX4_remove_18 : decode cX4_remove 18 = .ok (.ireturn, 1) := dk_172 (dk_at dksX4_remove_0 18 rfl rfl)
theorem dX4_remove_19 : decode cX4_remove 19 = .ok (.iload_n 1, 1) := dk_27 (dk_at dksX4_remove_0 19 rfl rfl)
theorem dX4_remove_20 : decode cX4_remove 20 = .ok (.ifCond .eq 11, 3) := dk_153 0 11 (dk_at dksX4_remove_0 20 rfl rfl)
theorem dX4_remove_23 : decode cX4_remove 23 = .ok (.aload_n 0, 1) := dk_42 (dk_at dksX4_remove_0 23 rfl rfl)
theorem dX4_remove_24 : decode cX4_remove 24 = .ok (.iload_n 1, 1) := dk_27 (dk_at dksX4_remove_1 0 rfl rfl)
theorem dX4_remove_25 : decode cX4_remove 25 = .ok (.invokevirtual 98, 3) := dk_182 0 98 (dk_at dksX4_remove_1 1 rfl rfl)
theorem dX4_remove_28 : decode cX4_remove 28 = .ok (.ifCond .le 9, 3) := dk_158 0 9 (dk_at dksX4_remove_1 4 rfl rfl)
theorem dX4_remove_31 : decode cX4_remove 31 = .ok (.aload_n 0, 1) := dk_42 (dk_at dksX4_remove_1 7 rfl rfl)
theorem dX4_remove_32 : decode cX4_remove 32 = .ok (.iconst 2, 1) := dk_5 (dk_at dksX4_remove_1 8 rfl rfl)
theorem dX4_remove_33 : decode cX4_remove 33 = .ok (.invokevirtual 76, 3) := dk_182 0 76 (dk_at dksX4_remove_1 9 rfl rfl)
theorem dX4_remove_36 : decode cX4_remove 36 = .ok (.ireturn, 1) := dk_172 (dk_at dksX4_remove_1 12 rfl rfl)
theorem dX4_remove_37 : decode cX4_remove 37 = .ok (.aload_n 0, 1) := dk_42 (dk_at dksX4_remove_1 13 rfl rfl)
theorem dX4_remove_38 : decode cX4_remove 38 = .ok (.invokevirtual 79, 3) := dk_182 0 79 (dk_at dksX4_remove_1 14 rfl rfl)
theorem dX4_remove_41 : decode cX4_remove 41 = .ok (.iconst 0, 1) := dk_3 (dk_at dksX4_remove_1 17 rfl rfl)
theorem dX4_remove_42 : decode cX4_remove 42 = .ok (.istore_n 2, 1) := dk_61 (dk_at dksX4_remove_1 18 rfl rfl)
theorem dX4_remove_43 : decode cX4_remove 43 = .ok (.iload_n 2, 1) := dk_28 (dk_at dksX4_remove_1 19 rfl rfl)
theorem dX4_remove_44 : decode cX4_remove 44 = .ok (.bipush 36, 2) := dk_16 36 (dk_at dksX4_remove_1 20 rfl rfl)
theorem dX4_remove_46 : decode cX4_remove 46 = .ok (.if_icmp .ge 20, 3) := dk_162 0 20 (dk_at dksX4_remove_2 0 rfl rfl)
theorem dX4_remove_49 : decode cX4_remove 49 = .ok (.aload_n 0, 1) := dk_42 (dk_at dksX4_remove_2 3 rfl rfl)
theorem dX4_remove_50 : decode cX4_remove 50 = .ok (.getfield 7, 3) := dk_180 0 7 (dk_at dksX4_remove_2 4 rfl rfl)
theorem dX4_remove_53 : decode cX4_remove 53 = .ok (.iload_n 1, 1) := dk_27 (dk_at dksX4_remove_2 7 rfl rfl)
theorem dX4_remove_54 : decode cX4_remove 54 = .ok (.iload_n 2, 1) := dk_28 (dk_at dksX4_remove_2 8 rfl rfl)
theorem dX4_remove_55 : decode cX4_remove 55 = .ok (.invokestatic 50, 3) := dk_184 0 50 (dk_at dksX4_remove_2 9 rfl rfl)
theorem dX4_remove_58 : decode cX4_remove 58 = .ok (.iconst 0, 1) := dk_3 (dk_at dksX4_remove_2 12 rfl rfl)
theorem dX4_remove_59 : decode cX4_remove 59 = .ok (.iastore, 1) := dk_79 (dk_at dksX4_remove_2 13 rfl rfl)
theorem dX4_remove_60 : decode cX4_remove 60 = .ok (.iinc 2 1, 3) := dk_132 2 1 (dk_at dksX4_remove_2 14 rfl rfl)
theorem dX4_remove_63 : decode cX4_remove 63 = .ok (.goto (-20), 3) := dk_167 255 236 (dk_at dksX4_remove_2 17 rfl rfl)
theorem dX4_remove_66 : decode cX4_remove 66 = .ok (.aload_n 0, 1) := dk_42 (dk_at dksX4_remove_2 20 rfl rfl)
theorem dX4_remove_67 : decode cX4_remove 67 = .ok (.invokevirtual 94, 3) := dk_182 0 94 (dk_at dksX4_remove_2 21 rfl rfl)
theorem dX4_remove_70 : decode cX4_remove 70 = .ok (.ireturn, 1) := dk_172 (dk_at dksX4_remove_3 0 rfl rfl)
abbrev cX4_belows : ByteArray := prog_14_method_30_code
def yX4_belows : MethodName := ⟨RX4, "belows", "(I)I"⟩
def dkwX4_belows_1 : List UInt8 := [182, 0, 91, 153, 0, 7, 4, 167, 0, 4, 3, 96, 61, 132, 3, 1, 167, 255, 222, 28, 172]
abbrev dktX4_belows_1 : List UInt8 := dkwX4_belows_1 ++ []
def dkwX4_belows_0 : List UInt8 := [3, 61, 3, 62, 29, 16, 20, 162, 0, 34, 28, 42, 29, 182, 0, 57, 153, 0, 16, 42, 29, 27]
abbrev dktX4_belows_0 : List UInt8 := dkwX4_belows_0 ++ dktX4_belows_1
theorem dksX4_belows_0 : cX4_belows.data.toList.drop 0 = dktX4_belows_0 := by decide +kernel
theorem dksX4_belows_1 : cX4_belows.data.toList.drop 22 = dktX4_belows_1 := dk_seg dksX4_belows_0 22 rfl rfl
theorem dX4_belows_0 : decode cX4_belows 0 = .ok (.iconst 0, 1) := dk_3 (dk_at dksX4_belows_0 0 rfl rfl)
theorem dX4_belows_1 : decode cX4_belows 1 = .ok (.istore_n 2, 1) := dk_61 (dk_at dksX4_belows_0 1 rfl rfl)
theorem dX4_belows_2 : decode cX4_belows 2 = .ok (.iconst 0, 1) := dk_3 (dk_at dksX4_belows_0 2 rfl rfl)
theorem dX4_belows_3 : decode cX4_belows 3 = .ok (.istore_n 3, 1) := dk_62 (dk_at dksX4_belows_0 3 rfl rfl)
theorem dX4_belows_4 : decode cX4_belows 4 = .ok (.iload_n 3, 1) := dk_29 (dk_at dksX4_belows_0 4 rfl rfl)
theorem dX4_belows_5 : decode cX4_belows 5 = .ok (.bipush 20, 2) := dk_16 20 (dk_at dksX4_belows_0 5 rfl rfl)
theorem dX4_belows_7 : decode cX4_belows 7 = .ok (.if_icmp .ge 34, 3) := dk_162 0 34 (dk_at dksX4_belows_0 7 rfl rfl)
theorem dX4_belows_10 : decode cX4_belows 10 = .ok (.iload_n 2, 1) := dk_28 (dk_at dksX4_belows_0 10 rfl rfl)
theorem dX4_belows_11 : decode cX4_belows 11 = .ok (.aload_n 0, 1) := dk_42 (dk_at dksX4_belows_0 11 rfl rfl)
theorem dX4_belows_12 : decode cX4_belows 12 = .ok (.iload_n 3, 1) := dk_29 (dk_at dksX4_belows_0 12 rfl rfl)
theorem dX4_belows_13 : decode cX4_belows 13 = .ok (.invokevirtual 57, 3) := dk_182 0 57 (dk_at dksX4_belows_0 13 rfl rfl)
theorem dX4_belows_16 : decode cX4_belows 16 = .ok (.ifCond .eq 16, 3) := dk_153 0 16 (dk_at dksX4_belows_0 16 rfl rfl)
theorem dX4_belows_19 : decode cX4_belows 19 = .ok (.aload_n 0, 1) := dk_42 (dk_at dksX4_belows_0 19 rfl rfl)
theorem dX4_belows_20 : decode cX4_belows 20 = .ok (.iload_n 3, 1) := dk_29 (dk_at dksX4_belows_0 20 rfl rfl)
theorem dX4_belows_21 : decode cX4_belows 21 = .ok (.iload_n 1, 1) := dk_27 (dk_at dksX4_belows_0 21 rfl rfl)
theorem dX4_belows_22 : decode cX4_belows 22 = .ok (.invokevirtual 91, 3) := dk_182 0 91 (dk_at dksX4_belows_1 0 rfl rfl)
theorem dX4_belows_25 : decode cX4_belows 25 = .ok (.ifCond .eq 7, 3) := dk_153 0 7 (dk_at dksX4_belows_1 3 rfl rfl)
theorem dX4_belows_28 : decode cX4_belows 28 = .ok (.iconst 1, 1) := dk_4 (dk_at dksX4_belows_1 6 rfl rfl)
theorem dX4_belows_29 : decode cX4_belows 29 = .ok (.goto 4, 3) := dk_167 0 4 (dk_at dksX4_belows_1 7 rfl rfl)
theorem dX4_belows_32 : decode cX4_belows 32 = .ok (.iconst 0, 1) := dk_3 (dk_at dksX4_belows_1 10 rfl rfl)
theorem dX4_belows_33 : decode cX4_belows 33 = .ok (.iadd, 1) := dk_96 (dk_at dksX4_belows_1 11 rfl rfl)
theorem dX4_belows_34 : decode cX4_belows 34 = .ok (.istore_n 2, 1) := dk_61 (dk_at dksX4_belows_1 12 rfl rfl)
theorem dX4_belows_35 : decode cX4_belows 35 = .ok (.iinc 3 1, 3) := dk_132 3 1 (dk_at dksX4_belows_1 13 rfl rfl)
theorem dX4_belows_38 : decode cX4_belows 38 = .ok (.goto (-34), 3) := dk_167 255 222 (dk_at dksX4_belows_1 16 rfl rfl)
theorem dX4_belows_41 : decode cX4_belows 41 = .ok (.iload_n 2, 1) := dk_28 (dk_at dksX4_belows_1 19 rfl rfl)
theorem dX4_belows_42 : decode cX4_belows 42 = .ok (.ireturn, 1) := dk_172 (dk_at dksX4_belows_1 20 rfl rfl)
abbrev cX4_isBelow : ByteArray := prog_14_method_29_code
def yX4_isBelow : MethodName := ⟨RX4, "isBelow", "(II)Z"⟩
def dkwX4_isBelow_1 : List UInt8 := [167, 255, 240, 29, 28, 160, 0, 7, 4, 167, 0, 4, 3, 172]
abbrev dktX4_isBelow_1 : List UInt8 := dkwX4_isBelow_1 ++ []
def dkwX4_isBelow_0 : List UInt8 := [42, 27, 4, 182, 0, 54, 62, 29, 155, 0, 18, 29, 28, 159, 0, 13, 42, 29, 4, 182, 0, 54, 62]
abbrev dktX4_isBelow_0 : List UInt8 := dkwX4_isBelow_0 ++ dktX4_isBelow_1
theorem dksX4_isBelow_0 : cX4_isBelow.data.toList.drop 0 = dktX4_isBelow_0 := by decide +kernel
theorem dksX4_isBelow_1 : cX4_isBelow.data.toList.drop 23 = dktX4_isBelow_1 := dk_seg dksX4_isBelow_0 23 rfl rfl
theorem dX4_isBelow_0 : decode cX4_isBelow 0 = .ok (.aload_n 0, 1) := dk_42 (dk_at dksX4_isBelow_0 0 rfl rfl)
theorem dX4_isBelow_1 : decode cX4_isBelow 1 = .ok (.iload_n 1, 1) := dk_27 (dk_at dksX4_isBelow_0 1 rfl rfl)
theorem dX4_isBelow_2 : decode cX4_isBelow 2 = .ok (.iconst 1, 1) := dk_4 (dk_at dksX4_isBelow_0 2 rfl rfl)
theorem dX4_isBelow_3 : decode cX4_isBelow 3 = .ok (.invokevirtual 54, 3) := dk_182 0 54 (dk_at dksX4_isBelow_0 3 rfl rfl)
theorem dX4_isBelow_6 : decode cX4_isBelow 6 = .ok (.istore_n 3, 1) := dk_62 (dk_at dksX4_isBelow_0 6 rfl rfl)
theorem dX4_isBelow_7 : decode cX4_isBelow 7 = .ok (.iload_n 3, 1) := dk_29 (dk_at dksX4_isBelow_0 7 rfl rfl)
theorem dX4_isBelow_8 : decode cX4_isBelow 8 = .ok (.ifCond .lt 18, 3) := dk_155 0 18 (dk_at dksX4_isBelow_0 8 rfl rfl)
theorem dX4_isBelow_11 : decode cX4_isBelow 11 = .ok (.iload_n 3, 1) := dk_29 (dk_at dksX4_isBelow_0 11 rfl rfl)
theorem dX4_isBelow_12 : decode cX4_isBelow 12 = .ok (.iload_n 2, 1) := dk_28 (dk_at dksX4_isBelow_0 12 rfl rfl)
theorem dX4_isBelow_13 : decode cX4_isBelow 13 = .ok (.if_icmp .eq 13, 3) := dk_159 0 13 (dk_at dksX4_isBelow_0 13 rfl rfl)
theorem dX4_isBelow_16 : decode cX4_isBelow 16 = .ok (.aload_n 0, 1) := dk_42 (dk_at dksX4_isBelow_0 16 rfl rfl)
theorem dX4_isBelow_17 : decode cX4_isBelow 17 = .ok (.iload_n 3, 1) := dk_29 (dk_at dksX4_isBelow_0 17 rfl rfl)
theorem dX4_isBelow_18 : decode cX4_isBelow 18 = .ok (.iconst 1, 1) := dk_4 (dk_at dksX4_isBelow_0 18 rfl rfl)
theorem dX4_isBelow_19 : decode cX4_isBelow 19 = .ok (.invokevirtual 54, 3) := dk_182 0 54 (dk_at dksX4_isBelow_0 19 rfl rfl)
theorem dX4_isBelow_22 : decode cX4_isBelow 22 = .ok (.istore_n 3, 1) := dk_62 (dk_at dksX4_isBelow_0 22 rfl rfl)
theorem dX4_isBelow_23 : decode cX4_isBelow 23 = .ok (.goto (-16), 3) := dk_167 255 240 (dk_at dksX4_isBelow_1 0 rfl rfl)
theorem dX4_isBelow_26 : decode cX4_isBelow 26 = .ok (.iload_n 3, 1) := dk_29 (dk_at dksX4_isBelow_1 3 rfl rfl)
theorem dX4_isBelow_27 : decode cX4_isBelow 27 = .ok (.iload_n 2, 1) := dk_28 (dk_at dksX4_isBelow_1 4 rfl rfl)
theorem dX4_isBelow_28 : decode cX4_isBelow 28 = .ok (.if_icmp .ne 7, 3) := dk_160 0 7 (dk_at dksX4_isBelow_1 5 rfl rfl)
theorem dX4_isBelow_31 : decode cX4_isBelow 31 = .ok (.iconst 1, 1) := dk_4 (dk_at dksX4_isBelow_1 8 rfl rfl)
theorem dX4_isBelow_32 : decode cX4_isBelow 32 = .ok (.goto 4, 3) := dk_167 0 4 (dk_at dksX4_isBelow_1 9 rfl rfl)
theorem dX4_isBelow_35 : decode cX4_isBelow 35 = .ok (.iconst 0, 1) := dk_3 (dk_at dksX4_isBelow_1 12 rfl rfl)
theorem dX4_isBelow_36 : decode cX4_isBelow 36 = .ok (.ireturn, 1) := dk_172 (dk_at dksX4_isBelow_1 13 rfl rfl)
abbrev cX4_move : ByteArray := prog_14_method_33_code
def yX4_move : MethodName := ⟨RX4, "move", "(II)I"⟩
def dkwX4_move_3 : List UInt8 := [28, 79, 29, 172]
abbrev dktX4_move_3 : List UInt8 := dkwX4_move_3 ++ []
def dkwX4_move_2 : List UInt8 := [182, 0, 76, 172, 42, 182, 0, 79, 42, 27, 4, 182, 0, 54, 62, 42, 180, 0, 7, 27, 4, 184, 0, 50]
abbrev dktX4_move_2 : List UInt8 := dkwX4_move_2 ++ dktX4_move_3
def dkwX4_move_1 : List UInt8 := [182, 0, 76, 172, 27, 153, 0, 17, 28, 27, 159, 0, 12, 42, 28, 27, 182, 0, 91, 153, 0, 9, 42, 5]
abbrev dktX4_move_1 : List UInt8 := dkwX4_move_1 ++ dktX4_move_2
def dkwX4_move_0 : List UInt8 := [42, 3, 181, 0, 39, 42, 27, 182, 0, 57, 153, 0, 11, 42, 28, 182, 0, 57, 154, 0, 9, 42, 4]
abbrev dktX4_move_0 : List UInt8 := dkwX4_move_0 ++ dktX4_move_1
theorem dksX4_move_0 : cX4_move.data.toList.drop 0 = dktX4_move_0 := by decide +kernel
theorem dksX4_move_1 : cX4_move.data.toList.drop 23 = dktX4_move_1 := dk_seg dksX4_move_0 23 rfl rfl
theorem dksX4_move_2 : cX4_move.data.toList.drop 47 = dktX4_move_2 := dk_seg dksX4_move_1 24 rfl rfl
theorem dksX4_move_3 : cX4_move.data.toList.drop 71 = dktX4_move_3 := dk_seg dksX4_move_2 24 rfl rfl
theorem dX4_move_0 : decode cX4_move 0 = .ok (.aload_n 0, 1) := dk_42 (dk_at dksX4_move_0 0 rfl rfl)
theorem dX4_move_1 : decode cX4_move 1 = .ok (.iconst 0, 1) := dk_3 (dk_at dksX4_move_0 1 rfl rfl)
theorem dX4_move_2 : decode cX4_move 2 = .ok (.putfield 39, 3) := dk_181 0 39 (dk_at dksX4_move_0 2 rfl rfl)
theorem dX4_move_5 : decode cX4_move 5 = .ok (.aload_n 0, 1) := dk_42 (dk_at dksX4_move_0 5 rfl rfl)
theorem dX4_move_6 : decode cX4_move 6 = .ok (.iload_n 1, 1) := dk_27 (dk_at dksX4_move_0 6 rfl rfl)
theorem dX4_move_7 : decode cX4_move 7 = .ok (.invokevirtual 57, 3) := dk_182 0 57 (dk_at dksX4_move_0 7 rfl rfl)
theorem dX4_move_10 : decode cX4_move 10 = .ok (.ifCond .eq 11, 3) := dk_153 0 11 (dk_at dksX4_move_0 10 rfl rfl)
theorem dX4_move_13 : decode cX4_move 13 = .ok (.aload_n 0, 1) := dk_42 (dk_at dksX4_move_0 13 rfl rfl)
theorem dX4_move_14 : decode cX4_move 14 = .ok (.iload_n 2, 1) := dk_28 (dk_at dksX4_move_0 14 rfl rfl)
theorem dX4_move_15 : decode cX4_move 15 = .ok (.invokevirtual 57, 3) := dk_182 0 57 (dk_at dksX4_move_0 15 rfl rfl)
theorem dX4_move_18 : decode cX4_move 18 = .ok (.ifCond .ne 9, 3) := dk_154 0 9 (dk_at dksX4_move_0 18 rfl rfl)
theorem dX4_move_21 : decode cX4_move 21 = .ok (.aload_n 0, 1) := dk_42 (dk_at dksX4_move_0 21 rfl rfl)
theorem dX4_move_22 : decode cX4_move 22 = .ok (.iconst 1, 1) := dk_4 (dk_at dksX4_move_0 22 rfl rfl)
theorem dX4_move_23 : decode cX4_move 23 = .ok (.invokevirtual 76, 3) := dk_182 0 76 (dk_at dksX4_move_1 0 rfl rfl)
theorem dX4_move_26 : decode cX4_move 26 = .ok (.ireturn, 1) := dk_172 (dk_at dksX4_move_1 3 rfl rfl)
theorem dX4_move_27 : decode cX4_move 27 = .ok (.iload_n 1, 1) := dk_27 (dk_at dksX4_move_1 4 rfl rfl)
theorem dX4_move_28 : decode cX4_move 28 = .ok (.ifCond .eq 17, 3) := dk_153 0 17 (dk_at dksX4_move_1 5 rfl rfl)
theorem dX4_move_31 : decode cX4_move 31 = .ok (.iload_n 2, 1) := dk_28 (dk_at dksX4_move_1 8 rfl rfl)
theorem dX4_move_32 : decode cX4_move 32 = .ok (.iload_n 1, 1) := dk_27 (dk_at dksX4_move_1 9 rfl rfl)
theorem dX4_move_33 : decode cX4_move 33 = .ok (.if_icmp .eq 12, 3) := dk_159 0 12 (dk_at dksX4_move_1 10 rfl rfl)
theorem dX4_move_36 : decode cX4_move 36 = .ok (.aload_n 0, 1) := dk_42 (dk_at dksX4_move_1 13 rfl rfl)
theorem dX4_move_37 : decode cX4_move 37 = .ok (.iload_n 2, 1) := dk_28 (dk_at dksX4_move_1 14 rfl rfl)
theorem dX4_move_38 : decode cX4_move 38 = .ok (.iload_n 1, 1) := dk_27 (dk_at dksX4_move_1 15 rfl rfl)
theorem dX4_move_39 : decode cX4_move 39 = .ok (.invokevirtual 91, 3) := dk_182 0 91 (dk_at dksX4_move_1 16 rfl rfl)
theorem dX4_move_42 : decode cX4_move 42 = .ok (.ifCond .eq 9, 3) := dk_153 0 9 (dk_at dksX4_move_1 19 rfl rfl)
theorem dX4_move_45 : decode cX4_move 45 = .ok (.aload_n 0, 1) := dk_42 (dk_at dksX4_move_1 22 rfl rfl)
theorem dX4_move_46 : decode cX4_move 46 = .ok (.iconst 2, 1) := dk_5 (dk_at dksX4_move_1 23 rfl rfl)
theorem dX4_move_47 : decode cX4_move 47 = .ok (.invokevirtual 76, 3) := dk_182 0 76 (dk_at dksX4_move_2 0 rfl rfl)
theorem dX4_move_50 : decode cX4_move 50 = .ok (.ireturn, 1) := dk_172 (dk_at dksX4_move_2 3 rfl rfl)
theorem dX4_move_51 : decode cX4_move 51 = .ok (.aload_n 0, 1) := dk_42 (dk_at dksX4_move_2 4 rfl rfl)
theorem dX4_move_52 : decode cX4_move 52 = .ok (.invokevirtual 79, 3) := dk_182 0 79 (dk_at dksX4_move_2 5 rfl rfl)
theorem dX4_move_55 : decode cX4_move 55 = .ok (.aload_n 0, 1) := dk_42 (dk_at dksX4_move_2 8 rfl rfl)
theorem dX4_move_56 : decode cX4_move 56 = .ok (.iload_n 1, 1) := dk_27 (dk_at dksX4_move_2 9 rfl rfl)
theorem dX4_move_57 : decode cX4_move 57 = .ok (.iconst 1, 1) := dk_4 (dk_at dksX4_move_2 10 rfl rfl)
theorem dX4_move_58 : decode cX4_move 58 = .ok (.invokevirtual 54, 3) := dk_182 0 54 (dk_at dksX4_move_2 11 rfl rfl)
theorem dX4_move_61 : decode cX4_move 61 = .ok (.istore_n 3, 1) := dk_62 (dk_at dksX4_move_2 14 rfl rfl)
theorem dX4_move_62 : decode cX4_move 62 = .ok (.aload_n 0, 1) := dk_42 (dk_at dksX4_move_2 15 rfl rfl)
theorem dX4_move_63 : decode cX4_move 63 = .ok (.getfield 7, 3) := dk_180 0 7 (dk_at dksX4_move_2 16 rfl rfl)
theorem dX4_move_66 : decode cX4_move 66 = .ok (.iload_n 1, 1) := dk_27 (dk_at dksX4_move_2 19 rfl rfl)
theorem dX4_move_67 : decode cX4_move 67 = .ok (.iconst 1, 1) := dk_4 (dk_at dksX4_move_2 20 rfl rfl)
theorem dX4_move_68 : decode cX4_move 68 = .ok (.invokestatic 50, 3) := dk_184 0 50 (dk_at dksX4_move_2 21 rfl rfl)
theorem dX4_move_71 : decode cX4_move 71 = .ok (.iload_n 2, 1) := dk_28 (dk_at dksX4_move_3 0 rfl rfl)
theorem dX4_move_72 : decode cX4_move 72 = .ok (.iastore, 1) := dk_79 (dk_at dksX4_move_3 1 rfl rfl)
theorem dX4_move_73 : decode cX4_move 73 = .ok (.iload_n 3, 1) := dk_29 (dk_at dksX4_move_3 2 rfl rfl)
theorem dX4_move_74 : decode cX4_move 74 = .ok (.ireturn, 1) := dk_172 (dk_at dksX4_move_3 3 rfl rfl)
abbrev cX4_giveTo : ByteArray := prog_14_method_34_code
def yX4_giveTo : MethodName := ⟨RX4, "giveTo", "(II)I"⟩
def dkwX4_giveTo_2 : List UInt8 := [28, 79, 29, 172]
abbrev dktX4_giveTo_2 : List UInt8 := dkwX4_giveTo_2 ++ []
def dkwX4_giveTo_1 : List UInt8 := [182, 0, 76, 172, 42, 182, 0, 79, 42, 27, 5, 182, 0, 54, 62, 42, 180, 0, 7, 27, 5, 184, 0, 50]
abbrev dktX4_giveTo_1 : List UInt8 := dkwX4_giveTo_1 ++ dktX4_giveTo_2
def dkwX4_giveTo_0 : List UInt8 := [42, 3, 181, 0, 39, 42, 27, 182, 0, 57, 153, 0, 11, 42, 28, 182, 0, 82, 154, 0, 9, 42, 4]
abbrev dktX4_giveTo_0 : List UInt8 := dkwX4_giveTo_0 ++ dktX4_giveTo_1
theorem dksX4_giveTo_0 : cX4_giveTo.data.toList.drop 0 = dktX4_giveTo_0 := by decide +kernel
theorem dksX4_giveTo_1 : cX4_giveTo.data.toList.drop 23 = dktX4_giveTo_1 := dk_seg dksX4_giveTo_0 23 rfl rfl
theorem dksX4_giveTo_2 : cX4_giveTo.data.toList.drop 47 = dktX4_giveTo_2 := dk_seg dksX4_giveTo_1 24 rfl rfl
theorem dX4_giveTo_0 : decode cX4_giveTo 0 = .ok (.aload_n 0, 1) := dk_42 (dk_at dksX4_giveTo_0 0 rfl rfl)
theorem dX4_giveTo_1 : decode cX4_giveTo 1 = .ok (.iconst 0, 1) := dk_3 (dk_at dksX4_giveTo_0 1 rfl rfl)
theorem dX4_giveTo_2 : decode cX4_giveTo 2 = .ok (.putfield 39, 3) := dk_181 0 39 (dk_at dksX4_giveTo_0 2 rfl rfl)
theorem dX4_giveTo_5 : decode cX4_giveTo 5 = .ok (.aload_n 0, 1) := dk_42 (dk_at dksX4_giveTo_0 5 rfl rfl)
theorem dX4_giveTo_6 : decode cX4_giveTo 6 = .ok (.iload_n 1, 1) := dk_27 (dk_at dksX4_giveTo_0 6 rfl rfl)
theorem dX4_giveTo_7 : decode cX4_giveTo 7 = .ok (.invokevirtual 57, 3) := dk_182 0 57 (dk_at dksX4_giveTo_0 7 rfl rfl)
theorem dX4_giveTo_10 : decode cX4_giveTo 10 = .ok (.ifCond .eq 11, 3) := dk_153 0 11 (dk_at dksX4_giveTo_0 10 rfl rfl)
theorem dX4_giveTo_13 : decode cX4_giveTo 13 = .ok (.aload_n 0, 1) := dk_42 (dk_at dksX4_giveTo_0 13 rfl rfl)
theorem dX4_giveTo_14 : decode cX4_giveTo 14 = .ok (.iload_n 2, 1) := dk_28 (dk_at dksX4_giveTo_0 14 rfl rfl)
theorem dX4_giveTo_15 : decode cX4_giveTo 15 = .ok (.invokevirtual 82, 3) := dk_182 0 82 (dk_at dksX4_giveTo_0 15 rfl rfl)
theorem dX4_giveTo_18 : decode cX4_giveTo 18 = .ok (.ifCond .ne 9, 3) := dk_154 0 9 (dk_at dksX4_giveTo_0 18 rfl rfl)
theorem dX4_giveTo_21 : decode cX4_giveTo 21 = .ok (.aload_n 0, 1) := dk_42 (dk_at dksX4_giveTo_0 21 rfl rfl)
theorem dX4_giveTo_22 : decode cX4_giveTo 22 = .ok (.iconst 1, 1) := dk_4 (dk_at dksX4_giveTo_0 22 rfl rfl)
theorem dX4_giveTo_23 : decode cX4_giveTo 23 = .ok (.invokevirtual 76, 3) := dk_182 0 76 (dk_at dksX4_giveTo_1 0 rfl rfl)
theorem dX4_giveTo_26 : decode cX4_giveTo 26 = .ok (.ireturn, 1) := dk_172 (dk_at dksX4_giveTo_1 3 rfl rfl)
theorem dX4_giveTo_27 : decode cX4_giveTo 27 = .ok (.aload_n 0, 1) := dk_42 (dk_at dksX4_giveTo_1 4 rfl rfl)
theorem dX4_giveTo_28 : decode cX4_giveTo 28 = .ok (.invokevirtual 79, 3) := dk_182 0 79 (dk_at dksX4_giveTo_1 5 rfl rfl)
theorem dX4_giveTo_31 : decode cX4_giveTo 31 = .ok (.aload_n 0, 1) := dk_42 (dk_at dksX4_giveTo_1 8 rfl rfl)
theorem dX4_giveTo_32 : decode cX4_giveTo 32 = .ok (.iload_n 1, 1) := dk_27 (dk_at dksX4_giveTo_1 9 rfl rfl)
theorem dX4_giveTo_33 : decode cX4_giveTo 33 = .ok (.iconst 2, 1) := dk_5 (dk_at dksX4_giveTo_1 10 rfl rfl)
theorem dX4_giveTo_34 : decode cX4_giveTo 34 = .ok (.invokevirtual 54, 3) := dk_182 0 54 (dk_at dksX4_giveTo_1 11 rfl rfl)
theorem dX4_giveTo_37 : decode cX4_giveTo 37 = .ok (.istore_n 3, 1) := dk_62 (dk_at dksX4_giveTo_1 14 rfl rfl)
theorem dX4_giveTo_38 : decode cX4_giveTo 38 = .ok (.aload_n 0, 1) := dk_42 (dk_at dksX4_giveTo_1 15 rfl rfl)
theorem dX4_giveTo_39 : decode cX4_giveTo 39 = .ok (.getfield 7, 3) := dk_180 0 7 (dk_at dksX4_giveTo_1 16 rfl rfl)
theorem dX4_giveTo_42 : decode cX4_giveTo 42 = .ok (.iload_n 1, 1) := dk_27 (dk_at dksX4_giveTo_1 19 rfl rfl)
theorem dX4_giveTo_43 : decode cX4_giveTo 43 = .ok (.iconst 2, 1) := dk_5 (dk_at dksX4_giveTo_1 20 rfl rfl)
theorem dX4_giveTo_44 : decode cX4_giveTo 44 = .ok (.invokestatic 50, 3) := dk_184 0 50 (dk_at dksX4_giveTo_1 21 rfl rfl)
theorem dX4_giveTo_47 : decode cX4_giveTo 47 = .ok (.iload_n 2, 1) := dk_28 (dk_at dksX4_giveTo_2 0 rfl rfl)
theorem dX4_giveTo_48 : decode cX4_giveTo 48 = .ok (.iastore, 1) := dk_79 (dk_at dksX4_giveTo_2 1 rfl rfl)
theorem dX4_giveTo_49 : decode cX4_giveTo 49 = .ok (.iload_n 3, 1) := dk_29 (dk_at dksX4_giveTo_2 2 rfl rfl)
theorem dX4_giveTo_50 : decode cX4_giveTo 50 = .ok (.ireturn, 1) := dk_172 (dk_at dksX4_giveTo_2 3 rfl rfl)
abbrev cX4_setMask : ByteArray := prog_14_method_35_code
def yX4_setMask : MethodName := ⟨RX4, "setMask", "(II)I"⟩
def dkwX4_setMask_2 : List UInt8 := [180, 0, 7, 27, 6, 184, 0, 50, 28, 79, 29, 172]
abbrev dktX4_setMask_2 : List UInt8 := dkwX4_setMask_2 ++ []
def dkwX4_setMask_1 : List UInt8 := [184, 0, 46, 154, 0, 9, 42, 5, 182, 0, 76, 172, 42, 182, 0, 79, 42, 27, 6, 182, 0, 54, 62, 42]
abbrev dktX4_setMask_1 : List UInt8 := dkwX4_setMask_1 ++ dktX4_setMask_2
def dkwX4_setMask_0 : List UInt8 := [42, 3, 181, 0, 39, 42, 27, 182, 0, 57, 154, 0, 9, 42, 4, 182, 0, 76, 172, 28, 3, 16, 15]
abbrev dktX4_setMask_0 : List UInt8 := dkwX4_setMask_0 ++ dktX4_setMask_1
theorem dksX4_setMask_0 : cX4_setMask.data.toList.drop 0 = dktX4_setMask_0 := by decide +kernel
theorem dksX4_setMask_1 : cX4_setMask.data.toList.drop 23 = dktX4_setMask_1 := dk_seg dksX4_setMask_0 23 rfl rfl
theorem dksX4_setMask_2 : cX4_setMask.data.toList.drop 47 = dktX4_setMask_2 := dk_seg dksX4_setMask_1 24 rfl rfl
theorem dX4_setMask_0 : decode cX4_setMask 0 = .ok (.aload_n 0, 1) := dk_42 (dk_at dksX4_setMask_0 0 rfl rfl)
theorem dX4_setMask_1 : decode cX4_setMask 1 = .ok (.iconst 0, 1) := dk_3 (dk_at dksX4_setMask_0 1 rfl rfl)
theorem dX4_setMask_2 : decode cX4_setMask 2 = .ok (.putfield 39, 3) := dk_181 0 39 (dk_at dksX4_setMask_0 2 rfl rfl)
theorem dX4_setMask_5 : decode cX4_setMask 5 = .ok (.aload_n 0, 1) := dk_42 (dk_at dksX4_setMask_0 5 rfl rfl)
theorem dX4_setMask_6 : decode cX4_setMask 6 = .ok (.iload_n 1, 1) := dk_27 (dk_at dksX4_setMask_0 6 rfl rfl)
theorem dX4_setMask_7 : decode cX4_setMask 7 = .ok (.invokevirtual 57, 3) := dk_182 0 57 (dk_at dksX4_setMask_0 7 rfl rfl)
theorem dX4_setMask_10 : decode cX4_setMask 10 = .ok (.ifCond .ne 9, 3) := dk_154 0 9 (dk_at dksX4_setMask_0 10 rfl rfl)
theorem dX4_setMask_13 : decode cX4_setMask 13 = .ok (.aload_n 0, 1) := dk_42 (dk_at dksX4_setMask_0 13 rfl rfl)
theorem dX4_setMask_14 : decode cX4_setMask 14 = .ok (.iconst 1, 1) := dk_4 (dk_at dksX4_setMask_0 14 rfl rfl)
theorem dX4_setMask_15 : decode cX4_setMask 15 = .ok (.invokevirtual 76, 3) := dk_182 0 76 (dk_at dksX4_setMask_0 15 rfl rfl)
theorem dX4_setMask_18 : decode cX4_setMask 18 = .ok (.ireturn, 1) := dk_172 (dk_at dksX4_setMask_0 18 rfl rfl)
theorem dX4_setMask_19 : decode cX4_setMask 19 = .ok (.iload_n 2, 1) := dk_28 (dk_at dksX4_setMask_0 19 rfl rfl)
theorem dX4_setMask_20 : decode cX4_setMask 20 = .ok (.iconst 0, 1) := dk_3 (dk_at dksX4_setMask_0 20 rfl rfl)
theorem dX4_setMask_21 : decode cX4_setMask 21 = .ok (.bipush 15, 2) := dk_16 15 (dk_at dksX4_setMask_0 21 rfl rfl)
theorem dX4_setMask_23 : decode cX4_setMask 23 = .ok (.invokestatic 46, 3) := dk_184 0 46 (dk_at dksX4_setMask_1 0 rfl rfl)
theorem dX4_setMask_26 : decode cX4_setMask 26 = .ok (.ifCond .ne 9, 3) := dk_154 0 9 (dk_at dksX4_setMask_1 3 rfl rfl)
theorem dX4_setMask_29 : decode cX4_setMask 29 = .ok (.aload_n 0, 1) := dk_42 (dk_at dksX4_setMask_1 6 rfl rfl)
theorem dX4_setMask_30 : decode cX4_setMask 30 = .ok (.iconst 2, 1) := dk_5 (dk_at dksX4_setMask_1 7 rfl rfl)
theorem dX4_setMask_31 : decode cX4_setMask 31 = .ok (.invokevirtual 76, 3) := dk_182 0 76 (dk_at dksX4_setMask_1 8 rfl rfl)
theorem dX4_setMask_34 : decode cX4_setMask 34 = .ok (.ireturn, 1) := dk_172 (dk_at dksX4_setMask_1 11 rfl rfl)
theorem dX4_setMask_35 : decode cX4_setMask 35 = .ok (.aload_n 0, 1) := dk_42 (dk_at dksX4_setMask_1 12 rfl rfl)
theorem dX4_setMask_36 : decode cX4_setMask 36 = .ok (.invokevirtual 79, 3) := dk_182 0 79 (dk_at dksX4_setMask_1 13 rfl rfl)
theorem dX4_setMask_39 : decode cX4_setMask 39 = .ok (.aload_n 0, 1) := dk_42 (dk_at dksX4_setMask_1 16 rfl rfl)
theorem dX4_setMask_40 : decode cX4_setMask 40 = .ok (.iload_n 1, 1) := dk_27 (dk_at dksX4_setMask_1 17 rfl rfl)
theorem dX4_setMask_41 : decode cX4_setMask 41 = .ok (.iconst 3, 1) := dk_6 (dk_at dksX4_setMask_1 18 rfl rfl)
theorem dX4_setMask_42 : decode cX4_setMask 42 = .ok (.invokevirtual 54, 3) := dk_182 0 54 (dk_at dksX4_setMask_1 19 rfl rfl)
theorem dX4_setMask_45 : decode cX4_setMask 45 = .ok (.istore_n 3, 1) := dk_62 (dk_at dksX4_setMask_1 22 rfl rfl)
theorem dX4_setMask_46 : decode cX4_setMask 46 = .ok (.aload_n 0, 1) := dk_42 (dk_at dksX4_setMask_1 23 rfl rfl)
theorem dX4_setMask_47 : decode cX4_setMask 47 = .ok (.getfield 7, 3) := dk_180 0 7 (dk_at dksX4_setMask_2 0 rfl rfl)
theorem dX4_setMask_50 : decode cX4_setMask 50 = .ok (.iload_n 1, 1) := dk_27 (dk_at dksX4_setMask_2 3 rfl rfl)
theorem dX4_setMask_51 : decode cX4_setMask 51 = .ok (.iconst 3, 1) := dk_6 (dk_at dksX4_setMask_2 4 rfl rfl)
theorem dX4_setMask_52 : decode cX4_setMask 52 = .ok (.invokestatic 50, 3) := dk_184 0 50 (dk_at dksX4_setMask_2 5 rfl rfl)
theorem dX4_setMask_55 : decode cX4_setMask 55 = .ok (.iload_n 2, 1) := dk_28 (dk_at dksX4_setMask_2 8 rfl rfl)
theorem dX4_setMask_56 : decode cX4_setMask 56 = .ok (.iastore, 1) := dk_79 (dk_at dksX4_setMask_2 9 rfl rfl)
theorem dX4_setMask_57 : decode cX4_setMask 57 = .ok (.iload_n 3, 1) := dk_29 (dk_at dksX4_setMask_2 10 rfl rfl)
theorem dX4_setMask_58 : decode cX4_setMask 58 = .ok (.ireturn, 1) := dk_172 (dk_at dksX4_setMask_2 11 rfl rfl)
abbrev cX4_setInheriting : ByteArray := prog_14_method_36_code
def yX4_setInheriting : MethodName := ⟨RX4, "setInheriting", "(IZ)Z"⟩
def dkwX4_setInheriting_2 : List UInt8 := [62, 42, 180, 0, 7, 27, 7, 184, 0, 50, 28, 153, 0, 7, 4, 167, 0, 4, 3, 79, 29, 172]
abbrev dktX4_setInheriting_2 : List UInt8 := dkwX4_setInheriting_2 ++ []
def dkwX4_setInheriting_1 : List UInt8 := [160, 0, 5, 3, 172, 42, 182, 0, 79, 42, 27, 7, 182, 0, 54, 4, 160, 0, 7, 4, 167, 0, 4, 3]
abbrev dktX4_setInheriting_1 : List UInt8 := dkwX4_setInheriting_1 ++ dktX4_setInheriting_2
def dkwX4_setInheriting_0 : List UInt8 := [42, 42, 27, 182, 0, 57, 153, 0, 7, 3, 167, 0, 4, 4, 181, 0, 39, 42, 180, 0, 39, 4]
abbrev dktX4_setInheriting_0 : List UInt8 := dkwX4_setInheriting_0 ++ dktX4_setInheriting_1
theorem dksX4_setInheriting_0 : cX4_setInheriting.data.toList.drop 0 = dktX4_setInheriting_0 := by decide +kernel
theorem dksX4_setInheriting_1 : cX4_setInheriting.data.toList.drop 22 = dktX4_setInheriting_1 := dk_seg dksX4_setInheriting_0 22 rfl rfl
theorem dksX4_setInheriting_2 : cX4_setInheriting.data.toList.drop 46 = dktX4_setInheriting_2 := dk_seg dksX4_setInheriting_1 24 rfl rfl
theorem dX4_setInheriting_0 : decode cX4_setInheriting 0 = .ok (.aload_n 0, 1) := dk_42 (dk_at dksX4_setInheriting_0 0 rfl rfl)
theorem dX4_setInheriting_1 : decode cX4_setInheriting 1 = .ok (.aload_n 0, 1) := dk_42 (dk_at dksX4_setInheriting_0 1 rfl rfl)
theorem dX4_setInheriting_2 : decode cX4_setInheriting 2 = .ok (.iload_n 1, 1) := dk_27 (dk_at dksX4_setInheriting_0 2 rfl rfl)
theorem dX4_setInheriting_3 : decode cX4_setInheriting 3 = .ok (.invokevirtual 57, 3) := dk_182 0 57 (dk_at dksX4_setInheriting_0 3 rfl rfl)
theorem dX4_setInheriting_6 : decode cX4_setInheriting 6 = .ok (.ifCond .eq 7, 3) := dk_153 0 7 (dk_at dksX4_setInheriting_0 6 rfl rfl)
theorem dX4_setInheriting_9 : decode cX4_setInheriting 9 = .ok (.iconst 0, 1) := dk_3 (dk_at dksX4_setInheriting_0 9 rfl rfl)
theorem dX4_setInheriting_10 : decode cX4_setInheriting 10 = .ok (.goto 4, 3) := dk_167 0 4 (dk_at dksX4_setInheriting_0 10 rfl rfl)
theorem dX4_setInheriting_13 : decode cX4_setInheriting 13 = .ok (.iconst 1, 1) := dk_4 (dk_at dksX4_setInheriting_0 13 rfl rfl)
theorem dX4_setInheriting_14 : decode cX4_setInheriting 14 = .ok (.putfield 39, 3) := dk_181 0 39 (dk_at dksX4_setInheriting_0 14 rfl rfl)
theorem dX4_setInheriting_17 : decode cX4_setInheriting 17 = .ok (.aload_n 0, 1) := dk_42 (dk_at dksX4_setInheriting_0 17 rfl rfl)
theorem dX4_setInheriting_18 : decode cX4_setInheriting 18 = .ok (.getfield 39, 3) := dk_180 0 39 (dk_at dksX4_setInheriting_0 18 rfl rfl)
theorem dX4_setInheriting_21 : decode cX4_setInheriting 21 = .ok (.iconst 1, 1) := dk_4 (dk_at dksX4_setInheriting_0 21 rfl rfl)
theorem dX4_setInheriting_22 : decode cX4_setInheriting 22 = .ok (.if_icmp .ne 5, 3) := dk_160 0 5 (dk_at dksX4_setInheriting_1 0 rfl rfl)
theorem dX4_setInheriting_25 : decode cX4_setInheriting 25 = .ok (.iconst 0, 1) := dk_3 (dk_at dksX4_setInheriting_1 3 rfl rfl)
theorem dX4_setInheriting_26 : decode cX4_setInheriting 26 = .ok (.ireturn, 1) := dk_172 (dk_at dksX4_setInheriting_1 4 rfl rfl)
theorem dX4_setInheriting_27 : decode cX4_setInheriting 27 = .ok (.aload_n 0, 1) := dk_42 (dk_at dksX4_setInheriting_1 5 rfl rfl)
theorem dX4_setInheriting_28 : decode cX4_setInheriting 28 = .ok (.invokevirtual 79, 3) := dk_182 0 79 (dk_at dksX4_setInheriting_1 6 rfl rfl)
theorem dX4_setInheriting_31 : decode cX4_setInheriting 31 = .ok (.aload_n 0, 1) := dk_42 (dk_at dksX4_setInheriting_1 9 rfl rfl)
theorem dX4_setInheriting_32 : decode cX4_setInheriting 32 = .ok (.iload_n 1, 1) := dk_27 (dk_at dksX4_setInheriting_1 10 rfl rfl)
theorem dX4_setInheriting_33 : decode cX4_setInheriting 33 = .ok (.iconst 4, 1) := dk_7 (dk_at dksX4_setInheriting_1 11 rfl rfl)
theorem dX4_setInheriting_34 : decode cX4_setInheriting 34 = .ok (.invokevirtual 54, 3) := dk_182 0 54 (dk_at dksX4_setInheriting_1 12 rfl rfl)
theorem dX4_setInheriting_37 : decode cX4_setInheriting 37 = .ok (.iconst 1, 1) := dk_4 (dk_at dksX4_setInheriting_1 15 rfl rfl)
theorem dX4_setInheriting_38 : decode cX4_setInheriting 38 = .ok (.if_icmp .ne 7, 3) := dk_160 0 7 (dk_at dksX4_setInheriting_1 16 rfl rfl)
theorem dX4_setInheriting_41 : decode cX4_setInheriting 41 = .ok (.iconst 1, 1) := dk_4 (dk_at dksX4_setInheriting_1 19 rfl rfl)
theorem dX4_setInheriting_42 : decode cX4_setInheriting 42 = .ok (.goto 4, 3) := dk_167 0 4 (dk_at dksX4_setInheriting_1 20 rfl rfl)
theorem dX4_setInheriting_45 : decode cX4_setInheriting 45 = .ok (.iconst 0, 1) := dk_3 (dk_at dksX4_setInheriting_1 23 rfl rfl)
theorem dX4_setInheriting_46 : decode cX4_setInheriting 46 = .ok (.istore_n 3, 1) := dk_62 (dk_at dksX4_setInheriting_2 0 rfl rfl)
theorem dX4_setInheriting_47 : decode cX4_setInheriting 47 = .ok (.aload_n 0, 1) := dk_42 (dk_at dksX4_setInheriting_2 1 rfl rfl)
theorem dX4_setInheriting_48 : decode cX4_setInheriting 48 = .ok (.getfield 7, 3) := dk_180 0 7 (dk_at dksX4_setInheriting_2 2 rfl rfl)
theorem dX4_setInheriting_51 : decode cX4_setInheriting 51 = .ok (.iload_n 1, 1) := dk_27 (dk_at dksX4_setInheriting_2 5 rfl rfl)
theorem dX4_setInheriting_52 : decode cX4_setInheriting 52 = .ok (.iconst 4, 1) := dk_7 (dk_at dksX4_setInheriting_2 6 rfl rfl)
theorem dX4_setInheriting_53 : decode cX4_setInheriting 53 = .ok (.invokestatic 50, 3) := dk_184 0 50 (dk_at dksX4_setInheriting_2 7 rfl rfl)
theorem dX4_setInheriting_56 : decode cX4_setInheriting 56 = .ok (.iload_n 2, 1) := dk_28 (dk_at dksX4_setInheriting_2 10 rfl rfl)
theorem dX4_setInheriting_57 : decode cX4_setInheriting 57 = .ok (.ifCond .eq 7, 3) := dk_153 0 7 (dk_at dksX4_setInheriting_2 11 rfl rfl)
theorem dX4_setInheriting_60 : decode cX4_setInheriting 60 = .ok (.iconst 1, 1) := dk_4 (dk_at dksX4_setInheriting_2 14 rfl rfl)
theorem dX4_setInheriting_61 : decode cX4_setInheriting 61 = .ok (.goto 4, 3) := dk_167 0 4 (dk_at dksX4_setInheriting_2 15 rfl rfl)
theorem dX4_setInheriting_64 : decode cX4_setInheriting 64 = .ok (.iconst 0, 1) := dk_3 (dk_at dksX4_setInheriting_2 18 rfl rfl)
theorem dX4_setInheriting_65 : decode cX4_setInheriting 65 = .ok (.iastore, 1) := dk_79 (dk_at dksX4_setInheriting_2 19 rfl rfl)
theorem dX4_setInheriting_66 : decode cX4_setInheriting 66 = .ok (.iload_n 3, 1) := dk_29 (dk_at dksX4_setInheriting_2 20 rfl rfl)
theorem dX4_setInheriting_67 : decode cX4_setInheriting 67 = .ok (.ireturn, 1) := dk_172 (dk_at dksX4_setInheriting_2 21 rfl rfl)
abbrev cX4_addForUser : ByteArray := prog_14_method_41_code
def yX4_addForUser : MethodName := ⟨RX4, "addForUser", "(IIIZZ)I"⟩
def dkwX4_addForUser_0 : List UInt8 := [42, 27, 3, 28, 29, 21, 4, 21, 5, 182, 0, 108, 172]
abbrev dktX4_addForUser_0 : List UInt8 := dkwX4_addForUser_0 ++ []
theorem dksX4_addForUser_0 : cX4_addForUser.data.toList.drop 0 = dktX4_addForUser_0 := by decide +kernel
theorem dX4_addForUser_0 : decode cX4_addForUser 0 = .ok (.aload_n 0, 1) := dk_42 (dk_at dksX4_addForUser_0 0 rfl rfl)
theorem dX4_addForUser_1 : decode cX4_addForUser 1 = .ok (.iload_n 1, 1) := dk_27 (dk_at dksX4_addForUser_0 1 rfl rfl)
theorem dX4_addForUser_2 : decode cX4_addForUser 2 = .ok (.iconst 0, 1) := dk_3 (dk_at dksX4_addForUser_0 2 rfl rfl)
theorem dX4_addForUser_3 : decode cX4_addForUser 3 = .ok (.iload_n 2, 1) := dk_28 (dk_at dksX4_addForUser_0 3 rfl rfl)
theorem dX4_addForUser_4 : decode cX4_addForUser 4 = .ok (.iload_n 3, 1) := dk_29 (dk_at dksX4_addForUser_0 4 rfl rfl)
theorem dX4_addForUser_5 : decode cX4_addForUser 5 = .ok (.iload 4, 2) := dk_21 4 (dk_at dksX4_addForUser_0 5 rfl rfl)
theorem dX4_addForUser_7 : decode cX4_addForUser 7 = .ok (.iload 5, 2) := dk_21 5 (dk_at dksX4_addForUser_0 7 rfl rfl)
theorem dX4_addForUser_9 : decode cX4_addForUser 9 = .ok (.invokevirtual 108, 3) := dk_182 0 108 (dk_at dksX4_addForUser_0 9 rfl rfl)
theorem dX4_addForUser_12 : decode cX4_addForUser 12 = .ok (.ireturn, 1) := dk_172 (dk_at dksX4_addForUser_0 12 rfl rfl)
abbrev cX4_adds : ByteArray := prog_14_method_40_code
def yX4_adds : MethodName := ⟨RX4, "adds", "(IIIIZZ)I"⟩
def dkwX4_adds_5 : List UInt8 := [29, 21, 4, 21, 5, 21, 6, 182, 0, 104, 42, 27, 8, 182, 0, 54, 172]
abbrev dktX4_adds_5 : List UInt8 := dkwX4_adds_5 ++ []
def dkwX4_adds_4 : List UInt8 := [180, 0, 7, 27, 8, 184, 0, 50, 92, 46, 4, 96, 79, 42, 27, 42, 27, 8, 182, 0, 54, 4, 100, 28]
abbrev dktX4_adds_4 : List UInt8 := dkwX4_adds_4 ++ dktX4_adds_5
def dkwX4_adds_3 : List UInt8 := [172, 42, 27, 8, 182, 0, 54, 16, 6, 160, 0, 9, 42, 6, 182, 0, 76, 172, 42, 182, 0, 79, 42]
abbrev dktX4_adds_3 : List UInt8 := dkwX4_adds_3 ++ dktX4_adds_4
def dkwX4_adds_2 : List UInt8 := [21, 7, 154, 0, 9, 42, 4, 182, 0, 76, 172, 21, 4, 184, 0, 101, 154, 0, 9, 42, 5, 182, 0, 76]
abbrev dktX4_adds_2 : List UInt8 := dkwX4_adds_2 ++ dktX4_adds_3
def dkwX4_adds_1 : List UInt8 := [153, 0, 20, 28, 4, 160, 0, 11, 42, 29, 182, 0, 85, 153, 0, 7, 4, 167, 0, 4, 3, 54, 7]
abbrev dktX4_adds_1 : List UInt8 := dkwX4_adds_1 ++ dktX4_adds_2
def dkwX4_adds_0 : List UInt8 := [42, 3, 181, 0, 39, 42, 27, 182, 0, 57, 153, 0, 32, 28, 154, 0, 11, 42, 29, 182, 0, 82]
abbrev dktX4_adds_0 : List UInt8 := dkwX4_adds_0 ++ dktX4_adds_1
theorem dksX4_adds_0 : cX4_adds.data.toList.drop 0 = dktX4_adds_0 := by decide +kernel
theorem dksX4_adds_1 : cX4_adds.data.toList.drop 22 = dktX4_adds_1 := dk_seg dksX4_adds_0 22 rfl rfl
theorem dksX4_adds_2 : cX4_adds.data.toList.drop 45 = dktX4_adds_2 := dk_seg dksX4_adds_1 23 rfl rfl
theorem dksX4_adds_3 : cX4_adds.data.toList.drop 69 = dktX4_adds_3 := dk_seg dksX4_adds_2 24 rfl rfl
theorem dksX4_adds_4 : cX4_adds.data.toList.drop 92 = dktX4_adds_4 := dk_seg dksX4_adds_3 23 rfl rfl
theorem dksX4_adds_5 : cX4_adds.data.toList.drop 116 = dktX4_adds_5 := dk_seg dksX4_adds_4 24 rfl rfl
theorem dX4_adds_0 : decode cX4_adds 0 = .ok (.aload_n 0, 1) := dk_42 (dk_at dksX4_adds_0 0 rfl rfl)
theorem dX4_adds_1 : decode cX4_adds 1 = .ok (.iconst 0, 1) := dk_3 (dk_at dksX4_adds_0 1 rfl rfl)
theorem dX4_adds_2 : decode cX4_adds 2 = .ok (.putfield 39, 3) := dk_181 0 39 (dk_at dksX4_adds_0 2 rfl rfl)
theorem dX4_adds_5 : decode cX4_adds 5 = .ok (.aload_n 0, 1) := dk_42 (dk_at dksX4_adds_0 5 rfl rfl)
theorem dX4_adds_6 : decode cX4_adds 6 = .ok (.iload_n 1, 1) := dk_27 (dk_at dksX4_adds_0 6 rfl rfl)
theorem dX4_adds_7 : decode cX4_adds 7 = .ok (.invokevirtual 57, 3) := dk_182 0 57 (dk_at dksX4_adds_0 7 rfl rfl)
theorem dX4_adds_10 : decode cX4_adds 10 = .ok (.ifCond .eq 32, 3) := dk_153 0 32 (dk_at dksX4_adds_0 10 rfl rfl)
theorem dX4_adds_13 : decode cX4_adds 13 = .ok (.iload_n 2, 1) := dk_28 (dk_at dksX4_adds_0 13 rfl rfl)
theorem dX4_adds_14 : decode cX4_adds 14 = .ok (.ifCond .ne 11, 3) := dk_154 0 11 (dk_at dksX4_adds_0 14 rfl rfl)
theorem dX4_adds_17 : decode cX4_adds 17 = .ok (.aload_n 0, 1) := dk_42 (dk_at dksX4_adds_0 17 rfl rfl)
theorem dX4_adds_18 : decode cX4_adds 18 = .ok (.iload_n 3, 1) := dk_29 (dk_at dksX4_adds_0 18 rfl rfl)
theorem dX4_adds_19 : decode cX4_adds 19 = .ok (.invokevirtual 82, 3) := dk_182 0 82 (dk_at dksX4_adds_0 19 rfl rfl)
theorem dX4_adds_22 : decode cX4_adds 22 = .ok (.ifCond .eq 20, 3) := dk_153 0 20 (dk_at dksX4_adds_1 0 rfl rfl)
theorem dX4_adds_25 : decode cX4_adds 25 = .ok (.iload_n 2, 1) := dk_28 (dk_at dksX4_adds_1 3 rfl rfl)
theorem dX4_adds_26 : decode cX4_adds 26 = .ok (.iconst 1, 1) := dk_4 (dk_at dksX4_adds_1 4 rfl rfl)
theorem dX4_adds_27 : decode cX4_adds 27 = .ok (.if_icmp .ne 11, 3) := dk_160 0 11 (dk_at dksX4_adds_1 5 rfl rfl)
theorem dX4_adds_30 : decode cX4_adds 30 = .ok (.aload_n 0, 1) := dk_42 (dk_at dksX4_adds_1 8 rfl rfl)
theorem dX4_adds_31 : decode cX4_adds 31 = .ok (.iload_n 3, 1) := dk_29 (dk_at dksX4_adds_1 9 rfl rfl)
theorem dX4_adds_32 : decode cX4_adds 32 = .ok (.invokevirtual 85, 3) := dk_182 0 85 (dk_at dksX4_adds_1 10 rfl rfl)
theorem dX4_adds_35 : decode cX4_adds 35 = .ok (.ifCond .eq 7, 3) := dk_153 0 7 (dk_at dksX4_adds_1 13 rfl rfl)
theorem dX4_adds_38 : decode cX4_adds 38 = .ok (.iconst 1, 1) := dk_4 (dk_at dksX4_adds_1 16 rfl rfl)
theorem dX4_adds_39 : decode cX4_adds 39 = .ok (.goto 4, 3) := dk_167 0 4 (dk_at dksX4_adds_1 17 rfl rfl)
theorem dX4_adds_42 : decode cX4_adds 42 = .ok (.iconst 0, 1) := dk_3 (dk_at dksX4_adds_1 20 rfl rfl)
theorem dX4_adds_43 : decode cX4_adds 43 = .ok (.istore 7, 2) := dk_54 7 (dk_at dksX4_adds_1 21 rfl rfl)
theorem dX4_adds_45 : decode cX4_adds 45 = .ok (.iload 7, 2) := dk_21 7 (dk_at dksX4_adds_2 0 rfl rfl)
theorem dX4_adds_47 : decode cX4_adds 47 = .ok (.ifCond .ne 9, 3) := dk_154 0 9 (dk_at dksX4_adds_2 2 rfl rfl)
theorem dX4_adds_50 : decode cX4_adds 50 = .ok (.aload_n 0, 1) := dk_42 (dk_at dksX4_adds_2 5 rfl rfl)
theorem dX4_adds_51 : decode cX4_adds 51 = .ok (.iconst 1, 1) := dk_4 (dk_at dksX4_adds_2 6 rfl rfl)
theorem dX4_adds_52 : decode cX4_adds 52 = .ok (.invokevirtual 76, 3) := dk_182 0 76 (dk_at dksX4_adds_2 7 rfl rfl)
theorem dX4_adds_55 : decode cX4_adds 55 = .ok (.ireturn, 1) := dk_172 (dk_at dksX4_adds_2 10 rfl rfl)
theorem dX4_adds_56 : decode cX4_adds 56 = .ok (.iload 4, 2) := dk_21 4 (dk_at dksX4_adds_2 11 rfl rfl)
theorem dX4_adds_58 : decode cX4_adds 58 = .ok (.invokestatic 101, 3) := dk_184 0 101 (dk_at dksX4_adds_2 13 rfl rfl)
theorem dX4_adds_61 : decode cX4_adds 61 = .ok (.ifCond .ne 9, 3) := dk_154 0 9 (dk_at dksX4_adds_2 16 rfl rfl)
theorem dX4_adds_64 : decode cX4_adds 64 = .ok (.aload_n 0, 1) := dk_42 (dk_at dksX4_adds_2 19 rfl rfl)
theorem dX4_adds_65 : decode cX4_adds 65 = .ok (.iconst 2, 1) := dk_5 (dk_at dksX4_adds_2 20 rfl rfl)
theorem dX4_adds_66 : decode cX4_adds 66 = .ok (.invokevirtual 76, 3) := dk_182 0 76 (dk_at dksX4_adds_2 21 rfl rfl)
theorem dX4_adds_69 : decode cX4_adds 69 = .ok (.ireturn, 1) := dk_172 (dk_at dksX4_adds_3 0 rfl rfl)
theorem dX4_adds_70 : decode cX4_adds 70 = .ok (.aload_n 0, 1) := dk_42 (dk_at dksX4_adds_3 1 rfl rfl)
theorem dX4_adds_71 : decode cX4_adds 71 = .ok (.iload_n 1, 1) := dk_27 (dk_at dksX4_adds_3 2 rfl rfl)
theorem dX4_adds_72 : decode cX4_adds 72 = .ok (.iconst 5, 1) := dk_8 (dk_at dksX4_adds_3 3 rfl rfl)
theorem dX4_adds_73 : decode cX4_adds 73 = .ok (.invokevirtual 54, 3) := dk_182 0 54 (dk_at dksX4_adds_3 4 rfl rfl)
theorem dX4_adds_76 : decode cX4_adds 76 = .ok (.bipush 6, 2) := dk_16 6 (dk_at dksX4_adds_3 7 rfl rfl)
theorem dX4_adds_78 : decode cX4_adds 78 = .ok (.if_icmp .ne 9, 3) := dk_160 0 9 (dk_at dksX4_adds_3 9 rfl rfl)
theorem dX4_adds_81 : decode cX4_adds 81 = .ok (.aload_n 0, 1) := dk_42 (dk_at dksX4_adds_3 12 rfl rfl)
theorem dX4_adds_82 : decode cX4_adds 82 = .ok (.iconst 3, 1) := dk_6 (dk_at dksX4_adds_3 13 rfl rfl)
theorem dX4_adds_83 : decode cX4_adds 83 = .ok (.invokevirtual 76, 3) := dk_182 0 76 (dk_at dksX4_adds_3 14 rfl rfl)
theorem dX4_adds_86 : decode cX4_adds 86 = .ok (.ireturn, 1) := dk_172 (dk_at dksX4_adds_3 17 rfl rfl)
theorem dX4_adds_87 : decode cX4_adds 87 = .ok (.aload_n 0, 1) := dk_42 (dk_at dksX4_adds_3 18 rfl rfl)
theorem dX4_adds_88 : decode cX4_adds 88 = .ok (.invokevirtual 79, 3) := dk_182 0 79 (dk_at dksX4_adds_3 19 rfl rfl)
theorem dX4_adds_91 : decode cX4_adds 91 = .ok (.aload_n 0, 1) := dk_42 (dk_at dksX4_adds_3 22 rfl rfl)
theorem dX4_adds_92 : decode cX4_adds 92 = .ok (.getfield 7, 3) := dk_180 0 7 (dk_at dksX4_adds_4 0 rfl rfl)
theorem dX4_adds_95 : decode cX4_adds 95 = .ok (.iload_n 1, 1) := dk_27 (dk_at dksX4_adds_4 3 rfl rfl)
theorem dX4_adds_96 : decode cX4_adds 96 = .ok (.iconst 5, 1) := dk_8 (dk_at dksX4_adds_4 4 rfl rfl)
theorem dX4_adds_97 : decode cX4_adds 97 = .ok (.invokestatic 50, 3) := dk_184 0 50 (dk_at dksX4_adds_4 5 rfl rfl)
theorem dX4_adds_100 : decode cX4_adds 100 = .ok (.dup2, 1) := dk_92 (dk_at dksX4_adds_4 8 rfl rfl)
theorem dX4_adds_101 : decode cX4_adds 101 = .ok (.iaload, 1) := dk_46 (dk_at dksX4_adds_4 9 rfl rfl)
theorem dX4_adds_102 : decode cX4_adds 102 = .ok (.iconst 1, 1) := dk_4 (dk_at dksX4_adds_4 10 rfl rfl)
theorem dX4_adds_103 : decode cX4_adds 103 = .ok (.iadd, 1) := dk_96 (dk_at dksX4_adds_4 11 rfl rfl)
theorem dX4_adds_104 : decode cX4_adds 104 = .ok (.iastore, 1) := dk_79 (dk_at dksX4_adds_4 12 rfl rfl)
theorem dX4_adds_105 : decode cX4_adds 105 = .ok (.aload_n 0, 1) := dk_42 (dk_at dksX4_adds_4 13 rfl rfl)
theorem dX4_adds_106 : decode cX4_adds 106 = .ok (.iload_n 1, 1) := dk_27 (dk_at dksX4_adds_4 14 rfl rfl)
theorem dX4_adds_107 : decode cX4_adds 107 = .ok (.aload_n 0, 1) := dk_42 (dk_at dksX4_adds_4 15 rfl rfl)
theorem dX4_adds_108 : decode cX4_adds 108 = .ok (.iload_n 1, 1) := dk_27 (dk_at dksX4_adds_4 16 rfl rfl)
theorem dX4_adds_109 : decode cX4_adds 109 = .ok (.iconst 5, 1) := dk_8 (dk_at dksX4_adds_4 17 rfl rfl)
theorem dX4_adds_110 : decode cX4_adds 110 = .ok (.invokevirtual 54, 3) := dk_182 0 54 (dk_at dksX4_adds_4 18 rfl rfl)
theorem dX4_adds_113 : decode cX4_adds 113 = .ok (.iconst 1, 1) := dk_4 (dk_at dksX4_adds_4 21 rfl rfl)
theorem dX4_adds_114 : decode cX4_adds 114 = .ok (.isub, 1) := dk_100 (dk_at dksX4_adds_4 22 rfl rfl)
theorem dX4_adds_115 : decode cX4_adds 115 = .ok (.iload_n 2, 1) := dk_28 (dk_at dksX4_adds_4 23 rfl rfl)
theorem dX4_adds_116 : decode cX4_adds 116 = .ok (.iload_n 3, 1) := dk_29 (dk_at dksX4_adds_5 0 rfl rfl)
theorem dX4_adds_117 : decode cX4_adds 117 = .ok (.iload 4, 2) := dk_21 4 (dk_at dksX4_adds_5 1 rfl rfl)
theorem dX4_adds_119 : decode cX4_adds 119 = .ok (.iload 5, 2) := dk_21 5 (dk_at dksX4_adds_5 3 rfl rfl)
theorem dX4_adds_121 : decode cX4_adds 121 = .ok (.iload 6, 2) := dk_21 6 (dk_at dksX4_adds_5 5 rfl rfl)
theorem dX4_adds_123 : decode cX4_adds 123 = .ok (.invokevirtual 104, 3) := dk_182 0 104 (dk_at dksX4_adds_5 7 rfl rfl)
theorem dX4_adds_126 : decode cX4_adds 126 = .ok (.aload_n 0, 1) := dk_42 (dk_at dksX4_adds_5 10 rfl rfl)
theorem dX4_adds_127 : decode cX4_adds 127 = .ok (.iload_n 1, 1) := dk_27 (dk_at dksX4_adds_5 11 rfl rfl)
theorem dX4_adds_128 : decode cX4_adds 128 = .ok (.iconst 5, 1) := dk_8 (dk_at dksX4_adds_5 12 rfl rfl)
theorem dX4_adds_129 : decode cX4_adds 129 = .ok (.invokevirtual 54, 3) := dk_182 0 54 (dk_at dksX4_adds_5 13 rfl rfl)
theorem dX4_adds_132 : decode cX4_adds 132 = .ok (.ireturn, 1) := dk_172 (dk_at dksX4_adds_5 16 rfl rfl)
abbrev cX4_areRights : ByteArray := prog_14_method_15_code
def yX4_areRights : MethodName := ⟨RX4, "areRights", "(I)Z"⟩
def dkwX4_areRights_0 : List UInt8 := [26, 4, 16, 15, 184, 0, 46, 172]
abbrev dktX4_areRights_0 : List UInt8 := dkwX4_areRights_0 ++ []
theorem dksX4_areRights_0 : cX4_areRights.data.toList.drop 0 = dktX4_areRights_0 := by decide +kernel
theorem dX4_areRights_0 : decode cX4_areRights 0 = .ok (.iload_n 0, 1) := dk_26 (dk_at dksX4_areRights_0 0 rfl rfl)
theorem dX4_areRights_1 : decode cX4_areRights 1 = .ok (.iconst 1, 1) := dk_4 (dk_at dksX4_areRights_0 1 rfl rfl)
theorem dX4_areRights_2 : decode cX4_areRights 2 = .ok (.bipush 15, 2) := dk_16 15 (dk_at dksX4_areRights_0 2 rfl rfl)
theorem dX4_areRights_4 : decode cX4_areRights 4 = .ok (.invokestatic 46, 3) := dk_184 0 46 (dk_at dksX4_areRights_0 4 rfl rfl)
theorem dX4_areRights_7 : decode cX4_areRights 7 = .ok (.ireturn, 1) := dk_172 (dk_at dksX4_areRights_0 7 rfl rfl)
abbrev cX4_writes : ByteArray := prog_14_method_39_code
def yX4_writes : MethodName := ⟨RX4, "writes", "(IIIIIZZ)V"⟩
def dkwX4_writes_3 : List UInt8 := [153, 0, 7, 4, 167, 0, 4, 3, 79, 177]
abbrev dktX4_writes_3 : List UInt8 := dkwX4_writes_3 ++ []
def dkwX4_writes_2 : List UInt8 := [21, 6, 153, 0, 7, 4, 167, 0, 4, 3, 79, 42, 180, 0, 7, 27, 28, 7, 184, 0, 61, 21, 7]
abbrev dktX4_writes_2 : List UInt8 := dkwX4_writes_2 ++ dktX4_writes_3
def dkwX4_writes_1 : List UInt8 := [79, 42, 180, 0, 7, 27, 28, 5, 184, 0, 61, 21, 5, 79, 42, 180, 0, 7, 27, 28, 6, 184, 0, 61]
abbrev dktX4_writes_1 : List UInt8 := dkwX4_writes_1 ++ dktX4_writes_2
def dkwX4_writes_0 : List UInt8 := [42, 180, 0, 7, 27, 28, 3, 184, 0, 61, 29, 79, 42, 180, 0, 7, 27, 28, 4, 184, 0, 61, 21, 4]
abbrev dktX4_writes_0 : List UInt8 := dkwX4_writes_0 ++ dktX4_writes_1
theorem dksX4_writes_0 : cX4_writes.data.toList.drop 0 = dktX4_writes_0 := by decide +kernel
theorem dksX4_writes_1 : cX4_writes.data.toList.drop 24 = dktX4_writes_1 := dk_seg dksX4_writes_0 24 rfl rfl
theorem dksX4_writes_2 : cX4_writes.data.toList.drop 48 = dktX4_writes_2 := dk_seg dksX4_writes_1 24 rfl rfl
theorem dksX4_writes_3 : cX4_writes.data.toList.drop 71 = dktX4_writes_3 := dk_seg dksX4_writes_2 23 rfl rfl
theorem dX4_writes_0 : decode cX4_writes 0 = .ok (.aload_n 0, 1) := dk_42 (dk_at dksX4_writes_0 0 rfl rfl)
theorem dX4_writes_1 : decode cX4_writes 1 = .ok (.getfield 7, 3) := dk_180 0 7 (dk_at dksX4_writes_0 1 rfl rfl)
theorem dX4_writes_4 : decode cX4_writes 4 = .ok (.iload_n 1, 1) := dk_27 (dk_at dksX4_writes_0 4 rfl rfl)
theorem dX4_writes_5 : decode cX4_writes 5 = .ok (.iload_n 2, 1) := dk_28 (dk_at dksX4_writes_0 5 rfl rfl)
theorem dX4_writes_6 : decode cX4_writes 6 = .ok (.iconst 0, 1) := dk_3 (dk_at dksX4_writes_0 6 rfl rfl)
theorem dX4_writes_7 : decode cX4_writes 7 = .ok (.invokestatic 61, 3) := dk_184 0 61 (dk_at dksX4_writes_0 7 rfl rfl)
theorem dX4_writes_10 : decode cX4_writes 10 = .ok (.iload_n 3, 1) := dk_29 (dk_at dksX4_writes_0 10 rfl rfl)
theorem dX4_writes_11 : decode cX4_writes 11 = .ok (.iastore, 1) := dk_79 (dk_at dksX4_writes_0 11 rfl rfl)
theorem dX4_writes_12 : decode cX4_writes 12 = .ok (.aload_n 0, 1) := dk_42 (dk_at dksX4_writes_0 12 rfl rfl)
theorem dX4_writes_13 : decode cX4_writes 13 = .ok (.getfield 7, 3) := dk_180 0 7 (dk_at dksX4_writes_0 13 rfl rfl)
theorem dX4_writes_16 : decode cX4_writes 16 = .ok (.iload_n 1, 1) := dk_27 (dk_at dksX4_writes_0 16 rfl rfl)
theorem dX4_writes_17 : decode cX4_writes 17 = .ok (.iload_n 2, 1) := dk_28 (dk_at dksX4_writes_0 17 rfl rfl)
theorem dX4_writes_18 : decode cX4_writes 18 = .ok (.iconst 1, 1) := dk_4 (dk_at dksX4_writes_0 18 rfl rfl)
theorem dX4_writes_19 : decode cX4_writes 19 = .ok (.invokestatic 61, 3) := dk_184 0 61 (dk_at dksX4_writes_0 19 rfl rfl)
theorem dX4_writes_22 : decode cX4_writes 22 = .ok (.iload 4, 2) := dk_21 4 (dk_at dksX4_writes_0 22 rfl rfl)
theorem dX4_writes_24 : decode cX4_writes 24 = .ok (.iastore, 1) := dk_79 (dk_at dksX4_writes_1 0 rfl rfl)
theorem dX4_writes_25 : decode cX4_writes 25 = .ok (.aload_n 0, 1) := dk_42 (dk_at dksX4_writes_1 1 rfl rfl)
theorem dX4_writes_26 : decode cX4_writes 26 = .ok (.getfield 7, 3) := dk_180 0 7 (dk_at dksX4_writes_1 2 rfl rfl)
theorem dX4_writes_29 : decode cX4_writes 29 = .ok (.iload_n 1, 1) := dk_27 (dk_at dksX4_writes_1 5 rfl rfl)
theorem dX4_writes_30 : decode cX4_writes 30 = .ok (.iload_n 2, 1) := dk_28 (dk_at dksX4_writes_1 6 rfl rfl)
theorem dX4_writes_31 : decode cX4_writes 31 = .ok (.iconst 2, 1) := dk_5 (dk_at dksX4_writes_1 7 rfl rfl)
theorem dX4_writes_32 : decode cX4_writes 32 = .ok (.invokestatic 61, 3) := dk_184 0 61 (dk_at dksX4_writes_1 8 rfl rfl)
theorem dX4_writes_35 : decode cX4_writes 35 = .ok (.iload 5, 2) := dk_21 5 (dk_at dksX4_writes_1 11 rfl rfl)
theorem dX4_writes_37 : decode cX4_writes 37 = .ok (.iastore, 1) := dk_79 (dk_at dksX4_writes_1 13 rfl rfl)
theorem dX4_writes_38 : decode cX4_writes 38 = .ok (.aload_n 0, 1) := dk_42 (dk_at dksX4_writes_1 14 rfl rfl)
theorem dX4_writes_39 : decode cX4_writes 39 = .ok (.getfield 7, 3) := dk_180 0 7 (dk_at dksX4_writes_1 15 rfl rfl)
theorem dX4_writes_42 : decode cX4_writes 42 = .ok (.iload_n 1, 1) := dk_27 (dk_at dksX4_writes_1 18 rfl rfl)
theorem dX4_writes_43 : decode cX4_writes 43 = .ok (.iload_n 2, 1) := dk_28 (dk_at dksX4_writes_1 19 rfl rfl)
theorem dX4_writes_44 : decode cX4_writes 44 = .ok (.iconst 3, 1) := dk_6 (dk_at dksX4_writes_1 20 rfl rfl)
theorem dX4_writes_45 : decode cX4_writes 45 = .ok (.invokestatic 61, 3) := dk_184 0 61 (dk_at dksX4_writes_1 21 rfl rfl)
theorem dX4_writes_48 : decode cX4_writes 48 = .ok (.iload 6, 2) := dk_21 6 (dk_at dksX4_writes_2 0 rfl rfl)
theorem dX4_writes_50 : decode cX4_writes 50 = .ok (.ifCond .eq 7, 3) := dk_153 0 7 (dk_at dksX4_writes_2 2 rfl rfl)
theorem dX4_writes_53 : decode cX4_writes 53 = .ok (.iconst 1, 1) := dk_4 (dk_at dksX4_writes_2 5 rfl rfl)
theorem dX4_writes_54 : decode cX4_writes 54 = .ok (.goto 4, 3) := dk_167 0 4 (dk_at dksX4_writes_2 6 rfl rfl)
theorem dX4_writes_57 : decode cX4_writes 57 = .ok (.iconst 0, 1) := dk_3 (dk_at dksX4_writes_2 9 rfl rfl)
theorem dX4_writes_58 : decode cX4_writes 58 = .ok (.iastore, 1) := dk_79 (dk_at dksX4_writes_2 10 rfl rfl)
theorem dX4_writes_59 : decode cX4_writes 59 = .ok (.aload_n 0, 1) := dk_42 (dk_at dksX4_writes_2 11 rfl rfl)
theorem dX4_writes_60 : decode cX4_writes 60 = .ok (.getfield 7, 3) := dk_180 0 7 (dk_at dksX4_writes_2 12 rfl rfl)
theorem dX4_writes_63 : decode cX4_writes 63 = .ok (.iload_n 1, 1) := dk_27 (dk_at dksX4_writes_2 15 rfl rfl)
theorem dX4_writes_64 : decode cX4_writes 64 = .ok (.iload_n 2, 1) := dk_28 (dk_at dksX4_writes_2 16 rfl rfl)
theorem dX4_writes_65 : decode cX4_writes 65 = .ok (.iconst 4, 1) := dk_7 (dk_at dksX4_writes_2 17 rfl rfl)
theorem dX4_writes_66 : decode cX4_writes 66 = .ok (.invokestatic 61, 3) := dk_184 0 61 (dk_at dksX4_writes_2 18 rfl rfl)
theorem dX4_writes_69 : decode cX4_writes 69 = .ok (.iload 7, 2) := dk_21 7 (dk_at dksX4_writes_2 21 rfl rfl)
theorem dX4_writes_71 : decode cX4_writes 71 = .ok (.ifCond .eq 7, 3) := dk_153 0 7 (dk_at dksX4_writes_3 0 rfl rfl)
theorem dX4_writes_74 : decode cX4_writes 74 = .ok (.iconst 1, 1) := dk_4 (dk_at dksX4_writes_3 3 rfl rfl)
theorem dX4_writes_75 : decode cX4_writes 75 = .ok (.goto 4, 3) := dk_167 0 4 (dk_at dksX4_writes_3 4 rfl rfl)
theorem dX4_writes_78 : decode cX4_writes 78 = .ok (.iconst 0, 1) := dk_3 (dk_at dksX4_writes_3 7 rfl rfl)
theorem dX4_writes_79 : decode cX4_writes 79 = .ok (.iastore, 1) := dk_79 (dk_at dksX4_writes_3 8 rfl rfl)
theorem dX4_writes_80 : decode cX4_writes 80 = .ok (.return_, 1) := dk_177 (dk_at dksX4_writes_3 9 rfl rfl)
abbrev cX4_entryAt : ByteArray := prog_14_method_12_code
def yX4_entryAt : MethodName := ⟨RX4, "entryAt", "(III)I"⟩
def dkwX4_entryAt_0 : List UInt8 := [26, 16, 6, 184, 0, 50, 8, 27, 104, 96, 28, 96, 172]
abbrev dktX4_entryAt_0 : List UInt8 := dkwX4_entryAt_0 ++ []
theorem dksX4_entryAt_0 : cX4_entryAt.data.toList.drop 0 = dktX4_entryAt_0 := by decide +kernel
theorem dX4_entryAt_0 : decode cX4_entryAt 0 = .ok (.iload_n 0, 1) := dk_26 (dk_at dksX4_entryAt_0 0 rfl rfl)
theorem dX4_entryAt_1 : decode cX4_entryAt 1 = .ok (.bipush 6, 2) := dk_16 6 (dk_at dksX4_entryAt_0 1 rfl rfl)
theorem dX4_entryAt_3 : decode cX4_entryAt 3 = .ok (.invokestatic 50, 3) := dk_184 0 50 (dk_at dksX4_entryAt_0 3 rfl rfl)
theorem dX4_entryAt_6 : decode cX4_entryAt 6 = .ok (.iconst 5, 1) := dk_8 (dk_at dksX4_entryAt_0 6 rfl rfl)
theorem dX4_entryAt_7 : decode cX4_entryAt 7 = .ok (.iload_n 1, 1) := dk_27 (dk_at dksX4_entryAt_0 7 rfl rfl)
theorem dX4_entryAt_8 : decode cX4_entryAt 8 = .ok (.imul, 1) := dk_104 (dk_at dksX4_entryAt_0 8 rfl rfl)
theorem dX4_entryAt_9 : decode cX4_entryAt 9 = .ok (.iadd, 1) := dk_96 (dk_at dksX4_entryAt_0 9 rfl rfl)
theorem dX4_entryAt_10 : decode cX4_entryAt 10 = .ok (.iload_n 2, 1) := dk_28 (dk_at dksX4_entryAt_0 10 rfl rfl)
theorem dX4_entryAt_11 : decode cX4_entryAt 11 = .ok (.iadd, 1) := dk_96 (dk_at dksX4_entryAt_0 11 rfl rfl)
theorem dX4_entryAt_12 : decode cX4_entryAt 12 = .ok (.ireturn, 1) := dk_172 (dk_at dksX4_entryAt_0 12 rfl rfl)
abbrev cX4_addForGroup : ByteArray := prog_14_method_42_code
def yX4_addForGroup : MethodName := ⟨RX4, "addForGroup", "(IIIZZ)I"⟩
def dkwX4_addForGroup_0 : List UInt8 := [42, 27, 4, 28, 29, 21, 4, 21, 5, 182, 0, 108, 172]
abbrev dktX4_addForGroup_0 : List UInt8 := dkwX4_addForGroup_0 ++ []
theorem dksX4_addForGroup_0 : cX4_addForGroup.data.toList.drop 0 = dktX4_addForGroup_0 := by decide +kernel
theorem dX4_addForGroup_0 : decode cX4_addForGroup 0 = .ok (.aload_n 0, 1) := dk_42 (dk_at dksX4_addForGroup_0 0 rfl rfl)
theorem dX4_addForGroup_1 : decode cX4_addForGroup 1 = .ok (.iload_n 1, 1) := dk_27 (dk_at dksX4_addForGroup_0 1 rfl rfl)
theorem dX4_addForGroup_2 : decode cX4_addForGroup 2 = .ok (.iconst 1, 1) := dk_4 (dk_at dksX4_addForGroup_0 2 rfl rfl)
theorem dX4_addForGroup_3 : decode cX4_addForGroup 3 = .ok (.iload_n 2, 1) := dk_28 (dk_at dksX4_addForGroup_0 3 rfl rfl)
theorem dX4_addForGroup_4 : decode cX4_addForGroup 4 = .ok (.iload_n 3, 1) := dk_29 (dk_at dksX4_addForGroup_0 4 rfl rfl)
theorem dX4_addForGroup_5 : decode cX4_addForGroup 5 = .ok (.iload 4, 2) := dk_21 4 (dk_at dksX4_addForGroup_0 5 rfl rfl)
theorem dX4_addForGroup_7 : decode cX4_addForGroup 7 = .ok (.iload 5, 2) := dk_21 5 (dk_at dksX4_addForGroup_0 7 rfl rfl)
theorem dX4_addForGroup_9 : decode cX4_addForGroup 9 = .ok (.invokevirtual 108, 3) := dk_182 0 108 (dk_at dksX4_addForGroup_0 9 rfl rfl)
theorem dX4_addForGroup_12 : decode cX4_addForGroup 12 = .ok (.ireturn, 1) := dk_172 (dk_at dksX4_addForGroup_0 12 rfl rfl)
abbrev cX4_addForOwner : ByteArray := prog_14_method_43_code
def yX4_addForOwner : MethodName := ⟨RX4, "addForOwner", "(IIZZ)I"⟩
def dkwX4_addForOwner_0 : List UInt8 := [42, 27, 5, 3, 28, 29, 21, 4, 182, 0, 108, 172]
abbrev dktX4_addForOwner_0 : List UInt8 := dkwX4_addForOwner_0 ++ []
theorem dksX4_addForOwner_0 : cX4_addForOwner.data.toList.drop 0 = dktX4_addForOwner_0 := by decide +kernel
theorem dX4_addForOwner_0 : decode cX4_addForOwner 0 = .ok (.aload_n 0, 1) := dk_42 (dk_at dksX4_addForOwner_0 0 rfl rfl)
theorem dX4_addForOwner_1 : decode cX4_addForOwner 1 = .ok (.iload_n 1, 1) := dk_27 (dk_at dksX4_addForOwner_0 1 rfl rfl)
theorem dX4_addForOwner_2 : decode cX4_addForOwner 2 = .ok (.iconst 2, 1) := dk_5 (dk_at dksX4_addForOwner_0 2 rfl rfl)
theorem dX4_addForOwner_3 : decode cX4_addForOwner 3 = .ok (.iconst 0, 1) := dk_3 (dk_at dksX4_addForOwner_0 3 rfl rfl)
theorem dX4_addForOwner_4 : decode cX4_addForOwner 4 = .ok (.iload_n 2, 1) := dk_28 (dk_at dksX4_addForOwner_0 4 rfl rfl)
theorem dX4_addForOwner_5 : decode cX4_addForOwner 5 = .ok (.iload_n 3, 1) := dk_29 (dk_at dksX4_addForOwner_0 5 rfl rfl)
theorem dX4_addForOwner_6 : decode cX4_addForOwner 6 = .ok (.iload 4, 2) := dk_21 4 (dk_at dksX4_addForOwner_0 6 rfl rfl)
theorem dX4_addForOwner_8 : decode cX4_addForOwner 8 = .ok (.invokevirtual 108, 3) := dk_182 0 108 (dk_at dksX4_addForOwner_0 8 rfl rfl)
theorem dX4_addForOwner_11 : decode cX4_addForOwner 11 = .ok (.ireturn, 1) := dk_172 (dk_at dksX4_addForOwner_0 11 rfl rfl)
abbrev cX4_addForAll : ByteArray := prog_14_method_44_code
def yX4_addForAll : MethodName := ⟨RX4, "addForAll", "(IIZZ)I"⟩
def dkwX4_addForAll_0 : List UInt8 := [42, 27, 6, 3, 28, 29, 21, 4, 182, 0, 108, 172]
abbrev dktX4_addForAll_0 : List UInt8 := dkwX4_addForAll_0 ++ []
theorem dksX4_addForAll_0 : cX4_addForAll.data.toList.drop 0 = dktX4_addForAll_0 := by decide +kernel
theorem dX4_addForAll_0 : decode cX4_addForAll 0 = .ok (.aload_n 0, 1) := dk_42 (dk_at dksX4_addForAll_0 0 rfl rfl)
theorem dX4_addForAll_1 : decode cX4_addForAll 1 = .ok (.iload_n 1, 1) := dk_27 (dk_at dksX4_addForAll_0 1 rfl rfl)
theorem dX4_addForAll_2 : decode cX4_addForAll 2 = .ok (.iconst 3, 1) := dk_6 (dk_at dksX4_addForAll_0 2 rfl rfl)
theorem dX4_addForAll_3 : decode cX4_addForAll 3 = .ok (.iconst 0, 1) := dk_3 (dk_at dksX4_addForAll_0 3 rfl rfl)
theorem dX4_addForAll_4 : decode cX4_addForAll 4 = .ok (.iload_n 2, 1) := dk_28 (dk_at dksX4_addForAll_0 4 rfl rfl)
theorem dX4_addForAll_5 : decode cX4_addForAll 5 = .ok (.iload_n 3, 1) := dk_29 (dk_at dksX4_addForAll_0 5 rfl rfl)
theorem dX4_addForAll_6 : decode cX4_addForAll 6 = .ok (.iload 4, 2) := dk_21 4 (dk_at dksX4_addForAll_0 6 rfl rfl)
theorem dX4_addForAll_8 : decode cX4_addForAll 8 = .ok (.invokevirtual 108, 3) := dk_182 0 108 (dk_at dksX4_addForAll_0 8 rfl rfl)
theorem dX4_addForAll_11 : decode cX4_addForAll 11 = .ok (.ireturn, 1) := dk_172 (dk_at dksX4_addForAll_0 11 rfl rfl)
abbrev cX4_removeEntry : ByteArray := prog_14_method_45_code
def yX4_removeEntry : MethodName := ⟨RX4, "removeEntry", "(II)I"⟩
def dkwX4_removeEntry_1 : List UInt8 := [42, 27, 28, 182, 0, 115, 42, 27, 8, 182, 0, 54, 172]
abbrev dktX4_removeEntry_1 : List UInt8 := dkwX4_removeEntry_1 ++ []
def dkwX4_removeEntry_0 : List UInt8 := [42, 3, 181, 0, 39, 42, 27, 28, 182, 0, 112, 154, 0, 9, 42, 4, 182, 0, 76, 172, 42, 182, 0, 79]
abbrev dktX4_removeEntry_0 : List UInt8 := dkwX4_removeEntry_0 ++ dktX4_removeEntry_1
theorem dksX4_removeEntry_0 : cX4_removeEntry.data.toList.drop 0 = dktX4_removeEntry_0 := by decide +kernel
theorem dksX4_removeEntry_1 : cX4_removeEntry.data.toList.drop 24 = dktX4_removeEntry_1 := dk_seg dksX4_removeEntry_0 24 rfl rfl
theorem dX4_removeEntry_0 : decode cX4_removeEntry 0 = .ok (.aload_n 0, 1) := dk_42 (dk_at dksX4_removeEntry_0 0 rfl rfl)
theorem dX4_removeEntry_1 : decode cX4_removeEntry 1 = .ok (.iconst 0, 1) := dk_3 (dk_at dksX4_removeEntry_0 1 rfl rfl)
theorem dX4_removeEntry_2 : decode cX4_removeEntry 2 = .ok (.putfield 39, 3) := dk_181 0 39 (dk_at dksX4_removeEntry_0 2 rfl rfl)
theorem dX4_removeEntry_5 : decode cX4_removeEntry 5 = .ok (.aload_n 0, 1) := dk_42 (dk_at dksX4_removeEntry_0 5 rfl rfl)
theorem dX4_removeEntry_6 : decode cX4_removeEntry 6 = .ok (.iload_n 1, 1) := dk_27 (dk_at dksX4_removeEntry_0 6 rfl rfl)
theorem dX4_removeEntry_7 : decode cX4_removeEntry 7 = .ok (.iload_n 2, 1) := dk_28 (dk_at dksX4_removeEntry_0 7 rfl rfl)
theorem dX4_removeEntry_8 : decode cX4_removeEntry 8 = .ok (.invokevirtual 112, 3) := dk_182 0 112 (dk_at dksX4_removeEntry_0 8 rfl rfl)
theorem dX4_removeEntry_11 : decode cX4_removeEntry 11 = .ok (.ifCond .ne 9, 3) := dk_154 0 9 (dk_at dksX4_removeEntry_0 11 rfl rfl)
theorem dX4_removeEntry_14 : decode cX4_removeEntry 14 = .ok (.aload_n 0, 1) := dk_42 (dk_at dksX4_removeEntry_0 14 rfl rfl)
theorem dX4_removeEntry_15 : decode cX4_removeEntry 15 = .ok (.iconst 1, 1) := dk_4 (dk_at dksX4_removeEntry_0 15 rfl rfl)
theorem dX4_removeEntry_16 : decode cX4_removeEntry 16 = .ok (.invokevirtual 76, 3) := dk_182 0 76 (dk_at dksX4_removeEntry_0 16 rfl rfl)
theorem dX4_removeEntry_19 : decode cX4_removeEntry 19 = .ok (.ireturn, 1) := dk_172 (dk_at dksX4_removeEntry_0 19 rfl rfl)
theorem dX4_removeEntry_20 : decode cX4_removeEntry 20 = .ok (.aload_n 0, 1) := dk_42 (dk_at dksX4_removeEntry_0 20 rfl rfl)
theorem dX4_removeEntry_21 : decode cX4_removeEntry 21 = .ok (.invokevirtual 79, 3) := dk_182 0 79 (dk_at dksX4_removeEntry_0 21 rfl rfl)
theorem dX4_removeEntry_24 : decode cX4_removeEntry 24 = .ok (.aload_n 0, 1) := dk_42 (dk_at dksX4_removeEntry_1 0 rfl rfl)
theorem dX4_removeEntry_25 : decode cX4_removeEntry 25 = .ok (.iload_n 1, 1) := dk_27 (dk_at dksX4_removeEntry_1 1 rfl rfl)
theorem dX4_removeEntry_26 : decode cX4_removeEntry 26 = .ok (.iload_n 2, 1) := dk_28 (dk_at dksX4_removeEntry_1 2 rfl rfl)
theorem dX4_removeEntry_27 : decode cX4_removeEntry 27 = .ok (.invokevirtual 115, 3) := dk_182 0 115 (dk_at dksX4_removeEntry_1 3 rfl rfl)
theorem dX4_removeEntry_30 : decode cX4_removeEntry 30 = .ok (.aload_n 0, 1) := dk_42 (dk_at dksX4_removeEntry_1 6 rfl rfl)
theorem dX4_removeEntry_31 : decode cX4_removeEntry 31 = .ok (.iload_n 1, 1) := dk_27 (dk_at dksX4_removeEntry_1 7 rfl rfl)
theorem dX4_removeEntry_32 : decode cX4_removeEntry 32 = .ok (.iconst 5, 1) := dk_8 (dk_at dksX4_removeEntry_1 8 rfl rfl)
theorem dX4_removeEntry_33 : decode cX4_removeEntry 33 = .ok (.invokevirtual 54, 3) := dk_182 0 54 (dk_at dksX4_removeEntry_1 9 rfl rfl)
theorem dX4_removeEntry_36 : decode cX4_removeEntry 36 = .ok (.ireturn, 1) := dk_172 (dk_at dksX4_removeEntry_1 12 rfl rfl)
abbrev cX4_isEntry : ByteArray := prog_14_method_11_code
def yX4_isEntry : MethodName := ⟨RX4, "isEntry", "(II)Z"⟩
def dkwX4_isEntry_1 : List UInt8 := [4, 167, 0, 4, 3, 172]
abbrev dktX4_isEntry_1 : List UInt8 := dkwX4_isEntry_1 ++ []
def dkwX4_isEntry_0 : List UInt8 := [42, 27, 182, 0, 57, 153, 0, 23, 28, 3, 42, 27, 8, 182, 0, 54, 4, 100, 184, 0, 46, 153, 0, 7]
abbrev dktX4_isEntry_0 : List UInt8 := dkwX4_isEntry_0 ++ dktX4_isEntry_1
theorem dksX4_isEntry_0 : cX4_isEntry.data.toList.drop 0 = dktX4_isEntry_0 := by decide +kernel
theorem dksX4_isEntry_1 : cX4_isEntry.data.toList.drop 24 = dktX4_isEntry_1 := dk_seg dksX4_isEntry_0 24 rfl rfl
theorem dX4_isEntry_0 : decode cX4_isEntry 0 = .ok (.aload_n 0, 1) := dk_42 (dk_at dksX4_isEntry_0 0 rfl rfl)
theorem dX4_isEntry_1 : decode cX4_isEntry 1 = .ok (.iload_n 1, 1) := dk_27 (dk_at dksX4_isEntry_0 1 rfl rfl)
theorem dX4_isEntry_2 : decode cX4_isEntry 2 = .ok (.invokevirtual 57, 3) := dk_182 0 57 (dk_at dksX4_isEntry_0 2 rfl rfl)
theorem dX4_isEntry_5 : decode cX4_isEntry 5 = .ok (.ifCond .eq 23, 3) := dk_153 0 23 (dk_at dksX4_isEntry_0 5 rfl rfl)
theorem dX4_isEntry_8 : decode cX4_isEntry 8 = .ok (.iload_n 2, 1) := dk_28 (dk_at dksX4_isEntry_0 8 rfl rfl)
theorem dX4_isEntry_9 : decode cX4_isEntry 9 = .ok (.iconst 0, 1) := dk_3 (dk_at dksX4_isEntry_0 9 rfl rfl)
theorem dX4_isEntry_10 : decode cX4_isEntry 10 = .ok (.aload_n 0, 1) := dk_42 (dk_at dksX4_isEntry_0 10 rfl rfl)
theorem dX4_isEntry_11 : decode cX4_isEntry 11 = .ok (.iload_n 1, 1) := dk_27 (dk_at dksX4_isEntry_0 11 rfl rfl)
theorem dX4_isEntry_12 : decode cX4_isEntry 12 = .ok (.iconst 5, 1) := dk_8 (dk_at dksX4_isEntry_0 12 rfl rfl)
theorem dX4_isEntry_13 : decode cX4_isEntry 13 = .ok (.invokevirtual 54, 3) := dk_182 0 54 (dk_at dksX4_isEntry_0 13 rfl rfl)
theorem dX4_isEntry_16 : decode cX4_isEntry 16 = .ok (.iconst 1, 1) := dk_4 (dk_at dksX4_isEntry_0 16 rfl rfl)
theorem dX4_isEntry_17 : decode cX4_isEntry 17 = .ok (.isub, 1) := dk_100 (dk_at dksX4_isEntry_0 17 rfl rfl)
theorem dX4_isEntry_18 : decode cX4_isEntry 18 = .ok (.invokestatic 46, 3) := dk_184 0 46 (dk_at dksX4_isEntry_0 18 rfl rfl)
theorem dX4_isEntry_21 : decode cX4_isEntry 21 = .ok (.ifCond .eq 7, 3) := dk_153 0 7 (dk_at dksX4_isEntry_0 21 rfl rfl)
theorem dX4_isEntry_24 : decode cX4_isEntry 24 = .ok (.iconst 1, 1) := dk_4 (dk_at dksX4_isEntry_1 0 rfl rfl)
theorem dX4_isEntry_25 : decode cX4_isEntry 25 = .ok (.goto 4, 3) := dk_167 0 4 (dk_at dksX4_isEntry_1 1 rfl rfl)
theorem dX4_isEntry_28 : decode cX4_isEntry 28 = .ok (.iconst 0, 1) := dk_3 (dk_at dksX4_isEntry_1 4 rfl rfl)
theorem dX4_isEntry_29 : decode cX4_isEntry 29 = .ok (.ireturn, 1) := dk_172 (dk_at dksX4_isEntry_1 5 rfl rfl)
abbrev cX4_takesOut : ByteArray := prog_14_method_37_code
def yX4_takesOut : MethodName := ⟨RX4, "takesOut", "(II)V"⟩
def dkwX4_takesOut_2 : List UInt8 := [46, 79, 132, 3, 1, 167, 255, 224, 177]
abbrev dktX4_takesOut_2 : List UInt8 := dkwX4_takesOut_2 ++ []
def dkwX4_takesOut_1 : List UInt8 := [27, 8, 182, 0, 54, 3, 184, 0, 61, 162, 0, 23, 42, 180, 0, 7, 29, 42, 180, 0, 7, 29, 8, 96]
abbrev dktX4_takesOut_1 : List UInt8 := dkwX4_takesOut_1 ++ dktX4_takesOut_2
def dkwX4_takesOut_0 : List UInt8 := [42, 180, 0, 7, 27, 8, 184, 0, 50, 92, 46, 4, 100, 79, 27, 28, 3, 184, 0, 61, 62, 29, 27, 42]
abbrev dktX4_takesOut_0 : List UInt8 := dkwX4_takesOut_0 ++ dktX4_takesOut_1
theorem dksX4_takesOut_0 : cX4_takesOut.data.toList.drop 0 = dktX4_takesOut_0 := by decide +kernel
theorem dksX4_takesOut_1 : cX4_takesOut.data.toList.drop 24 = dktX4_takesOut_1 := dk_seg dksX4_takesOut_0 24 rfl rfl
theorem dksX4_takesOut_2 : cX4_takesOut.data.toList.drop 48 = dktX4_takesOut_2 := dk_seg dksX4_takesOut_1 24 rfl rfl
theorem dX4_takesOut_0 : decode cX4_takesOut 0 = .ok (.aload_n 0, 1) := dk_42 (dk_at dksX4_takesOut_0 0 rfl rfl)
theorem dX4_takesOut_1 : decode cX4_takesOut 1 = .ok (.getfield 7, 3) := dk_180 0 7 (dk_at dksX4_takesOut_0 1 rfl rfl)
theorem dX4_takesOut_4 : decode cX4_takesOut 4 = .ok (.iload_n 1, 1) := dk_27 (dk_at dksX4_takesOut_0 4 rfl rfl)
theorem dX4_takesOut_5 : decode cX4_takesOut 5 = .ok (.iconst 5, 1) := dk_8 (dk_at dksX4_takesOut_0 5 rfl rfl)
theorem dX4_takesOut_6 : decode cX4_takesOut 6 = .ok (.invokestatic 50, 3) := dk_184 0 50 (dk_at dksX4_takesOut_0 6 rfl rfl)
theorem dX4_takesOut_9 : decode cX4_takesOut 9 = .ok (.dup2, 1) := dk_92 (dk_at dksX4_takesOut_0 9 rfl rfl)
theorem dX4_takesOut_10 : decode cX4_takesOut 10 = .ok (.iaload, 1) := dk_46 (dk_at dksX4_takesOut_0 10 rfl rfl)
theorem dX4_takesOut_11 : decode cX4_takesOut 11 = .ok (.iconst 1, 1) := dk_4 (dk_at dksX4_takesOut_0 11 rfl rfl)
theorem dX4_takesOut_12 : decode cX4_takesOut 12 = .ok (.isub, 1) := dk_100 (dk_at dksX4_takesOut_0 12 rfl rfl)
theorem dX4_takesOut_13 : decode cX4_takesOut 13 = .ok (.iastore, 1) := dk_79 (dk_at dksX4_takesOut_0 13 rfl rfl)
theorem dX4_takesOut_14 : decode cX4_takesOut 14 = .ok (.iload_n 1, 1) := dk_27 (dk_at dksX4_takesOut_0 14 rfl rfl)
theorem dX4_takesOut_15 : decode cX4_takesOut 15 = .ok (.iload_n 2, 1) := dk_28 (dk_at dksX4_takesOut_0 15 rfl rfl)
theorem dX4_takesOut_16 : decode cX4_takesOut 16 = .ok (.iconst 0, 1) := dk_3 (dk_at dksX4_takesOut_0 16 rfl rfl)
theorem dX4_takesOut_17 : decode cX4_takesOut 17 = .ok (.invokestatic 61, 3) := dk_184 0 61 (dk_at dksX4_takesOut_0 17 rfl rfl)
theorem dX4_takesOut_20 : decode cX4_takesOut 20 = .ok (.istore_n 3, 1) := dk_62 (dk_at dksX4_takesOut_0 20 rfl rfl)
theorem dX4_takesOut_21 : decode cX4_takesOut 21 = .ok (.iload_n 3, 1) := dk_29 (dk_at dksX4_takesOut_0 21 rfl rfl)
theorem dX4_takesOut_22 : decode cX4_takesOut 22 = .ok (.iload_n 1, 1) := dk_27 (dk_at dksX4_takesOut_0 22 rfl rfl)
theorem dX4_takesOut_23 : decode cX4_takesOut 23 = .ok (.aload_n 0, 1) := dk_42 (dk_at dksX4_takesOut_0 23 rfl rfl)
theorem dX4_takesOut_24 : decode cX4_takesOut 24 = .ok (.iload_n 1, 1) := dk_27 (dk_at dksX4_takesOut_1 0 rfl rfl)
theorem dX4_takesOut_25 : decode cX4_takesOut 25 = .ok (.iconst 5, 1) := dk_8 (dk_at dksX4_takesOut_1 1 rfl rfl)
theorem dX4_takesOut_26 : decode cX4_takesOut 26 = .ok (.invokevirtual 54, 3) := dk_182 0 54 (dk_at dksX4_takesOut_1 2 rfl rfl)
theorem dX4_takesOut_29 : decode cX4_takesOut 29 = .ok (.iconst 0, 1) := dk_3 (dk_at dksX4_takesOut_1 5 rfl rfl)
theorem dX4_takesOut_30 : decode cX4_takesOut 30 = .ok (.invokestatic 61, 3) := dk_184 0 61 (dk_at dksX4_takesOut_1 6 rfl rfl)
theorem dX4_takesOut_33 : decode cX4_takesOut 33 = .ok (.if_icmp .ge 23, 3) := dk_162 0 23 (dk_at dksX4_takesOut_1 9 rfl rfl)
theorem dX4_takesOut_36 : decode cX4_takesOut 36 = .ok (.aload_n 0, 1) := dk_42 (dk_at dksX4_takesOut_1 12 rfl rfl)
theorem dX4_takesOut_37 : decode cX4_takesOut 37 = .ok (.getfield 7, 3) := dk_180 0 7 (dk_at dksX4_takesOut_1 13 rfl rfl)
theorem dX4_takesOut_40 : decode cX4_takesOut 40 = .ok (.iload_n 3, 1) := dk_29 (dk_at dksX4_takesOut_1 16 rfl rfl)
theorem dX4_takesOut_41 : decode cX4_takesOut 41 = .ok (.aload_n 0, 1) := dk_42 (dk_at dksX4_takesOut_1 17 rfl rfl)
theorem dX4_takesOut_42 : decode cX4_takesOut 42 = .ok (.getfield 7, 3) := dk_180 0 7 (dk_at dksX4_takesOut_1 18 rfl rfl)
theorem dX4_takesOut_45 : decode cX4_takesOut 45 = .ok (.iload_n 3, 1) := dk_29 (dk_at dksX4_takesOut_1 21 rfl rfl)
theorem dX4_takesOut_46 : decode cX4_takesOut 46 = .ok (.iconst 5, 1) := dk_8 (dk_at dksX4_takesOut_1 22 rfl rfl)
theorem dX4_takesOut_47 : decode cX4_takesOut 47 = .ok (.iadd, 1) := dk_96 (dk_at dksX4_takesOut_1 23 rfl rfl)
theorem dX4_takesOut_48 : decode cX4_takesOut 48 = .ok (.iaload, 1) := dk_46 (dk_at dksX4_takesOut_2 0 rfl rfl)
theorem dX4_takesOut_49 : decode cX4_takesOut 49 = .ok (.iastore, 1) := dk_79 (dk_at dksX4_takesOut_2 1 rfl rfl)
theorem dX4_takesOut_50 : decode cX4_takesOut 50 = .ok (.iinc 3 1, 3) := dk_132 3 1 (dk_at dksX4_takesOut_2 2 rfl rfl)
theorem dX4_takesOut_53 : decode cX4_takesOut 53 = .ok (.goto (-32), 3) := dk_167 255 224 (dk_at dksX4_takesOut_2 5 rfl rfl)
theorem dX4_takesOut_56 : decode cX4_takesOut 56 = .ok (.return_, 1) := dk_177 (dk_at dksX4_takesOut_2 8 rfl rfl)
abbrev cX4_moveEntry : ByteArray := prog_14_method_50_code
def yX4_moveEntry : MethodName := ⟨RX4, "moveEntry", "(III)I"⟩
def dkwX4_moveEntry_2 : List UInt8 := [182, 0, 115, 42, 27, 29, 182, 0, 134, 42, 182, 0, 137, 172]
abbrev dktX4_moveEntry_2 : List UInt8 := dkwX4_moveEntry_2 ++ []
def dkwX4_moveEntry_1 : List UInt8 := [4, 182, 0, 76, 172, 42, 182, 0, 79, 42, 182, 0, 128, 42, 27, 28, 182, 0, 131, 42, 27, 28]
abbrev dktX4_moveEntry_1 : List UInt8 := dkwX4_moveEntry_1 ++ dktX4_moveEntry_2
def dkwX4_moveEntry_0 : List UInt8 := [42, 3, 181, 0, 39, 42, 27, 28, 182, 0, 112, 153, 0, 12, 42, 27, 29, 182, 0, 112, 154, 0, 9, 42]
abbrev dktX4_moveEntry_0 : List UInt8 := dkwX4_moveEntry_0 ++ dktX4_moveEntry_1
theorem dksX4_moveEntry_0 : cX4_moveEntry.data.toList.drop 0 = dktX4_moveEntry_0 := by decide +kernel
theorem dksX4_moveEntry_1 : cX4_moveEntry.data.toList.drop 24 = dktX4_moveEntry_1 := dk_seg dksX4_moveEntry_0 24 rfl rfl
theorem dksX4_moveEntry_2 : cX4_moveEntry.data.toList.drop 46 = dktX4_moveEntry_2 := dk_seg dksX4_moveEntry_1 22 rfl rfl
theorem dX4_moveEntry_0 : decode cX4_moveEntry 0 = .ok (.aload_n 0, 1) := dk_42 (dk_at dksX4_moveEntry_0 0 rfl rfl)
theorem dX4_moveEntry_1 : decode cX4_moveEntry 1 = .ok (.iconst 0, 1) := dk_3 (dk_at dksX4_moveEntry_0 1 rfl rfl)
theorem dX4_moveEntry_2 : decode cX4_moveEntry 2 = .ok (.putfield 39, 3) := dk_181 0 39 (dk_at dksX4_moveEntry_0 2 rfl rfl)
theorem dX4_moveEntry_5 : decode cX4_moveEntry 5 = .ok (.aload_n 0, 1) := dk_42 (dk_at dksX4_moveEntry_0 5 rfl rfl)
theorem dX4_moveEntry_6 : decode cX4_moveEntry 6 = .ok (.iload_n 1, 1) := dk_27 (dk_at dksX4_moveEntry_0 6 rfl rfl)
theorem dX4_moveEntry_7 : decode cX4_moveEntry 7 = .ok (.iload_n 2, 1) := dk_28 (dk_at dksX4_moveEntry_0 7 rfl rfl)
theorem dX4_moveEntry_8 : decode cX4_moveEntry 8 = .ok (.invokevirtual 112, 3) := dk_182 0 112 (dk_at dksX4_moveEntry_0 8 rfl rfl)
theorem dX4_moveEntry_11 : decode cX4_moveEntry 11 = .ok (.ifCond .eq 12, 3) := dk_153 0 12 (dk_at dksX4_moveEntry_0 11 rfl rfl)
theorem dX4_moveEntry_14 : decode cX4_moveEntry 14 = .ok (.aload_n 0, 1) := dk_42 (dk_at dksX4_moveEntry_0 14 rfl rfl)
theorem dX4_moveEntry_15 : decode cX4_moveEntry 15 = .ok (.iload_n 1, 1) := dk_27 (dk_at dksX4_moveEntry_0 15 rfl rfl)
theorem dX4_moveEntry_16 : decode cX4_moveEntry 16 = .ok (.iload_n 3, 1) := dk_29 (dk_at dksX4_moveEntry_0 16 rfl rfl)
theorem dX4_moveEntry_17 : decode cX4_moveEntry 17 = .ok (.invokevirtual 112, 3) := dk_182 0 112 (dk_at dksX4_moveEntry_0 17 rfl rfl)
theorem dX4_moveEntry_20 : decode cX4_moveEntry 20 = .ok (.ifCond .ne 9, 3) := dk_154 0 9 (dk_at dksX4_moveEntry_0 20 rfl rfl)
theorem dX4_moveEntry_23 : decode cX4_moveEntry 23 = .ok (.aload_n 0, 1) := dk_42 (dk_at dksX4_moveEntry_0 23 rfl rfl)
theorem dX4_moveEntry_24 : decode cX4_moveEntry 24 = .ok (.iconst 1, 1) := dk_4 (dk_at dksX4_moveEntry_1 0 rfl rfl)
theorem dX4_moveEntry_25 : decode cX4_moveEntry 25 = .ok (.invokevirtual 76, 3) := dk_182 0 76 (dk_at dksX4_moveEntry_1 1 rfl rfl)
theorem dX4_moveEntry_28 : decode cX4_moveEntry 28 = .ok (.ireturn, 1) := dk_172 (dk_at dksX4_moveEntry_1 4 rfl rfl)
theorem dX4_moveEntry_29 : decode cX4_moveEntry 29 = .ok (.aload_n 0, 1) := dk_42 (dk_at dksX4_moveEntry_1 5 rfl rfl)
theorem dX4_moveEntry_30 : decode cX4_moveEntry 30 = .ok (.invokevirtual 79, 3) := dk_182 0 79 (dk_at dksX4_moveEntry_1 6 rfl rfl)
theorem dX4_moveEntry_33 : decode cX4_moveEntry 33 = .ok (.aload_n 0, 1) := dk_42 (dk_at dksX4_moveEntry_1 9 rfl rfl)
theorem dX4_moveEntry_34 : decode cX4_moveEntry 34 = .ok (.invokevirtual 128, 3) := dk_182 0 128 (dk_at dksX4_moveEntry_1 10 rfl rfl)
theorem dX4_moveEntry_37 : decode cX4_moveEntry 37 = .ok (.aload_n 0, 1) := dk_42 (dk_at dksX4_moveEntry_1 13 rfl rfl)
theorem dX4_moveEntry_38 : decode cX4_moveEntry 38 = .ok (.iload_n 1, 1) := dk_27 (dk_at dksX4_moveEntry_1 14 rfl rfl)
theorem dX4_moveEntry_39 : decode cX4_moveEntry 39 = .ok (.iload_n 2, 1) := dk_28 (dk_at dksX4_moveEntry_1 15 rfl rfl)
theorem dX4_moveEntry_40 : decode cX4_moveEntry 40 = .ok (.invokevirtual 131, 3) := dk_182 0 131 (dk_at dksX4_moveEntry_1 16 rfl rfl)
theorem dX4_moveEntry_43 : decode cX4_moveEntry 43 = .ok (.aload_n 0, 1) := dk_42 (dk_at dksX4_moveEntry_1 19 rfl rfl)
theorem dX4_moveEntry_44 : decode cX4_moveEntry 44 = .ok (.iload_n 1, 1) := dk_27 (dk_at dksX4_moveEntry_1 20 rfl rfl)
theorem dX4_moveEntry_45 : decode cX4_moveEntry 45 = .ok (.iload_n 2, 1) := dk_28 (dk_at dksX4_moveEntry_1 21 rfl rfl)
theorem dX4_moveEntry_46 : decode cX4_moveEntry 46 = .ok (.invokevirtual 115, 3) := dk_182 0 115 (dk_at dksX4_moveEntry_2 0 rfl rfl)
theorem dX4_moveEntry_49 : decode cX4_moveEntry 49 = .ok (.aload_n 0, 1) := dk_42 (dk_at dksX4_moveEntry_2 3 rfl rfl)
theorem dX4_moveEntry_50 : decode cX4_moveEntry 50 = .ok (.iload_n 1, 1) := dk_27 (dk_at dksX4_moveEntry_2 4 rfl rfl)
theorem dX4_moveEntry_51 : decode cX4_moveEntry 51 = .ok (.iload_n 3, 1) := dk_29 (dk_at dksX4_moveEntry_2 5 rfl rfl)
theorem dX4_moveEntry_52 : decode cX4_moveEntry 52 = .ok (.invokevirtual 134, 3) := dk_182 0 134 (dk_at dksX4_moveEntry_2 6 rfl rfl)
theorem dX4_moveEntry_55 : decode cX4_moveEntry 55 = .ok (.aload_n 0, 1) := dk_42 (dk_at dksX4_moveEntry_2 9 rfl rfl)
theorem dX4_moveEntry_56 : decode cX4_moveEntry 56 = .ok (.invokevirtual 137, 3) := dk_182 0 137 (dk_at dksX4_moveEntry_2 10 rfl rfl)
theorem dX4_moveEntry_59 : decode cX4_moveEntry 59 = .ok (.ireturn, 1) := dk_172 (dk_at dksX4_moveEntry_2 13 rfl rfl)
abbrev cX4_notes : ByteArray := prog_14_method_46_code
def yX4_notes : MethodName := ⟨RX4, "notes", "()V"⟩
def dkwX4_notes_2 : List UInt8 := [182, 0, 119, 167, 0, 4, 3, 79, 132, 1, 1, 167, 255, 200, 177]
abbrev dktX4_notes_2 : List UInt8 := dkwX4_notes_2 ++ []
def dkwX4_notes_1 : List UInt8 := [162, 0, 29, 42, 27, 16, 20, 112, 182, 0, 57, 153, 0, 18, 42, 27, 16, 20, 108, 27, 16, 20, 112]
abbrev dktX4_notes_1 : List UInt8 := dkwX4_notes_1 ++ dktX4_notes_2
def dkwX4_notes_0 : List UInt8 := [3, 60, 27, 17, 0, 240, 162, 0, 55, 42, 180, 0, 26, 27, 27, 16, 20, 108, 42, 180, 0, 7, 3, 46]
abbrev dktX4_notes_0 : List UInt8 := dkwX4_notes_0 ++ dktX4_notes_1
theorem dksX4_notes_0 : cX4_notes.data.toList.drop 0 = dktX4_notes_0 := by decide +kernel
theorem dksX4_notes_1 : cX4_notes.data.toList.drop 24 = dktX4_notes_1 := dk_seg dksX4_notes_0 24 rfl rfl
theorem dksX4_notes_2 : cX4_notes.data.toList.drop 47 = dktX4_notes_2 := dk_seg dksX4_notes_1 23 rfl rfl
theorem dX4_notes_0 : decode cX4_notes 0 = .ok (.iconst 0, 1) := dk_3 (dk_at dksX4_notes_0 0 rfl rfl)
theorem dX4_notes_1 : decode cX4_notes 1 = .ok (.istore_n 1, 1) := dk_60 (dk_at dksX4_notes_0 1 rfl rfl)
theorem dX4_notes_2 : decode cX4_notes 2 = .ok (.iload_n 1, 1) := dk_27 (dk_at dksX4_notes_0 2 rfl rfl)
theorem dX4_notes_3 : decode cX4_notes 3 = .ok (.sipush 240, 3) := dk_17 0 240 (dk_at dksX4_notes_0 3 rfl rfl)
theorem dX4_notes_6 : decode cX4_notes 6 = .ok (.if_icmp .ge 55, 3) := dk_162 0 55 (dk_at dksX4_notes_0 6 rfl rfl)
theorem dX4_notes_9 : decode cX4_notes 9 = .ok (.aload_n 0, 1) := dk_42 (dk_at dksX4_notes_0 9 rfl rfl)
theorem dX4_notes_10 : decode cX4_notes 10 = .ok (.getfield 26, 3) := dk_180 0 26 (dk_at dksX4_notes_0 10 rfl rfl)
theorem dX4_notes_13 : decode cX4_notes 13 = .ok (.iload_n 1, 1) := dk_27 (dk_at dksX4_notes_0 13 rfl rfl)
theorem dX4_notes_14 : decode cX4_notes 14 = .ok (.iload_n 1, 1) := dk_27 (dk_at dksX4_notes_0 14 rfl rfl)
theorem dX4_notes_15 : decode cX4_notes 15 = .ok (.bipush 20, 2) := dk_16 20 (dk_at dksX4_notes_0 15 rfl rfl)
theorem dX4_notes_17 : decode cX4_notes 17 = .ok (.idiv, 1) := dk_108 (dk_at dksX4_notes_0 17 rfl rfl)
theorem dX4_notes_18 : decode cX4_notes 18 = .ok (.aload_n 0, 1) := dk_42 (dk_at dksX4_notes_0 18 rfl rfl)
theorem dX4_notes_19 : decode cX4_notes 19 = .ok (.getfield 7, 3) := dk_180 0 7 (dk_at dksX4_notes_0 19 rfl rfl)
theorem dX4_notes_22 : decode cX4_notes 22 = .ok (.iconst 0, 1) := dk_3 (dk_at dksX4_notes_0 22 rfl rfl)
theorem dX4_notes_23 : decode cX4_notes 23 = .ok (.iaload, 1) := dk_46 (dk_at dksX4_notes_0 23 rfl rfl)
theorem dX4_notes_24 : decode cX4_notes 24 = .ok (.if_icmp .ge 29, 3) := dk_162 0 29 (dk_at dksX4_notes_1 0 rfl rfl)
theorem dX4_notes_27 : decode cX4_notes 27 = .ok (.aload_n 0, 1) := dk_42 (dk_at dksX4_notes_1 3 rfl rfl)
theorem dX4_notes_28 : decode cX4_notes 28 = .ok (.iload_n 1, 1) := dk_27 (dk_at dksX4_notes_1 4 rfl rfl)
theorem dX4_notes_29 : decode cX4_notes 29 = .ok (.bipush 20, 2) := dk_16 20 (dk_at dksX4_notes_1 5 rfl rfl)
theorem dX4_notes_31 : decode cX4_notes 31 = .ok (.irem, 1) := dk_112 (dk_at dksX4_notes_1 7 rfl rfl)
theorem dX4_notes_32 : decode cX4_notes 32 = .ok (.invokevirtual 57, 3) := dk_182 0 57 (dk_at dksX4_notes_1 8 rfl rfl)
theorem dX4_notes_35 : decode cX4_notes 35 = .ok (.ifCond .eq 18, 3) := dk_153 0 18 (dk_at dksX4_notes_1 11 rfl rfl)
theorem dX4_notes_38 : decode cX4_notes 38 = .ok (.aload_n 0, 1) := dk_42 (dk_at dksX4_notes_1 14 rfl rfl)
theorem dX4_notes_39 : decode cX4_notes 39 = .ok (.iload_n 1, 1) := dk_27 (dk_at dksX4_notes_1 15 rfl rfl)
theorem dX4_notes_40 : decode cX4_notes 40 = .ok (.bipush 20, 2) := dk_16 20 (dk_at dksX4_notes_1 16 rfl rfl)
theorem dX4_notes_42 : decode cX4_notes 42 = .ok (.idiv, 1) := dk_108 (dk_at dksX4_notes_1 18 rfl rfl)
theorem dX4_notes_43 : decode cX4_notes 43 = .ok (.iload_n 1, 1) := dk_27 (dk_at dksX4_notes_1 19 rfl rfl)
theorem dX4_notes_44 : decode cX4_notes 44 = .ok (.bipush 20, 2) := dk_16 20 (dk_at dksX4_notes_1 20 rfl rfl)
theorem dX4_notes_46 : decode cX4_notes 46 = .ok (.irem, 1) := dk_112 (dk_at dksX4_notes_1 22 rfl rfl)
theorem dX4_notes_47 : decode cX4_notes 47 = .ok (.invokevirtual 119, 3) := dk_182 0 119 (dk_at dksX4_notes_2 0 rfl rfl)
theorem dX4_notes_50 : decode cX4_notes 50 = .ok (.goto 4, 3) := dk_167 0 4 (dk_at dksX4_notes_2 3 rfl rfl)
theorem dX4_notes_53 : decode cX4_notes 53 = .ok (.iconst 0, 1) := dk_3 (dk_at dksX4_notes_2 6 rfl rfl)
theorem dX4_notes_54 : decode cX4_notes 54 = .ok (.iastore, 1) := dk_79 (dk_at dksX4_notes_2 7 rfl rfl)
theorem dX4_notes_55 : decode cX4_notes 55 = .ok (.iinc 1 1, 3) := dk_132 1 1 (dk_at dksX4_notes_2 8 rfl rfl)
theorem dX4_notes_58 : decode cX4_notes 58 = .ok (.goto (-56), 3) := dk_167 255 200 (dk_at dksX4_notes_2 11 rfl rfl)
theorem dX4_notes_61 : decode cX4_notes 61 = .ok (.return_, 1) := dk_177 (dk_at dksX4_notes_2 14 rfl rfl)
abbrev cX4_rights : ByteArray := prog_14_method_55_code
def yX4_rights : MethodName := ⟨RX4, "rights", "(II)I"⟩
def dkwX4_rights_1 : List UInt8 := [21, 4, 120, 167, 0, 4, 3, 128, 62, 132, 4, 1, 167, 255, 225, 29, 172]
abbrev dktX4_rights_1 : List UInt8 := dkwX4_rights_1 ++ []
def dkwX4_rights_0 : List UInt8 := [3, 62, 3, 54, 4, 21, 4, 6, 163, 0, 31, 29, 42, 27, 28, 21, 4, 182, 0, 150, 153, 0, 10, 4]
abbrev dktX4_rights_0 : List UInt8 := dkwX4_rights_0 ++ dktX4_rights_1
theorem dksX4_rights_0 : cX4_rights.data.toList.drop 0 = dktX4_rights_0 := by decide +kernel
theorem dksX4_rights_1 : cX4_rights.data.toList.drop 24 = dktX4_rights_1 := dk_seg dksX4_rights_0 24 rfl rfl
theorem dX4_rights_0 : decode cX4_rights 0 = .ok (.iconst 0, 1) := dk_3 (dk_at dksX4_rights_0 0 rfl rfl)
theorem dX4_rights_1 : decode cX4_rights 1 = .ok (.istore_n 3, 1) := dk_62 (dk_at dksX4_rights_0 1 rfl rfl)
theorem dX4_rights_2 : decode cX4_rights 2 = .ok (.iconst 0, 1) := dk_3 (dk_at dksX4_rights_0 2 rfl rfl)
theorem dX4_rights_3 : decode cX4_rights 3 = .ok (.istore 4, 2) := dk_54 4 (dk_at dksX4_rights_0 3 rfl rfl)
theorem dX4_rights_5 : decode cX4_rights 5 = .ok (.iload 4, 2) := dk_21 4 (dk_at dksX4_rights_0 5 rfl rfl)
theorem dX4_rights_7 : decode cX4_rights 7 = .ok (.iconst 3, 1) := dk_6 (dk_at dksX4_rights_0 7 rfl rfl)
theorem dX4_rights_8 : decode cX4_rights 8 = .ok (.if_icmp .gt 31, 3) := dk_163 0 31 (dk_at dksX4_rights_0 8 rfl rfl)
theorem dX4_rights_11 : decode cX4_rights 11 = .ok (.iload_n 3, 1) := dk_29 (dk_at dksX4_rights_0 11 rfl rfl)
theorem dX4_rights_12 : decode cX4_rights 12 = .ok (.aload_n 0, 1) := dk_42 (dk_at dksX4_rights_0 12 rfl rfl)
theorem dX4_rights_13 : decode cX4_rights 13 = .ok (.iload_n 1, 1) := dk_27 (dk_at dksX4_rights_0 13 rfl rfl)
theorem dX4_rights_14 : decode cX4_rights 14 = .ok (.iload_n 2, 1) := dk_28 (dk_at dksX4_rights_0 14 rfl rfl)
theorem dX4_rights_15 : decode cX4_rights 15 = .ok (.iload 4, 2) := dk_21 4 (dk_at dksX4_rights_0 15 rfl rfl)
theorem dX4_rights_17 : decode cX4_rights 17 = .ok (.invokevirtual 150, 3) := dk_182 0 150 (dk_at dksX4_rights_0 17 rfl rfl)
theorem dX4_rights_20 : decode cX4_rights 20 = .ok (.ifCond .eq 10, 3) := dk_153 0 10 (dk_at dksX4_rights_0 20 rfl rfl)
theorem dX4_rights_23 : decode cX4_rights 23 = .ok (.iconst 1, 1) := dk_4 (dk_at dksX4_rights_0 23 rfl rfl)
theorem dX4_rights_24 : decode cX4_rights 24 = .ok (.iload 4, 2) := dk_21 4 (dk_at dksX4_rights_1 0 rfl rfl)
theorem dX4_rights_26 : decode cX4_rights 26 = .ok (.ishl, 1) := dk_120 (dk_at dksX4_rights_1 2 rfl rfl)
theorem dX4_rights_27 : decode cX4_rights 27 = .ok (.goto 4, 3) := dk_167 0 4 (dk_at dksX4_rights_1 3 rfl rfl)
theorem dX4_rights_30 : decode cX4_rights 30 = .ok (.iconst 0, 1) := dk_3 (dk_at dksX4_rights_1 6 rfl rfl)
theorem dX4_rights_31 : decode cX4_rights 31 = .ok (.ior, 1) := dk_128 (dk_at dksX4_rights_1 7 rfl rfl)
theorem dX4_rights_32 : decode cX4_rights 32 = .ok (.istore_n 3, 1) := dk_62 (dk_at dksX4_rights_1 8 rfl rfl)
theorem dX4_rights_33 : decode cX4_rights 33 = .ok (.iinc 4 1, 3) := dk_132 4 1 (dk_at dksX4_rights_1 9 rfl rfl)
theorem dX4_rights_36 : decode cX4_rights 36 = .ok (.goto (-31), 3) := dk_167 255 225 (dk_at dksX4_rights_1 12 rfl rfl)
theorem dX4_rights_39 : decode cX4_rights 39 = .ok (.iload_n 3, 1) := dk_29 (dk_at dksX4_rights_1 15 rfl rfl)
theorem dX4_rights_40 : decode cX4_rights 40 = .ok (.ireturn, 1) := dk_172 (dk_at dksX4_rights_1 16 rfl rfl)
abbrev cX4_allows : ByteArray := prog_14_method_54_code
def yX4_allows : MethodName := ⟨RX4, "allows", "(III)Z"⟩
def dkwX4_allows_2 : List UInt8 := [3, 172]
abbrev dktX4_allows_2 : List UInt8 := dkwX4_allows_2 ++ []
def dkwX4_allows_1 : List UInt8 := [182, 0, 54, 29, 184, 0, 65, 153, 0, 17, 42, 27, 28, 29, 182, 0, 147, 153, 0, 7, 4, 167, 0, 4]
abbrev dktX4_allows_1 : List UInt8 := dkwX4_allows_1 ++ dktX4_allows_2
def dkwX4_allows_0 : List UInt8 := [27, 153, 0, 41, 29, 6, 160, 0, 13, 42, 28, 5, 182, 0, 54, 27, 159, 0, 26, 42, 28, 6]
abbrev dktX4_allows_0 : List UInt8 := dkwX4_allows_0 ++ dktX4_allows_1
theorem dksX4_allows_0 : cX4_allows.data.toList.drop 0 = dktX4_allows_0 := by decide +kernel
theorem dksX4_allows_1 : cX4_allows.data.toList.drop 22 = dktX4_allows_1 := dk_seg dksX4_allows_0 22 rfl rfl
theorem dksX4_allows_2 : cX4_allows.data.toList.drop 46 = dktX4_allows_2 := dk_seg dksX4_allows_1 24 rfl rfl
theorem dX4_allows_0 : decode cX4_allows 0 = .ok (.iload_n 1, 1) := dk_27 (dk_at dksX4_allows_0 0 rfl rfl)
theorem dX4_allows_1 : decode cX4_allows 1 = .ok (.ifCond .eq 41, 3) := dk_153 0 41 (dk_at dksX4_allows_0 1 rfl rfl)
theorem dX4_allows_4 : decode cX4_allows 4 = .ok (.iload_n 3, 1) := dk_29 (dk_at dksX4_allows_0 4 rfl rfl)
theorem dX4_allows_5 : decode cX4_allows 5 = .ok (.iconst 3, 1) := dk_6 (dk_at dksX4_allows_0 5 rfl rfl)
theorem dX4_allows_6 : decode cX4_allows 6 = .ok (.if_icmp .ne 13, 3) := dk_160 0 13 (dk_at dksX4_allows_0 6 rfl rfl)
theorem dX4_allows_9 : decode cX4_allows 9 = .ok (.aload_n 0, 1) := dk_42 (dk_at dksX4_allows_0 9 rfl rfl)
theorem dX4_allows_10 : decode cX4_allows 10 = .ok (.iload_n 2, 1) := dk_28 (dk_at dksX4_allows_0 10 rfl rfl)
theorem dX4_allows_11 : decode cX4_allows 11 = .ok (.iconst 2, 1) := dk_5 (dk_at dksX4_allows_0 11 rfl rfl)
theorem dX4_allows_12 : decode cX4_allows 12 = .ok (.invokevirtual 54, 3) := dk_182 0 54 (dk_at dksX4_allows_0 12 rfl rfl)
theorem dX4_allows_15 : decode cX4_allows 15 = .ok (.iload_n 1, 1) := dk_27 (dk_at dksX4_allows_0 15 rfl rfl)
theorem dX4_allows_16 : decode cX4_allows 16 = .ok (.if_icmp .eq 26, 3) := dk_159 0 26 (dk_at dksX4_allows_0 16 rfl rfl)
theorem dX4_allows_19 : decode cX4_allows 19 = .ok (.aload_n 0, 1) := dk_42 (dk_at dksX4_allows_0 19 rfl rfl)
theorem dX4_allows_20 : decode cX4_allows 20 = .ok (.iload_n 2, 1) := dk_28 (dk_at dksX4_allows_0 20 rfl rfl)
theorem dX4_allows_21 : decode cX4_allows 21 = .ok (.iconst 3, 1) := dk_6 (dk_at dksX4_allows_0 21 rfl rfl)
theorem dX4_allows_22 : decode cX4_allows 22 = .ok (.invokevirtual 54, 3) := dk_182 0 54 (dk_at dksX4_allows_1 0 rfl rfl)
theorem dX4_allows_25 : decode cX4_allows 25 = .ok (.iload_n 3, 1) := dk_29 (dk_at dksX4_allows_1 3 rfl rfl)
theorem dX4_allows_26 : decode cX4_allows 26 = .ok (.invokestatic 65, 3) := dk_184 0 65 (dk_at dksX4_allows_1 4 rfl rfl)
theorem dX4_allows_29 : decode cX4_allows 29 = .ok (.ifCond .eq 17, 3) := dk_153 0 17 (dk_at dksX4_allows_1 7 rfl rfl)
theorem dX4_allows_32 : decode cX4_allows 32 = .ok (.aload_n 0, 1) := dk_42 (dk_at dksX4_allows_1 10 rfl rfl)
theorem dX4_allows_33 : decode cX4_allows 33 = .ok (.iload_n 1, 1) := dk_27 (dk_at dksX4_allows_1 11 rfl rfl)
theorem dX4_allows_34 : decode cX4_allows 34 = .ok (.iload_n 2, 1) := dk_28 (dk_at dksX4_allows_1 12 rfl rfl)
theorem dX4_allows_35 : decode cX4_allows 35 = .ok (.iload_n 3, 1) := dk_29 (dk_at dksX4_allows_1 13 rfl rfl)
theorem dX4_allows_36 : decode cX4_allows 36 = .ok (.invokevirtual 147, 3) := dk_182 0 147 (dk_at dksX4_allows_1 14 rfl rfl)
theorem dX4_allows_39 : decode cX4_allows 39 = .ok (.ifCond .eq 7, 3) := dk_153 0 7 (dk_at dksX4_allows_1 17 rfl rfl)
theorem dX4_allows_42 : decode cX4_allows 42 = .ok (.iconst 1, 1) := dk_4 (dk_at dksX4_allows_1 20 rfl rfl)
theorem dX4_allows_43 : decode cX4_allows 43 = .ok (.goto 4, 3) := dk_167 0 4 (dk_at dksX4_allows_1 21 rfl rfl)
theorem dX4_allows_46 : decode cX4_allows 46 = .ok (.iconst 0, 1) := dk_3 (dk_at dksX4_allows_2 0 rfl rfl)
theorem dX4_allows_47 : decode cX4_allows 47 = .ok (.ireturn, 1) := dk_172 (dk_at dksX4_allows_2 1 rfl rfl)
abbrev cX4_isByList : ByteArray := prog_14_method_53_code
def yX4_isByList : MethodName := ⟨RX4, "isByList", "(III)Z"⟩
def dkwX4_isByList_1 : List UInt8 := [112, 6, 182, 0, 122, 4, 160, 0, 7, 4, 167, 0, 4, 3, 172]
abbrev dktX4_isByList_1 : List UInt8 := dkwX4_isByList_1 ++ []
def dkwX4_isByList_0 : List UInt8 := [42, 27, 28, 29, 182, 0, 144, 54, 4, 21, 4, 155, 0, 26, 42, 21, 4, 16, 6, 108, 21, 4, 16, 6]
abbrev dktX4_isByList_0 : List UInt8 := dkwX4_isByList_0 ++ dktX4_isByList_1
theorem dksX4_isByList_0 : cX4_isByList.data.toList.drop 0 = dktX4_isByList_0 := by decide +kernel
theorem dksX4_isByList_1 : cX4_isByList.data.toList.drop 24 = dktX4_isByList_1 := dk_seg dksX4_isByList_0 24 rfl rfl
theorem dX4_isByList_0 : decode cX4_isByList 0 = .ok (.aload_n 0, 1) := dk_42 (dk_at dksX4_isByList_0 0 rfl rfl)
theorem dX4_isByList_1 : decode cX4_isByList 1 = .ok (.iload_n 1, 1) := dk_27 (dk_at dksX4_isByList_0 1 rfl rfl)
theorem dX4_isByList_2 : decode cX4_isByList 2 = .ok (.iload_n 2, 1) := dk_28 (dk_at dksX4_isByList_0 2 rfl rfl)
theorem dX4_isByList_3 : decode cX4_isByList 3 = .ok (.iload_n 3, 1) := dk_29 (dk_at dksX4_isByList_0 3 rfl rfl)
theorem dX4_isByList_4 : decode cX4_isByList 4 = .ok (.invokevirtual 144, 3) := dk_182 0 144 (dk_at dksX4_isByList_0 4 rfl rfl)
theorem dX4_isByList_7 : decode cX4_isByList 7 = .ok (.istore 4, 2) := dk_54 4 (dk_at dksX4_isByList_0 7 rfl rfl)
theorem dX4_isByList_9 : decode cX4_isByList 9 = .ok (.iload 4, 2) := dk_21 4 (dk_at dksX4_isByList_0 9 rfl rfl)
theorem dX4_isByList_11 : decode cX4_isByList 11 = .ok (.ifCond .lt 26, 3) := dk_155 0 26 (dk_at dksX4_isByList_0 11 rfl rfl)
theorem dX4_isByList_14 : decode cX4_isByList 14 = .ok (.aload_n 0, 1) := dk_42 (dk_at dksX4_isByList_0 14 rfl rfl)
theorem dX4_isByList_15 : decode cX4_isByList 15 = .ok (.iload 4, 2) := dk_21 4 (dk_at dksX4_isByList_0 15 rfl rfl)
theorem dX4_isByList_17 : decode cX4_isByList 17 = .ok (.bipush 6, 2) := dk_16 6 (dk_at dksX4_isByList_0 17 rfl rfl)
theorem dX4_isByList_19 : decode cX4_isByList 19 = .ok (.idiv, 1) := dk_108 (dk_at dksX4_isByList_0 19 rfl rfl)
theorem dX4_isByList_20 : decode cX4_isByList 20 = .ok (.iload 4, 2) := dk_21 4 (dk_at dksX4_isByList_0 20 rfl rfl)
theorem dX4_isByList_22 : decode cX4_isByList 22 = .ok (.bipush 6, 2) := dk_16 6 (dk_at dksX4_isByList_0 22 rfl rfl)
theorem dX4_isByList_24 : decode cX4_isByList 24 = .ok (.irem, 1) := dk_112 (dk_at dksX4_isByList_1 0 rfl rfl)
theorem dX4_isByList_25 : decode cX4_isByList 25 = .ok (.iconst 3, 1) := dk_6 (dk_at dksX4_isByList_1 1 rfl rfl)
theorem dX4_isByList_26 : decode cX4_isByList 26 = .ok (.invokevirtual 122, 3) := dk_182 0 122 (dk_at dksX4_isByList_1 2 rfl rfl)
theorem dX4_isByList_29 : decode cX4_isByList 29 = .ok (.iconst 1, 1) := dk_4 (dk_at dksX4_isByList_1 5 rfl rfl)
theorem dX4_isByList_30 : decode cX4_isByList 30 = .ok (.if_icmp .ne 7, 3) := dk_160 0 7 (dk_at dksX4_isByList_1 6 rfl rfl)
theorem dX4_isByList_33 : decode cX4_isByList 33 = .ok (.iconst 1, 1) := dk_4 (dk_at dksX4_isByList_1 9 rfl rfl)
theorem dX4_isByList_34 : decode cX4_isByList 34 = .ok (.goto 4, 3) := dk_167 0 4 (dk_at dksX4_isByList_1 10 rfl rfl)
theorem dX4_isByList_37 : decode cX4_isByList 37 = .ok (.iconst 0, 1) := dk_3 (dk_at dksX4_isByList_1 13 rfl rfl)
theorem dX4_isByList_38 : decode cX4_isByList 38 = .ok (.ireturn, 1) := dk_172 (dk_at dksX4_isByList_1 14 rfl rfl)
abbrev cX4_decides : ByteArray := prog_14_method_52_code
def yX4_decides : MethodName := ⟨RX4, "decides", "(III)I"⟩
def dkwX4_decides_5 : List UInt8 := [2, 54, 4, 167, 255, 137, 2, 172]
abbrev dktX4_decides_5 : List UInt8 := dkwX4_decides_5 ++ []
def dkwX4_decides_4 : List UInt8 := [167, 255, 172, 42, 21, 4, 7, 182, 0, 54, 4, 160, 0, 13, 42, 21, 4, 4, 182, 0, 54, 167, 0, 4]
abbrev dktX4_decides_4 : List UInt8 := dkwX4_decides_4 ++ dktX4_decides_5
def dkwX4_decides_3 : List UInt8 := [27, 28, 21, 4, 21, 5, 182, 0, 140, 153, 0, 12, 16, 6, 21, 4, 104, 21, 5, 96, 172, 132, 5, 1]
abbrev dktX4_decides_3 : List UInt8 := dkwX4_decides_3 ++ dktX4_decides_4
def dkwX4_decides_2 : List UInt8 := [54, 6, 21, 6, 153, 0, 41, 42, 21, 4, 21, 5, 5, 182, 0, 122, 29, 184, 0, 65, 153, 0, 25, 42]
abbrev dktX4_decides_2 : List UInt8 := dkwX4_decides_2 ++ dktX4_decides_3
def dkwX4_decides_1 : List UInt8 := [21, 4, 28, 159, 0, 16, 42, 21, 4, 21, 5, 7, 182, 0, 122, 4, 160, 0, 7, 4, 167, 0, 4, 3]
abbrev dktX4_decides_1 : List UInt8 := dkwX4_decides_1 ++ dktX4_decides_2
def dkwX4_decides_0 : List UInt8 := [28, 54, 4, 21, 4, 155, 0, 120, 3, 54, 5, 21, 5, 42, 21, 4, 8, 182, 0, 54, 162, 0, 78]
abbrev dktX4_decides_0 : List UInt8 := dkwX4_decides_0 ++ dktX4_decides_1
theorem dksX4_decides_0 : cX4_decides.data.toList.drop 0 = dktX4_decides_0 := by decide +kernel
theorem dksX4_decides_1 : cX4_decides.data.toList.drop 23 = dktX4_decides_1 := dk_seg dksX4_decides_0 23 rfl rfl
theorem dksX4_decides_2 : cX4_decides.data.toList.drop 47 = dktX4_decides_2 := dk_seg dksX4_decides_1 24 rfl rfl
theorem dksX4_decides_3 : cX4_decides.data.toList.drop 71 = dktX4_decides_3 := dk_seg dksX4_decides_2 24 rfl rfl
theorem dksX4_decides_4 : cX4_decides.data.toList.drop 95 = dktX4_decides_4 := dk_seg dksX4_decides_3 24 rfl rfl
theorem dksX4_decides_5 : cX4_decides.data.toList.drop 119 = dktX4_decides_5 := dk_seg dksX4_decides_4 24 rfl rfl
theorem dX4_decides_0 : decode cX4_decides 0 = .ok (.iload_n 2, 1) := dk_28 (dk_at dksX4_decides_0 0 rfl rfl)
theorem dX4_decides_1 : decode cX4_decides 1 = .ok (.istore 4, 2) := dk_54 4 (dk_at dksX4_decides_0 1 rfl rfl)
theorem dX4_decides_3 : decode cX4_decides 3 = .ok (.iload 4, 2) := dk_21 4 (dk_at dksX4_decides_0 3 rfl rfl)
theorem dX4_decides_5 : decode cX4_decides 5 = .ok (.ifCond .lt 120, 3) := dk_155 0 120 (dk_at dksX4_decides_0 5 rfl rfl)
theorem dX4_decides_8 : decode cX4_decides 8 = .ok (.iconst 0, 1) := dk_3 (dk_at dksX4_decides_0 8 rfl rfl)
theorem dX4_decides_9 : decode cX4_decides 9 = .ok (.istore 5, 2) := dk_54 5 (dk_at dksX4_decides_0 9 rfl rfl)
theorem dX4_decides_11 : decode cX4_decides 11 = .ok (.iload 5, 2) := dk_21 5 (dk_at dksX4_decides_0 11 rfl rfl)
theorem dX4_decides_13 : decode cX4_decides 13 = .ok (.aload_n 0, 1) := dk_42 (dk_at dksX4_decides_0 13 rfl rfl)
theorem dX4_decides_14 : decode cX4_decides 14 = .ok (.iload 4, 2) := dk_21 4 (dk_at dksX4_decides_0 14 rfl rfl)
theorem dX4_decides_16 : decode cX4_decides 16 = .ok (.iconst 5, 1) := dk_8 (dk_at dksX4_decides_0 16 rfl rfl)
theorem dX4_decides_17 : decode cX4_decides 17 = .ok (.invokevirtual 54, 3) := dk_182 0 54 (dk_at dksX4_decides_0 17 rfl rfl)
theorem dX4_decides_20 : decode cX4_decides 20 = .ok (.if_icmp .ge 78, 3) := dk_162 0 78 (dk_at dksX4_decides_0 20 rfl rfl)
theorem dX4_decides_23 : decode cX4_decides 23 = .ok (.iload 4, 2) := dk_21 4 (dk_at dksX4_decides_1 0 rfl rfl)
theorem dX4_decides_25 : decode cX4_decides 25 = .ok (.iload_n 2, 1) := dk_28 (dk_at dksX4_decides_1 2 rfl rfl)
theorem dX4_decides_26 : decode cX4_decides 26 = .ok (.if_icmp .eq 16, 3) := dk_159 0 16 (dk_at dksX4_decides_1 3 rfl rfl)
theorem dX4_decides_29 : decode cX4_decides 29 = .ok (.aload_n 0, 1) := dk_42 (dk_at dksX4_decides_1 6 rfl rfl)
theorem dX4_decides_30 : decode cX4_decides 30 = .ok (.iload 4, 2) := dk_21 4 (dk_at dksX4_decides_1 7 rfl rfl)
theorem dX4_decides_32 : decode cX4_decides 32 = .ok (.iload 5, 2) := dk_21 5 (dk_at dksX4_decides_1 9 rfl rfl)
theorem dX4_decides_34 : decode cX4_decides 34 = .ok (.iconst 4, 1) := dk_7 (dk_at dksX4_decides_1 11 rfl rfl)
theorem dX4_decides_35 : decode cX4_decides 35 = .ok (.invokevirtual 122, 3) := dk_182 0 122 (dk_at dksX4_decides_1 12 rfl rfl)
theorem dX4_decides_38 : decode cX4_decides 38 = .ok (.iconst 1, 1) := dk_4 (dk_at dksX4_decides_1 15 rfl rfl)
theorem dX4_decides_39 : decode cX4_decides 39 = .ok (.if_icmp .ne 7, 3) := dk_160 0 7 (dk_at dksX4_decides_1 16 rfl rfl)
theorem dX4_decides_42 : decode cX4_decides 42 = .ok (.iconst 1, 1) := dk_4 (dk_at dksX4_decides_1 19 rfl rfl)
theorem dX4_decides_43 : decode cX4_decides 43 = .ok (.goto 4, 3) := dk_167 0 4 (dk_at dksX4_decides_1 20 rfl rfl)
theorem dX4_decides_46 : decode cX4_decides 46 = .ok (.iconst 0, 1) := dk_3 (dk_at dksX4_decides_1 23 rfl rfl)
theorem dX4_decides_47 : decode cX4_decides 47 = .ok (.istore 6, 2) := dk_54 6 (dk_at dksX4_decides_2 0 rfl rfl)
theorem dX4_decides_49 : decode cX4_decides 49 = .ok (.iload 6, 2) := dk_21 6 (dk_at dksX4_decides_2 2 rfl rfl)
theorem dX4_decides_51 : decode cX4_decides 51 = .ok (.ifCond .eq 41, 3) := dk_153 0 41 (dk_at dksX4_decides_2 4 rfl rfl)
theorem dX4_decides_54 : decode cX4_decides 54 = .ok (.aload_n 0, 1) := dk_42 (dk_at dksX4_decides_2 7 rfl rfl)
theorem dX4_decides_55 : decode cX4_decides 55 = .ok (.iload 4, 2) := dk_21 4 (dk_at dksX4_decides_2 8 rfl rfl)
theorem dX4_decides_57 : decode cX4_decides 57 = .ok (.iload 5, 2) := dk_21 5 (dk_at dksX4_decides_2 10 rfl rfl)
theorem dX4_decides_59 : decode cX4_decides 59 = .ok (.iconst 2, 1) := dk_5 (dk_at dksX4_decides_2 12 rfl rfl)
theorem dX4_decides_60 : decode cX4_decides 60 = .ok (.invokevirtual 122, 3) := dk_182 0 122 (dk_at dksX4_decides_2 13 rfl rfl)
theorem dX4_decides_63 : decode cX4_decides 63 = .ok (.iload_n 3, 1) := dk_29 (dk_at dksX4_decides_2 16 rfl rfl)
theorem dX4_decides_64 : decode cX4_decides 64 = .ok (.invokestatic 65, 3) := dk_184 0 65 (dk_at dksX4_decides_2 17 rfl rfl)
theorem dX4_decides_67 : decode cX4_decides 67 = .ok (.ifCond .eq 25, 3) := dk_153 0 25 (dk_at dksX4_decides_2 20 rfl rfl)
theorem dX4_decides_70 : decode cX4_decides 70 = .ok (.aload_n 0, 1) := dk_42 (dk_at dksX4_decides_2 23 rfl rfl)
theorem dX4_decides_71 : decode cX4_decides 71 = .ok (.iload_n 1, 1) := dk_27 (dk_at dksX4_decides_3 0 rfl rfl)
theorem dX4_decides_72 : decode cX4_decides 72 = .ok (.iload_n 2, 1) := dk_28 (dk_at dksX4_decides_3 1 rfl rfl)
theorem dX4_decides_73 : decode cX4_decides 73 = .ok (.iload 4, 2) := dk_21 4 (dk_at dksX4_decides_3 2 rfl rfl)
theorem dX4_decides_75 : decode cX4_decides 75 = .ok (.iload 5, 2) := dk_21 5 (dk_at dksX4_decides_3 4 rfl rfl)
theorem dX4_decides_77 : decode cX4_decides 77 = .ok (.invokevirtual 140, 3) := dk_182 0 140 (dk_at dksX4_decides_3 6 rfl rfl)
theorem dX4_decides_80 : decode cX4_decides 80 = .ok (.ifCond .eq 12, 3) := dk_153 0 12 (dk_at dksX4_decides_3 9 rfl rfl)
theorem dX4_decides_83 : decode cX4_decides 83 = .ok (.bipush 6, 2) := dk_16 6 (dk_at dksX4_decides_3 12 rfl rfl)
theorem dX4_decides_85 : decode cX4_decides 85 = .ok (.iload 4, 2) := dk_21 4 (dk_at dksX4_decides_3 14 rfl rfl)
theorem dX4_decides_87 : decode cX4_decides 87 = .ok (.imul, 1) := dk_104 (dk_at dksX4_decides_3 16 rfl rfl)
theorem dX4_decides_88 : decode cX4_decides 88 = .ok (.iload 5, 2) := dk_21 5 (dk_at dksX4_decides_3 17 rfl rfl)
theorem dX4_decides_90 : decode cX4_decides 90 = .ok (.iadd, 1) := dk_96 (dk_at dksX4_decides_3 19 rfl rfl)
theorem dX4_decides_91 : decode cX4_decides 91 = .ok (.ireturn, 1) := dk_172 (dk_at dksX4_decides_3 20 rfl rfl)
theorem dX4_decides_92 : decode cX4_decides 92 = .ok (.iinc 5 1, 3) := dk_132 5 1 (dk_at dksX4_decides_3 21 rfl rfl)
theorem dX4_decides_95 : decode cX4_decides 95 = .ok (.goto (-84), 3) := dk_167 255 172 (dk_at dksX4_decides_4 0 rfl rfl)
theorem dX4_decides_98 : decode cX4_decides 98 = .ok (.aload_n 0, 1) := dk_42 (dk_at dksX4_decides_4 3 rfl rfl)
theorem dX4_decides_99 : decode cX4_decides 99 = .ok (.iload 4, 2) := dk_21 4 (dk_at dksX4_decides_4 4 rfl rfl)
theorem dX4_decides_101 : decode cX4_decides 101 = .ok (.iconst 4, 1) := dk_7 (dk_at dksX4_decides_4 6 rfl rfl)
theorem dX4_decides_102 : decode cX4_decides 102 = .ok (.invokevirtual 54, 3) := dk_182 0 54 (dk_at dksX4_decides_4 7 rfl rfl)
theorem dX4_decides_105 : decode cX4_decides 105 = .ok (.iconst 1, 1) := dk_4 (dk_at dksX4_decides_4 10 rfl rfl)
theorem dX4_decides_106 : decode cX4_decides 106 = .ok (.if_icmp .ne 13, 3) := dk_160 0 13 (dk_at dksX4_decides_4 11 rfl rfl)
theorem dX4_decides_109 : decode cX4_decides 109 = .ok (.aload_n 0, 1) := dk_42 (dk_at dksX4_decides_4 14 rfl rfl)
theorem dX4_decides_110 : decode cX4_decides 110 = .ok (.iload 4, 2) := dk_21 4 (dk_at dksX4_decides_4 15 rfl rfl)
theorem dX4_decides_112 : decode cX4_decides 112 = .ok (.iconst 1, 1) := dk_4 (dk_at dksX4_decides_4 17 rfl rfl)
theorem dX4_decides_113 : decode cX4_decides 113 = .ok (.invokevirtual 54, 3) := dk_182 0 54 (dk_at dksX4_decides_4 18 rfl rfl)
theorem dX4_decides_116 : decode cX4_decides 116 = .ok (.goto 4, 3) := dk_167 0 4 (dk_at dksX4_decides_4 21 rfl rfl)
theorem dX4_decides_119 : decode cX4_decides 119 = .ok (.iconst (-1), 1) := dk_2 (dk_at dksX4_decides_5 0 rfl rfl)
theorem dX4_decides_120 : decode cX4_decides 120 = .ok (.istore 4, 2) := dk_54 4 (dk_at dksX4_decides_5 1 rfl rfl)
theorem dX4_decides_122 : decode cX4_decides 122 = .ok (.goto (-119), 3) := dk_167 255 137 (dk_at dksX4_decides_5 3 rfl rfl)
theorem dX4_decides_125 : decode cX4_decides 125 = .ok (.iconst (-1), 1) := dk_2 (dk_at dksX4_decides_5 6 rfl rfl)
theorem dX4_decides_126 : decode cX4_decides 126 = .ok (.ireturn, 1) := dk_172 (dk_at dksX4_decides_5 7 rfl rfl)
abbrev cX4_ofEntry : ByteArray := prog_14_method_13_code
def yX4_ofEntry : MethodName := ⟨RX4, "ofEntry", "(III)I"⟩
def dkwX4_ofEntry_0 : List UInt8 := [42, 180, 0, 7, 27, 28, 29, 184, 0, 61, 46, 172]
abbrev dktX4_ofEntry_0 : List UInt8 := dkwX4_ofEntry_0 ++ []
theorem dksX4_ofEntry_0 : cX4_ofEntry.data.toList.drop 0 = dktX4_ofEntry_0 := by decide +kernel
theorem dX4_ofEntry_0 : decode cX4_ofEntry 0 = .ok (.aload_n 0, 1) := dk_42 (dk_at dksX4_ofEntry_0 0 rfl rfl)
theorem dX4_ofEntry_1 : decode cX4_ofEntry 1 = .ok (.getfield 7, 3) := dk_180 0 7 (dk_at dksX4_ofEntry_0 1 rfl rfl)
theorem dX4_ofEntry_4 : decode cX4_ofEntry 4 = .ok (.iload_n 1, 1) := dk_27 (dk_at dksX4_ofEntry_0 4 rfl rfl)
theorem dX4_ofEntry_5 : decode cX4_ofEntry 5 = .ok (.iload_n 2, 1) := dk_28 (dk_at dksX4_ofEntry_0 5 rfl rfl)
theorem dX4_ofEntry_6 : decode cX4_ofEntry 6 = .ok (.iload_n 3, 1) := dk_29 (dk_at dksX4_ofEntry_0 6 rfl rfl)
theorem dX4_ofEntry_7 : decode cX4_ofEntry 7 = .ok (.invokestatic 61, 3) := dk_184 0 61 (dk_at dksX4_ofEntry_0 7 rfl rfl)
theorem dX4_ofEntry_10 : decode cX4_ofEntry 10 = .ok (.iaload, 1) := dk_46 (dk_at dksX4_ofEntry_0 10 rfl rfl)
theorem dX4_ofEntry_11 : decode cX4_ofEntry 11 = .ok (.ireturn, 1) := dk_172 (dk_at dksX4_ofEntry_0 11 rfl rfl)
abbrev cX4_isFor : ByteArray := prog_14_method_51_code
def yX4_isFor : MethodName := ⟨RX4, "isFor", "(IIII)Z"⟩
def dkwX4_isFor_3 : List UInt8 := [182, 0, 54, 27, 160, 0, 7, 4, 167, 0, 4, 3, 172, 4, 172]
abbrev dktX4_isFor_3 : List UInt8 := dkwX4_isFor_3 ++ []
def dkwX4_isFor_2 : List UInt8 := [21, 5, 27, 160, 0, 7, 4, 167, 0, 4, 3, 172, 42, 27, 21, 5, 182, 0, 73, 172, 42, 28, 5]
abbrev dktX4_isFor_2 : List UInt8 := dkwX4_isFor_2 ++ dktX4_isFor_3
def dkwX4_isFor_1 : List UInt8 := [170, 0, 0, 0, 0, 62, 0, 0, 0, 0, 0, 0, 0, 2, 0, 0, 0, 26, 0, 0, 0, 38, 0, 0, 0, 46]
abbrev dktX4_isFor_1 : List UInt8 := dkwX4_isFor_1 ++ dktX4_isFor_2
def dkwX4_isFor_0 : List UInt8 := [42, 29, 21, 4, 4, 182, 0, 122, 54, 5, 42, 29, 21, 4, 3, 182, 0, 122]
abbrev dktX4_isFor_0 : List UInt8 := dkwX4_isFor_0 ++ dktX4_isFor_1
theorem dksX4_isFor_0 : cX4_isFor.data.toList.drop 0 = dktX4_isFor_0 := by decide +kernel
theorem dksX4_isFor_1 : cX4_isFor.data.toList.drop 18 = dktX4_isFor_1 := dk_seg dksX4_isFor_0 18 rfl rfl
theorem dksX4_isFor_2 : cX4_isFor.data.toList.drop 44 = dktX4_isFor_2 := dk_seg dksX4_isFor_1 26 rfl rfl
theorem dksX4_isFor_3 : cX4_isFor.data.toList.drop 67 = dktX4_isFor_3 := dk_seg dksX4_isFor_2 23 rfl rfl
theorem dX4_isFor_0 : decode cX4_isFor 0 = .ok (.aload_n 0, 1) := dk_42 (dk_at dksX4_isFor_0 0 rfl rfl)
theorem dX4_isFor_1 : decode cX4_isFor 1 = .ok (.iload_n 3, 1) := dk_29 (dk_at dksX4_isFor_0 1 rfl rfl)
theorem dX4_isFor_2 : decode cX4_isFor 2 = .ok (.iload 4, 2) := dk_21 4 (dk_at dksX4_isFor_0 2 rfl rfl)
theorem dX4_isFor_4 : decode cX4_isFor 4 = .ok (.iconst 1, 1) := dk_4 (dk_at dksX4_isFor_0 4 rfl rfl)
theorem dX4_isFor_5 : decode cX4_isFor 5 = .ok (.invokevirtual 122, 3) := dk_182 0 122 (dk_at dksX4_isFor_0 5 rfl rfl)
theorem dX4_isFor_8 : decode cX4_isFor 8 = .ok (.istore 5, 2) := dk_54 5 (dk_at dksX4_isFor_0 8 rfl rfl)
theorem dX4_isFor_10 : decode cX4_isFor 10 = .ok (.aload_n 0, 1) := dk_42 (dk_at dksX4_isFor_0 10 rfl rfl)
theorem dX4_isFor_11 : decode cX4_isFor 11 = .ok (.iload_n 3, 1) := dk_29 (dk_at dksX4_isFor_0 11 rfl rfl)
theorem dX4_isFor_12 : decode cX4_isFor 12 = .ok (.iload 4, 2) := dk_21 4 (dk_at dksX4_isFor_0 12 rfl rfl)
theorem dX4_isFor_14 : decode cX4_isFor 14 = .ok (.iconst 0, 1) := dk_3 (dk_at dksX4_isFor_0 14 rfl rfl)
theorem dX4_isFor_15 : decode cX4_isFor 15 = .ok (.invokevirtual 122, 3) := dk_182 0 122 (dk_at dksX4_isFor_0 15 rfl rfl)
theorem dX4_isFor_18 : decode cX4_isFor 18 = .ok (.tableswitch 62 0 2 #[26, 38, 46], 26) := by decide +kernel
theorem dX4_isFor_44 : decode cX4_isFor 44 = .ok (.iload 5, 2) := dk_21 5 (dk_at dksX4_isFor_2 0 rfl rfl)
theorem dX4_isFor_46 : decode cX4_isFor 46 = .ok (.iload_n 1, 1) := dk_27 (dk_at dksX4_isFor_2 2 rfl rfl)
theorem dX4_isFor_47 : decode cX4_isFor 47 = .ok (.if_icmp .ne 7, 3) := dk_160 0 7 (dk_at dksX4_isFor_2 3 rfl rfl)
theorem dX4_isFor_50 : decode cX4_isFor 50 = .ok (.iconst 1, 1) := dk_4 (dk_at dksX4_isFor_2 6 rfl rfl)
theorem dX4_isFor_51 : decode cX4_isFor 51 = .ok (.goto 4, 3) := dk_167 0 4 (dk_at dksX4_isFor_2 7 rfl rfl)
theorem dX4_isFor_54 : decode cX4_isFor 54 = .ok (.iconst 0, 1) := dk_3 (dk_at dksX4_isFor_2 10 rfl rfl)
theorem dX4_isFor_55 : decode cX4_isFor 55 = .ok (.ireturn, 1) := dk_172 (dk_at dksX4_isFor_2 11 rfl rfl)
theorem dX4_isFor_56 : decode cX4_isFor 56 = .ok (.aload_n 0, 1) := dk_42 (dk_at dksX4_isFor_2 12 rfl rfl)
theorem dX4_isFor_57 : decode cX4_isFor 57 = .ok (.iload_n 1, 1) := dk_27 (dk_at dksX4_isFor_2 13 rfl rfl)
theorem dX4_isFor_58 : decode cX4_isFor 58 = .ok (.iload 5, 2) := dk_21 5 (dk_at dksX4_isFor_2 14 rfl rfl)
theorem dX4_isFor_60 : decode cX4_isFor 60 = .ok (.invokevirtual 73, 3) := dk_182 0 73 (dk_at dksX4_isFor_2 16 rfl rfl)
theorem dX4_isFor_63 : decode cX4_isFor 63 = .ok (.ireturn, 1) := dk_172 (dk_at dksX4_isFor_2 19 rfl rfl)
theorem dX4_isFor_64 : decode cX4_isFor 64 = .ok (.aload_n 0, 1) := dk_42 (dk_at dksX4_isFor_2 20 rfl rfl)
theorem dX4_isFor_65 : decode cX4_isFor 65 = .ok (.iload_n 2, 1) := dk_28 (dk_at dksX4_isFor_2 21 rfl rfl)
theorem dX4_isFor_66 : decode cX4_isFor 66 = .ok (.iconst 2, 1) := dk_5 (dk_at dksX4_isFor_2 22 rfl rfl)
theorem dX4_isFor_67 : decode cX4_isFor 67 = .ok (.invokevirtual 54, 3) := dk_182 0 54 (dk_at dksX4_isFor_3 0 rfl rfl)
theorem dX4_isFor_70 : decode cX4_isFor 70 = .ok (.iload_n 1, 1) := dk_27 (dk_at dksX4_isFor_3 3 rfl rfl)
theorem dX4_isFor_71 : decode cX4_isFor 71 = .ok (.if_icmp .ne 7, 3) := dk_160 0 7 (dk_at dksX4_isFor_3 4 rfl rfl)
theorem dX4_isFor_74 : decode cX4_isFor 74 = .ok (.iconst 1, 1) := dk_4 (dk_at dksX4_isFor_3 7 rfl rfl)
theorem dX4_isFor_75 : decode cX4_isFor 75 = .ok (.goto 4, 3) := dk_167 0 4 (dk_at dksX4_isFor_3 8 rfl rfl)
theorem dX4_isFor_78 : decode cX4_isFor 78 = .ok (.iconst 0, 1) := dk_3 (dk_at dksX4_isFor_3 11 rfl rfl)
theorem dX4_isFor_79 : decode cX4_isFor 79 = .ok (.ireturn, 1) := dk_172 (dk_at dksX4_isFor_3 12 rfl rfl)
theorem dX4_isFor_80 : decode cX4_isFor 80 = .ok (.iconst 1, 1) := dk_4 (dk_at dksX4_isFor_3 13 rfl rfl)
theorem dX4_isFor_81 : decode cX4_isFor 81 = .ok (.ireturn, 1) := dk_172 (dk_at dksX4_isFor_3 14 rfl rfl)
abbrev cX4_keepsOne : ByteArray := prog_14_method_48_code
def yX4_keepsOne : MethodName := ⟨RX4, "keepsOne", "(II)V"⟩
def dkwX4_keepsOne_1 : List UInt8 := [167, 255, 235, 177]
abbrev dktX4_keepsOne_1 : List UInt8 := dkwX4_keepsOne_1 ++ []
def dkwX4_keepsOne_0 : List UInt8 := [3, 62, 29, 8, 162, 0, 22, 42, 180, 0, 29, 29, 42, 27, 28, 29, 182, 0, 122, 79, 132, 3, 1]
abbrev dktX4_keepsOne_0 : List UInt8 := dkwX4_keepsOne_0 ++ dktX4_keepsOne_1
theorem dksX4_keepsOne_0 : cX4_keepsOne.data.toList.drop 0 = dktX4_keepsOne_0 := by decide +kernel
theorem dksX4_keepsOne_1 : cX4_keepsOne.data.toList.drop 23 = dktX4_keepsOne_1 := dk_seg dksX4_keepsOne_0 23 rfl rfl
theorem dX4_keepsOne_0 : decode cX4_keepsOne 0 = .ok (.iconst 0, 1) := dk_3 (dk_at dksX4_keepsOne_0 0 rfl rfl)
theorem dX4_keepsOne_1 : decode cX4_keepsOne 1 = .ok (.istore_n 3, 1) := dk_62 (dk_at dksX4_keepsOne_0 1 rfl rfl)
theorem dX4_keepsOne_2 : decode cX4_keepsOne 2 = .ok (.iload_n 3, 1) := dk_29 (dk_at dksX4_keepsOne_0 2 rfl rfl)
theorem dX4_keepsOne_3 : decode cX4_keepsOne 3 = .ok (.iconst 5, 1) := dk_8 (dk_at dksX4_keepsOne_0 3 rfl rfl)
theorem dX4_keepsOne_4 : decode cX4_keepsOne 4 = .ok (.if_icmp .ge 22, 3) := dk_162 0 22 (dk_at dksX4_keepsOne_0 4 rfl rfl)
theorem dX4_keepsOne_7 : decode cX4_keepsOne 7 = .ok (.aload_n 0, 1) := dk_42 (dk_at dksX4_keepsOne_0 7 rfl rfl)
theorem dX4_keepsOne_8 : decode cX4_keepsOne 8 = .ok (.getfield 29, 3) := dk_180 0 29 (dk_at dksX4_keepsOne_0 8 rfl rfl)
theorem dX4_keepsOne_11 : decode cX4_keepsOne 11 = .ok (.iload_n 3, 1) := dk_29 (dk_at dksX4_keepsOne_0 11 rfl rfl)
theorem dX4_keepsOne_12 : decode cX4_keepsOne 12 = .ok (.aload_n 0, 1) := dk_42 (dk_at dksX4_keepsOne_0 12 rfl rfl)
theorem dX4_keepsOne_13 : decode cX4_keepsOne 13 = .ok (.iload_n 1, 1) := dk_27 (dk_at dksX4_keepsOne_0 13 rfl rfl)
theorem dX4_keepsOne_14 : decode cX4_keepsOne 14 = .ok (.iload_n 2, 1) := dk_28 (dk_at dksX4_keepsOne_0 14 rfl rfl)
theorem dX4_keepsOne_15 : decode cX4_keepsOne 15 = .ok (.iload_n 3, 1) := dk_29 (dk_at dksX4_keepsOne_0 15 rfl rfl)
theorem dX4_keepsOne_16 : decode cX4_keepsOne 16 = .ok (.invokevirtual 122, 3) := dk_182 0 122 (dk_at dksX4_keepsOne_0 16 rfl rfl)
theorem dX4_keepsOne_19 : decode cX4_keepsOne 19 = .ok (.iastore, 1) := dk_79 (dk_at dksX4_keepsOne_0 19 rfl rfl)
theorem dX4_keepsOne_20 : decode cX4_keepsOne 20 = .ok (.iinc 3 1, 3) := dk_132 3 1 (dk_at dksX4_keepsOne_0 20 rfl rfl)
theorem dX4_keepsOne_23 : decode cX4_keepsOne 23 = .ok (.goto (-21), 3) := dk_167 255 235 (dk_at dksX4_keepsOne_1 0 rfl rfl)
theorem dX4_keepsOne_26 : decode cX4_keepsOne 26 = .ok (.return_, 1) := dk_177 (dk_at dksX4_keepsOne_1 3 rfl rfl)
abbrev cX4_putsOne : ByteArray := prog_14_method_49_code
def yX4_putsOne : MethodName := ⟨RX4, "putsOne", "(II)V"⟩
def dkwX4_putsOne_1 : List UInt8 := [180, 0, 29, 29, 46, 79, 132, 3, 1, 167, 255, 231, 177]
abbrev dktX4_putsOne_1 : List UInt8 := dkwX4_putsOne_1 ++ []
def dkwX4_putsOne_0 : List UInt8 := [42, 27, 28, 182, 0, 125, 3, 62, 29, 8, 162, 0, 26, 42, 180, 0, 7, 27, 28, 29, 184, 0, 61, 42]
abbrev dktX4_putsOne_0 : List UInt8 := dkwX4_putsOne_0 ++ dktX4_putsOne_1
theorem dksX4_putsOne_0 : cX4_putsOne.data.toList.drop 0 = dktX4_putsOne_0 := by decide +kernel
theorem dksX4_putsOne_1 : cX4_putsOne.data.toList.drop 24 = dktX4_putsOne_1 := dk_seg dksX4_putsOne_0 24 rfl rfl
theorem dX4_putsOne_0 : decode cX4_putsOne 0 = .ok (.aload_n 0, 1) := dk_42 (dk_at dksX4_putsOne_0 0 rfl rfl)
theorem dX4_putsOne_1 : decode cX4_putsOne 1 = .ok (.iload_n 1, 1) := dk_27 (dk_at dksX4_putsOne_0 1 rfl rfl)
theorem dX4_putsOne_2 : decode cX4_putsOne 2 = .ok (.iload_n 2, 1) := dk_28 (dk_at dksX4_putsOne_0 2 rfl rfl)
theorem dX4_putsOne_3 : decode cX4_putsOne 3 = .ok (.invokevirtual 125, 3) := dk_182 0 125 (dk_at dksX4_putsOne_0 3 rfl rfl)
theorem dX4_putsOne_6 : decode cX4_putsOne 6 = .ok (.iconst 0, 1) := dk_3 (dk_at dksX4_putsOne_0 6 rfl rfl)
theorem dX4_putsOne_7 : decode cX4_putsOne 7 = .ok (.istore_n 3, 1) := dk_62 (dk_at dksX4_putsOne_0 7 rfl rfl)
theorem dX4_putsOne_8 : decode cX4_putsOne 8 = .ok (.iload_n 3, 1) := dk_29 (dk_at dksX4_putsOne_0 8 rfl rfl)
theorem dX4_putsOne_9 : decode cX4_putsOne 9 = .ok (.iconst 5, 1) := dk_8 (dk_at dksX4_putsOne_0 9 rfl rfl)
theorem dX4_putsOne_10 : decode cX4_putsOne 10 = .ok (.if_icmp .ge 26, 3) := dk_162 0 26 (dk_at dksX4_putsOne_0 10 rfl rfl)
theorem dX4_putsOne_13 : decode cX4_putsOne 13 = .ok (.aload_n 0, 1) := dk_42 (dk_at dksX4_putsOne_0 13 rfl rfl)
theorem dX4_putsOne_14 : decode cX4_putsOne 14 = .ok (.getfield 7, 3) := dk_180 0 7 (dk_at dksX4_putsOne_0 14 rfl rfl)
theorem dX4_putsOne_17 : decode cX4_putsOne 17 = .ok (.iload_n 1, 1) := dk_27 (dk_at dksX4_putsOne_0 17 rfl rfl)
theorem dX4_putsOne_18 : decode cX4_putsOne 18 = .ok (.iload_n 2, 1) := dk_28 (dk_at dksX4_putsOne_0 18 rfl rfl)
theorem dX4_putsOne_19 : decode cX4_putsOne 19 = .ok (.iload_n 3, 1) := dk_29 (dk_at dksX4_putsOne_0 19 rfl rfl)
theorem dX4_putsOne_20 : decode cX4_putsOne 20 = .ok (.invokestatic 61, 3) := dk_184 0 61 (dk_at dksX4_putsOne_0 20 rfl rfl)
theorem dX4_putsOne_23 : decode cX4_putsOne 23 = .ok (.aload_n 0, 1) := dk_42 (dk_at dksX4_putsOne_0 23 rfl rfl)
theorem dX4_putsOne_24 : decode cX4_putsOne 24 = .ok (.getfield 29, 3) := dk_180 0 29 (dk_at dksX4_putsOne_1 0 rfl rfl)
theorem dX4_putsOne_27 : decode cX4_putsOne 27 = .ok (.iload_n 3, 1) := dk_29 (dk_at dksX4_putsOne_1 3 rfl rfl)
theorem dX4_putsOne_28 : decode cX4_putsOne 28 = .ok (.iaload, 1) := dk_46 (dk_at dksX4_putsOne_1 4 rfl rfl)
theorem dX4_putsOne_29 : decode cX4_putsOne 29 = .ok (.iastore, 1) := dk_79 (dk_at dksX4_putsOne_1 5 rfl rfl)
theorem dX4_putsOne_30 : decode cX4_putsOne 30 = .ok (.iinc 3 1, 3) := dk_132 3 1 (dk_at dksX4_putsOne_1 6 rfl rfl)
theorem dX4_putsOne_33 : decode cX4_putsOne 33 = .ok (.goto (-25), 3) := dk_167 255 231 (dk_at dksX4_putsOne_1 9 rfl rfl)
theorem dX4_putsOne_36 : decode cX4_putsOne 36 = .ok (.return_, 1) := dk_177 (dk_at dksX4_putsOne_1 12 rfl rfl)
abbrev cX4_opens : ByteArray := prog_14_method_38_code
def yX4_opens : MethodName := ⟨RX4, "opens", "(II)V"⟩
def dkwX4_opens_2 : List UInt8 := [27, 8, 184, 0, 50, 92, 46, 4, 96, 79, 177]
abbrev dktX4_opens_2 : List UInt8 := dkwX4_opens_2 ++ []
def dkwX4_opens_1 : List UInt8 := [42, 180, 0, 7, 29, 42, 180, 0, 7, 29, 8, 100, 46, 79, 132, 3, 255, 167, 255, 227, 42, 180, 0, 7]
abbrev dktX4_opens_1 : List UInt8 := dkwX4_opens_1 ++ dktX4_opens_2
def dkwX4_opens_0 : List UInt8 := [27, 42, 27, 8, 182, 0, 54, 7, 184, 0, 61, 62, 29, 27, 28, 4, 96, 3, 184, 0, 61, 161, 0, 23]
abbrev dktX4_opens_0 : List UInt8 := dkwX4_opens_0 ++ dktX4_opens_1
theorem dksX4_opens_0 : cX4_opens.data.toList.drop 0 = dktX4_opens_0 := by decide +kernel
theorem dksX4_opens_1 : cX4_opens.data.toList.drop 24 = dktX4_opens_1 := dk_seg dksX4_opens_0 24 rfl rfl
theorem dksX4_opens_2 : cX4_opens.data.toList.drop 48 = dktX4_opens_2 := dk_seg dksX4_opens_1 24 rfl rfl
theorem dX4_opens_0 : decode cX4_opens 0 = .ok (.iload_n 1, 1) := dk_27 (dk_at dksX4_opens_0 0 rfl rfl)
theorem dX4_opens_1 : decode cX4_opens 1 = .ok (.aload_n 0, 1) := dk_42 (dk_at dksX4_opens_0 1 rfl rfl)
theorem dX4_opens_2 : decode cX4_opens 2 = .ok (.iload_n 1, 1) := dk_27 (dk_at dksX4_opens_0 2 rfl rfl)
theorem dX4_opens_3 : decode cX4_opens 3 = .ok (.iconst 5, 1) := dk_8 (dk_at dksX4_opens_0 3 rfl rfl)
theorem dX4_opens_4 : decode cX4_opens 4 = .ok (.invokevirtual 54, 3) := dk_182 0 54 (dk_at dksX4_opens_0 4 rfl rfl)
theorem dX4_opens_7 : decode cX4_opens 7 = .ok (.iconst 4, 1) := dk_7 (dk_at dksX4_opens_0 7 rfl rfl)
theorem dX4_opens_8 : decode cX4_opens 8 = .ok (.invokestatic 61, 3) := dk_184 0 61 (dk_at dksX4_opens_0 8 rfl rfl)
theorem dX4_opens_11 : decode cX4_opens 11 = .ok (.istore_n 3, 1) := dk_62 (dk_at dksX4_opens_0 11 rfl rfl)
theorem dX4_opens_12 : decode cX4_opens 12 = .ok (.iload_n 3, 1) := dk_29 (dk_at dksX4_opens_0 12 rfl rfl)
theorem dX4_opens_13 : decode cX4_opens 13 = .ok (.iload_n 1, 1) := dk_27 (dk_at dksX4_opens_0 13 rfl rfl)
theorem dX4_opens_14 : decode cX4_opens 14 = .ok (.iload_n 2, 1) := dk_28 (dk_at dksX4_opens_0 14 rfl rfl)
theorem dX4_opens_15 : decode cX4_opens 15 = .ok (.iconst 1, 1) := dk_4 (dk_at dksX4_opens_0 15 rfl rfl)
theorem dX4_opens_16 : decode cX4_opens 16 = .ok (.iadd, 1) := dk_96 (dk_at dksX4_opens_0 16 rfl rfl)
theorem dX4_opens_17 : decode cX4_opens 17 = .ok (.iconst 0, 1) := dk_3 (dk_at dksX4_opens_0 17 rfl rfl)
theorem dX4_opens_18 : decode cX4_opens 18 = .ok (.invokestatic 61, 3) := dk_184 0 61 (dk_at dksX4_opens_0 18 rfl rfl)
theorem dX4_opens_21 : decode cX4_opens 21 = .ok (.if_icmp .lt 23, 3) := dk_161 0 23 (dk_at dksX4_opens_0 21 rfl rfl)
theorem dX4_opens_24 : decode cX4_opens 24 = .ok (.aload_n 0, 1) := dk_42 (dk_at dksX4_opens_1 0 rfl rfl)
theorem dX4_opens_25 : decode cX4_opens 25 = .ok (.getfield 7, 3) := dk_180 0 7 (dk_at dksX4_opens_1 1 rfl rfl)
theorem dX4_opens_28 : decode cX4_opens 28 = .ok (.iload_n 3, 1) := dk_29 (dk_at dksX4_opens_1 4 rfl rfl)
theorem dX4_opens_29 : decode cX4_opens 29 = .ok (.aload_n 0, 1) := dk_42 (dk_at dksX4_opens_1 5 rfl rfl)
theorem dX4_opens_30 : decode cX4_opens 30 = .ok (.getfield 7, 3) := dk_180 0 7 (dk_at dksX4_opens_1 6 rfl rfl)
theorem dX4_opens_33 : decode cX4_opens 33 = .ok (.iload_n 3, 1) := dk_29 (dk_at dksX4_opens_1 9 rfl rfl)
theorem dX4_opens_34 : decode cX4_opens 34 = .ok (.iconst 5, 1) := dk_8 (dk_at dksX4_opens_1 10 rfl rfl)
theorem dX4_opens_35 : decode cX4_opens 35 = .ok (.isub, 1) := dk_100 (dk_at dksX4_opens_1 11 rfl rfl)
theorem dX4_opens_36 : decode cX4_opens 36 = .ok (.iaload, 1) := dk_46 (dk_at dksX4_opens_1 12 rfl rfl)
theorem dX4_opens_37 : decode cX4_opens 37 = .ok (.iastore, 1) := dk_79 (dk_at dksX4_opens_1 13 rfl rfl)
theorem dX4_opens_38 : decode cX4_opens 38 = .ok (.iinc 3 (-1), 3) := dk_132 3 255 (dk_at dksX4_opens_1 14 rfl rfl)
theorem dX4_opens_41 : decode cX4_opens 41 = .ok (.goto (-29), 3) := dk_167 255 227 (dk_at dksX4_opens_1 17 rfl rfl)
theorem dX4_opens_44 : decode cX4_opens 44 = .ok (.aload_n 0, 1) := dk_42 (dk_at dksX4_opens_1 20 rfl rfl)
theorem dX4_opens_45 : decode cX4_opens 45 = .ok (.getfield 7, 3) := dk_180 0 7 (dk_at dksX4_opens_1 21 rfl rfl)
theorem dX4_opens_48 : decode cX4_opens 48 = .ok (.iload_n 1, 1) := dk_27 (dk_at dksX4_opens_2 0 rfl rfl)
theorem dX4_opens_49 : decode cX4_opens 49 = .ok (.iconst 5, 1) := dk_8 (dk_at dksX4_opens_2 1 rfl rfl)
theorem dX4_opens_50 : decode cX4_opens 50 = .ok (.invokestatic 50, 3) := dk_184 0 50 (dk_at dksX4_opens_2 2 rfl rfl)
theorem dX4_opens_53 : decode cX4_opens 53 = .ok (.dup2, 1) := dk_92 (dk_at dksX4_opens_2 5 rfl rfl)
theorem dX4_opens_54 : decode cX4_opens 54 = .ok (.iaload, 1) := dk_46 (dk_at dksX4_opens_2 6 rfl rfl)
theorem dX4_opens_55 : decode cX4_opens 55 = .ok (.iconst 1, 1) := dk_4 (dk_at dksX4_opens_2 7 rfl rfl)
theorem dX4_opens_56 : decode cX4_opens 56 = .ok (.iadd, 1) := dk_96 (dk_at dksX4_opens_2 8 rfl rfl)
theorem dX4_opens_57 : decode cX4_opens 57 = .ok (.iastore, 1) := dk_79 (dk_at dksX4_opens_2 9 rfl rfl)
theorem dX4_opens_58 : decode cX4_opens 58 = .ok (.return_, 1) := dk_177 (dk_at dksX4_opens_2 10 rfl rfl)
abbrev cX4_unlike : ByteArray := prog_14_method_47_code
def yX4_unlike : MethodName := ⟨RX4, "unlike", "()I"⟩
def dkwX4_unlike_4 : List UInt8 := [167, 255, 219, 132, 2, 1, 167, 255, 162, 27, 172]
abbrev dktX4_unlike_4 : List UInt8 := dkwX4_unlike_4 ++ []
def dkwX4_unlike_3 : List UInt8 := [180, 0, 26, 28, 46, 21, 4, 184, 0, 65, 160, 0, 7, 3, 167, 0, 4, 4, 96, 60, 132, 4, 1]
abbrev dktX4_unlike_3 : List UInt8 := dkwX4_unlike_3 ++ dktX4_unlike_4
def dkwX4_unlike_2 : List UInt8 := [167, 0, 4, 3, 62, 3, 54, 4, 21, 4, 6, 163, 0, 37, 27, 29, 21, 4, 184, 0, 65, 42]
abbrev dktX4_unlike_2 : List UInt8 := dkwX4_unlike_2 ++ dktX4_unlike_3
def dkwX4_unlike_1 : List UInt8 := [42, 28, 16, 20, 112, 182, 0, 57, 153, 0, 18, 42, 28, 16, 20, 108, 28, 16, 20, 112, 182, 0, 119]
abbrev dktX4_unlike_1 : List UInt8 := dkwX4_unlike_1 ++ dktX4_unlike_2
def dkwX4_unlike_0 : List UInt8 := [3, 60, 3, 61, 28, 17, 0, 240, 162, 0, 93, 28, 16, 20, 108, 42, 180, 0, 7, 3, 46, 162, 0, 29]
abbrev dktX4_unlike_0 : List UInt8 := dkwX4_unlike_0 ++ dktX4_unlike_1
theorem dksX4_unlike_0 : cX4_unlike.data.toList.drop 0 = dktX4_unlike_0 := by decide +kernel
theorem dksX4_unlike_1 : cX4_unlike.data.toList.drop 24 = dktX4_unlike_1 := dk_seg dksX4_unlike_0 24 rfl rfl
theorem dksX4_unlike_2 : cX4_unlike.data.toList.drop 47 = dktX4_unlike_2 := dk_seg dksX4_unlike_1 23 rfl rfl
theorem dksX4_unlike_3 : cX4_unlike.data.toList.drop 69 = dktX4_unlike_3 := dk_seg dksX4_unlike_2 22 rfl rfl
theorem dksX4_unlike_4 : cX4_unlike.data.toList.drop 92 = dktX4_unlike_4 := dk_seg dksX4_unlike_3 23 rfl rfl
theorem dX4_unlike_0 : decode cX4_unlike 0 = .ok (.iconst 0, 1) := dk_3 (dk_at dksX4_unlike_0 0 rfl rfl)
theorem dX4_unlike_1 : decode cX4_unlike 1 = .ok (.istore_n 1, 1) := dk_60 (dk_at dksX4_unlike_0 1 rfl rfl)
theorem dX4_unlike_2 : decode cX4_unlike 2 = .ok (.iconst 0, 1) := dk_3 (dk_at dksX4_unlike_0 2 rfl rfl)
theorem dX4_unlike_3 : decode cX4_unlike 3 = .ok (.istore_n 2, 1) := dk_61 (dk_at dksX4_unlike_0 3 rfl rfl)
theorem dX4_unlike_4 : decode cX4_unlike 4 = .ok (.iload_n 2, 1) := dk_28 (dk_at dksX4_unlike_0 4 rfl rfl)
theorem dX4_unlike_5 : decode cX4_unlike 5 = .ok (.sipush 240, 3) := dk_17 0 240 (dk_at dksX4_unlike_0 5 rfl rfl)
theorem dX4_unlike_8 : decode cX4_unlike 8 = .ok (.if_icmp .ge 93, 3) := dk_162 0 93 (dk_at dksX4_unlike_0 8 rfl rfl)
theorem dX4_unlike_11 : decode cX4_unlike 11 = .ok (.iload_n 2, 1) := dk_28 (dk_at dksX4_unlike_0 11 rfl rfl)
theorem dX4_unlike_12 : decode cX4_unlike 12 = .ok (.bipush 20, 2) := dk_16 20 (dk_at dksX4_unlike_0 12 rfl rfl)
theorem dX4_unlike_14 : decode cX4_unlike 14 = .ok (.idiv, 1) := dk_108 (dk_at dksX4_unlike_0 14 rfl rfl)
theorem dX4_unlike_15 : decode cX4_unlike 15 = .ok (.aload_n 0, 1) := dk_42 (dk_at dksX4_unlike_0 15 rfl rfl)
theorem dX4_unlike_16 : decode cX4_unlike 16 = .ok (.getfield 7, 3) := dk_180 0 7 (dk_at dksX4_unlike_0 16 rfl rfl)
theorem dX4_unlike_19 : decode cX4_unlike 19 = .ok (.iconst 0, 1) := dk_3 (dk_at dksX4_unlike_0 19 rfl rfl)
theorem dX4_unlike_20 : decode cX4_unlike 20 = .ok (.iaload, 1) := dk_46 (dk_at dksX4_unlike_0 20 rfl rfl)
theorem dX4_unlike_21 : decode cX4_unlike 21 = .ok (.if_icmp .ge 29, 3) := dk_162 0 29 (dk_at dksX4_unlike_0 21 rfl rfl)
theorem dX4_unlike_24 : decode cX4_unlike 24 = .ok (.aload_n 0, 1) := dk_42 (dk_at dksX4_unlike_1 0 rfl rfl)
theorem dX4_unlike_25 : decode cX4_unlike 25 = .ok (.iload_n 2, 1) := dk_28 (dk_at dksX4_unlike_1 1 rfl rfl)
theorem dX4_unlike_26 : decode cX4_unlike 26 = .ok (.bipush 20, 2) := dk_16 20 (dk_at dksX4_unlike_1 2 rfl rfl)
theorem dX4_unlike_28 : decode cX4_unlike 28 = .ok (.irem, 1) := dk_112 (dk_at dksX4_unlike_1 4 rfl rfl)
theorem dX4_unlike_29 : decode cX4_unlike 29 = .ok (.invokevirtual 57, 3) := dk_182 0 57 (dk_at dksX4_unlike_1 5 rfl rfl)
theorem dX4_unlike_32 : decode cX4_unlike 32 = .ok (.ifCond .eq 18, 3) := dk_153 0 18 (dk_at dksX4_unlike_1 8 rfl rfl)
theorem dX4_unlike_35 : decode cX4_unlike 35 = .ok (.aload_n 0, 1) := dk_42 (dk_at dksX4_unlike_1 11 rfl rfl)
theorem dX4_unlike_36 : decode cX4_unlike 36 = .ok (.iload_n 2, 1) := dk_28 (dk_at dksX4_unlike_1 12 rfl rfl)
theorem dX4_unlike_37 : decode cX4_unlike 37 = .ok (.bipush 20, 2) := dk_16 20 (dk_at dksX4_unlike_1 13 rfl rfl)
theorem dX4_unlike_39 : decode cX4_unlike 39 = .ok (.idiv, 1) := dk_108 (dk_at dksX4_unlike_1 15 rfl rfl)
theorem dX4_unlike_40 : decode cX4_unlike 40 = .ok (.iload_n 2, 1) := dk_28 (dk_at dksX4_unlike_1 16 rfl rfl)
theorem dX4_unlike_41 : decode cX4_unlike 41 = .ok (.bipush 20, 2) := dk_16 20 (dk_at dksX4_unlike_1 17 rfl rfl)
theorem dX4_unlike_43 : decode cX4_unlike 43 = .ok (.irem, 1) := dk_112 (dk_at dksX4_unlike_1 19 rfl rfl)
theorem dX4_unlike_44 : decode cX4_unlike 44 = .ok (.invokevirtual 119, 3) := dk_182 0 119 (dk_at dksX4_unlike_1 20 rfl rfl)
theorem dX4_unlike_47 : decode cX4_unlike 47 = .ok (.goto 4, 3) := dk_167 0 4 (dk_at dksX4_unlike_2 0 rfl rfl)
theorem dX4_unlike_50 : decode cX4_unlike 50 = .ok (.iconst 0, 1) := dk_3 (dk_at dksX4_unlike_2 3 rfl rfl)
theorem dX4_unlike_51 : decode cX4_unlike 51 = .ok (.istore_n 3, 1) := dk_62 (dk_at dksX4_unlike_2 4 rfl rfl)
theorem dX4_unlike_52 : decode cX4_unlike 52 = .ok (.iconst 0, 1) := dk_3 (dk_at dksX4_unlike_2 5 rfl rfl)
theorem dX4_unlike_53 : decode cX4_unlike 53 = .ok (.istore 4, 2) := dk_54 4 (dk_at dksX4_unlike_2 6 rfl rfl)
theorem dX4_unlike_55 : decode cX4_unlike 55 = .ok (.iload 4, 2) := dk_21 4 (dk_at dksX4_unlike_2 8 rfl rfl)
theorem dX4_unlike_57 : decode cX4_unlike 57 = .ok (.iconst 3, 1) := dk_6 (dk_at dksX4_unlike_2 10 rfl rfl)
theorem dX4_unlike_58 : decode cX4_unlike 58 = .ok (.if_icmp .gt 37, 3) := dk_163 0 37 (dk_at dksX4_unlike_2 11 rfl rfl)
theorem dX4_unlike_61 : decode cX4_unlike 61 = .ok (.iload_n 1, 1) := dk_27 (dk_at dksX4_unlike_2 14 rfl rfl)
theorem dX4_unlike_62 : decode cX4_unlike 62 = .ok (.iload_n 3, 1) := dk_29 (dk_at dksX4_unlike_2 15 rfl rfl)
theorem dX4_unlike_63 : decode cX4_unlike 63 = .ok (.iload 4, 2) := dk_21 4 (dk_at dksX4_unlike_2 16 rfl rfl)
theorem dX4_unlike_65 : decode cX4_unlike 65 = .ok (.invokestatic 65, 3) := dk_184 0 65 (dk_at dksX4_unlike_2 18 rfl rfl)
theorem dX4_unlike_68 : decode cX4_unlike 68 = .ok (.aload_n 0, 1) := dk_42 (dk_at dksX4_unlike_2 21 rfl rfl)
theorem dX4_unlike_69 : decode cX4_unlike 69 = .ok (.getfield 26, 3) := dk_180 0 26 (dk_at dksX4_unlike_3 0 rfl rfl)
theorem dX4_unlike_72 : decode cX4_unlike 72 = .ok (.iload_n 2, 1) := dk_28 (dk_at dksX4_unlike_3 3 rfl rfl)
theorem dX4_unlike_73 : decode cX4_unlike 73 = .ok (.iaload, 1) := dk_46 (dk_at dksX4_unlike_3 4 rfl rfl)
theorem dX4_unlike_74 : decode cX4_unlike 74 = .ok (.iload 4, 2) := dk_21 4 (dk_at dksX4_unlike_3 5 rfl rfl)
theorem dX4_unlike_76 : decode cX4_unlike 76 = .ok (.invokestatic 65, 3) := dk_184 0 65 (dk_at dksX4_unlike_3 7 rfl rfl)
theorem dX4_unlike_79 : decode cX4_unlike 79 = .ok (.if_icmp .ne 7, 3) := dk_160 0 7 (dk_at dksX4_unlike_3 10 rfl rfl)
theorem dX4_unlike_82 : decode cX4_unlike 82 = .ok (.iconst 0, 1) := dk_3 (dk_at dksX4_unlike_3 13 rfl rfl)
theorem dX4_unlike_83 : decode cX4_unlike 83 = .ok (.goto 4, 3) := dk_167 0 4 (dk_at dksX4_unlike_3 14 rfl rfl)
theorem dX4_unlike_86 : decode cX4_unlike 86 = .ok (.iconst 1, 1) := dk_4 (dk_at dksX4_unlike_3 17 rfl rfl)
theorem dX4_unlike_87 : decode cX4_unlike 87 = .ok (.iadd, 1) := dk_96 (dk_at dksX4_unlike_3 18 rfl rfl)
theorem dX4_unlike_88 : decode cX4_unlike 88 = .ok (.istore_n 1, 1) := dk_60 (dk_at dksX4_unlike_3 19 rfl rfl)
theorem dX4_unlike_89 : decode cX4_unlike 89 = .ok (.iinc 4 1, 3) := dk_132 4 1 (dk_at dksX4_unlike_3 20 rfl rfl)
theorem dX4_unlike_92 : decode cX4_unlike 92 = .ok (.goto (-37), 3) := dk_167 255 219 (dk_at dksX4_unlike_4 0 rfl rfl)
theorem dX4_unlike_95 : decode cX4_unlike 95 = .ok (.iinc 2 1, 3) := dk_132 2 1 (dk_at dksX4_unlike_4 3 rfl rfl)
theorem dX4_unlike_98 : decode cX4_unlike 98 = .ok (.goto (-94), 3) := dk_167 255 162 (dk_at dksX4_unlike_4 6 rfl rfl)
theorem dX4_unlike_101 : decode cX4_unlike 101 = .ok (.iload_n 1, 1) := dk_27 (dk_at dksX4_unlike_4 9 rfl rfl)
theorem dX4_unlike_102 : decode cX4_unlike 102 = .ok (.ireturn, 1) := dk_172 (dk_at dksX4_unlike_4 10 rfl rfl)
abbrev cX4_ask : ByteArray := prog_14_method_57_code
def yX4_ask : MethodName := ⟨RX4, "ask", "(III)Z"⟩
def dkwX4_ask_8 : List UInt8 := [153, 0, 7, 3, 167, 0, 4, 4, 96, 79, 21, 4, 172]
abbrev dktX4_ask_8 : List UInt8 := dkwX4_ask_8 ++ []
def dkwX4_ask_7 : List UInt8 := [180, 0, 7, 17, 2, 251, 92, 46, 4, 96, 79, 42, 180, 0, 7, 17, 2, 252, 92, 46, 21, 4]
abbrev dktX4_ask_7 : List UInt8 := dkwX4_ask_7 ++ dktX4_ask_8
def dkwX4_ask_6 : List UInt8 := [92, 46, 42, 180, 0, 7, 17, 2, 250, 46, 16, 8, 162, 0, 7, 4, 167, 0, 4, 3, 96, 79, 42]
abbrev dktX4_ask_6 : List UInt8 := dkwX4_ask_6 ++ dktX4_ask_7
def dkwX4_ask_5 : List UInt8 := [180, 0, 7, 17, 2, 228, 21, 4, 153, 0, 7, 4, 167, 0, 4, 3, 79, 42, 180, 0, 7, 17, 2, 250]
abbrev dktX4_ask_5 : List UInt8 := dkwX4_ask_5 ++ dktX4_ask_6
def dkwX4_ask_4 : List UInt8 := [167, 255, 229, 42, 180, 0, 7, 17, 2, 226, 27, 79, 42, 180, 0, 7, 17, 2, 227, 28, 79, 42]
abbrev dktX4_ask_4 : List UInt8 := dkwX4_ask_4 ++ dktX4_ask_5
def dkwX4_ask_3 : List UInt8 := [161, 0, 25, 42, 180, 0, 7, 21, 5, 42, 180, 0, 7, 21, 5, 6, 100, 46, 79, 132, 5, 255]
abbrev dktX4_ask_3 : List UInt8 := dkwX4_ask_3 ++ dktX4_ask_4
def dkwX4_ask_2 : List UInt8 := [182, 0, 79, 42, 27, 28, 29, 182, 0, 150, 54, 4, 17, 2, 249, 54, 5, 21, 5, 17, 2, 229]
abbrev dktX4_ask_2 : List UInt8 := dkwX4_ask_2 ++ dktX4_ask_3
def dkwX4_ask_1 : List UInt8 := [184, 0, 156, 153, 0, 7, 3, 167, 0, 4, 5, 181, 0, 39, 42, 180, 0, 39, 158, 0, 5, 3, 172, 42]
abbrev dktX4_ask_1 : List UInt8 := dkwX4_ask_1 ++ dktX4_ask_2
def dkwX4_ask_0 : List UInt8 := [42, 42, 27, 182, 0, 82, 153, 0, 11, 42, 28, 182, 0, 57, 154, 0, 7, 4, 167, 0, 15, 29]
abbrev dktX4_ask_0 : List UInt8 := dkwX4_ask_0 ++ dktX4_ask_1
theorem dksX4_ask_0 : cX4_ask.data.toList.drop 0 = dktX4_ask_0 := by decide +kernel
theorem dksX4_ask_1 : cX4_ask.data.toList.drop 22 = dktX4_ask_1 := dk_seg dksX4_ask_0 22 rfl rfl
theorem dksX4_ask_2 : cX4_ask.data.toList.drop 46 = dktX4_ask_2 := dk_seg dksX4_ask_1 24 rfl rfl
theorem dksX4_ask_3 : cX4_ask.data.toList.drop 68 = dktX4_ask_3 := dk_seg dksX4_ask_2 22 rfl rfl
theorem dksX4_ask_4 : cX4_ask.data.toList.drop 90 = dktX4_ask_4 := dk_seg dksX4_ask_3 22 rfl rfl
theorem dksX4_ask_5 : cX4_ask.data.toList.drop 112 = dktX4_ask_5 := dk_seg dksX4_ask_4 22 rfl rfl
theorem dksX4_ask_6 : cX4_ask.data.toList.drop 136 = dktX4_ask_6 := dk_seg dksX4_ask_5 24 rfl rfl
theorem dksX4_ask_7 : cX4_ask.data.toList.drop 159 = dktX4_ask_7 := dk_seg dksX4_ask_6 23 rfl rfl
theorem dksX4_ask_8 : cX4_ask.data.toList.drop 181 = dktX4_ask_8 := dk_seg dksX4_ask_7 22 rfl rfl
theorem dX4_ask_0 : decode cX4_ask 0 = .ok (.aload_n 0, 1) := dk_42 (dk_at dksX4_ask_0 0 rfl rfl)
theorem dX4_ask_1 : decode cX4_ask 1 = .ok (.aload_n 0, 1) := dk_42 (dk_at dksX4_ask_0 1 rfl rfl)
theorem dX4_ask_2 : decode cX4_ask 2 = .ok (.iload_n 1, 1) := dk_27 (dk_at dksX4_ask_0 2 rfl rfl)
theorem dX4_ask_3 : decode cX4_ask 3 = .ok (.invokevirtual 82, 3) := dk_182 0 82 (dk_at dksX4_ask_0 3 rfl rfl)
theorem dX4_ask_6 : decode cX4_ask 6 = .ok (.ifCond .eq 11, 3) := dk_153 0 11 (dk_at dksX4_ask_0 6 rfl rfl)
theorem dX4_ask_9 : decode cX4_ask 9 = .ok (.aload_n 0, 1) := dk_42 (dk_at dksX4_ask_0 9 rfl rfl)
theorem dX4_ask_10 : decode cX4_ask 10 = .ok (.iload_n 2, 1) := dk_28 (dk_at dksX4_ask_0 10 rfl rfl)
theorem dX4_ask_11 : decode cX4_ask 11 = .ok (.invokevirtual 57, 3) := dk_182 0 57 (dk_at dksX4_ask_0 11 rfl rfl)
theorem dX4_ask_14 : decode cX4_ask 14 = .ok (.ifCond .ne 7, 3) := dk_154 0 7 (dk_at dksX4_ask_0 14 rfl rfl)
theorem dX4_ask_17 : decode cX4_ask 17 = .ok (.iconst 1, 1) := dk_4 (dk_at dksX4_ask_0 17 rfl rfl)
theorem dX4_ask_18 : decode cX4_ask 18 = .ok (.goto 15, 3) := dk_167 0 15 (dk_at dksX4_ask_0 18 rfl rfl)
theorem dX4_ask_21 : decode cX4_ask 21 = .ok (.iload_n 3, 1) := dk_29 (dk_at dksX4_ask_0 21 rfl rfl)
theorem dX4_ask_22 : decode cX4_ask 22 = .ok (.invokestatic 156, 3) := dk_184 0 156 (dk_at dksX4_ask_1 0 rfl rfl)
theorem dX4_ask_25 : decode cX4_ask 25 = .ok (.ifCond .eq 7, 3) := dk_153 0 7 (dk_at dksX4_ask_1 3 rfl rfl)
theorem dX4_ask_28 : decode cX4_ask 28 = .ok (.iconst 0, 1) := dk_3 (dk_at dksX4_ask_1 6 rfl rfl)
theorem dX4_ask_29 : decode cX4_ask 29 = .ok (.goto 4, 3) := dk_167 0 4 (dk_at dksX4_ask_1 7 rfl rfl)
theorem dX4_ask_32 : decode cX4_ask 32 = .ok (.iconst 2, 1) := dk_5 (dk_at dksX4_ask_1 10 rfl rfl)
theorem dX4_ask_33 : decode cX4_ask 33 = .ok (.putfield 39, 3) := dk_181 0 39 (dk_at dksX4_ask_1 11 rfl rfl)
theorem dX4_ask_36 : decode cX4_ask 36 = .ok (.aload_n 0, 1) := dk_42 (dk_at dksX4_ask_1 14 rfl rfl)
theorem dX4_ask_37 : decode cX4_ask 37 = .ok (.getfield 39, 3) := dk_180 0 39 (dk_at dksX4_ask_1 15 rfl rfl)
theorem dX4_ask_40 : decode cX4_ask 40 = .ok (.ifCond .le 5, 3) := dk_158 0 5 (dk_at dksX4_ask_1 18 rfl rfl)
theorem dX4_ask_43 : decode cX4_ask 43 = .ok (.iconst 0, 1) := dk_3 (dk_at dksX4_ask_1 21 rfl rfl)
theorem dX4_ask_44 : decode cX4_ask 44 = .ok (.ireturn, 1) := dk_172 (dk_at dksX4_ask_1 22 rfl rfl)
theorem dX4_ask_45 : decode cX4_ask 45 = .ok (.aload_n 0, 1) := dk_42 (dk_at dksX4_ask_1 23 rfl rfl)
theorem dX4_ask_46 : decode cX4_ask 46 = .ok (.invokevirtual 79, 3) := dk_182 0 79 (dk_at dksX4_ask_2 0 rfl rfl)
theorem dX4_ask_49 : decode cX4_ask 49 = .ok (.aload_n 0, 1) := dk_42 (dk_at dksX4_ask_2 3 rfl rfl)
theorem dX4_ask_50 : decode cX4_ask 50 = .ok (.iload_n 1, 1) := dk_27 (dk_at dksX4_ask_2 4 rfl rfl)
theorem dX4_ask_51 : decode cX4_ask 51 = .ok (.iload_n 2, 1) := dk_28 (dk_at dksX4_ask_2 5 rfl rfl)
theorem dX4_ask_52 : decode cX4_ask 52 = .ok (.iload_n 3, 1) := dk_29 (dk_at dksX4_ask_2 6 rfl rfl)
theorem dX4_ask_53 : decode cX4_ask 53 = .ok (.invokevirtual 150, 3) := dk_182 0 150 (dk_at dksX4_ask_2 7 rfl rfl)
theorem dX4_ask_56 : decode cX4_ask 56 = .ok (.istore 4, 2) := dk_54 4 (dk_at dksX4_ask_2 10 rfl rfl)
theorem dX4_ask_58 : decode cX4_ask 58 = .ok (.sipush 761, 3) := dk_17 2 249 (dk_at dksX4_ask_2 12 rfl rfl)
theorem dX4_ask_61 : decode cX4_ask 61 = .ok (.istore 5, 2) := dk_54 5 (dk_at dksX4_ask_2 15 rfl rfl)
theorem dX4_ask_63 : decode cX4_ask 63 = .ok (.iload 5, 2) := dk_21 5 (dk_at dksX4_ask_2 17 rfl rfl)
theorem dX4_ask_65 : decode cX4_ask 65 = .ok (.sipush 741, 3) := dk_17 2 229 (dk_at dksX4_ask_2 19 rfl rfl)
theorem dX4_ask_68 : decode cX4_ask 68 = .ok (.if_icmp .lt 25, 3) := dk_161 0 25 (dk_at dksX4_ask_3 0 rfl rfl)
theorem dX4_ask_71 : decode cX4_ask 71 = .ok (.aload_n 0, 1) := dk_42 (dk_at dksX4_ask_3 3 rfl rfl)
theorem dX4_ask_72 : decode cX4_ask 72 = .ok (.getfield 7, 3) := dk_180 0 7 (dk_at dksX4_ask_3 4 rfl rfl)
theorem dX4_ask_75 : decode cX4_ask 75 = .ok (.iload 5, 2) := dk_21 5 (dk_at dksX4_ask_3 7 rfl rfl)
theorem dX4_ask_77 : decode cX4_ask 77 = .ok (.aload_n 0, 1) := dk_42 (dk_at dksX4_ask_3 9 rfl rfl)
theorem dX4_ask_78 : decode cX4_ask 78 = .ok (.getfield 7, 3) := dk_180 0 7 (dk_at dksX4_ask_3 10 rfl rfl)
theorem dX4_ask_81 : decode cX4_ask 81 = .ok (.iload 5, 2) := dk_21 5 (dk_at dksX4_ask_3 13 rfl rfl)
theorem dX4_ask_83 : decode cX4_ask 83 = .ok (.iconst 3, 1) := dk_6 (dk_at dksX4_ask_3 15 rfl rfl)
theorem dX4_ask_84 : decode cX4_ask 84 = .ok (.isub, 1) := dk_100 (dk_at dksX4_ask_3 16 rfl rfl)
theorem dX4_ask_85 : decode cX4_ask 85 = .ok (.iaload, 1) := dk_46 (dk_at dksX4_ask_3 17 rfl rfl)
theorem dX4_ask_86 : decode cX4_ask 86 = .ok (.iastore, 1) := dk_79 (dk_at dksX4_ask_3 18 rfl rfl)
theorem dX4_ask_87 : decode cX4_ask 87 = .ok (.iinc 5 (-1), 3) := dk_132 5 255 (dk_at dksX4_ask_3 19 rfl rfl)
theorem dX4_ask_90 : decode cX4_ask 90 = .ok (.goto (-27), 3) := dk_167 255 229 (dk_at dksX4_ask_4 0 rfl rfl)
theorem dX4_ask_93 : decode cX4_ask 93 = .ok (.aload_n 0, 1) := dk_42 (dk_at dksX4_ask_4 3 rfl rfl)
theorem dX4_ask_94 : decode cX4_ask 94 = .ok (.getfield 7, 3) := dk_180 0 7 (dk_at dksX4_ask_4 4 rfl rfl)
theorem dX4_ask_97 : decode cX4_ask 97 = .ok (.sipush 738, 3) := dk_17 2 226 (dk_at dksX4_ask_4 7 rfl rfl)
theorem dX4_ask_100 : decode cX4_ask 100 = .ok (.iload_n 1, 1) := dk_27 (dk_at dksX4_ask_4 10 rfl rfl)
theorem dX4_ask_101 : decode cX4_ask 101 = .ok (.iastore, 1) := dk_79 (dk_at dksX4_ask_4 11 rfl rfl)
theorem dX4_ask_102 : decode cX4_ask 102 = .ok (.aload_n 0, 1) := dk_42 (dk_at dksX4_ask_4 12 rfl rfl)
theorem dX4_ask_103 : decode cX4_ask 103 = .ok (.getfield 7, 3) := dk_180 0 7 (dk_at dksX4_ask_4 13 rfl rfl)
theorem dX4_ask_106 : decode cX4_ask 106 = .ok (.sipush 739, 3) := dk_17 2 227 (dk_at dksX4_ask_4 16 rfl rfl)
theorem dX4_ask_109 : decode cX4_ask 109 = .ok (.iload_n 2, 1) := dk_28 (dk_at dksX4_ask_4 19 rfl rfl)
theorem dX4_ask_110 : decode cX4_ask 110 = .ok (.iastore, 1) := dk_79 (dk_at dksX4_ask_4 20 rfl rfl)
theorem dX4_ask_111 : decode cX4_ask 111 = .ok (.aload_n 0, 1) := dk_42 (dk_at dksX4_ask_4 21 rfl rfl)
theorem dX4_ask_112 : decode cX4_ask 112 = .ok (.getfield 7, 3) := dk_180 0 7 (dk_at dksX4_ask_5 0 rfl rfl)
theorem dX4_ask_115 : decode cX4_ask 115 = .ok (.sipush 740, 3) := dk_17 2 228 (dk_at dksX4_ask_5 3 rfl rfl)
theorem dX4_ask_118 : decode cX4_ask 118 = .ok (.iload 4, 2) := dk_21 4 (dk_at dksX4_ask_5 6 rfl rfl)
theorem dX4_ask_120 : decode cX4_ask 120 = .ok (.ifCond .eq 7, 3) := dk_153 0 7 (dk_at dksX4_ask_5 8 rfl rfl)
theorem dX4_ask_123 : decode cX4_ask 123 = .ok (.iconst 1, 1) := dk_4 (dk_at dksX4_ask_5 11 rfl rfl)
theorem dX4_ask_124 : decode cX4_ask 124 = .ok (.goto 4, 3) := dk_167 0 4 (dk_at dksX4_ask_5 12 rfl rfl)
theorem dX4_ask_127 : decode cX4_ask 127 = .ok (.iconst 0, 1) := dk_3 (dk_at dksX4_ask_5 15 rfl rfl)
theorem dX4_ask_128 : decode cX4_ask 128 = .ok (.iastore, 1) := dk_79 (dk_at dksX4_ask_5 16 rfl rfl)
theorem dX4_ask_129 : decode cX4_ask 129 = .ok (.aload_n 0, 1) := dk_42 (dk_at dksX4_ask_5 17 rfl rfl)
theorem dX4_ask_130 : decode cX4_ask 130 = .ok (.getfield 7, 3) := dk_180 0 7 (dk_at dksX4_ask_5 18 rfl rfl)
theorem dX4_ask_133 : decode cX4_ask 133 = .ok (.sipush 762, 3) := dk_17 2 250 (dk_at dksX4_ask_5 21 rfl rfl)
theorem dX4_ask_136 : decode cX4_ask 136 = .ok (.dup2, 1) := dk_92 (dk_at dksX4_ask_6 0 rfl rfl)
theorem dX4_ask_137 : decode cX4_ask 137 = .ok (.iaload, 1) := dk_46 (dk_at dksX4_ask_6 1 rfl rfl)
theorem dX4_ask_138 : decode cX4_ask 138 = .ok (.aload_n 0, 1) := dk_42 (dk_at dksX4_ask_6 2 rfl rfl)
theorem dX4_ask_139 : decode cX4_ask 139 = .ok (.getfield 7, 3) := dk_180 0 7 (dk_at dksX4_ask_6 3 rfl rfl)
theorem dX4_ask_142 : decode cX4_ask 142 = .ok (.sipush 762, 3) := dk_17 2 250 (dk_at dksX4_ask_6 6 rfl rfl)
theorem dX4_ask_145 : decode cX4_ask 145 = .ok (.iaload, 1) := dk_46 (dk_at dksX4_ask_6 9 rfl rfl)
theorem dX4_ask_146 : decode cX4_ask 146 = .ok (.bipush 8, 2) := dk_16 8 (dk_at dksX4_ask_6 10 rfl rfl)
theorem dX4_ask_148 : decode cX4_ask 148 = .ok (.if_icmp .ge 7, 3) := dk_162 0 7 (dk_at dksX4_ask_6 12 rfl rfl)
theorem dX4_ask_151 : decode cX4_ask 151 = .ok (.iconst 1, 1) := dk_4 (dk_at dksX4_ask_6 15 rfl rfl)
theorem dX4_ask_152 : decode cX4_ask 152 = .ok (.goto 4, 3) := dk_167 0 4 (dk_at dksX4_ask_6 16 rfl rfl)
theorem dX4_ask_155 : decode cX4_ask 155 = .ok (.iconst 0, 1) := dk_3 (dk_at dksX4_ask_6 19 rfl rfl)
theorem dX4_ask_156 : decode cX4_ask 156 = .ok (.iadd, 1) := dk_96 (dk_at dksX4_ask_6 20 rfl rfl)
theorem dX4_ask_157 : decode cX4_ask 157 = .ok (.iastore, 1) := dk_79 (dk_at dksX4_ask_6 21 rfl rfl)
theorem dX4_ask_158 : decode cX4_ask 158 = .ok (.aload_n 0, 1) := dk_42 (dk_at dksX4_ask_6 22 rfl rfl)
theorem dX4_ask_159 : decode cX4_ask 159 = .ok (.getfield 7, 3) := dk_180 0 7 (dk_at dksX4_ask_7 0 rfl rfl)
theorem dX4_ask_162 : decode cX4_ask 162 = .ok (.sipush 763, 3) := dk_17 2 251 (dk_at dksX4_ask_7 3 rfl rfl)
theorem dX4_ask_165 : decode cX4_ask 165 = .ok (.dup2, 1) := dk_92 (dk_at dksX4_ask_7 6 rfl rfl)
theorem dX4_ask_166 : decode cX4_ask 166 = .ok (.iaload, 1) := dk_46 (dk_at dksX4_ask_7 7 rfl rfl)
theorem dX4_ask_167 : decode cX4_ask 167 = .ok (.iconst 1, 1) := dk_4 (dk_at dksX4_ask_7 8 rfl rfl)
theorem dX4_ask_168 : decode cX4_ask 168 = .ok (.iadd, 1) := dk_96 (dk_at dksX4_ask_7 9 rfl rfl)
theorem dX4_ask_169 : decode cX4_ask 169 = .ok (.iastore, 1) := dk_79 (dk_at dksX4_ask_7 10 rfl rfl)
theorem dX4_ask_170 : decode cX4_ask 170 = .ok (.aload_n 0, 1) := dk_42 (dk_at dksX4_ask_7 11 rfl rfl)
theorem dX4_ask_171 : decode cX4_ask 171 = .ok (.getfield 7, 3) := dk_180 0 7 (dk_at dksX4_ask_7 12 rfl rfl)
theorem dX4_ask_174 : decode cX4_ask 174 = .ok (.sipush 764, 3) := dk_17 2 252 (dk_at dksX4_ask_7 15 rfl rfl)
theorem dX4_ask_177 : decode cX4_ask 177 = .ok (.dup2, 1) := dk_92 (dk_at dksX4_ask_7 18 rfl rfl)
theorem dX4_ask_178 : decode cX4_ask 178 = .ok (.iaload, 1) := dk_46 (dk_at dksX4_ask_7 19 rfl rfl)
theorem dX4_ask_179 : decode cX4_ask 179 = .ok (.iload 4, 2) := dk_21 4 (dk_at dksX4_ask_7 20 rfl rfl)
theorem dX4_ask_181 : decode cX4_ask 181 = .ok (.ifCond .eq 7, 3) := dk_153 0 7 (dk_at dksX4_ask_8 0 rfl rfl)
theorem dX4_ask_184 : decode cX4_ask 184 = .ok (.iconst 0, 1) := dk_3 (dk_at dksX4_ask_8 3 rfl rfl)
theorem dX4_ask_185 : decode cX4_ask 185 = .ok (.goto 4, 3) := dk_167 0 4 (dk_at dksX4_ask_8 4 rfl rfl)
theorem dX4_ask_188 : decode cX4_ask 188 = .ok (.iconst 1, 1) := dk_4 (dk_at dksX4_ask_8 7 rfl rfl)
theorem dX4_ask_189 : decode cX4_ask 189 = .ok (.iadd, 1) := dk_96 (dk_at dksX4_ask_8 8 rfl rfl)
theorem dX4_ask_190 : decode cX4_ask 190 = .ok (.iastore, 1) := dk_79 (dk_at dksX4_ask_8 9 rfl rfl)
theorem dX4_ask_191 : decode cX4_ask 191 = .ok (.iload 4, 2) := dk_21 4 (dk_at dksX4_ask_8 10 rfl rfl)
theorem dX4_ask_193 : decode cX4_ask 193 = .ok (.ireturn, 1) := dk_172 (dk_at dksX4_ask_8 12 rfl rfl)
abbrev cX4_isRight : ByteArray := prog_14_method_14_code
def yX4_isRight : MethodName := ⟨RX4, "isRight", "(I)Z"⟩
def dkwX4_isRight_0 : List UInt8 := [26, 3, 6, 184, 0, 46, 172]
abbrev dktX4_isRight_0 : List UInt8 := dkwX4_isRight_0 ++ []
theorem dksX4_isRight_0 : cX4_isRight.data.toList.drop 0 = dktX4_isRight_0 := by decide +kernel
theorem dX4_isRight_0 : decode cX4_isRight 0 = .ok (.iload_n 0, 1) := dk_26 (dk_at dksX4_isRight_0 0 rfl rfl)
theorem dX4_isRight_1 : decode cX4_isRight 1 = .ok (.iconst 0, 1) := dk_3 (dk_at dksX4_isRight_0 1 rfl rfl)
theorem dX4_isRight_2 : decode cX4_isRight 2 = .ok (.iconst 3, 1) := dk_6 (dk_at dksX4_isRight_0 2 rfl rfl)
theorem dX4_isRight_3 : decode cX4_isRight 3 = .ok (.invokestatic 46, 3) := dk_184 0 46 (dk_at dksX4_isRight_0 3 rfl rfl)
theorem dX4_isRight_6 : decode cX4_isRight 6 = .ok (.ireturn, 1) := dk_172 (dk_at dksX4_isRight_0 6 rfl rfl)
abbrev cX4_share : ByteArray := prog_14_method_58_code
def yX4_share : MethodName := ⟨RX4, "share", "(IIII)I"⟩
def dkwX4_share_5 : List UInt8 := [182, 0, 119, 172]
abbrev dktX4_share_5 : List UInt8 := dkwX4_share_5 ++ []
def dkwX4_share_4 : List UInt8 := [182, 0, 79, 42, 28, 3, 182, 0, 125, 42, 28, 3, 3, 29, 21, 4, 4, 3, 182, 0, 104, 42, 29, 28]
abbrev dktX4_share_4 : List UInt8 := dkwX4_share_4 ++ dktX4_share_5
def dkwX4_share_3 : List UInt8 := [21, 6, 160, 0, 14, 42, 28, 8, 182, 0, 54, 16, 6, 160, 0, 9, 42, 6, 182, 0, 76, 172, 42]
abbrev dktX4_share_3 : List UInt8 := dkwX4_share_3 ++ dktX4_share_4
def dkwX4_share_2 : List UInt8 := [182, 0, 76, 172, 42, 27, 28, 182, 0, 119, 54, 5, 21, 4, 16, 8, 128, 54, 6, 21, 5, 21, 6, 126]
abbrev dktX4_share_2 : List UInt8 := dkwX4_share_2 ++ dktX4_share_3
def dkwX4_share_1 : List UInt8 := [182, 0, 82, 154, 0, 9, 42, 4, 182, 0, 76, 172, 21, 4, 184, 0, 101, 154, 0, 9, 42, 5]
abbrev dktX4_share_1 : List UInt8 := dkwX4_share_1 ++ dktX4_share_2
def dkwX4_share_0 : List UInt8 := [42, 3, 181, 0, 39, 42, 27, 182, 0, 82, 153, 0, 19, 42, 28, 182, 0, 57, 153, 0, 11, 42, 29]
abbrev dktX4_share_0 : List UInt8 := dkwX4_share_0 ++ dktX4_share_1
theorem dksX4_share_0 : cX4_share.data.toList.drop 0 = dktX4_share_0 := by decide +kernel
theorem dksX4_share_1 : cX4_share.data.toList.drop 23 = dktX4_share_1 := dk_seg dksX4_share_0 23 rfl rfl
theorem dksX4_share_2 : cX4_share.data.toList.drop 45 = dktX4_share_2 := dk_seg dksX4_share_1 22 rfl rfl
theorem dksX4_share_3 : cX4_share.data.toList.drop 69 = dktX4_share_3 := dk_seg dksX4_share_2 24 rfl rfl
theorem dksX4_share_4 : cX4_share.data.toList.drop 92 = dktX4_share_4 := dk_seg dksX4_share_3 23 rfl rfl
theorem dksX4_share_5 : cX4_share.data.toList.drop 116 = dktX4_share_5 := dk_seg dksX4_share_4 24 rfl rfl
theorem dX4_share_0 : decode cX4_share 0 = .ok (.aload_n 0, 1) := dk_42 (dk_at dksX4_share_0 0 rfl rfl)
theorem dX4_share_1 : decode cX4_share 1 = .ok (.iconst 0, 1) := dk_3 (dk_at dksX4_share_0 1 rfl rfl)
theorem dX4_share_2 : decode cX4_share 2 = .ok (.putfield 39, 3) := dk_181 0 39 (dk_at dksX4_share_0 2 rfl rfl)
theorem dX4_share_5 : decode cX4_share 5 = .ok (.aload_n 0, 1) := dk_42 (dk_at dksX4_share_0 5 rfl rfl)
theorem dX4_share_6 : decode cX4_share 6 = .ok (.iload_n 1, 1) := dk_27 (dk_at dksX4_share_0 6 rfl rfl)
theorem dX4_share_7 : decode cX4_share 7 = .ok (.invokevirtual 82, 3) := dk_182 0 82 (dk_at dksX4_share_0 7 rfl rfl)
theorem dX4_share_10 : decode cX4_share 10 = .ok (.ifCond .eq 19, 3) := dk_153 0 19 (dk_at dksX4_share_0 10 rfl rfl)
theorem dX4_share_13 : decode cX4_share 13 = .ok (.aload_n 0, 1) := dk_42 (dk_at dksX4_share_0 13 rfl rfl)
theorem dX4_share_14 : decode cX4_share 14 = .ok (.iload_n 2, 1) := dk_28 (dk_at dksX4_share_0 14 rfl rfl)
theorem dX4_share_15 : decode cX4_share 15 = .ok (.invokevirtual 57, 3) := dk_182 0 57 (dk_at dksX4_share_0 15 rfl rfl)
theorem dX4_share_18 : decode cX4_share 18 = .ok (.ifCond .eq 11, 3) := dk_153 0 11 (dk_at dksX4_share_0 18 rfl rfl)
theorem dX4_share_21 : decode cX4_share 21 = .ok (.aload_n 0, 1) := dk_42 (dk_at dksX4_share_0 21 rfl rfl)
theorem dX4_share_22 : decode cX4_share 22 = .ok (.iload_n 3, 1) := dk_29 (dk_at dksX4_share_0 22 rfl rfl)
theorem dX4_share_23 : decode cX4_share 23 = .ok (.invokevirtual 82, 3) := dk_182 0 82 (dk_at dksX4_share_1 0 rfl rfl)
theorem dX4_share_26 : decode cX4_share 26 = .ok (.ifCond .ne 9, 3) := dk_154 0 9 (dk_at dksX4_share_1 3 rfl rfl)
theorem dX4_share_29 : decode cX4_share 29 = .ok (.aload_n 0, 1) := dk_42 (dk_at dksX4_share_1 6 rfl rfl)
theorem dX4_share_30 : decode cX4_share 30 = .ok (.iconst 1, 1) := dk_4 (dk_at dksX4_share_1 7 rfl rfl)
theorem dX4_share_31 : decode cX4_share 31 = .ok (.invokevirtual 76, 3) := dk_182 0 76 (dk_at dksX4_share_1 8 rfl rfl)
theorem dX4_share_34 : decode cX4_share 34 = .ok (.ireturn, 1) := dk_172 (dk_at dksX4_share_1 11 rfl rfl)
theorem dX4_share_35 : decode cX4_share 35 = .ok (.iload 4, 2) := dk_21 4 (dk_at dksX4_share_1 12 rfl rfl)
theorem dX4_share_37 : decode cX4_share 37 = .ok (.invokestatic 101, 3) := dk_184 0 101 (dk_at dksX4_share_1 14 rfl rfl)
theorem dX4_share_40 : decode cX4_share 40 = .ok (.ifCond .ne 9, 3) := dk_154 0 9 (dk_at dksX4_share_1 17 rfl rfl)
theorem dX4_share_43 : decode cX4_share 43 = .ok (.aload_n 0, 1) := dk_42 (dk_at dksX4_share_1 20 rfl rfl)
theorem dX4_share_44 : decode cX4_share 44 = .ok (.iconst 2, 1) := dk_5 (dk_at dksX4_share_1 21 rfl rfl)
theorem dX4_share_45 : decode cX4_share 45 = .ok (.invokevirtual 76, 3) := dk_182 0 76 (dk_at dksX4_share_2 0 rfl rfl)
theorem dX4_share_48 : decode cX4_share 48 = .ok (.ireturn, 1) := dk_172 (dk_at dksX4_share_2 3 rfl rfl)
theorem dX4_share_49 : decode cX4_share 49 = .ok (.aload_n 0, 1) := dk_42 (dk_at dksX4_share_2 4 rfl rfl)
theorem dX4_share_50 : decode cX4_share 50 = .ok (.iload_n 1, 1) := dk_27 (dk_at dksX4_share_2 5 rfl rfl)
theorem dX4_share_51 : decode cX4_share 51 = .ok (.iload_n 2, 1) := dk_28 (dk_at dksX4_share_2 6 rfl rfl)
theorem dX4_share_52 : decode cX4_share 52 = .ok (.invokevirtual 119, 3) := dk_182 0 119 (dk_at dksX4_share_2 7 rfl rfl)
theorem dX4_share_55 : decode cX4_share 55 = .ok (.istore 5, 2) := dk_54 5 (dk_at dksX4_share_2 10 rfl rfl)
theorem dX4_share_57 : decode cX4_share 57 = .ok (.iload 4, 2) := dk_21 4 (dk_at dksX4_share_2 12 rfl rfl)
theorem dX4_share_59 : decode cX4_share 59 = .ok (.bipush 8, 2) := dk_16 8 (dk_at dksX4_share_2 14 rfl rfl)
theorem dX4_share_61 : decode cX4_share 61 = .ok (.ior, 1) := dk_128 (dk_at dksX4_share_2 16 rfl rfl)
theorem dX4_share_62 : decode cX4_share 62 = .ok (.istore 6, 2) := dk_54 6 (dk_at dksX4_share_2 17 rfl rfl)
theorem dX4_share_64 : decode cX4_share 64 = .ok (.iload 5, 2) := dk_21 5 (dk_at dksX4_share_2 19 rfl rfl)
theorem dX4_share_66 : decode cX4_share 66 = .ok (.iload 6, 2) := dk_21 6 (dk_at dksX4_share_2 21 rfl rfl)
theorem dX4_share_68 : decode cX4_share 68 = .ok (.iand, 1) := dk_126 (dk_at dksX4_share_2 23 rfl rfl)
theorem dX4_share_69 : decode cX4_share 69 = .ok (.iload 6, 2) := dk_21 6 (dk_at dksX4_share_3 0 rfl rfl)
theorem dX4_share_71 : decode cX4_share 71 = .ok (.if_icmp .ne 14, 3) := dk_160 0 14 (dk_at dksX4_share_3 2 rfl rfl)
theorem dX4_share_74 : decode cX4_share 74 = .ok (.aload_n 0, 1) := dk_42 (dk_at dksX4_share_3 5 rfl rfl)
theorem dX4_share_75 : decode cX4_share 75 = .ok (.iload_n 2, 1) := dk_28 (dk_at dksX4_share_3 6 rfl rfl)
theorem dX4_share_76 : decode cX4_share 76 = .ok (.iconst 5, 1) := dk_8 (dk_at dksX4_share_3 7 rfl rfl)
theorem dX4_share_77 : decode cX4_share 77 = .ok (.invokevirtual 54, 3) := dk_182 0 54 (dk_at dksX4_share_3 8 rfl rfl)
theorem dX4_share_80 : decode cX4_share 80 = .ok (.bipush 6, 2) := dk_16 6 (dk_at dksX4_share_3 11 rfl rfl)
theorem dX4_share_82 : decode cX4_share 82 = .ok (.if_icmp .ne 9, 3) := dk_160 0 9 (dk_at dksX4_share_3 13 rfl rfl)
theorem dX4_share_85 : decode cX4_share 85 = .ok (.aload_n 0, 1) := dk_42 (dk_at dksX4_share_3 16 rfl rfl)
theorem dX4_share_86 : decode cX4_share 86 = .ok (.iconst 3, 1) := dk_6 (dk_at dksX4_share_3 17 rfl rfl)
theorem dX4_share_87 : decode cX4_share 87 = .ok (.invokevirtual 76, 3) := dk_182 0 76 (dk_at dksX4_share_3 18 rfl rfl)
theorem dX4_share_90 : decode cX4_share 90 = .ok (.ireturn, 1) := dk_172 (dk_at dksX4_share_3 21 rfl rfl)
theorem dX4_share_91 : decode cX4_share 91 = .ok (.aload_n 0, 1) := dk_42 (dk_at dksX4_share_3 22 rfl rfl)
theorem dX4_share_92 : decode cX4_share 92 = .ok (.invokevirtual 79, 3) := dk_182 0 79 (dk_at dksX4_share_4 0 rfl rfl)
theorem dX4_share_95 : decode cX4_share 95 = .ok (.aload_n 0, 1) := dk_42 (dk_at dksX4_share_4 3 rfl rfl)
theorem dX4_share_96 : decode cX4_share 96 = .ok (.iload_n 2, 1) := dk_28 (dk_at dksX4_share_4 4 rfl rfl)
theorem dX4_share_97 : decode cX4_share 97 = .ok (.iconst 0, 1) := dk_3 (dk_at dksX4_share_4 5 rfl rfl)
theorem dX4_share_98 : decode cX4_share 98 = .ok (.invokevirtual 125, 3) := dk_182 0 125 (dk_at dksX4_share_4 6 rfl rfl)
theorem dX4_share_101 : decode cX4_share 101 = .ok (.aload_n 0, 1) := dk_42 (dk_at dksX4_share_4 9 rfl rfl)
theorem dX4_share_102 : decode cX4_share 102 = .ok (.iload_n 2, 1) := dk_28 (dk_at dksX4_share_4 10 rfl rfl)
theorem dX4_share_103 : decode cX4_share 103 = .ok (.iconst 0, 1) := dk_3 (dk_at dksX4_share_4 11 rfl rfl)
theorem dX4_share_104 : decode cX4_share 104 = .ok (.iconst 0, 1) := dk_3 (dk_at dksX4_share_4 12 rfl rfl)
theorem dX4_share_105 : decode cX4_share 105 = .ok (.iload_n 3, 1) := dk_29 (dk_at dksX4_share_4 13 rfl rfl)
theorem dX4_share_106 : decode cX4_share 106 = .ok (.iload 4, 2) := dk_21 4 (dk_at dksX4_share_4 14 rfl rfl)
theorem dX4_share_108 : decode cX4_share 108 = .ok (.iconst 1, 1) := dk_4 (dk_at dksX4_share_4 16 rfl rfl)
theorem dX4_share_109 : decode cX4_share 109 = .ok (.iconst 0, 1) := dk_3 (dk_at dksX4_share_4 17 rfl rfl)
theorem dX4_share_110 : decode cX4_share 110 = .ok (.invokevirtual 104, 3) := dk_182 0 104 (dk_at dksX4_share_4 18 rfl rfl)
theorem dX4_share_113 : decode cX4_share 113 = .ok (.aload_n 0, 1) := dk_42 (dk_at dksX4_share_4 21 rfl rfl)
theorem dX4_share_114 : decode cX4_share 114 = .ok (.iload_n 3, 1) := dk_29 (dk_at dksX4_share_4 22 rfl rfl)
theorem dX4_share_115 : decode cX4_share 115 = .ok (.iload_n 2, 1) := dk_28 (dk_at dksX4_share_4 23 rfl rfl)
theorem dX4_share_116 : decode cX4_share 116 = .ok (.invokevirtual 119, 3) := dk_182 0 119 (dk_at dksX4_share_5 0 rfl rfl)
theorem dX4_share_119 : decode cX4_share 119 = .ok (.ireturn, 1) := dk_172 (dk_at dksX4_share_5 3 rfl rfl)
abbrev cX4_append : ByteArray := prog_14_method_59_code
def yX4_append : MethodName := ⟨RX4, "append", "(I)I"⟩
def dkwX4_append_2 : List UInt8 := [42, 89, 180, 0, 159, 4, 96, 181, 0, 159, 42, 180, 0, 159, 172]
abbrev dktX4_append_2 : List UInt8 := dkwX4_append_2 ++ []
def dkwX4_append_1 : List UInt8 := [180, 0, 159, 16, 80, 160, 0, 9, 42, 5, 182, 0, 76, 172, 42, 180, 0, 23, 42, 180, 0, 159, 27, 79]
abbrev dktX4_append_1 : List UInt8 := dkwX4_append_1 ++ dktX4_append_2
def dkwX4_append_0 : List UInt8 := [42, 3, 181, 0, 39, 27, 16, 33, 16, 126, 184, 0, 46, 154, 0, 9, 42, 4, 182, 0, 76, 172, 42]
abbrev dktX4_append_0 : List UInt8 := dkwX4_append_0 ++ dktX4_append_1
theorem dksX4_append_0 : cX4_append.data.toList.drop 0 = dktX4_append_0 := by decide +kernel
theorem dksX4_append_1 : cX4_append.data.toList.drop 23 = dktX4_append_1 := dk_seg dksX4_append_0 23 rfl rfl
theorem dksX4_append_2 : cX4_append.data.toList.drop 47 = dktX4_append_2 := dk_seg dksX4_append_1 24 rfl rfl
theorem dX4_append_0 : decode cX4_append 0 = .ok (.aload_n 0, 1) := dk_42 (dk_at dksX4_append_0 0 rfl rfl)
theorem dX4_append_1 : decode cX4_append 1 = .ok (.iconst 0, 1) := dk_3 (dk_at dksX4_append_0 1 rfl rfl)
theorem dX4_append_2 : decode cX4_append 2 = .ok (.putfield 39, 3) := dk_181 0 39 (dk_at dksX4_append_0 2 rfl rfl)
theorem dX4_append_5 : decode cX4_append 5 = .ok (.iload_n 1, 1) := dk_27 (dk_at dksX4_append_0 5 rfl rfl)
theorem dX4_append_6 : decode cX4_append 6 = .ok (.bipush 33, 2) := dk_16 33 (dk_at dksX4_append_0 6 rfl rfl)
theorem dX4_append_8 : decode cX4_append 8 = .ok (.bipush 126, 2) := dk_16 126 (dk_at dksX4_append_0 8 rfl rfl)
theorem dX4_append_10 : decode cX4_append 10 = .ok (.invokestatic 46, 3) := dk_184 0 46 (dk_at dksX4_append_0 10 rfl rfl)
theorem dX4_append_13 : decode cX4_append 13 = .ok (.ifCond .ne 9, 3) := dk_154 0 9 (dk_at dksX4_append_0 13 rfl rfl)
theorem dX4_append_16 : decode cX4_append 16 = .ok (.aload_n 0, 1) := dk_42 (dk_at dksX4_append_0 16 rfl rfl)
theorem dX4_append_17 : decode cX4_append 17 = .ok (.iconst 1, 1) := dk_4 (dk_at dksX4_append_0 17 rfl rfl)
theorem dX4_append_18 : decode cX4_append 18 = .ok (.invokevirtual 76, 3) := dk_182 0 76 (dk_at dksX4_append_0 18 rfl rfl)
theorem dX4_append_21 : decode cX4_append 21 = .ok (.ireturn, 1) := dk_172 (dk_at dksX4_append_0 21 rfl rfl)
theorem dX4_append_22 : decode cX4_append 22 = .ok (.aload_n 0, 1) := dk_42 (dk_at dksX4_append_0 22 rfl rfl)
theorem dX4_append_23 : decode cX4_append 23 = .ok (.getfield 159, 3) := dk_180 0 159 (dk_at dksX4_append_1 0 rfl rfl)
theorem dX4_append_26 : decode cX4_append 26 = .ok (.bipush 80, 2) := dk_16 80 (dk_at dksX4_append_1 3 rfl rfl)
theorem dX4_append_28 : decode cX4_append 28 = .ok (.if_icmp .ne 9, 3) := dk_160 0 9 (dk_at dksX4_append_1 5 rfl rfl)
theorem dX4_append_31 : decode cX4_append 31 = .ok (.aload_n 0, 1) := dk_42 (dk_at dksX4_append_1 8 rfl rfl)
theorem dX4_append_32 : decode cX4_append 32 = .ok (.iconst 2, 1) := dk_5 (dk_at dksX4_append_1 9 rfl rfl)
theorem dX4_append_33 : decode cX4_append 33 = .ok (.invokevirtual 76, 3) := dk_182 0 76 (dk_at dksX4_append_1 10 rfl rfl)
theorem dX4_append_36 : decode cX4_append 36 = .ok (.ireturn, 1) := dk_172 (dk_at dksX4_append_1 13 rfl rfl)
theorem dX4_append_37 : decode cX4_append 37 = .ok (.aload_n 0, 1) := dk_42 (dk_at dksX4_append_1 14 rfl rfl)
theorem dX4_append_38 : decode cX4_append 38 = .ok (.getfield 23, 3) := dk_180 0 23 (dk_at dksX4_append_1 15 rfl rfl)
theorem dX4_append_41 : decode cX4_append 41 = .ok (.aload_n 0, 1) := dk_42 (dk_at dksX4_append_1 18 rfl rfl)
theorem dX4_append_42 : decode cX4_append 42 = .ok (.getfield 159, 3) := dk_180 0 159 (dk_at dksX4_append_1 19 rfl rfl)
theorem dX4_append_45 : decode cX4_append 45 = .ok (.iload_n 1, 1) := dk_27 (dk_at dksX4_append_1 22 rfl rfl)
theorem dX4_append_46 : decode cX4_append 46 = .ok (.iastore, 1) := dk_79 (dk_at dksX4_append_1 23 rfl rfl)
theorem dX4_append_47 : decode cX4_append 47 = .ok (.aload_n 0, 1) := dk_42 (dk_at dksX4_append_2 0 rfl rfl)
theorem dX4_append_48 : decode cX4_append 48 = .ok (.dup, 1) := dk_89 (dk_at dksX4_append_2 1 rfl rfl)
theorem dX4_append_49 : decode cX4_append 49 = .ok (.getfield 159, 3) := dk_180 0 159 (dk_at dksX4_append_2 2 rfl rfl)
theorem dX4_append_52 : decode cX4_append 52 = .ok (.iconst 1, 1) := dk_4 (dk_at dksX4_append_2 5 rfl rfl)
theorem dX4_append_53 : decode cX4_append 53 = .ok (.iadd, 1) := dk_96 (dk_at dksX4_append_2 6 rfl rfl)
theorem dX4_append_54 : decode cX4_append 54 = .ok (.putfield 159, 3) := dk_181 0 159 (dk_at dksX4_append_2 7 rfl rfl)
theorem dX4_append_57 : decode cX4_append 57 = .ok (.aload_n 0, 1) := dk_42 (dk_at dksX4_append_2 10 rfl rfl)
theorem dX4_append_58 : decode cX4_append 58 = .ok (.getfield 159, 3) := dk_180 0 159 (dk_at dksX4_append_2 11 rfl rfl)
theorem dX4_append_61 : decode cX4_append 61 = .ok (.ireturn, 1) := dk_172 (dk_at dksX4_append_2 14 rfl rfl)
abbrev cX4_clear : ByteArray := prog_14_method_60_code
def yX4_clear : MethodName := ⟨RX4, "clear", "()I"⟩
def dkwX4_clear_0 : List UInt8 := [42, 3, 181, 0, 39, 42, 180, 0, 159, 60, 42, 3, 181, 0, 159, 27, 172]
abbrev dktX4_clear_0 : List UInt8 := dkwX4_clear_0 ++ []
theorem dksX4_clear_0 : cX4_clear.data.toList.drop 0 = dktX4_clear_0 := by decide +kernel
theorem dX4_clear_0 : decode cX4_clear 0 = .ok (.aload_n 0, 1) := dk_42 (dk_at dksX4_clear_0 0 rfl rfl)
theorem dX4_clear_1 : decode cX4_clear 1 = .ok (.iconst 0, 1) := dk_3 (dk_at dksX4_clear_0 1 rfl rfl)
theorem dX4_clear_2 : decode cX4_clear 2 = .ok (.putfield 39, 3) := dk_181 0 39 (dk_at dksX4_clear_0 2 rfl rfl)
theorem dX4_clear_5 : decode cX4_clear 5 = .ok (.aload_n 0, 1) := dk_42 (dk_at dksX4_clear_0 5 rfl rfl)
theorem dX4_clear_6 : decode cX4_clear 6 = .ok (.getfield 159, 3) := dk_180 0 159 (dk_at dksX4_clear_0 6 rfl rfl)
theorem dX4_clear_9 : decode cX4_clear 9 = .ok (.istore_n 1, 1) := dk_60 (dk_at dksX4_clear_0 9 rfl rfl)
theorem dX4_clear_10 : decode cX4_clear 10 = .ok (.aload_n 0, 1) := dk_42 (dk_at dksX4_clear_0 10 rfl rfl)
theorem dX4_clear_11 : decode cX4_clear 11 = .ok (.iconst 0, 1) := dk_3 (dk_at dksX4_clear_0 11 rfl rfl)
theorem dX4_clear_12 : decode cX4_clear 12 = .ok (.putfield 159, 3) := dk_181 0 159 (dk_at dksX4_clear_0 12 rfl rfl)
theorem dX4_clear_15 : decode cX4_clear 15 = .ok (.iload_n 1, 1) := dk_27 (dk_at dksX4_clear_0 15 rfl rfl)
theorem dX4_clear_16 : decode cX4_clear 16 = .ok (.ireturn, 1) := dk_172 (dk_at dksX4_clear_0 16 rfl rfl)
abbrev cX4_fault : ByteArray := prog_14_method_67_code
def yX4_fault : MethodName := ⟨RX4, "fault", "()I"⟩
def dkwX4_fault_0 : List UInt8 := [42, 3, 181, 0, 39, 42, 182, 0, 190, 172]
abbrev dktX4_fault_0 : List UInt8 := dkwX4_fault_0 ++ []
theorem dksX4_fault_0 : cX4_fault.data.toList.drop 0 = dktX4_fault_0 := by decide +kernel
theorem dX4_fault_0 : decode cX4_fault 0 = .ok (.aload_n 0, 1) := dk_42 (dk_at dksX4_fault_0 0 rfl rfl)
theorem dX4_fault_1 : decode cX4_fault 1 = .ok (.iconst 0, 1) := dk_3 (dk_at dksX4_fault_0 1 rfl rfl)
theorem dX4_fault_2 : decode cX4_fault 2 = .ok (.putfield 39, 3) := dk_181 0 39 (dk_at dksX4_fault_0 2 rfl rfl)
theorem dX4_fault_5 : decode cX4_fault 5 = .ok (.aload_n 0, 1) := dk_42 (dk_at dksX4_fault_0 5 rfl rfl)
theorem dX4_fault_6 : decode cX4_fault 6 = .ok (.invokevirtual 190, 3) := dk_182 0 190 (dk_at dksX4_fault_0 6 rfl rfl)
theorem dX4_fault_9 : decode cX4_fault 9 = .ok (.ireturn, 1) := dk_172 (dk_at dksX4_fault_0 9 rfl rfl)
abbrev cX4_wrong : ByteArray := prog_14_method_66_code
def yX4_wrong : MethodName := ⟨RX4, "wrong", "()I"⟩
def dkwX4_wrong_5 : List UInt8 := [160, 0, 7, 2, 167, 0, 7, 42, 180, 0, 162, 172]
abbrev dktX4_wrong_5 : List UInt8 := dkwX4_wrong_5 ++ []
def dkwX4_wrong_4 : List UInt8 := [182, 0, 174, 153, 0, 7, 4, 167, 0, 4, 3, 60, 167, 255, 216, 42, 180, 0, 162, 42, 180, 0, 159]
abbrev dktX4_wrong_4 : List UInt8 := dkwX4_wrong_4 ++ dktX4_wrong_5
def dkwX4_wrong_3 : List UInt8 := [182, 0, 187, 154, 0, 8, 42, 180, 0, 162, 172, 42, 180, 0, 171, 16, 6, 162, 0, 16, 42, 16, 59]
abbrev dktX4_wrong_3 : List UInt8 := dkwX4_wrong_3 ++ dktX4_wrong_4
def dkwX4_wrong_2 : List UInt8 := [42, 180, 0, 162, 42, 180, 0, 159, 162, 0, 7, 4, 167, 0, 4, 3, 60, 27, 153, 0, 42, 42]
abbrev dktX4_wrong_2 : List UInt8 := dkwX4_wrong_2 ++ dktX4_wrong_3
def dkwX4_wrong_1 : List UInt8 := [182, 0, 174, 154, 0, 13, 42, 3, 181, 0, 184, 42, 180, 0, 162, 172, 42, 42, 180, 0, 168, 181, 0, 184]
abbrev dktX4_wrong_1 : List UInt8 := dkwX4_wrong_1 ++ dktX4_wrong_2
def dkwX4_wrong_0 : List UInt8 := [42, 3, 181, 0, 162, 42, 3, 181, 0, 171, 42, 16, 19, 182, 0, 177, 153, 0, 12, 42, 16, 58]
abbrev dktX4_wrong_0 : List UInt8 := dkwX4_wrong_0 ++ dktX4_wrong_1
theorem dksX4_wrong_0 : cX4_wrong.data.toList.drop 0 = dktX4_wrong_0 := by decide +kernel
theorem dksX4_wrong_1 : cX4_wrong.data.toList.drop 22 = dktX4_wrong_1 := dk_seg dksX4_wrong_0 22 rfl rfl
theorem dksX4_wrong_2 : cX4_wrong.data.toList.drop 46 = dktX4_wrong_2 := dk_seg dksX4_wrong_1 24 rfl rfl
theorem dksX4_wrong_3 : cX4_wrong.data.toList.drop 68 = dktX4_wrong_3 := dk_seg dksX4_wrong_2 22 rfl rfl
theorem dksX4_wrong_4 : cX4_wrong.data.toList.drop 91 = dktX4_wrong_4 := dk_seg dksX4_wrong_3 23 rfl rfl
theorem dksX4_wrong_5 : cX4_wrong.data.toList.drop 114 = dktX4_wrong_5 := dk_seg dksX4_wrong_4 23 rfl rfl
theorem dX4_wrong_0 : decode cX4_wrong 0 = .ok (.aload_n 0, 1) := dk_42 (dk_at dksX4_wrong_0 0 rfl rfl)
theorem dX4_wrong_1 : decode cX4_wrong 1 = .ok (.iconst 0, 1) := dk_3 (dk_at dksX4_wrong_0 1 rfl rfl)
theorem dX4_wrong_2 : decode cX4_wrong 2 = .ok (.putfield 162, 3) := dk_181 0 162 (dk_at dksX4_wrong_0 2 rfl rfl)
theorem dX4_wrong_5 : decode cX4_wrong 5 = .ok (.aload_n 0, 1) := dk_42 (dk_at dksX4_wrong_0 5 rfl rfl)
theorem dX4_wrong_6 : decode cX4_wrong 6 = .ok (.iconst 0, 1) := dk_3 (dk_at dksX4_wrong_0 6 rfl rfl)
theorem dX4_wrong_7 : decode cX4_wrong 7 = .ok (.putfield 171, 3) := dk_181 0 171 (dk_at dksX4_wrong_0 7 rfl rfl)
theorem dX4_wrong_10 : decode cX4_wrong 10 = .ok (.aload_n 0, 1) := dk_42 (dk_at dksX4_wrong_0 10 rfl rfl)
theorem dX4_wrong_11 : decode cX4_wrong 11 = .ok (.bipush 19, 2) := dk_16 19 (dk_at dksX4_wrong_0 11 rfl rfl)
theorem dX4_wrong_13 : decode cX4_wrong 13 = .ok (.invokevirtual 177, 3) := dk_182 0 177 (dk_at dksX4_wrong_0 13 rfl rfl)
theorem dX4_wrong_16 : decode cX4_wrong 16 = .ok (.ifCond .eq 12, 3) := dk_153 0 12 (dk_at dksX4_wrong_0 16 rfl rfl)
theorem dX4_wrong_19 : decode cX4_wrong 19 = .ok (.aload_n 0, 1) := dk_42 (dk_at dksX4_wrong_0 19 rfl rfl)
theorem dX4_wrong_20 : decode cX4_wrong 20 = .ok (.bipush 58, 2) := dk_16 58 (dk_at dksX4_wrong_0 20 rfl rfl)
theorem dX4_wrong_22 : decode cX4_wrong 22 = .ok (.invokevirtual 174, 3) := dk_182 0 174 (dk_at dksX4_wrong_1 0 rfl rfl)
theorem dX4_wrong_25 : decode cX4_wrong 25 = .ok (.ifCond .ne 13, 3) := dk_154 0 13 (dk_at dksX4_wrong_1 3 rfl rfl)
theorem dX4_wrong_28 : decode cX4_wrong 28 = .ok (.aload_n 0, 1) := dk_42 (dk_at dksX4_wrong_1 6 rfl rfl)
theorem dX4_wrong_29 : decode cX4_wrong 29 = .ok (.iconst 0, 1) := dk_3 (dk_at dksX4_wrong_1 7 rfl rfl)
theorem dX4_wrong_30 : decode cX4_wrong 30 = .ok (.putfield 184, 3) := dk_181 0 184 (dk_at dksX4_wrong_1 8 rfl rfl)
theorem dX4_wrong_33 : decode cX4_wrong 33 = .ok (.aload_n 0, 1) := dk_42 (dk_at dksX4_wrong_1 11 rfl rfl)
theorem dX4_wrong_34 : decode cX4_wrong 34 = .ok (.getfield 162, 3) := dk_180 0 162 (dk_at dksX4_wrong_1 12 rfl rfl)
theorem dX4_wrong_37 : decode cX4_wrong 37 = .ok (.ireturn, 1) := dk_172 (dk_at dksX4_wrong_1 15 rfl rfl)
theorem dX4_wrong_38 : decode cX4_wrong 38 = .ok (.aload_n 0, 1) := dk_42 (dk_at dksX4_wrong_1 16 rfl rfl)
theorem dX4_wrong_39 : decode cX4_wrong 39 = .ok (.aload_n 0, 1) := dk_42 (dk_at dksX4_wrong_1 17 rfl rfl)
theorem dX4_wrong_40 : decode cX4_wrong 40 = .ok (.getfield 168, 3) := dk_180 0 168 (dk_at dksX4_wrong_1 18 rfl rfl)
theorem dX4_wrong_43 : decode cX4_wrong 43 = .ok (.putfield 184, 3) := dk_181 0 184 (dk_at dksX4_wrong_1 21 rfl rfl)
theorem dX4_wrong_46 : decode cX4_wrong 46 = .ok (.aload_n 0, 1) := dk_42 (dk_at dksX4_wrong_2 0 rfl rfl)
theorem dX4_wrong_47 : decode cX4_wrong 47 = .ok (.getfield 162, 3) := dk_180 0 162 (dk_at dksX4_wrong_2 1 rfl rfl)
theorem dX4_wrong_50 : decode cX4_wrong 50 = .ok (.aload_n 0, 1) := dk_42 (dk_at dksX4_wrong_2 4 rfl rfl)
theorem dX4_wrong_51 : decode cX4_wrong 51 = .ok (.getfield 159, 3) := dk_180 0 159 (dk_at dksX4_wrong_2 5 rfl rfl)
theorem dX4_wrong_54 : decode cX4_wrong 54 = .ok (.if_icmp .ge 7, 3) := dk_162 0 7 (dk_at dksX4_wrong_2 8 rfl rfl)
theorem dX4_wrong_57 : decode cX4_wrong 57 = .ok (.iconst 1, 1) := dk_4 (dk_at dksX4_wrong_2 11 rfl rfl)
theorem dX4_wrong_58 : decode cX4_wrong 58 = .ok (.goto 4, 3) := dk_167 0 4 (dk_at dksX4_wrong_2 12 rfl rfl)
theorem dX4_wrong_61 : decode cX4_wrong 61 = .ok (.iconst 0, 1) := dk_3 (dk_at dksX4_wrong_2 15 rfl rfl)
theorem dX4_wrong_62 : decode cX4_wrong 62 = .ok (.istore_n 1, 1) := dk_60 (dk_at dksX4_wrong_2 16 rfl rfl)
theorem dX4_wrong_63 : decode cX4_wrong 63 = .ok (.iload_n 1, 1) := dk_27 (dk_at dksX4_wrong_2 17 rfl rfl)
theorem dX4_wrong_64 : decode cX4_wrong 64 = .ok (.ifCond .eq 42, 3) := dk_153 0 42 (dk_at dksX4_wrong_2 18 rfl rfl)
theorem dX4_wrong_67 : decode cX4_wrong 67 = .ok (.aload_n 0, 1) := dk_42 (dk_at dksX4_wrong_2 21 rfl rfl)
theorem dX4_wrong_68 : decode cX4_wrong 68 = .ok (.invokevirtual 187, 3) := dk_182 0 187 (dk_at dksX4_wrong_3 0 rfl rfl)
theorem dX4_wrong_71 : decode cX4_wrong 71 = .ok (.ifCond .ne 8, 3) := dk_154 0 8 (dk_at dksX4_wrong_3 3 rfl rfl)
theorem dX4_wrong_74 : decode cX4_wrong 74 = .ok (.aload_n 0, 1) := dk_42 (dk_at dksX4_wrong_3 6 rfl rfl)
theorem dX4_wrong_75 : decode cX4_wrong 75 = .ok (.getfield 162, 3) := dk_180 0 162 (dk_at dksX4_wrong_3 7 rfl rfl)
theorem dX4_wrong_78 : decode cX4_wrong 78 = .ok (.ireturn, 1) := dk_172 (dk_at dksX4_wrong_3 10 rfl rfl)
theorem dX4_wrong_79 : decode cX4_wrong 79 = .ok (.aload_n 0, 1) := dk_42 (dk_at dksX4_wrong_3 11 rfl rfl)
theorem dX4_wrong_80 : decode cX4_wrong 80 = .ok (.getfield 171, 3) := dk_180 0 171 (dk_at dksX4_wrong_3 12 rfl rfl)
theorem dX4_wrong_83 : decode cX4_wrong 83 = .ok (.bipush 6, 2) := dk_16 6 (dk_at dksX4_wrong_3 15 rfl rfl)
theorem dX4_wrong_85 : decode cX4_wrong 85 = .ok (.if_icmp .ge 16, 3) := dk_162 0 16 (dk_at dksX4_wrong_3 17 rfl rfl)
theorem dX4_wrong_88 : decode cX4_wrong 88 = .ok (.aload_n 0, 1) := dk_42 (dk_at dksX4_wrong_3 20 rfl rfl)
theorem dX4_wrong_89 : decode cX4_wrong 89 = .ok (.bipush 59, 2) := dk_16 59 (dk_at dksX4_wrong_3 21 rfl rfl)
theorem dX4_wrong_91 : decode cX4_wrong 91 = .ok (.invokevirtual 174, 3) := dk_182 0 174 (dk_at dksX4_wrong_4 0 rfl rfl)
theorem dX4_wrong_94 : decode cX4_wrong 94 = .ok (.ifCond .eq 7, 3) := dk_153 0 7 (dk_at dksX4_wrong_4 3 rfl rfl)
theorem dX4_wrong_97 : decode cX4_wrong 97 = .ok (.iconst 1, 1) := dk_4 (dk_at dksX4_wrong_4 6 rfl rfl)
theorem dX4_wrong_98 : decode cX4_wrong 98 = .ok (.goto 4, 3) := dk_167 0 4 (dk_at dksX4_wrong_4 7 rfl rfl)
theorem dX4_wrong_101 : decode cX4_wrong 101 = .ok (.iconst 0, 1) := dk_3 (dk_at dksX4_wrong_4 10 rfl rfl)
theorem dX4_wrong_102 : decode cX4_wrong 102 = .ok (.istore_n 1, 1) := dk_60 (dk_at dksX4_wrong_4 11 rfl rfl)
theorem dX4_wrong_103 : decode cX4_wrong 103 = .ok (.goto (-40), 3) := dk_167 255 216 (dk_at dksX4_wrong_4 12 rfl rfl)
theorem dX4_wrong_106 : decode cX4_wrong 106 = .ok (.aload_n 0, 1) := dk_42 (dk_at dksX4_wrong_4 15 rfl rfl)
theorem dX4_wrong_107 : decode cX4_wrong 107 = .ok (.getfield 162, 3) := dk_180 0 162 (dk_at dksX4_wrong_4 16 rfl rfl)
theorem dX4_wrong_110 : decode cX4_wrong 110 = .ok (.aload_n 0, 1) := dk_42 (dk_at dksX4_wrong_4 19 rfl rfl)
theorem dX4_wrong_111 : decode cX4_wrong 111 = .ok (.getfield 159, 3) := dk_180 0 159 (dk_at dksX4_wrong_4 20 rfl rfl)
theorem dX4_wrong_114 : decode cX4_wrong 114 = .ok (.if_icmp .ne 7, 3) := dk_160 0 7 (dk_at dksX4_wrong_5 0 rfl rfl)
theorem dX4_wrong_117 : decode cX4_wrong 117 = .ok (.iconst (-1), 1) := dk_2 (dk_at dksX4_wrong_5 3 rfl rfl)
theorem dX4_wrong_118 : decode cX4_wrong 118 = .ok (.goto 7, 3) := dk_167 0 7 (dk_at dksX4_wrong_5 4 rfl rfl)
theorem dX4_wrong_121 : decode cX4_wrong 121 = .ok (.aload_n 0, 1) := dk_42 (dk_at dksX4_wrong_5 7 rfl rfl)
theorem dX4_wrong_122 : decode cX4_wrong 122 = .ok (.getfield 162, 3) := dk_180 0 162 (dk_at dksX4_wrong_5 8 rfl rfl)
theorem dX4_wrong_125 : decode cX4_wrong 125 = .ok (.ireturn, 1) := dk_172 (dk_at dksX4_wrong_5 11 rfl rfl)
abbrev cX4_number : ByteArray := prog_14_method_63_code
def yX4_number : MethodName := ⟨RX4, "number", "(I)Z"⟩
def dkwX4_number_4 : List UInt8 := [16, 48, 100, 181, 0, 168, 42, 89, 180, 0, 162, 4, 96, 181, 0, 162, 4, 172]
abbrev dktX4_number_4 : List UInt8 := dkwX4_number_4 ++ []
def dkwX4_number_3 : List UInt8 := [96, 16, 10, 100, 182, 0, 165, 153, 0, 32, 42, 16, 10, 42, 180, 0, 23, 42, 180, 0, 162, 46, 96]
abbrev dktX4_number_3 : List UInt8 := dkwX4_number_3 ++ dktX4_number_4
def dkwX4_number_2 : List UInt8 := [96, 181, 0, 162, 42, 180, 0, 168, 4, 160, 0, 54, 27, 16, 9, 164, 0, 48, 42, 16, 48, 16, 48, 27]
abbrev dktX4_number_2 : List UInt8 := dkwX4_number_2 ++ dktX4_number_3
def dkwX4_number_1 : List UInt8 := [3, 172, 42, 42, 180, 0, 23, 42, 180, 0, 162, 46, 16, 48, 100, 181, 0, 168, 42, 89, 180, 0, 162, 4]
abbrev dktX4_number_1 : List UInt8 := dkwX4_number_1 ++ dktX4_number_2
def dkwX4_number_0 : List UInt8 := [42, 16, 48, 16, 48, 27, 16, 9, 162, 0, 7, 27, 167, 0, 5, 16, 9, 96, 182, 0, 165, 154, 0, 5]
abbrev dktX4_number_0 : List UInt8 := dkwX4_number_0 ++ dktX4_number_1
theorem dksX4_number_0 : cX4_number.data.toList.drop 0 = dktX4_number_0 := by decide +kernel
theorem dksX4_number_1 : cX4_number.data.toList.drop 24 = dktX4_number_1 := dk_seg dksX4_number_0 24 rfl rfl
theorem dksX4_number_2 : cX4_number.data.toList.drop 48 = dktX4_number_2 := dk_seg dksX4_number_1 24 rfl rfl
theorem dksX4_number_3 : cX4_number.data.toList.drop 72 = dktX4_number_3 := dk_seg dksX4_number_2 24 rfl rfl
theorem dksX4_number_4 : cX4_number.data.toList.drop 95 = dktX4_number_4 := dk_seg dksX4_number_3 23 rfl rfl
theorem dX4_number_0 : decode cX4_number 0 = .ok (.aload_n 0, 1) := dk_42 (dk_at dksX4_number_0 0 rfl rfl)
theorem dX4_number_1 : decode cX4_number 1 = .ok (.bipush 48, 2) := dk_16 48 (dk_at dksX4_number_0 1 rfl rfl)
theorem dX4_number_3 : decode cX4_number 3 = .ok (.bipush 48, 2) := dk_16 48 (dk_at dksX4_number_0 3 rfl rfl)
theorem dX4_number_5 : decode cX4_number 5 = .ok (.iload_n 1, 1) := dk_27 (dk_at dksX4_number_0 5 rfl rfl)
theorem dX4_number_6 : decode cX4_number 6 = .ok (.bipush 9, 2) := dk_16 9 (dk_at dksX4_number_0 6 rfl rfl)
theorem dX4_number_8 : decode cX4_number 8 = .ok (.if_icmp .ge 7, 3) := dk_162 0 7 (dk_at dksX4_number_0 8 rfl rfl)
theorem dX4_number_11 : decode cX4_number 11 = .ok (.iload_n 1, 1) := dk_27 (dk_at dksX4_number_0 11 rfl rfl)
theorem dX4_number_12 : decode cX4_number 12 = .ok (.goto 5, 3) := dk_167 0 5 (dk_at dksX4_number_0 12 rfl rfl)
theorem dX4_number_15 : decode cX4_number 15 = .ok (.bipush 9, 2) := dk_16 9 (dk_at dksX4_number_0 15 rfl rfl)
theorem dX4_number_17 : decode cX4_number 17 = .ok (.iadd, 1) := dk_96 (dk_at dksX4_number_0 17 rfl rfl)
theorem dX4_number_18 : decode cX4_number 18 = .ok (.invokevirtual 165, 3) := dk_182 0 165 (dk_at dksX4_number_0 18 rfl rfl)
theorem dX4_number_21 : decode cX4_number 21 = .ok (.ifCond .ne 5, 3) := dk_154 0 5 (dk_at dksX4_number_0 21 rfl rfl)
theorem dX4_number_24 : decode cX4_number 24 = .ok (.iconst 0, 1) := dk_3 (dk_at dksX4_number_1 0 rfl rfl)
theorem dX4_number_25 : decode cX4_number 25 = .ok (.ireturn, 1) := dk_172 (dk_at dksX4_number_1 1 rfl rfl)
theorem dX4_number_26 : decode cX4_number 26 = .ok (.aload_n 0, 1) := dk_42 (dk_at dksX4_number_1 2 rfl rfl)
theorem dX4_number_27 : decode cX4_number 27 = .ok (.aload_n 0, 1) := dk_42 (dk_at dksX4_number_1 3 rfl rfl)
theorem dX4_number_28 : decode cX4_number 28 = .ok (.getfield 23, 3) := dk_180 0 23 (dk_at dksX4_number_1 4 rfl rfl)
theorem dX4_number_31 : decode cX4_number 31 = .ok (.aload_n 0, 1) := dk_42 (dk_at dksX4_number_1 7 rfl rfl)
theorem dX4_number_32 : decode cX4_number 32 = .ok (.getfield 162, 3) := dk_180 0 162 (dk_at dksX4_number_1 8 rfl rfl)
theorem dX4_number_35 : decode cX4_number 35 = .ok (.iaload, 1) := dk_46 (dk_at dksX4_number_1 11 rfl rfl)
theorem dX4_number_36 : decode cX4_number 36 = .ok (.bipush 48, 2) := dk_16 48 (dk_at dksX4_number_1 12 rfl rfl)
theorem dX4_number_38 : decode cX4_number 38 = .ok (.isub, 1) := dk_100 (dk_at dksX4_number_1 14 rfl rfl)
theorem dX4_number_39 : decode cX4_number 39 = .ok (.putfield 168, 3) := dk_181 0 168 (dk_at dksX4_number_1 15 rfl rfl)
theorem dX4_number_42 : decode cX4_number 42 = .ok (.aload_n 0, 1) := dk_42 (dk_at dksX4_number_1 18 rfl rfl)
theorem dX4_number_43 : decode cX4_number 43 = .ok (.dup, 1) := dk_89 (dk_at dksX4_number_1 19 rfl rfl)
theorem dX4_number_44 : decode cX4_number 44 = .ok (.getfield 162, 3) := dk_180 0 162 (dk_at dksX4_number_1 20 rfl rfl)
theorem dX4_number_47 : decode cX4_number 47 = .ok (.iconst 1, 1) := dk_4 (dk_at dksX4_number_1 23 rfl rfl)
theorem dX4_number_48 : decode cX4_number 48 = .ok (.iadd, 1) := dk_96 (dk_at dksX4_number_2 0 rfl rfl)
theorem dX4_number_49 : decode cX4_number 49 = .ok (.putfield 162, 3) := dk_181 0 162 (dk_at dksX4_number_2 1 rfl rfl)
theorem dX4_number_52 : decode cX4_number 52 = .ok (.aload_n 0, 1) := dk_42 (dk_at dksX4_number_2 4 rfl rfl)
theorem dX4_number_53 : decode cX4_number 53 = .ok (.getfield 168, 3) := dk_180 0 168 (dk_at dksX4_number_2 5 rfl rfl)
theorem dX4_number_56 : decode cX4_number 56 = .ok (.iconst 1, 1) := dk_4 (dk_at dksX4_number_2 8 rfl rfl)
theorem dX4_number_57 : decode cX4_number 57 = .ok (.if_icmp .ne 54, 3) := dk_160 0 54 (dk_at dksX4_number_2 9 rfl rfl)
theorem dX4_number_60 : decode cX4_number 60 = .ok (.iload_n 1, 1) := dk_27 (dk_at dksX4_number_2 12 rfl rfl)
theorem dX4_number_61 : decode cX4_number 61 = .ok (.bipush 9, 2) := dk_16 9 (dk_at dksX4_number_2 13 rfl rfl)
theorem dX4_number_63 : decode cX4_number 63 = .ok (.if_icmp .le 48, 3) := dk_164 0 48 (dk_at dksX4_number_2 15 rfl rfl)
theorem dX4_number_66 : decode cX4_number 66 = .ok (.aload_n 0, 1) := dk_42 (dk_at dksX4_number_2 18 rfl rfl)
theorem dX4_number_67 : decode cX4_number 67 = .ok (.bipush 48, 2) := dk_16 48 (dk_at dksX4_number_2 19 rfl rfl)
theorem dX4_number_69 : decode cX4_number 69 = .ok (.bipush 48, 2) := dk_16 48 (dk_at dksX4_number_2 21 rfl rfl)
theorem dX4_number_71 : decode cX4_number 71 = .ok (.iload_n 1, 1) := dk_27 (dk_at dksX4_number_2 23 rfl rfl)
theorem dX4_number_72 : decode cX4_number 72 = .ok (.iadd, 1) := dk_96 (dk_at dksX4_number_3 0 rfl rfl)
theorem dX4_number_73 : decode cX4_number 73 = .ok (.bipush 10, 2) := dk_16 10 (dk_at dksX4_number_3 1 rfl rfl)
theorem dX4_number_75 : decode cX4_number 75 = .ok (.isub, 1) := dk_100 (dk_at dksX4_number_3 3 rfl rfl)
theorem dX4_number_76 : decode cX4_number 76 = .ok (.invokevirtual 165, 3) := dk_182 0 165 (dk_at dksX4_number_3 4 rfl rfl)
theorem dX4_number_79 : decode cX4_number 79 = .ok (.ifCond .eq 32, 3) := dk_153 0 32 (dk_at dksX4_number_3 7 rfl rfl)
theorem dX4_number_82 : decode cX4_number 82 = .ok (.aload_n 0, 1) := dk_42 (dk_at dksX4_number_3 10 rfl rfl)
theorem dX4_number_83 : decode cX4_number 83 = .ok (.bipush 10, 2) := dk_16 10 (dk_at dksX4_number_3 11 rfl rfl)
theorem dX4_number_85 : decode cX4_number 85 = .ok (.aload_n 0, 1) := dk_42 (dk_at dksX4_number_3 13 rfl rfl)
theorem dX4_number_86 : decode cX4_number 86 = .ok (.getfield 23, 3) := dk_180 0 23 (dk_at dksX4_number_3 14 rfl rfl)
theorem dX4_number_89 : decode cX4_number 89 = .ok (.aload_n 0, 1) := dk_42 (dk_at dksX4_number_3 17 rfl rfl)
theorem dX4_number_90 : decode cX4_number 90 = .ok (.getfield 162, 3) := dk_180 0 162 (dk_at dksX4_number_3 18 rfl rfl)
theorem dX4_number_93 : decode cX4_number 93 = .ok (.iaload, 1) := dk_46 (dk_at dksX4_number_3 21 rfl rfl)
theorem dX4_number_94 : decode cX4_number 94 = .ok (.iadd, 1) := dk_96 (dk_at dksX4_number_3 22 rfl rfl)
theorem dX4_number_95 : decode cX4_number 95 = .ok (.bipush 48, 2) := dk_16 48 (dk_at dksX4_number_4 0 rfl rfl)
theorem dX4_number_97 : decode cX4_number 97 = .ok (.isub, 1) := dk_100 (dk_at dksX4_number_4 2 rfl rfl)
theorem dX4_number_98 : decode cX4_number 98 = .ok (.putfield 168, 3) := dk_181 0 168 (dk_at dksX4_number_4 3 rfl rfl)
theorem dX4_number_101 : decode cX4_number 101 = .ok (.aload_n 0, 1) := dk_42 (dk_at dksX4_number_4 6 rfl rfl)
theorem dX4_number_102 : decode cX4_number 102 = .ok (.dup, 1) := dk_89 (dk_at dksX4_number_4 7 rfl rfl)
theorem dX4_number_103 : decode cX4_number 103 = .ok (.getfield 162, 3) := dk_180 0 162 (dk_at dksX4_number_4 8 rfl rfl)
theorem dX4_number_106 : decode cX4_number 106 = .ok (.iconst 1, 1) := dk_4 (dk_at dksX4_number_4 11 rfl rfl)
theorem dX4_number_107 : decode cX4_number 107 = .ok (.iadd, 1) := dk_96 (dk_at dksX4_number_4 12 rfl rfl)
theorem dX4_number_108 : decode cX4_number 108 = .ok (.putfield 162, 3) := dk_181 0 162 (dk_at dksX4_number_4 13 rfl rfl)
theorem dX4_number_111 : decode cX4_number 111 = .ok (.iconst 1, 1) := dk_4 (dk_at dksX4_number_4 16 rfl rfl)
theorem dX4_number_112 : decode cX4_number 112 = .ok (.ireturn, 1) := dk_172 (dk_at dksX4_number_4 17 rfl rfl)
abbrev cX4_sees : ByteArray := prog_14_method_61_code
def yX4_sees : MethodName := ⟨RX4, "sees", "(II)Z"⟩
def dkwX4_sees_1 : List UInt8 := [184, 0, 46, 153, 0, 7, 4, 167, 0, 4, 3, 172]
abbrev dktX4_sees_1 : List UInt8 := dkwX4_sees_1 ++ []
def dkwX4_sees_0 : List UInt8 := [42, 180, 0, 162, 42, 180, 0, 159, 162, 0, 24, 42, 180, 0, 23, 42, 180, 0, 162, 46, 27, 28]
abbrev dktX4_sees_0 : List UInt8 := dkwX4_sees_0 ++ dktX4_sees_1
theorem dksX4_sees_0 : cX4_sees.data.toList.drop 0 = dktX4_sees_0 := by decide +kernel
theorem dksX4_sees_1 : cX4_sees.data.toList.drop 22 = dktX4_sees_1 := dk_seg dksX4_sees_0 22 rfl rfl
theorem dX4_sees_0 : decode cX4_sees 0 = .ok (.aload_n 0, 1) := dk_42 (dk_at dksX4_sees_0 0 rfl rfl)
theorem dX4_sees_1 : decode cX4_sees 1 = .ok (.getfield 162, 3) := dk_180 0 162 (dk_at dksX4_sees_0 1 rfl rfl)
theorem dX4_sees_4 : decode cX4_sees 4 = .ok (.aload_n 0, 1) := dk_42 (dk_at dksX4_sees_0 4 rfl rfl)
theorem dX4_sees_5 : decode cX4_sees 5 = .ok (.getfield 159, 3) := dk_180 0 159 (dk_at dksX4_sees_0 5 rfl rfl)
theorem dX4_sees_8 : decode cX4_sees 8 = .ok (.if_icmp .ge 24, 3) := dk_162 0 24 (dk_at dksX4_sees_0 8 rfl rfl)
theorem dX4_sees_11 : decode cX4_sees 11 = .ok (.aload_n 0, 1) := dk_42 (dk_at dksX4_sees_0 11 rfl rfl)
theorem dX4_sees_12 : decode cX4_sees 12 = .ok (.getfield 23, 3) := dk_180 0 23 (dk_at dksX4_sees_0 12 rfl rfl)
theorem dX4_sees_15 : decode cX4_sees 15 = .ok (.aload_n 0, 1) := dk_42 (dk_at dksX4_sees_0 15 rfl rfl)
theorem dX4_sees_16 : decode cX4_sees 16 = .ok (.getfield 162, 3) := dk_180 0 162 (dk_at dksX4_sees_0 16 rfl rfl)
theorem dX4_sees_19 : decode cX4_sees 19 = .ok (.iaload, 1) := dk_46 (dk_at dksX4_sees_0 19 rfl rfl)
theorem dX4_sees_20 : decode cX4_sees 20 = .ok (.iload_n 1, 1) := dk_27 (dk_at dksX4_sees_0 20 rfl rfl)
theorem dX4_sees_21 : decode cX4_sees 21 = .ok (.iload_n 2, 1) := dk_28 (dk_at dksX4_sees_0 21 rfl rfl)
theorem dX4_sees_22 : decode cX4_sees 22 = .ok (.invokestatic 46, 3) := dk_184 0 46 (dk_at dksX4_sees_1 0 rfl rfl)
theorem dX4_sees_25 : decode cX4_sees 25 = .ok (.ifCond .eq 7, 3) := dk_153 0 7 (dk_at dksX4_sees_1 3 rfl rfl)
theorem dX4_sees_28 : decode cX4_sees 28 = .ok (.iconst 1, 1) := dk_4 (dk_at dksX4_sees_1 6 rfl rfl)
theorem dX4_sees_29 : decode cX4_sees 29 = .ok (.goto 4, 3) := dk_167 0 4 (dk_at dksX4_sees_1 7 rfl rfl)
theorem dX4_sees_32 : decode cX4_sees 32 = .ok (.iconst 0, 1) := dk_3 (dk_at dksX4_sees_1 10 rfl rfl)
theorem dX4_sees_33 : decode cX4_sees 33 = .ok (.ireturn, 1) := dk_172 (dk_at dksX4_sees_1 11 rfl rfl)
abbrev cX4_sign : ByteArray := prog_14_method_62_code
def yX4_sign : MethodName := ⟨RX4, "sign", "(I)Z"⟩
def dkwX4_sign_1 : List UInt8 := [181, 0, 162, 28, 172]
abbrev dktX4_sign_1 : List UInt8 := dkwX4_sign_1 ++ []
def dkwX4_sign_0 : List UInt8 := [42, 27, 27, 182, 0, 165, 61, 42, 89, 180, 0, 162, 28, 153, 0, 7, 4, 167, 0, 4, 3, 96]
abbrev dktX4_sign_0 : List UInt8 := dkwX4_sign_0 ++ dktX4_sign_1
theorem dksX4_sign_0 : cX4_sign.data.toList.drop 0 = dktX4_sign_0 := by decide +kernel
theorem dksX4_sign_1 : cX4_sign.data.toList.drop 22 = dktX4_sign_1 := dk_seg dksX4_sign_0 22 rfl rfl
theorem dX4_sign_0 : decode cX4_sign 0 = .ok (.aload_n 0, 1) := dk_42 (dk_at dksX4_sign_0 0 rfl rfl)
theorem dX4_sign_1 : decode cX4_sign 1 = .ok (.iload_n 1, 1) := dk_27 (dk_at dksX4_sign_0 1 rfl rfl)
theorem dX4_sign_2 : decode cX4_sign 2 = .ok (.iload_n 1, 1) := dk_27 (dk_at dksX4_sign_0 2 rfl rfl)
theorem dX4_sign_3 : decode cX4_sign 3 = .ok (.invokevirtual 165, 3) := dk_182 0 165 (dk_at dksX4_sign_0 3 rfl rfl)
theorem dX4_sign_6 : decode cX4_sign 6 = .ok (.istore_n 2, 1) := dk_61 (dk_at dksX4_sign_0 6 rfl rfl)
theorem dX4_sign_7 : decode cX4_sign 7 = .ok (.aload_n 0, 1) := dk_42 (dk_at dksX4_sign_0 7 rfl rfl)
theorem dX4_sign_8 : decode cX4_sign 8 = .ok (.dup, 1) := dk_89 (dk_at dksX4_sign_0 8 rfl rfl)
theorem dX4_sign_9 : decode cX4_sign 9 = .ok (.getfield 162, 3) := dk_180 0 162 (dk_at dksX4_sign_0 9 rfl rfl)
theorem dX4_sign_12 : decode cX4_sign 12 = .ok (.iload_n 2, 1) := dk_28 (dk_at dksX4_sign_0 12 rfl rfl)
theorem dX4_sign_13 : decode cX4_sign 13 = .ok (.ifCond .eq 7, 3) := dk_153 0 7 (dk_at dksX4_sign_0 13 rfl rfl)
theorem dX4_sign_16 : decode cX4_sign 16 = .ok (.iconst 1, 1) := dk_4 (dk_at dksX4_sign_0 16 rfl rfl)
theorem dX4_sign_17 : decode cX4_sign 17 = .ok (.goto 4, 3) := dk_167 0 4 (dk_at dksX4_sign_0 17 rfl rfl)
theorem dX4_sign_20 : decode cX4_sign 20 = .ok (.iconst 0, 1) := dk_3 (dk_at dksX4_sign_0 20 rfl rfl)
theorem dX4_sign_21 : decode cX4_sign 21 = .ok (.iadd, 1) := dk_96 (dk_at dksX4_sign_0 21 rfl rfl)
theorem dX4_sign_22 : decode cX4_sign 22 = .ok (.putfield 162, 3) := dk_181 0 162 (dk_at dksX4_sign_1 0 rfl rfl)
theorem dX4_sign_25 : decode cX4_sign 25 = .ok (.iload_n 2, 1) := dk_28 (dk_at dksX4_sign_1 3 rfl rfl)
theorem dX4_sign_26 : decode cX4_sign 26 = .ok (.ireturn, 1) := dk_172 (dk_at dksX4_sign_1 4 rfl rfl)
abbrev cX4_entryRead : ByteArray := prog_14_method_65_code
def yX4_entryRead : MethodName := ⟨RX4, "entryRead", "()Z"⟩
def dkwX4_entryRead_7 : List UInt8 := [89, 180, 0, 171, 4, 96, 181, 0, 171, 4, 172]
abbrev dktX4_entryRead_7 : List UInt8 := dkwX4_entryRead_7 ++ []
def dkwX4_entryRead_6 : List UInt8 := [79, 42, 180, 0, 32, 28, 7, 96, 42, 16, 42, 182, 0, 174, 153, 0, 7, 4, 167, 0, 4, 3, 79, 42]
abbrev dktX4_entryRead_6 : List UInt8 := dkwX4_entryRead_6 ++ dktX4_entryRead_7
def dkwX4_entryRead_5 : List UInt8 := [180, 0, 32, 28, 5, 96, 29, 79, 42, 180, 0, 32, 28, 6, 96, 27, 153, 0, 7, 4, 167, 0, 4, 3]
abbrev dktX4_entryRead_5 : List UInt8 := dkwX4_entryRead_5 ++ dktX4_entryRead_6
def dkwX4_entryRead_4 : List UInt8 := [42, 16, 109, 182, 0, 174, 153, 0, 8, 16, 8, 167, 0, 4, 3, 96, 62, 29, 154, 0, 5, 3, 172, 42]
abbrev dktX4_entryRead_4 : List UInt8 := dkwX4_entryRead_4 ++ dktX4_entryRead_5
def dkwX4_entryRead_3 : List UInt8 := [167, 0, 4, 3, 96, 62, 29, 42, 16, 120, 182, 0, 174, 153, 0, 7, 7, 167, 0, 4, 3, 96, 62, 29]
abbrev dktX4_entryRead_3 : List UInt8 := dkwX4_entryRead_3 ++ dktX4_entryRead_4
def dkwX4_entryRead_2 : List UInt8 := [182, 0, 174, 153, 0, 7, 4, 167, 0, 4, 3, 62, 29, 42, 16, 119, 182, 0, 174, 153, 0, 7, 5]
abbrev dktX4_entryRead_2 : List UInt8 := dkwX4_entryRead_2 ++ dktX4_entryRead_3
def dkwX4_entryRead_1 : List UInt8 := [153, 0, 12, 42, 16, 61, 182, 0, 174, 154, 0, 5, 3, 172, 8, 42, 180, 0, 171, 104, 61, 42, 16, 114]
abbrev dktX4_entryRead_1 : List UInt8 := dkwX4_entryRead_1 ++ dktX4_entryRead_2
def dkwX4_entryRead_0 : List UInt8 := [42, 16, 43, 182, 0, 174, 60, 27, 154, 0, 12, 42, 16, 45, 182, 0, 174, 153, 0, 19, 42, 182, 0, 180]
abbrev dktX4_entryRead_0 : List UInt8 := dkwX4_entryRead_0 ++ dktX4_entryRead_1
theorem dksX4_entryRead_0 : cX4_entryRead.data.toList.drop 0 = dktX4_entryRead_0 := by decide +kernel
theorem dksX4_entryRead_1 : cX4_entryRead.data.toList.drop 24 = dktX4_entryRead_1 := dk_seg dksX4_entryRead_0 24 rfl rfl
theorem dksX4_entryRead_2 : cX4_entryRead.data.toList.drop 48 = dktX4_entryRead_2 := dk_seg dksX4_entryRead_1 24 rfl rfl
theorem dksX4_entryRead_3 : cX4_entryRead.data.toList.drop 71 = dktX4_entryRead_3 := dk_seg dksX4_entryRead_2 23 rfl rfl
theorem dksX4_entryRead_4 : cX4_entryRead.data.toList.drop 95 = dktX4_entryRead_4 := dk_seg dksX4_entryRead_3 24 rfl rfl
theorem dksX4_entryRead_5 : cX4_entryRead.data.toList.drop 119 = dktX4_entryRead_5 := dk_seg dksX4_entryRead_4 24 rfl rfl
theorem dksX4_entryRead_6 : cX4_entryRead.data.toList.drop 143 = dktX4_entryRead_6 := dk_seg dksX4_entryRead_5 24 rfl rfl
theorem dksX4_entryRead_7 : cX4_entryRead.data.toList.drop 167 = dktX4_entryRead_7 := dk_seg dksX4_entryRead_6 24 rfl rfl
theorem dX4_entryRead_0 : decode cX4_entryRead 0 = .ok (.aload_n 0, 1) := dk_42 (dk_at dksX4_entryRead_0 0 rfl rfl)
theorem dX4_entryRead_1 : decode cX4_entryRead 1 = .ok (.bipush 43, 2) := dk_16 43 (dk_at dksX4_entryRead_0 1 rfl rfl)
theorem dX4_entryRead_3 : decode cX4_entryRead 3 = .ok (.invokevirtual 174, 3) := dk_182 0 174 (dk_at dksX4_entryRead_0 3 rfl rfl)
theorem dX4_entryRead_6 : decode cX4_entryRead 6 = .ok (.istore_n 1, 1) := dk_60 (dk_at dksX4_entryRead_0 6 rfl rfl)
theorem dX4_entryRead_7 : decode cX4_entryRead 7 = .ok (.iload_n 1, 1) := dk_27 (dk_at dksX4_entryRead_0 7 rfl rfl)
theorem dX4_entryRead_8 : decode cX4_entryRead 8 = .ok (.ifCond .ne 12, 3) := dk_154 0 12 (dk_at dksX4_entryRead_0 8 rfl rfl)
theorem dX4_entryRead_11 : decode cX4_entryRead 11 = .ok (.aload_n 0, 1) := dk_42 (dk_at dksX4_entryRead_0 11 rfl rfl)
theorem dX4_entryRead_12 : decode cX4_entryRead 12 = .ok (.bipush 45, 2) := dk_16 45 (dk_at dksX4_entryRead_0 12 rfl rfl)
theorem dX4_entryRead_14 : decode cX4_entryRead 14 = .ok (.invokevirtual 174, 3) := dk_182 0 174 (dk_at dksX4_entryRead_0 14 rfl rfl)
theorem dX4_entryRead_17 : decode cX4_entryRead 17 = .ok (.ifCond .eq 19, 3) := dk_153 0 19 (dk_at dksX4_entryRead_0 17 rfl rfl)
theorem dX4_entryRead_20 : decode cX4_entryRead 20 = .ok (.aload_n 0, 1) := dk_42 (dk_at dksX4_entryRead_0 20 rfl rfl)
theorem dX4_entryRead_21 : decode cX4_entryRead 21 = .ok (.invokevirtual 180, 3) := dk_182 0 180 (dk_at dksX4_entryRead_0 21 rfl rfl)
theorem dX4_entryRead_24 : decode cX4_entryRead 24 = .ok (.ifCond .eq 12, 3) := dk_153 0 12 (dk_at dksX4_entryRead_1 0 rfl rfl)
theorem dX4_entryRead_27 : decode cX4_entryRead 27 = .ok (.aload_n 0, 1) := dk_42 (dk_at dksX4_entryRead_1 3 rfl rfl)
theorem dX4_entryRead_28 : decode cX4_entryRead 28 = .ok (.bipush 61, 2) := dk_16 61 (dk_at dksX4_entryRead_1 4 rfl rfl)
theorem dX4_entryRead_30 : decode cX4_entryRead 30 = .ok (.invokevirtual 174, 3) := dk_182 0 174 (dk_at dksX4_entryRead_1 6 rfl rfl)
theorem dX4_entryRead_33 : decode cX4_entryRead 33 = .ok (.ifCond .ne 5, 3) := dk_154 0 5 (dk_at dksX4_entryRead_1 9 rfl rfl)
theorem dX4_entryRead_36 : decode cX4_entryRead 36 = .ok (.iconst 0, 1) := dk_3 (dk_at dksX4_entryRead_1 12 rfl rfl)
theorem dX4_entryRead_37 : decode cX4_entryRead 37 = .ok (.ireturn, 1) := dk_172 (dk_at dksX4_entryRead_1 13 rfl rfl)
theorem dX4_entryRead_38 : decode cX4_entryRead 38 = .ok (.iconst 5, 1) := dk_8 (dk_at dksX4_entryRead_1 14 rfl rfl)
theorem dX4_entryRead_39 : decode cX4_entryRead 39 = .ok (.aload_n 0, 1) := dk_42 (dk_at dksX4_entryRead_1 15 rfl rfl)
theorem dX4_entryRead_40 : decode cX4_entryRead 40 = .ok (.getfield 171, 3) := dk_180 0 171 (dk_at dksX4_entryRead_1 16 rfl rfl)
theorem dX4_entryRead_43 : decode cX4_entryRead 43 = .ok (.imul, 1) := dk_104 (dk_at dksX4_entryRead_1 19 rfl rfl)
theorem dX4_entryRead_44 : decode cX4_entryRead 44 = .ok (.istore_n 2, 1) := dk_61 (dk_at dksX4_entryRead_1 20 rfl rfl)
theorem dX4_entryRead_45 : decode cX4_entryRead 45 = .ok (.aload_n 0, 1) := dk_42 (dk_at dksX4_entryRead_1 21 rfl rfl)
theorem dX4_entryRead_46 : decode cX4_entryRead 46 = .ok (.bipush 114, 2) := dk_16 114 (dk_at dksX4_entryRead_1 22 rfl rfl)
theorem dX4_entryRead_48 : decode cX4_entryRead 48 = .ok (.invokevirtual 174, 3) := dk_182 0 174 (dk_at dksX4_entryRead_2 0 rfl rfl)
theorem dX4_entryRead_51 : decode cX4_entryRead 51 = .ok (.ifCond .eq 7, 3) := dk_153 0 7 (dk_at dksX4_entryRead_2 3 rfl rfl)
theorem dX4_entryRead_54 : decode cX4_entryRead 54 = .ok (.iconst 1, 1) := dk_4 (dk_at dksX4_entryRead_2 6 rfl rfl)
theorem dX4_entryRead_55 : decode cX4_entryRead 55 = .ok (.goto 4, 3) := dk_167 0 4 (dk_at dksX4_entryRead_2 7 rfl rfl)
theorem dX4_entryRead_58 : decode cX4_entryRead 58 = .ok (.iconst 0, 1) := dk_3 (dk_at dksX4_entryRead_2 10 rfl rfl)
theorem dX4_entryRead_59 : decode cX4_entryRead 59 = .ok (.istore_n 3, 1) := dk_62 (dk_at dksX4_entryRead_2 11 rfl rfl)
theorem dX4_entryRead_60 : decode cX4_entryRead 60 = .ok (.iload_n 3, 1) := dk_29 (dk_at dksX4_entryRead_2 12 rfl rfl)
theorem dX4_entryRead_61 : decode cX4_entryRead 61 = .ok (.aload_n 0, 1) := dk_42 (dk_at dksX4_entryRead_2 13 rfl rfl)
theorem dX4_entryRead_62 : decode cX4_entryRead 62 = .ok (.bipush 119, 2) := dk_16 119 (dk_at dksX4_entryRead_2 14 rfl rfl)
theorem dX4_entryRead_64 : decode cX4_entryRead 64 = .ok (.invokevirtual 174, 3) := dk_182 0 174 (dk_at dksX4_entryRead_2 16 rfl rfl)
theorem dX4_entryRead_67 : decode cX4_entryRead 67 = .ok (.ifCond .eq 7, 3) := dk_153 0 7 (dk_at dksX4_entryRead_2 19 rfl rfl)
theorem dX4_entryRead_70 : decode cX4_entryRead 70 = .ok (.iconst 2, 1) := dk_5 (dk_at dksX4_entryRead_2 22 rfl rfl)
theorem dX4_entryRead_71 : decode cX4_entryRead 71 = .ok (.goto 4, 3) := dk_167 0 4 (dk_at dksX4_entryRead_3 0 rfl rfl)
theorem dX4_entryRead_74 : decode cX4_entryRead 74 = .ok (.iconst 0, 1) := dk_3 (dk_at dksX4_entryRead_3 3 rfl rfl)
theorem dX4_entryRead_75 : decode cX4_entryRead 75 = .ok (.iadd, 1) := dk_96 (dk_at dksX4_entryRead_3 4 rfl rfl)
theorem dX4_entryRead_76 : decode cX4_entryRead 76 = .ok (.istore_n 3, 1) := dk_62 (dk_at dksX4_entryRead_3 5 rfl rfl)
theorem dX4_entryRead_77 : decode cX4_entryRead 77 = .ok (.iload_n 3, 1) := dk_29 (dk_at dksX4_entryRead_3 6 rfl rfl)
theorem dX4_entryRead_78 : decode cX4_entryRead 78 = .ok (.aload_n 0, 1) := dk_42 (dk_at dksX4_entryRead_3 7 rfl rfl)
theorem dX4_entryRead_79 : decode cX4_entryRead 79 = .ok (.bipush 120, 2) := dk_16 120 (dk_at dksX4_entryRead_3 8 rfl rfl)
theorem dX4_entryRead_81 : decode cX4_entryRead 81 = .ok (.invokevirtual 174, 3) := dk_182 0 174 (dk_at dksX4_entryRead_3 10 rfl rfl)
theorem dX4_entryRead_84 : decode cX4_entryRead 84 = .ok (.ifCond .eq 7, 3) := dk_153 0 7 (dk_at dksX4_entryRead_3 13 rfl rfl)
theorem dX4_entryRead_87 : decode cX4_entryRead 87 = .ok (.iconst 4, 1) := dk_7 (dk_at dksX4_entryRead_3 16 rfl rfl)
theorem dX4_entryRead_88 : decode cX4_entryRead 88 = .ok (.goto 4, 3) := dk_167 0 4 (dk_at dksX4_entryRead_3 17 rfl rfl)
theorem dX4_entryRead_91 : decode cX4_entryRead 91 = .ok (.iconst 0, 1) := dk_3 (dk_at dksX4_entryRead_3 20 rfl rfl)
theorem dX4_entryRead_92 : decode cX4_entryRead 92 = .ok (.iadd, 1) := dk_96 (dk_at dksX4_entryRead_3 21 rfl rfl)
theorem dX4_entryRead_93 : decode cX4_entryRead 93 = .ok (.istore_n 3, 1) := dk_62 (dk_at dksX4_entryRead_3 22 rfl rfl)
theorem dX4_entryRead_94 : decode cX4_entryRead 94 = .ok (.iload_n 3, 1) := dk_29 (dk_at dksX4_entryRead_3 23 rfl rfl)
theorem dX4_entryRead_95 : decode cX4_entryRead 95 = .ok (.aload_n 0, 1) := dk_42 (dk_at dksX4_entryRead_4 0 rfl rfl)
theorem dX4_entryRead_96 : decode cX4_entryRead 96 = .ok (.bipush 109, 2) := dk_16 109 (dk_at dksX4_entryRead_4 1 rfl rfl)
theorem dX4_entryRead_98 : decode cX4_entryRead 98 = .ok (.invokevirtual 174, 3) := dk_182 0 174 (dk_at dksX4_entryRead_4 3 rfl rfl)
theorem dX4_entryRead_101 : decode cX4_entryRead 101 = .ok (.ifCond .eq 8, 3) := dk_153 0 8 (dk_at dksX4_entryRead_4 6 rfl rfl)
theorem dX4_entryRead_104 : decode cX4_entryRead 104 = .ok (.bipush 8, 2) := dk_16 8 (dk_at dksX4_entryRead_4 9 rfl rfl)
theorem dX4_entryRead_106 : decode cX4_entryRead 106 = .ok (.goto 4, 3) := dk_167 0 4 (dk_at dksX4_entryRead_4 11 rfl rfl)
theorem dX4_entryRead_109 : decode cX4_entryRead 109 = .ok (.iconst 0, 1) := dk_3 (dk_at dksX4_entryRead_4 14 rfl rfl)
theorem dX4_entryRead_110 : decode cX4_entryRead 110 = .ok (.iadd, 1) := dk_96 (dk_at dksX4_entryRead_4 15 rfl rfl)
theorem dX4_entryRead_111 : decode cX4_entryRead 111 = .ok (.istore_n 3, 1) := dk_62 (dk_at dksX4_entryRead_4 16 rfl rfl)
theorem dX4_entryRead_112 : decode cX4_entryRead 112 = .ok (.iload_n 3, 1) := dk_29 (dk_at dksX4_entryRead_4 17 rfl rfl)
theorem dX4_entryRead_113 : decode cX4_entryRead 113 = .ok (.ifCond .ne 5, 3) := dk_154 0 5 (dk_at dksX4_entryRead_4 18 rfl rfl)
theorem dX4_entryRead_116 : decode cX4_entryRead 116 = .ok (.iconst 0, 1) := dk_3 (dk_at dksX4_entryRead_4 21 rfl rfl)
theorem dX4_entryRead_117 : decode cX4_entryRead 117 = .ok (.ireturn, 1) := dk_172 (dk_at dksX4_entryRead_4 22 rfl rfl)
theorem dX4_entryRead_118 : decode cX4_entryRead 118 = .ok (.aload_n 0, 1) := dk_42 (dk_at dksX4_entryRead_4 23 rfl rfl)
theorem dX4_entryRead_119 : decode cX4_entryRead 119 = .ok (.getfield 32, 3) := dk_180 0 32 (dk_at dksX4_entryRead_5 0 rfl rfl)
theorem dX4_entryRead_122 : decode cX4_entryRead 122 = .ok (.iload_n 2, 1) := dk_28 (dk_at dksX4_entryRead_5 3 rfl rfl)
theorem dX4_entryRead_123 : decode cX4_entryRead 123 = .ok (.iconst 2, 1) := dk_5 (dk_at dksX4_entryRead_5 4 rfl rfl)
theorem dX4_entryRead_124 : decode cX4_entryRead 124 = .ok (.iadd, 1) := dk_96 (dk_at dksX4_entryRead_5 5 rfl rfl)
theorem dX4_entryRead_125 : decode cX4_entryRead 125 = .ok (.iload_n 3, 1) := dk_29 (dk_at dksX4_entryRead_5 6 rfl rfl)
theorem dX4_entryRead_126 : decode cX4_entryRead 126 = .ok (.iastore, 1) := dk_79 (dk_at dksX4_entryRead_5 7 rfl rfl)
theorem dX4_entryRead_127 : decode cX4_entryRead 127 = .ok (.aload_n 0, 1) := dk_42 (dk_at dksX4_entryRead_5 8 rfl rfl)
theorem dX4_entryRead_128 : decode cX4_entryRead 128 = .ok (.getfield 32, 3) := dk_180 0 32 (dk_at dksX4_entryRead_5 9 rfl rfl)
theorem dX4_entryRead_131 : decode cX4_entryRead 131 = .ok (.iload_n 2, 1) := dk_28 (dk_at dksX4_entryRead_5 12 rfl rfl)
theorem dX4_entryRead_132 : decode cX4_entryRead 132 = .ok (.iconst 3, 1) := dk_6 (dk_at dksX4_entryRead_5 13 rfl rfl)
theorem dX4_entryRead_133 : decode cX4_entryRead 133 = .ok (.iadd, 1) := dk_96 (dk_at dksX4_entryRead_5 14 rfl rfl)
theorem dX4_entryRead_134 : decode cX4_entryRead 134 = .ok (.iload_n 1, 1) := dk_27 (dk_at dksX4_entryRead_5 15 rfl rfl)
theorem dX4_entryRead_135 : decode cX4_entryRead 135 = .ok (.ifCond .eq 7, 3) := dk_153 0 7 (dk_at dksX4_entryRead_5 16 rfl rfl)
theorem dX4_entryRead_138 : decode cX4_entryRead 138 = .ok (.iconst 1, 1) := dk_4 (dk_at dksX4_entryRead_5 19 rfl rfl)
theorem dX4_entryRead_139 : decode cX4_entryRead 139 = .ok (.goto 4, 3) := dk_167 0 4 (dk_at dksX4_entryRead_5 20 rfl rfl)
theorem dX4_entryRead_142 : decode cX4_entryRead 142 = .ok (.iconst 0, 1) := dk_3 (dk_at dksX4_entryRead_5 23 rfl rfl)
theorem dX4_entryRead_143 : decode cX4_entryRead 143 = .ok (.iastore, 1) := dk_79 (dk_at dksX4_entryRead_6 0 rfl rfl)
theorem dX4_entryRead_144 : decode cX4_entryRead 144 = .ok (.aload_n 0, 1) := dk_42 (dk_at dksX4_entryRead_6 1 rfl rfl)
theorem dX4_entryRead_145 : decode cX4_entryRead 145 = .ok (.getfield 32, 3) := dk_180 0 32 (dk_at dksX4_entryRead_6 2 rfl rfl)
theorem dX4_entryRead_148 : decode cX4_entryRead 148 = .ok (.iload_n 2, 1) := dk_28 (dk_at dksX4_entryRead_6 5 rfl rfl)
theorem dX4_entryRead_149 : decode cX4_entryRead 149 = .ok (.iconst 4, 1) := dk_7 (dk_at dksX4_entryRead_6 6 rfl rfl)
theorem dX4_entryRead_150 : decode cX4_entryRead 150 = .ok (.iadd, 1) := dk_96 (dk_at dksX4_entryRead_6 7 rfl rfl)
theorem dX4_entryRead_151 : decode cX4_entryRead 151 = .ok (.aload_n 0, 1) := dk_42 (dk_at dksX4_entryRead_6 8 rfl rfl)
theorem dX4_entryRead_152 : decode cX4_entryRead 152 = .ok (.bipush 42, 2) := dk_16 42 (dk_at dksX4_entryRead_6 9 rfl rfl)
theorem dX4_entryRead_154 : decode cX4_entryRead 154 = .ok (.invokevirtual 174, 3) := dk_182 0 174 (dk_at dksX4_entryRead_6 11 rfl rfl)
theorem dX4_entryRead_157 : decode cX4_entryRead 157 = .ok (.ifCond .eq 7, 3) := dk_153 0 7 (dk_at dksX4_entryRead_6 14 rfl rfl)
theorem dX4_entryRead_160 : decode cX4_entryRead 160 = .ok (.iconst 1, 1) := dk_4 (dk_at dksX4_entryRead_6 17 rfl rfl)
theorem dX4_entryRead_161 : decode cX4_entryRead 161 = .ok (.goto 4, 3) := dk_167 0 4 (dk_at dksX4_entryRead_6 18 rfl rfl)
theorem dX4_entryRead_164 : decode cX4_entryRead 164 = .ok (.iconst 0, 1) := dk_3 (dk_at dksX4_entryRead_6 21 rfl rfl)
theorem dX4_entryRead_165 : decode cX4_entryRead 165 = .ok (.iastore, 1) := dk_79 (dk_at dksX4_entryRead_6 22 rfl rfl)
theorem dX4_entryRead_166 : decode cX4_entryRead 166 = .ok (.aload_n 0, 1) := dk_42 (dk_at dksX4_entryRead_6 23 rfl rfl)
theorem dX4_entryRead_167 : decode cX4_entryRead 167 = .ok (.dup, 1) := dk_89 (dk_at dksX4_entryRead_7 0 rfl rfl)
theorem dX4_entryRead_168 : decode cX4_entryRead 168 = .ok (.getfield 171, 3) := dk_180 0 171 (dk_at dksX4_entryRead_7 1 rfl rfl)
theorem dX4_entryRead_171 : decode cX4_entryRead 171 = .ok (.iconst 1, 1) := dk_4 (dk_at dksX4_entryRead_7 4 rfl rfl)
theorem dX4_entryRead_172 : decode cX4_entryRead 172 = .ok (.iadd, 1) := dk_96 (dk_at dksX4_entryRead_7 5 rfl rfl)
theorem dX4_entryRead_173 : decode cX4_entryRead 173 = .ok (.putfield 171, 3) := dk_181 0 171 (dk_at dksX4_entryRead_7 6 rfl rfl)
theorem dX4_entryRead_176 : decode cX4_entryRead 176 = .ok (.iconst 1, 1) := dk_4 (dk_at dksX4_entryRead_7 9 rfl rfl)
theorem dX4_entryRead_177 : decode cX4_entryRead 177 = .ok (.ireturn, 1) := dk_172 (dk_at dksX4_entryRead_7 10 rfl rfl)
abbrev cX4_whomRead : ByteArray := prog_14_method_64_code
def yX4_whomRead : MethodName := ⟨RX4, "whomRead", "()Z"⟩
def dkwX4_whomRead_5 : List UInt8 := [28, 154, 0, 12, 42, 16, 97, 182, 0, 174, 153, 0, 7, 4, 167, 0, 4, 3, 172]
abbrev dktX4_whomRead_5 : List UInt8 := dkwX4_whomRead_5 ++ []
def dkwX4_whomRead_4 : List UInt8 := [42, 16, 111, 182, 0, 174, 61, 42, 180, 0, 32, 27, 3, 96, 28, 153, 0, 7, 5, 167, 0, 4, 6, 79]
abbrev dktX4_whomRead_4 : List UInt8 := dkwX4_whomRead_4 ++ dktX4_whomRead_5
def dkwX4_whomRead_3 : List UInt8 := [61, 42, 180, 0, 32, 27, 3, 96, 4, 79, 42, 180, 0, 32, 27, 4, 96, 42, 180, 0, 168, 79, 28, 172]
abbrev dktX4_whomRead_3 : List UInt8 := dkwX4_whomRead_3 ++ dktX4_whomRead_4
def dkwX4_whomRead_2 : List UInt8 := [4, 96, 42, 180, 0, 168, 79, 28, 172, 42, 16, 103, 182, 0, 174, 153, 0, 33, 42, 16, 7, 182, 0, 177]
abbrev dktX4_whomRead_2 : List UInt8 := dkwX4_whomRead_2 ++ dktX4_whomRead_3
def dkwX4_whomRead_1 : List UInt8 := [153, 0, 33, 42, 16, 11, 182, 0, 177, 61, 42, 180, 0, 32, 27, 3, 96, 3, 79, 42, 180, 0, 32, 27]
abbrev dktX4_whomRead_1 : List UInt8 := dkwX4_whomRead_1 ++ dktX4_whomRead_2
def dkwX4_whomRead_0 : List UInt8 := [8, 42, 180, 0, 171, 104, 60, 42, 180, 0, 32, 27, 4, 96, 3, 79, 42, 16, 117, 182, 0, 174]
abbrev dktX4_whomRead_0 : List UInt8 := dkwX4_whomRead_0 ++ dktX4_whomRead_1
theorem dksX4_whomRead_0 : cX4_whomRead.data.toList.drop 0 = dktX4_whomRead_0 := by decide +kernel
theorem dksX4_whomRead_1 : cX4_whomRead.data.toList.drop 22 = dktX4_whomRead_1 := dk_seg dksX4_whomRead_0 22 rfl rfl
theorem dksX4_whomRead_2 : cX4_whomRead.data.toList.drop 46 = dktX4_whomRead_2 := dk_seg dksX4_whomRead_1 24 rfl rfl
theorem dksX4_whomRead_3 : cX4_whomRead.data.toList.drop 70 = dktX4_whomRead_3 := dk_seg dksX4_whomRead_2 24 rfl rfl
theorem dksX4_whomRead_4 : cX4_whomRead.data.toList.drop 94 = dktX4_whomRead_4 := dk_seg dksX4_whomRead_3 24 rfl rfl
theorem dksX4_whomRead_5 : cX4_whomRead.data.toList.drop 118 = dktX4_whomRead_5 := dk_seg dksX4_whomRead_4 24 rfl rfl
theorem dX4_whomRead_0 : decode cX4_whomRead 0 = .ok (.iconst 5, 1) := dk_8 (dk_at dksX4_whomRead_0 0 rfl rfl)
theorem dX4_whomRead_1 : decode cX4_whomRead 1 = .ok (.aload_n 0, 1) := dk_42 (dk_at dksX4_whomRead_0 1 rfl rfl)
theorem dX4_whomRead_2 : decode cX4_whomRead 2 = .ok (.getfield 171, 3) := dk_180 0 171 (dk_at dksX4_whomRead_0 2 rfl rfl)
theorem dX4_whomRead_5 : decode cX4_whomRead 5 = .ok (.imul, 1) := dk_104 (dk_at dksX4_whomRead_0 5 rfl rfl)
theorem dX4_whomRead_6 : decode cX4_whomRead 6 = .ok (.istore_n 1, 1) := dk_60 (dk_at dksX4_whomRead_0 6 rfl rfl)
theorem dX4_whomRead_7 : decode cX4_whomRead 7 = .ok (.aload_n 0, 1) := dk_42 (dk_at dksX4_whomRead_0 7 rfl rfl)
theorem dX4_whomRead_8 : decode cX4_whomRead 8 = .ok (.getfield 32, 3) := dk_180 0 32 (dk_at dksX4_whomRead_0 8 rfl rfl)
theorem dX4_whomRead_11 : decode cX4_whomRead 11 = .ok (.iload_n 1, 1) := dk_27 (dk_at dksX4_whomRead_0 11 rfl rfl)
theorem dX4_whomRead_12 : decode cX4_whomRead 12 = .ok (.iconst 1, 1) := dk_4 (dk_at dksX4_whomRead_0 12 rfl rfl)
theorem dX4_whomRead_13 : decode cX4_whomRead 13 = .ok (.iadd, 1) := dk_96 (dk_at dksX4_whomRead_0 13 rfl rfl)
theorem dX4_whomRead_14 : decode cX4_whomRead 14 = .ok (.iconst 0, 1) := dk_3 (dk_at dksX4_whomRead_0 14 rfl rfl)
theorem dX4_whomRead_15 : decode cX4_whomRead 15 = .ok (.iastore, 1) := dk_79 (dk_at dksX4_whomRead_0 15 rfl rfl)
theorem dX4_whomRead_16 : decode cX4_whomRead 16 = .ok (.aload_n 0, 1) := dk_42 (dk_at dksX4_whomRead_0 16 rfl rfl)
theorem dX4_whomRead_17 : decode cX4_whomRead 17 = .ok (.bipush 117, 2) := dk_16 117 (dk_at dksX4_whomRead_0 17 rfl rfl)
theorem dX4_whomRead_19 : decode cX4_whomRead 19 = .ok (.invokevirtual 174, 3) := dk_182 0 174 (dk_at dksX4_whomRead_0 19 rfl rfl)
theorem dX4_whomRead_22 : decode cX4_whomRead 22 = .ok (.ifCond .eq 33, 3) := dk_153 0 33 (dk_at dksX4_whomRead_1 0 rfl rfl)
theorem dX4_whomRead_25 : decode cX4_whomRead 25 = .ok (.aload_n 0, 1) := dk_42 (dk_at dksX4_whomRead_1 3 rfl rfl)
theorem dX4_whomRead_26 : decode cX4_whomRead 26 = .ok (.bipush 11, 2) := dk_16 11 (dk_at dksX4_whomRead_1 4 rfl rfl)
theorem dX4_whomRead_28 : decode cX4_whomRead 28 = .ok (.invokevirtual 177, 3) := dk_182 0 177 (dk_at dksX4_whomRead_1 6 rfl rfl)
theorem dX4_whomRead_31 : decode cX4_whomRead 31 = .ok (.istore_n 2, 1) := dk_61 (dk_at dksX4_whomRead_1 9 rfl rfl)
theorem dX4_whomRead_32 : decode cX4_whomRead 32 = .ok (.aload_n 0, 1) := dk_42 (dk_at dksX4_whomRead_1 10 rfl rfl)
theorem dX4_whomRead_33 : decode cX4_whomRead 33 = .ok (.getfield 32, 3) := dk_180 0 32 (dk_at dksX4_whomRead_1 11 rfl rfl)
theorem dX4_whomRead_36 : decode cX4_whomRead 36 = .ok (.iload_n 1, 1) := dk_27 (dk_at dksX4_whomRead_1 14 rfl rfl)
theorem dX4_whomRead_37 : decode cX4_whomRead 37 = .ok (.iconst 0, 1) := dk_3 (dk_at dksX4_whomRead_1 15 rfl rfl)
theorem dX4_whomRead_38 : decode cX4_whomRead 38 = .ok (.iadd, 1) := dk_96 (dk_at dksX4_whomRead_1 16 rfl rfl)
theorem dX4_whomRead_39 : decode cX4_whomRead 39 = .ok (.iconst 0, 1) := dk_3 (dk_at dksX4_whomRead_1 17 rfl rfl)
theorem dX4_whomRead_40 : decode cX4_whomRead 40 = .ok (.iastore, 1) := dk_79 (dk_at dksX4_whomRead_1 18 rfl rfl)
theorem dX4_whomRead_41 : decode cX4_whomRead 41 = .ok (.aload_n 0, 1) := dk_42 (dk_at dksX4_whomRead_1 19 rfl rfl)
theorem dX4_whomRead_42 : decode cX4_whomRead 42 = .ok (.getfield 32, 3) := dk_180 0 32 (dk_at dksX4_whomRead_1 20 rfl rfl)
theorem dX4_whomRead_45 : decode cX4_whomRead 45 = .ok (.iload_n 1, 1) := dk_27 (dk_at dksX4_whomRead_1 23 rfl rfl)
theorem dX4_whomRead_46 : decode cX4_whomRead 46 = .ok (.iconst 1, 1) := dk_4 (dk_at dksX4_whomRead_2 0 rfl rfl)
theorem dX4_whomRead_47 : decode cX4_whomRead 47 = .ok (.iadd, 1) := dk_96 (dk_at dksX4_whomRead_2 1 rfl rfl)
theorem dX4_whomRead_48 : decode cX4_whomRead 48 = .ok (.aload_n 0, 1) := dk_42 (dk_at dksX4_whomRead_2 2 rfl rfl)
theorem dX4_whomRead_49 : decode cX4_whomRead 49 = .ok (.getfield 168, 3) := dk_180 0 168 (dk_at dksX4_whomRead_2 3 rfl rfl)
theorem dX4_whomRead_52 : decode cX4_whomRead 52 = .ok (.iastore, 1) := dk_79 (dk_at dksX4_whomRead_2 6 rfl rfl)
theorem dX4_whomRead_53 : decode cX4_whomRead 53 = .ok (.iload_n 2, 1) := dk_28 (dk_at dksX4_whomRead_2 7 rfl rfl)
theorem dX4_whomRead_54 : decode cX4_whomRead 54 = .ok (.ireturn, 1) := dk_172 (dk_at dksX4_whomRead_2 8 rfl rfl)
theorem dX4_whomRead_55 : decode cX4_whomRead 55 = .ok (.aload_n 0, 1) := dk_42 (dk_at dksX4_whomRead_2 9 rfl rfl)
theorem dX4_whomRead_56 : decode cX4_whomRead 56 = .ok (.bipush 103, 2) := dk_16 103 (dk_at dksX4_whomRead_2 10 rfl rfl)
theorem dX4_whomRead_58 : decode cX4_whomRead 58 = .ok (.invokevirtual 174, 3) := dk_182 0 174 (dk_at dksX4_whomRead_2 12 rfl rfl)
theorem dX4_whomRead_61 : decode cX4_whomRead 61 = .ok (.ifCond .eq 33, 3) := dk_153 0 33 (dk_at dksX4_whomRead_2 15 rfl rfl)
theorem dX4_whomRead_64 : decode cX4_whomRead 64 = .ok (.aload_n 0, 1) := dk_42 (dk_at dksX4_whomRead_2 18 rfl rfl)
theorem dX4_whomRead_65 : decode cX4_whomRead 65 = .ok (.bipush 7, 2) := dk_16 7 (dk_at dksX4_whomRead_2 19 rfl rfl)
theorem dX4_whomRead_67 : decode cX4_whomRead 67 = .ok (.invokevirtual 177, 3) := dk_182 0 177 (dk_at dksX4_whomRead_2 21 rfl rfl)
theorem dX4_whomRead_70 : decode cX4_whomRead 70 = .ok (.istore_n 2, 1) := dk_61 (dk_at dksX4_whomRead_3 0 rfl rfl)
theorem dX4_whomRead_71 : decode cX4_whomRead 71 = .ok (.aload_n 0, 1) := dk_42 (dk_at dksX4_whomRead_3 1 rfl rfl)
theorem dX4_whomRead_72 : decode cX4_whomRead 72 = .ok (.getfield 32, 3) := dk_180 0 32 (dk_at dksX4_whomRead_3 2 rfl rfl)
theorem dX4_whomRead_75 : decode cX4_whomRead 75 = .ok (.iload_n 1, 1) := dk_27 (dk_at dksX4_whomRead_3 5 rfl rfl)
theorem dX4_whomRead_76 : decode cX4_whomRead 76 = .ok (.iconst 0, 1) := dk_3 (dk_at dksX4_whomRead_3 6 rfl rfl)
theorem dX4_whomRead_77 : decode cX4_whomRead 77 = .ok (.iadd, 1) := dk_96 (dk_at dksX4_whomRead_3 7 rfl rfl)
theorem dX4_whomRead_78 : decode cX4_whomRead 78 = .ok (.iconst 1, 1) := dk_4 (dk_at dksX4_whomRead_3 8 rfl rfl)
theorem dX4_whomRead_79 : decode cX4_whomRead 79 = .ok (.iastore, 1) := dk_79 (dk_at dksX4_whomRead_3 9 rfl rfl)
theorem dX4_whomRead_80 : decode cX4_whomRead 80 = .ok (.aload_n 0, 1) := dk_42 (dk_at dksX4_whomRead_3 10 rfl rfl)
theorem dX4_whomRead_81 : decode cX4_whomRead 81 = .ok (.getfield 32, 3) := dk_180 0 32 (dk_at dksX4_whomRead_3 11 rfl rfl)
theorem dX4_whomRead_84 : decode cX4_whomRead 84 = .ok (.iload_n 1, 1) := dk_27 (dk_at dksX4_whomRead_3 14 rfl rfl)
theorem dX4_whomRead_85 : decode cX4_whomRead 85 = .ok (.iconst 1, 1) := dk_4 (dk_at dksX4_whomRead_3 15 rfl rfl)
theorem dX4_whomRead_86 : decode cX4_whomRead 86 = .ok (.iadd, 1) := dk_96 (dk_at dksX4_whomRead_3 16 rfl rfl)
theorem dX4_whomRead_87 : decode cX4_whomRead 87 = .ok (.aload_n 0, 1) := dk_42 (dk_at dksX4_whomRead_3 17 rfl rfl)
theorem dX4_whomRead_88 : decode cX4_whomRead 88 = .ok (.getfield 168, 3) := dk_180 0 168 (dk_at dksX4_whomRead_3 18 rfl rfl)
theorem dX4_whomRead_91 : decode cX4_whomRead 91 = .ok (.iastore, 1) := dk_79 (dk_at dksX4_whomRead_3 21 rfl rfl)
theorem dX4_whomRead_92 : decode cX4_whomRead 92 = .ok (.iload_n 2, 1) := dk_28 (dk_at dksX4_whomRead_3 22 rfl rfl)
theorem dX4_whomRead_93 : decode cX4_whomRead 93 = .ok (.ireturn, 1) := dk_172 (dk_at dksX4_whomRead_3 23 rfl rfl)
theorem dX4_whomRead_94 : decode cX4_whomRead 94 = .ok (.aload_n 0, 1) := dk_42 (dk_at dksX4_whomRead_4 0 rfl rfl)
theorem dX4_whomRead_95 : decode cX4_whomRead 95 = .ok (.bipush 111, 2) := dk_16 111 (dk_at dksX4_whomRead_4 1 rfl rfl)
theorem dX4_whomRead_97 : decode cX4_whomRead 97 = .ok (.invokevirtual 174, 3) := dk_182 0 174 (dk_at dksX4_whomRead_4 3 rfl rfl)
theorem dX4_whomRead_100 : decode cX4_whomRead 100 = .ok (.istore_n 2, 1) := dk_61 (dk_at dksX4_whomRead_4 6 rfl rfl)
theorem dX4_whomRead_101 : decode cX4_whomRead 101 = .ok (.aload_n 0, 1) := dk_42 (dk_at dksX4_whomRead_4 7 rfl rfl)
theorem dX4_whomRead_102 : decode cX4_whomRead 102 = .ok (.getfield 32, 3) := dk_180 0 32 (dk_at dksX4_whomRead_4 8 rfl rfl)
theorem dX4_whomRead_105 : decode cX4_whomRead 105 = .ok (.iload_n 1, 1) := dk_27 (dk_at dksX4_whomRead_4 11 rfl rfl)
theorem dX4_whomRead_106 : decode cX4_whomRead 106 = .ok (.iconst 0, 1) := dk_3 (dk_at dksX4_whomRead_4 12 rfl rfl)
theorem dX4_whomRead_107 : decode cX4_whomRead 107 = .ok (.iadd, 1) := dk_96 (dk_at dksX4_whomRead_4 13 rfl rfl)
theorem dX4_whomRead_108 : decode cX4_whomRead 108 = .ok (.iload_n 2, 1) := dk_28 (dk_at dksX4_whomRead_4 14 rfl rfl)
theorem dX4_whomRead_109 : decode cX4_whomRead 109 = .ok (.ifCond .eq 7, 3) := dk_153 0 7 (dk_at dksX4_whomRead_4 15 rfl rfl)
theorem dX4_whomRead_112 : decode cX4_whomRead 112 = .ok (.iconst 2, 1) := dk_5 (dk_at dksX4_whomRead_4 18 rfl rfl)
theorem dX4_whomRead_113 : decode cX4_whomRead 113 = .ok (.goto 4, 3) := dk_167 0 4 (dk_at dksX4_whomRead_4 19 rfl rfl)
theorem dX4_whomRead_116 : decode cX4_whomRead 116 = .ok (.iconst 3, 1) := dk_6 (dk_at dksX4_whomRead_4 22 rfl rfl)
theorem dX4_whomRead_117 : decode cX4_whomRead 117 = .ok (.iastore, 1) := dk_79 (dk_at dksX4_whomRead_4 23 rfl rfl)
theorem dX4_whomRead_118 : decode cX4_whomRead 118 = .ok (.iload_n 2, 1) := dk_28 (dk_at dksX4_whomRead_5 0 rfl rfl)
theorem dX4_whomRead_119 : decode cX4_whomRead 119 = .ok (.ifCond .ne 12, 3) := dk_154 0 12 (dk_at dksX4_whomRead_5 1 rfl rfl)
theorem dX4_whomRead_122 : decode cX4_whomRead 122 = .ok (.aload_n 0, 1) := dk_42 (dk_at dksX4_whomRead_5 4 rfl rfl)
theorem dX4_whomRead_123 : decode cX4_whomRead 123 = .ok (.bipush 97, 2) := dk_16 97 (dk_at dksX4_whomRead_5 5 rfl rfl)
theorem dX4_whomRead_125 : decode cX4_whomRead 125 = .ok (.invokevirtual 174, 3) := dk_182 0 174 (dk_at dksX4_whomRead_5 7 rfl rfl)
theorem dX4_whomRead_128 : decode cX4_whomRead 128 = .ok (.ifCond .eq 7, 3) := dk_153 0 7 (dk_at dksX4_whomRead_5 10 rfl rfl)
theorem dX4_whomRead_131 : decode cX4_whomRead 131 = .ok (.iconst 1, 1) := dk_4 (dk_at dksX4_whomRead_5 13 rfl rfl)
theorem dX4_whomRead_132 : decode cX4_whomRead 132 = .ok (.goto 4, 3) := dk_167 0 4 (dk_at dksX4_whomRead_5 14 rfl rfl)
theorem dX4_whomRead_135 : decode cX4_whomRead 135 = .ok (.iconst 0, 1) := dk_3 (dk_at dksX4_whomRead_5 17 rfl rfl)
theorem dX4_whomRead_136 : decode cX4_whomRead 136 = .ok (.ireturn, 1) := dk_172 (dk_at dksX4_whomRead_5 18 rfl rfl)
abbrev cX4_loadEntries : ByteArray := prog_14_method_69_code
def yX4_loadEntries : MethodName := ⟨RX4, "loadEntries", "()I"⟩
def dkwX4_loadEntries_4 : List UInt8 := [180, 0, 171, 172]
abbrev dktX4_loadEntries_4 : List UInt8 := dkwX4_loadEntries_4 ++ []
def dkwX4_loadEntries_3 : List UInt8 := [184, 0, 61, 42, 180, 0, 32, 27, 46, 79, 132, 1, 1, 167, 255, 223, 42, 3, 181, 0, 159, 42]
abbrev dktX4_loadEntries_3 : List UInt8 := dkwX4_loadEntries_3 ++ dktX4_loadEntries_4
def dkwX4_loadEntries_2 : List UInt8 := [79, 3, 60, 27, 8, 42, 180, 0, 171, 104, 162, 0, 29, 42, 180, 0, 7, 42, 180, 0, 184, 3, 27]
abbrev dktX4_loadEntries_2 : List UInt8 := dkwX4_loadEntries_2 ++ dktX4_loadEntries_3
def dkwX4_loadEntries_1 : List UInt8 := [182, 0, 76, 172, 42, 182, 0, 79, 42, 180, 0, 7, 42, 180, 0, 184, 8, 184, 0, 50, 42, 180, 0, 171]
abbrev dktX4_loadEntries_1 : List UInt8 := dkwX4_loadEntries_1 ++ dktX4_loadEntries_2
def dkwX4_loadEntries_0 : List UInt8 := [42, 3, 181, 0, 39, 42, 182, 0, 190, 2, 160, 0, 10, 42, 182, 0, 193, 154, 0, 9, 42, 4]
abbrev dktX4_loadEntries_0 : List UInt8 := dkwX4_loadEntries_0 ++ dktX4_loadEntries_1
theorem dksX4_loadEntries_0 : cX4_loadEntries.data.toList.drop 0 = dktX4_loadEntries_0 := by decide +kernel
theorem dksX4_loadEntries_1 : cX4_loadEntries.data.toList.drop 22 = dktX4_loadEntries_1 := dk_seg dksX4_loadEntries_0 22 rfl rfl
theorem dksX4_loadEntries_2 : cX4_loadEntries.data.toList.drop 46 = dktX4_loadEntries_2 := dk_seg dksX4_loadEntries_1 24 rfl rfl
theorem dksX4_loadEntries_3 : cX4_loadEntries.data.toList.drop 69 = dktX4_loadEntries_3 := dk_seg dksX4_loadEntries_2 23 rfl rfl
theorem dksX4_loadEntries_4 : cX4_loadEntries.data.toList.drop 91 = dktX4_loadEntries_4 := dk_seg dksX4_loadEntries_3 22 rfl rfl
theorem dX4_loadEntries_0 : decode cX4_loadEntries 0 = .ok (.aload_n 0, 1) := dk_42 (dk_at dksX4_loadEntries_0 0 rfl rfl)
theorem dX4_loadEntries_1 : decode cX4_loadEntries 1 = .ok (.iconst 0, 1) := dk_3 (dk_at dksX4_loadEntries_0 1 rfl rfl)
theorem dX4_loadEntries_2 : decode cX4_loadEntries 2 = .ok (.putfield 39, 3) := dk_181 0 39 (dk_at dksX4_loadEntries_0 2 rfl rfl)
theorem dX4_loadEntries_5 : decode cX4_loadEntries 5 = .ok (.aload_n 0, 1) := dk_42 (dk_at dksX4_loadEntries_0 5 rfl rfl)
theorem dX4_loadEntries_6 : decode cX4_loadEntries 6 = .ok (.invokevirtual 190, 3) := dk_182 0 190 (dk_at dksX4_loadEntries_0 6 rfl rfl)
theorem dX4_loadEntries_9 : decode cX4_loadEntries 9 = .ok (.iconst (-1), 1) := dk_2 (dk_at dksX4_loadEntries_0 9 rfl rfl)
theorem dX4_loadEntries_10 : decode cX4_loadEntries 10 = .ok (.if_icmp .ne 10, 3) := dk_160 0 10 (dk_at dksX4_loadEntries_0 10 rfl rfl)
theorem dX4_loadEntries_13 : decode cX4_loadEntries 13 = .ok (.aload_n 0, 1) := dk_42 (dk_at dksX4_loadEntries_0 13 rfl rfl)
theorem dX4_loadEntries_14 : decode cX4_loadEntries 14 = .ok (.invokevirtual 193, 3) := dk_182 0 193 (dk_at dksX4_loadEntries_0 14 rfl rfl)
theorem dX4_loadEntries_17 : decode cX4_loadEntries 17 = .ok (.ifCond .ne 9, 3) := dk_154 0 9 (dk_at dksX4_loadEntries_0 17 rfl rfl)
theorem dX4_loadEntries_20 : decode cX4_loadEntries 20 = .ok (.aload_n 0, 1) := dk_42 (dk_at dksX4_loadEntries_0 20 rfl rfl)
theorem dX4_loadEntries_21 : decode cX4_loadEntries 21 = .ok (.iconst 1, 1) := dk_4 (dk_at dksX4_loadEntries_0 21 rfl rfl)
theorem dX4_loadEntries_22 : decode cX4_loadEntries 22 = .ok (.invokevirtual 76, 3) := dk_182 0 76 (dk_at dksX4_loadEntries_1 0 rfl rfl)
theorem dX4_loadEntries_25 : decode cX4_loadEntries 25 = .ok (.ireturn, 1) := dk_172 (dk_at dksX4_loadEntries_1 3 rfl rfl)
theorem dX4_loadEntries_26 : decode cX4_loadEntries 26 = .ok (.aload_n 0, 1) := dk_42 (dk_at dksX4_loadEntries_1 4 rfl rfl)
theorem dX4_loadEntries_27 : decode cX4_loadEntries 27 = .ok (.invokevirtual 79, 3) := dk_182 0 79 (dk_at dksX4_loadEntries_1 5 rfl rfl)
theorem dX4_loadEntries_30 : decode cX4_loadEntries 30 = .ok (.aload_n 0, 1) := dk_42 (dk_at dksX4_loadEntries_1 8 rfl rfl)
theorem dX4_loadEntries_31 : decode cX4_loadEntries 31 = .ok (.getfield 7, 3) := dk_180 0 7 (dk_at dksX4_loadEntries_1 9 rfl rfl)
theorem dX4_loadEntries_34 : decode cX4_loadEntries 34 = .ok (.aload_n 0, 1) := dk_42 (dk_at dksX4_loadEntries_1 12 rfl rfl)
theorem dX4_loadEntries_35 : decode cX4_loadEntries 35 = .ok (.getfield 184, 3) := dk_180 0 184 (dk_at dksX4_loadEntries_1 13 rfl rfl)
theorem dX4_loadEntries_38 : decode cX4_loadEntries 38 = .ok (.iconst 5, 1) := dk_8 (dk_at dksX4_loadEntries_1 16 rfl rfl)
theorem dX4_loadEntries_39 : decode cX4_loadEntries 39 = .ok (.invokestatic 50, 3) := dk_184 0 50 (dk_at dksX4_loadEntries_1 17 rfl rfl)
theorem dX4_loadEntries_42 : decode cX4_loadEntries 42 = .ok (.aload_n 0, 1) := dk_42 (dk_at dksX4_loadEntries_1 20 rfl rfl)
theorem dX4_loadEntries_43 : decode cX4_loadEntries 43 = .ok (.getfield 171, 3) := dk_180 0 171 (dk_at dksX4_loadEntries_1 21 rfl rfl)
theorem dX4_loadEntries_46 : decode cX4_loadEntries 46 = .ok (.iastore, 1) := dk_79 (dk_at dksX4_loadEntries_2 0 rfl rfl)
theorem dX4_loadEntries_47 : decode cX4_loadEntries 47 = .ok (.iconst 0, 1) := dk_3 (dk_at dksX4_loadEntries_2 1 rfl rfl)
theorem dX4_loadEntries_48 : decode cX4_loadEntries 48 = .ok (.istore_n 1, 1) := dk_60 (dk_at dksX4_loadEntries_2 2 rfl rfl)
theorem dX4_loadEntries_49 : decode cX4_loadEntries 49 = .ok (.iload_n 1, 1) := dk_27 (dk_at dksX4_loadEntries_2 3 rfl rfl)
theorem dX4_loadEntries_50 : decode cX4_loadEntries 50 = .ok (.iconst 5, 1) := dk_8 (dk_at dksX4_loadEntries_2 4 rfl rfl)
theorem dX4_loadEntries_51 : decode cX4_loadEntries 51 = .ok (.aload_n 0, 1) := dk_42 (dk_at dksX4_loadEntries_2 5 rfl rfl)
theorem dX4_loadEntries_52 : decode cX4_loadEntries 52 = .ok (.getfield 171, 3) := dk_180 0 171 (dk_at dksX4_loadEntries_2 6 rfl rfl)
theorem dX4_loadEntries_55 : decode cX4_loadEntries 55 = .ok (.imul, 1) := dk_104 (dk_at dksX4_loadEntries_2 9 rfl rfl)
theorem dX4_loadEntries_56 : decode cX4_loadEntries 56 = .ok (.if_icmp .ge 29, 3) := dk_162 0 29 (dk_at dksX4_loadEntries_2 10 rfl rfl)
theorem dX4_loadEntries_59 : decode cX4_loadEntries 59 = .ok (.aload_n 0, 1) := dk_42 (dk_at dksX4_loadEntries_2 13 rfl rfl)
theorem dX4_loadEntries_60 : decode cX4_loadEntries 60 = .ok (.getfield 7, 3) := dk_180 0 7 (dk_at dksX4_loadEntries_2 14 rfl rfl)
theorem dX4_loadEntries_63 : decode cX4_loadEntries 63 = .ok (.aload_n 0, 1) := dk_42 (dk_at dksX4_loadEntries_2 17 rfl rfl)
theorem dX4_loadEntries_64 : decode cX4_loadEntries 64 = .ok (.getfield 184, 3) := dk_180 0 184 (dk_at dksX4_loadEntries_2 18 rfl rfl)
theorem dX4_loadEntries_67 : decode cX4_loadEntries 67 = .ok (.iconst 0, 1) := dk_3 (dk_at dksX4_loadEntries_2 21 rfl rfl)
theorem dX4_loadEntries_68 : decode cX4_loadEntries 68 = .ok (.iload_n 1, 1) := dk_27 (dk_at dksX4_loadEntries_2 22 rfl rfl)
theorem dX4_loadEntries_69 : decode cX4_loadEntries 69 = .ok (.invokestatic 61, 3) := dk_184 0 61 (dk_at dksX4_loadEntries_3 0 rfl rfl)
theorem dX4_loadEntries_72 : decode cX4_loadEntries 72 = .ok (.aload_n 0, 1) := dk_42 (dk_at dksX4_loadEntries_3 3 rfl rfl)
theorem dX4_loadEntries_73 : decode cX4_loadEntries 73 = .ok (.getfield 32, 3) := dk_180 0 32 (dk_at dksX4_loadEntries_3 4 rfl rfl)
theorem dX4_loadEntries_76 : decode cX4_loadEntries 76 = .ok (.iload_n 1, 1) := dk_27 (dk_at dksX4_loadEntries_3 7 rfl rfl)
theorem dX4_loadEntries_77 : decode cX4_loadEntries 77 = .ok (.iaload, 1) := dk_46 (dk_at dksX4_loadEntries_3 8 rfl rfl)
theorem dX4_loadEntries_78 : decode cX4_loadEntries 78 = .ok (.iastore, 1) := dk_79 (dk_at dksX4_loadEntries_3 9 rfl rfl)
theorem dX4_loadEntries_79 : decode cX4_loadEntries 79 = .ok (.iinc 1 1, 3) := dk_132 1 1 (dk_at dksX4_loadEntries_3 10 rfl rfl)
theorem dX4_loadEntries_82 : decode cX4_loadEntries 82 = .ok (.goto (-33), 3) := dk_167 255 223 (dk_at dksX4_loadEntries_3 13 rfl rfl)
theorem dX4_loadEntries_85 : decode cX4_loadEntries 85 = .ok (.aload_n 0, 1) := dk_42 (dk_at dksX4_loadEntries_3 16 rfl rfl)
theorem dX4_loadEntries_86 : decode cX4_loadEntries 86 = .ok (.iconst 0, 1) := dk_3 (dk_at dksX4_loadEntries_3 17 rfl rfl)
theorem dX4_loadEntries_87 : decode cX4_loadEntries 87 = .ok (.putfield 159, 3) := dk_181 0 159 (dk_at dksX4_loadEntries_3 18 rfl rfl)
theorem dX4_loadEntries_90 : decode cX4_loadEntries 90 = .ok (.aload_n 0, 1) := dk_42 (dk_at dksX4_loadEntries_3 21 rfl rfl)
theorem dX4_loadEntries_91 : decode cX4_loadEntries 91 = .ok (.getfield 171, 3) := dk_180 0 171 (dk_at dksX4_loadEntries_4 0 rfl rfl)
theorem dX4_loadEntries_94 : decode cX4_loadEntries 94 = .ok (.ireturn, 1) := dk_172 (dk_at dksX4_loadEntries_4 3 rfl rfl)
abbrev cX4_areThere : ByteArray := prog_14_method_68_code
def yX4_areThere : MethodName := ⟨RX4, "areThere", "()Z"⟩
def dkwX4_areThere_3 : List UInt8 := [182, 0, 85, 153, 0, 7, 4, 167, 0, 4, 3, 60, 132, 2, 1, 167, 255, 181, 27, 172]
abbrev dktX4_areThere_3 : List UInt8 := dkwX4_areThere_3 ++ []
def dkwX4_areThere_2 : List UInt8 := [29, 182, 0, 82, 153, 0, 29, 42, 180, 0, 32, 8, 28, 104, 3, 96, 46, 4, 160, 0, 11, 42, 29]
abbrev dktX4_areThere_2 : List UInt8 := dkwX4_areThere_2 ++ dktX4_areThere_3
def dkwX4_areThere_1 : List UInt8 := [28, 104, 4, 96, 46, 62, 27, 153, 0, 50, 42, 180, 0, 32, 8, 28, 104, 3, 96, 46, 154, 0, 11, 42]
abbrev dktX4_areThere_1 : List UInt8 := dkwX4_areThere_1 ++ dktX4_areThere_2
def dkwX4_areThere_0 : List UInt8 := [42, 42, 180, 0, 184, 182, 0, 57, 60, 3, 61, 28, 42, 180, 0, 171, 162, 0, 73, 42, 180, 0, 32, 8]
abbrev dktX4_areThere_0 : List UInt8 := dkwX4_areThere_0 ++ dktX4_areThere_1
theorem dksX4_areThere_0 : cX4_areThere.data.toList.drop 0 = dktX4_areThere_0 := by decide +kernel
theorem dksX4_areThere_1 : cX4_areThere.data.toList.drop 24 = dktX4_areThere_1 := dk_seg dksX4_areThere_0 24 rfl rfl
theorem dksX4_areThere_2 : cX4_areThere.data.toList.drop 48 = dktX4_areThere_2 := dk_seg dksX4_areThere_1 24 rfl rfl
theorem dksX4_areThere_3 : cX4_areThere.data.toList.drop 71 = dktX4_areThere_3 := dk_seg dksX4_areThere_2 23 rfl rfl
theorem dX4_areThere_0 : decode cX4_areThere 0 = .ok (.aload_n 0, 1) := dk_42 (dk_at dksX4_areThere_0 0 rfl rfl)
theorem dX4_areThere_1 : decode cX4_areThere 1 = .ok (.aload_n 0, 1) := dk_42 (dk_at dksX4_areThere_0 1 rfl rfl)
theorem dX4_areThere_2 : decode cX4_areThere 2 = .ok (.getfield 184, 3) := dk_180 0 184 (dk_at dksX4_areThere_0 2 rfl rfl)
theorem dX4_areThere_5 : decode cX4_areThere 5 = .ok (.invokevirtual 57, 3) := dk_182 0 57 (dk_at dksX4_areThere_0 5 rfl rfl)
theorem dX4_areThere_8 : decode cX4_areThere 8 = .ok (.istore_n 1, 1) := dk_60 (dk_at dksX4_areThere_0 8 rfl rfl)
theorem dX4_areThere_9 : decode cX4_areThere 9 = .ok (.iconst 0, 1) := dk_3 (dk_at dksX4_areThere_0 9 rfl rfl)
theorem dX4_areThere_10 : decode cX4_areThere 10 = .ok (.istore_n 2, 1) := dk_61 (dk_at dksX4_areThere_0 10 rfl rfl)
theorem dX4_areThere_11 : decode cX4_areThere 11 = .ok (.iload_n 2, 1) := dk_28 (dk_at dksX4_areThere_0 11 rfl rfl)
theorem dX4_areThere_12 : decode cX4_areThere 12 = .ok (.aload_n 0, 1) := dk_42 (dk_at dksX4_areThere_0 12 rfl rfl)
theorem dX4_areThere_13 : decode cX4_areThere 13 = .ok (.getfield 171, 3) := dk_180 0 171 (dk_at dksX4_areThere_0 13 rfl rfl)
theorem dX4_areThere_16 : decode cX4_areThere 16 = .ok (.if_icmp .ge 73, 3) := dk_162 0 73 (dk_at dksX4_areThere_0 16 rfl rfl)
theorem dX4_areThere_19 : decode cX4_areThere 19 = .ok (.aload_n 0, 1) := dk_42 (dk_at dksX4_areThere_0 19 rfl rfl)
theorem dX4_areThere_20 : decode cX4_areThere 20 = .ok (.getfield 32, 3) := dk_180 0 32 (dk_at dksX4_areThere_0 20 rfl rfl)
theorem dX4_areThere_23 : decode cX4_areThere 23 = .ok (.iconst 5, 1) := dk_8 (dk_at dksX4_areThere_0 23 rfl rfl)
theorem dX4_areThere_24 : decode cX4_areThere 24 = .ok (.iload_n 2, 1) := dk_28 (dk_at dksX4_areThere_1 0 rfl rfl)
theorem dX4_areThere_25 : decode cX4_areThere 25 = .ok (.imul, 1) := dk_104 (dk_at dksX4_areThere_1 1 rfl rfl)
theorem dX4_areThere_26 : decode cX4_areThere 26 = .ok (.iconst 1, 1) := dk_4 (dk_at dksX4_areThere_1 2 rfl rfl)
theorem dX4_areThere_27 : decode cX4_areThere 27 = .ok (.iadd, 1) := dk_96 (dk_at dksX4_areThere_1 3 rfl rfl)
theorem dX4_areThere_28 : decode cX4_areThere 28 = .ok (.iaload, 1) := dk_46 (dk_at dksX4_areThere_1 4 rfl rfl)
theorem dX4_areThere_29 : decode cX4_areThere 29 = .ok (.istore_n 3, 1) := dk_62 (dk_at dksX4_areThere_1 5 rfl rfl)
theorem dX4_areThere_30 : decode cX4_areThere 30 = .ok (.iload_n 1, 1) := dk_27 (dk_at dksX4_areThere_1 6 rfl rfl)
theorem dX4_areThere_31 : decode cX4_areThere 31 = .ok (.ifCond .eq 50, 3) := dk_153 0 50 (dk_at dksX4_areThere_1 7 rfl rfl)
theorem dX4_areThere_34 : decode cX4_areThere 34 = .ok (.aload_n 0, 1) := dk_42 (dk_at dksX4_areThere_1 10 rfl rfl)
theorem dX4_areThere_35 : decode cX4_areThere 35 = .ok (.getfield 32, 3) := dk_180 0 32 (dk_at dksX4_areThere_1 11 rfl rfl)
theorem dX4_areThere_38 : decode cX4_areThere 38 = .ok (.iconst 5, 1) := dk_8 (dk_at dksX4_areThere_1 14 rfl rfl)
theorem dX4_areThere_39 : decode cX4_areThere 39 = .ok (.iload_n 2, 1) := dk_28 (dk_at dksX4_areThere_1 15 rfl rfl)
theorem dX4_areThere_40 : decode cX4_areThere 40 = .ok (.imul, 1) := dk_104 (dk_at dksX4_areThere_1 16 rfl rfl)
theorem dX4_areThere_41 : decode cX4_areThere 41 = .ok (.iconst 0, 1) := dk_3 (dk_at dksX4_areThere_1 17 rfl rfl)
theorem dX4_areThere_42 : decode cX4_areThere 42 = .ok (.iadd, 1) := dk_96 (dk_at dksX4_areThere_1 18 rfl rfl)
theorem dX4_areThere_43 : decode cX4_areThere 43 = .ok (.iaload, 1) := dk_46 (dk_at dksX4_areThere_1 19 rfl rfl)
theorem dX4_areThere_44 : decode cX4_areThere 44 = .ok (.ifCond .ne 11, 3) := dk_154 0 11 (dk_at dksX4_areThere_1 20 rfl rfl)
theorem dX4_areThere_47 : decode cX4_areThere 47 = .ok (.aload_n 0, 1) := dk_42 (dk_at dksX4_areThere_1 23 rfl rfl)
theorem dX4_areThere_48 : decode cX4_areThere 48 = .ok (.iload_n 3, 1) := dk_29 (dk_at dksX4_areThere_2 0 rfl rfl)
theorem dX4_areThere_49 : decode cX4_areThere 49 = .ok (.invokevirtual 82, 3) := dk_182 0 82 (dk_at dksX4_areThere_2 1 rfl rfl)
theorem dX4_areThere_52 : decode cX4_areThere 52 = .ok (.ifCond .eq 29, 3) := dk_153 0 29 (dk_at dksX4_areThere_2 4 rfl rfl)
theorem dX4_areThere_55 : decode cX4_areThere 55 = .ok (.aload_n 0, 1) := dk_42 (dk_at dksX4_areThere_2 7 rfl rfl)
theorem dX4_areThere_56 : decode cX4_areThere 56 = .ok (.getfield 32, 3) := dk_180 0 32 (dk_at dksX4_areThere_2 8 rfl rfl)
theorem dX4_areThere_59 : decode cX4_areThere 59 = .ok (.iconst 5, 1) := dk_8 (dk_at dksX4_areThere_2 11 rfl rfl)
theorem dX4_areThere_60 : decode cX4_areThere 60 = .ok (.iload_n 2, 1) := dk_28 (dk_at dksX4_areThere_2 12 rfl rfl)
theorem dX4_areThere_61 : decode cX4_areThere 61 = .ok (.imul, 1) := dk_104 (dk_at dksX4_areThere_2 13 rfl rfl)
theorem dX4_areThere_62 : decode cX4_areThere 62 = .ok (.iconst 0, 1) := dk_3 (dk_at dksX4_areThere_2 14 rfl rfl)
theorem dX4_areThere_63 : decode cX4_areThere 63 = .ok (.iadd, 1) := dk_96 (dk_at dksX4_areThere_2 15 rfl rfl)
theorem dX4_areThere_64 : decode cX4_areThere 64 = .ok (.iaload, 1) := dk_46 (dk_at dksX4_areThere_2 16 rfl rfl)
theorem dX4_areThere_65 : decode cX4_areThere 65 = .ok (.iconst 1, 1) := dk_4 (dk_at dksX4_areThere_2 17 rfl rfl)
theorem dX4_areThere_66 : decode cX4_areThere 66 = .ok (.if_icmp .ne 11, 3) := dk_160 0 11 (dk_at dksX4_areThere_2 18 rfl rfl)
theorem dX4_areThere_69 : decode cX4_areThere 69 = .ok (.aload_n 0, 1) := dk_42 (dk_at dksX4_areThere_2 21 rfl rfl)
theorem dX4_areThere_70 : decode cX4_areThere 70 = .ok (.iload_n 3, 1) := dk_29 (dk_at dksX4_areThere_2 22 rfl rfl)
theorem dX4_areThere_71 : decode cX4_areThere 71 = .ok (.invokevirtual 85, 3) := dk_182 0 85 (dk_at dksX4_areThere_3 0 rfl rfl)
theorem dX4_areThere_74 : decode cX4_areThere 74 = .ok (.ifCond .eq 7, 3) := dk_153 0 7 (dk_at dksX4_areThere_3 3 rfl rfl)
theorem dX4_areThere_77 : decode cX4_areThere 77 = .ok (.iconst 1, 1) := dk_4 (dk_at dksX4_areThere_3 6 rfl rfl)
theorem dX4_areThere_78 : decode cX4_areThere 78 = .ok (.goto 4, 3) := dk_167 0 4 (dk_at dksX4_areThere_3 7 rfl rfl)
theorem dX4_areThere_81 : decode cX4_areThere 81 = .ok (.iconst 0, 1) := dk_3 (dk_at dksX4_areThere_3 10 rfl rfl)
theorem dX4_areThere_82 : decode cX4_areThere 82 = .ok (.istore_n 1, 1) := dk_60 (dk_at dksX4_areThere_3 11 rfl rfl)
theorem dX4_areThere_83 : decode cX4_areThere 83 = .ok (.iinc 2 1, 3) := dk_132 2 1 (dk_at dksX4_areThere_3 12 rfl rfl)
theorem dX4_areThere_86 : decode cX4_areThere 86 = .ok (.goto (-75), 3) := dk_167 255 181 (dk_at dksX4_areThere_3 15 rfl rfl)
theorem dX4_areThere_89 : decode cX4_areThere 89 = .ok (.iload_n 1, 1) := dk_27 (dk_at dksX4_areThere_3 18 rfl rfl)
theorem dX4_areThere_90 : decode cX4_areThere 90 = .ok (.ireturn, 1) := dk_172 (dk_at dksX4_areThere_3 19 rfl rfl)
abbrev cX4_writeEntries : ByteArray := prog_14_method_74_code
def yX4_writeEntries : MethodName := ⟨RX4, "writeEntries", "(I)I"⟩
def dkwX4_writeEntries_3 : List UInt8 := [180, 0, 159, 172]
abbrev dktX4_writeEntries_3 : List UInt8 := dkwX4_writeEntries_3 ++ []
def dkwX4_writeEntries_2 : List UInt8 := [158, 0, 9, 42, 16, 59, 182, 0, 196, 42, 27, 28, 182, 0, 206, 132, 2, 1, 167, 255, 227, 42]
abbrev dktX4_writeEntries_2 : List UInt8 := dkwX4_writeEntries_2 ++ dktX4_writeEntries_3
def dkwX4_writeEntries_1 : List UInt8 := [42, 27, 182, 0, 200, 42, 16, 58, 182, 0, 196, 3, 61, 28, 42, 27, 8, 182, 0, 54, 162, 0, 25, 28]
abbrev dktX4_writeEntries_1 : List UInt8 := dkwX4_writeEntries_1 ++ dktX4_writeEntries_2
def dkwX4_writeEntries_0 : List UInt8 := [42, 3, 181, 0, 39, 42, 27, 182, 0, 57, 154, 0, 9, 42, 4, 182, 0, 76, 172, 42, 3, 181, 0, 159]
abbrev dktX4_writeEntries_0 : List UInt8 := dkwX4_writeEntries_0 ++ dktX4_writeEntries_1
theorem dksX4_writeEntries_0 : cX4_writeEntries.data.toList.drop 0 = dktX4_writeEntries_0 := by decide +kernel
theorem dksX4_writeEntries_1 : cX4_writeEntries.data.toList.drop 24 = dktX4_writeEntries_1 := dk_seg dksX4_writeEntries_0 24 rfl rfl
theorem dksX4_writeEntries_2 : cX4_writeEntries.data.toList.drop 48 = dktX4_writeEntries_2 := dk_seg dksX4_writeEntries_1 24 rfl rfl
theorem dksX4_writeEntries_3 : cX4_writeEntries.data.toList.drop 70 = dktX4_writeEntries_3 := dk_seg dksX4_writeEntries_2 22 rfl rfl
theorem dX4_writeEntries_0 : decode cX4_writeEntries 0 = .ok (.aload_n 0, 1) := dk_42 (dk_at dksX4_writeEntries_0 0 rfl rfl)
theorem dX4_writeEntries_1 : decode cX4_writeEntries 1 = .ok (.iconst 0, 1) := dk_3 (dk_at dksX4_writeEntries_0 1 rfl rfl)
theorem dX4_writeEntries_2 : decode cX4_writeEntries 2 = .ok (.putfield 39, 3) := dk_181 0 39 (dk_at dksX4_writeEntries_0 2 rfl rfl)
theorem dX4_writeEntries_5 : decode cX4_writeEntries 5 = .ok (.aload_n 0, 1) := dk_42 (dk_at dksX4_writeEntries_0 5 rfl rfl)
theorem dX4_writeEntries_6 : decode cX4_writeEntries 6 = .ok (.iload_n 1, 1) := dk_27 (dk_at dksX4_writeEntries_0 6 rfl rfl)
theorem dX4_writeEntries_7 : decode cX4_writeEntries 7 = .ok (.invokevirtual 57, 3) := dk_182 0 57 (dk_at dksX4_writeEntries_0 7 rfl rfl)
theorem dX4_writeEntries_10 : decode cX4_writeEntries 10 = .ok (.ifCond .ne 9, 3) := dk_154 0 9 (dk_at dksX4_writeEntries_0 10 rfl rfl)
theorem dX4_writeEntries_13 : decode cX4_writeEntries 13 = .ok (.aload_n 0, 1) := dk_42 (dk_at dksX4_writeEntries_0 13 rfl rfl)
theorem dX4_writeEntries_14 : decode cX4_writeEntries 14 = .ok (.iconst 1, 1) := dk_4 (dk_at dksX4_writeEntries_0 14 rfl rfl)
theorem dX4_writeEntries_15 : decode cX4_writeEntries 15 = .ok (.invokevirtual 76, 3) := dk_182 0 76 (dk_at dksX4_writeEntries_0 15 rfl rfl)
theorem dX4_writeEntries_18 : decode cX4_writeEntries 18 = .ok (.ireturn, 1) := dk_172 (dk_at dksX4_writeEntries_0 18 rfl rfl)
theorem dX4_writeEntries_19 : decode cX4_writeEntries 19 = .ok (.aload_n 0, 1) := dk_42 (dk_at dksX4_writeEntries_0 19 rfl rfl)
theorem dX4_writeEntries_20 : decode cX4_writeEntries 20 = .ok (.iconst 0, 1) := dk_3 (dk_at dksX4_writeEntries_0 20 rfl rfl)
theorem dX4_writeEntries_21 : decode cX4_writeEntries 21 = .ok (.putfield 159, 3) := dk_181 0 159 (dk_at dksX4_writeEntries_0 21 rfl rfl)
theorem dX4_writeEntries_24 : decode cX4_writeEntries 24 = .ok (.aload_n 0, 1) := dk_42 (dk_at dksX4_writeEntries_1 0 rfl rfl)
theorem dX4_writeEntries_25 : decode cX4_writeEntries 25 = .ok (.iload_n 1, 1) := dk_27 (dk_at dksX4_writeEntries_1 1 rfl rfl)
theorem dX4_writeEntries_26 : decode cX4_writeEntries 26 = .ok (.invokevirtual 200, 3) := dk_182 0 200 (dk_at dksX4_writeEntries_1 2 rfl rfl)
theorem dX4_writeEntries_29 : decode cX4_writeEntries 29 = .ok (.aload_n 0, 1) := dk_42 (dk_at dksX4_writeEntries_1 5 rfl rfl)
theorem dX4_writeEntries_30 : decode cX4_writeEntries 30 = .ok (.bipush 58, 2) := dk_16 58 (dk_at dksX4_writeEntries_1 6 rfl rfl)
theorem dX4_writeEntries_32 : decode cX4_writeEntries 32 = .ok (.invokevirtual 196, 3) := dk_182 0 196 (dk_at dksX4_writeEntries_1 8 rfl rfl)
theorem dX4_writeEntries_35 : decode cX4_writeEntries 35 = .ok (.iconst 0, 1) := dk_3 (dk_at dksX4_writeEntries_1 11 rfl rfl)
theorem dX4_writeEntries_36 : decode cX4_writeEntries 36 = .ok (.istore_n 2, 1) := dk_61 (dk_at dksX4_writeEntries_1 12 rfl rfl)
theorem dX4_writeEntries_37 : decode cX4_writeEntries 37 = .ok (.iload_n 2, 1) := dk_28 (dk_at dksX4_writeEntries_1 13 rfl rfl)
theorem dX4_writeEntries_38 : decode cX4_writeEntries 38 = .ok (.aload_n 0, 1) := dk_42 (dk_at dksX4_writeEntries_1 14 rfl rfl)
theorem dX4_writeEntries_39 : decode cX4_writeEntries 39 = .ok (.iload_n 1, 1) := dk_27 (dk_at dksX4_writeEntries_1 15 rfl rfl)
theorem dX4_writeEntries_40 : decode cX4_writeEntries 40 = .ok (.iconst 5, 1) := dk_8 (dk_at dksX4_writeEntries_1 16 rfl rfl)
theorem dX4_writeEntries_41 : decode cX4_writeEntries 41 = .ok (.invokevirtual 54, 3) := dk_182 0 54 (dk_at dksX4_writeEntries_1 17 rfl rfl)
theorem dX4_writeEntries_44 : decode cX4_writeEntries 44 = .ok (.if_icmp .ge 25, 3) := dk_162 0 25 (dk_at dksX4_writeEntries_1 20 rfl rfl)
theorem dX4_writeEntries_47 : decode cX4_writeEntries 47 = .ok (.iload_n 2, 1) := dk_28 (dk_at dksX4_writeEntries_1 23 rfl rfl)
theorem dX4_writeEntries_48 : decode cX4_writeEntries 48 = .ok (.ifCond .le 9, 3) := dk_158 0 9 (dk_at dksX4_writeEntries_2 0 rfl rfl)
theorem dX4_writeEntries_51 : decode cX4_writeEntries 51 = .ok (.aload_n 0, 1) := dk_42 (dk_at dksX4_writeEntries_2 3 rfl rfl)
theorem dX4_writeEntries_52 : decode cX4_writeEntries 52 = .ok (.bipush 59, 2) := dk_16 59 (dk_at dksX4_writeEntries_2 4 rfl rfl)
theorem dX4_writeEntries_54 : decode cX4_writeEntries 54 = .ok (.invokevirtual 196, 3) := dk_182 0 196 (dk_at dksX4_writeEntries_2 6 rfl rfl)
theorem dX4_writeEntries_57 : decode cX4_writeEntries 57 = .ok (.aload_n 0, 1) := dk_42 (dk_at dksX4_writeEntries_2 9 rfl rfl)
theorem dX4_writeEntries_58 : decode cX4_writeEntries 58 = .ok (.iload_n 1, 1) := dk_27 (dk_at dksX4_writeEntries_2 10 rfl rfl)
theorem dX4_writeEntries_59 : decode cX4_writeEntries 59 = .ok (.iload_n 2, 1) := dk_28 (dk_at dksX4_writeEntries_2 11 rfl rfl)
theorem dX4_writeEntries_60 : decode cX4_writeEntries 60 = .ok (.invokevirtual 206, 3) := dk_182 0 206 (dk_at dksX4_writeEntries_2 12 rfl rfl)
theorem dX4_writeEntries_63 : decode cX4_writeEntries 63 = .ok (.iinc 2 1, 3) := dk_132 2 1 (dk_at dksX4_writeEntries_2 15 rfl rfl)
theorem dX4_writeEntries_66 : decode cX4_writeEntries 66 = .ok (.goto (-29), 3) := dk_167 255 227 (dk_at dksX4_writeEntries_2 18 rfl rfl)
theorem dX4_writeEntries_69 : decode cX4_writeEntries 69 = .ok (.aload_n 0, 1) := dk_42 (dk_at dksX4_writeEntries_2 21 rfl rfl)
theorem dX4_writeEntries_70 : decode cX4_writeEntries 70 = .ok (.getfield 159, 3) := dk_180 0 159 (dk_at dksX4_writeEntries_3 0 rfl rfl)
theorem dX4_writeEntries_73 : decode cX4_writeEntries 73 = .ok (.ireturn, 1) := dk_172 (dk_at dksX4_writeEntries_3 3 rfl rfl)
abbrev cX4_putsNumber : ByteArray := prog_14_method_71_code
def yX4_putsNumber : MethodName := ⟨RX4, "putsNumber", "(I)V"⟩
def dkwX4_putsNumber_1 : List UInt8 := [96, 182, 0, 196, 177]
abbrev dktX4_putsNumber_1 : List UInt8 := dkwX4_putsNumber_1 ++ []
def dkwX4_putsNumber_0 : List UInt8 := [27, 16, 9, 164, 0, 14, 42, 16, 48, 27, 16, 10, 108, 96, 182, 0, 196, 42, 16, 48, 27, 16, 10, 112]
abbrev dktX4_putsNumber_0 : List UInt8 := dkwX4_putsNumber_0 ++ dktX4_putsNumber_1
theorem dksX4_putsNumber_0 : cX4_putsNumber.data.toList.drop 0 = dktX4_putsNumber_0 := by decide +kernel
theorem dksX4_putsNumber_1 : cX4_putsNumber.data.toList.drop 24 = dktX4_putsNumber_1 := dk_seg dksX4_putsNumber_0 24 rfl rfl
theorem dX4_putsNumber_0 : decode cX4_putsNumber 0 = .ok (.iload_n 1, 1) := dk_27 (dk_at dksX4_putsNumber_0 0 rfl rfl)
theorem dX4_putsNumber_1 : decode cX4_putsNumber 1 = .ok (.bipush 9, 2) := dk_16 9 (dk_at dksX4_putsNumber_0 1 rfl rfl)
theorem dX4_putsNumber_3 : decode cX4_putsNumber 3 = .ok (.if_icmp .le 14, 3) := dk_164 0 14 (dk_at dksX4_putsNumber_0 3 rfl rfl)
theorem dX4_putsNumber_6 : decode cX4_putsNumber 6 = .ok (.aload_n 0, 1) := dk_42 (dk_at dksX4_putsNumber_0 6 rfl rfl)
theorem dX4_putsNumber_7 : decode cX4_putsNumber 7 = .ok (.bipush 48, 2) := dk_16 48 (dk_at dksX4_putsNumber_0 7 rfl rfl)
theorem dX4_putsNumber_9 : decode cX4_putsNumber 9 = .ok (.iload_n 1, 1) := dk_27 (dk_at dksX4_putsNumber_0 9 rfl rfl)
theorem dX4_putsNumber_10 : decode cX4_putsNumber 10 = .ok (.bipush 10, 2) := dk_16 10 (dk_at dksX4_putsNumber_0 10 rfl rfl)
theorem dX4_putsNumber_12 : decode cX4_putsNumber 12 = .ok (.idiv, 1) := dk_108 (dk_at dksX4_putsNumber_0 12 rfl rfl)
theorem dX4_putsNumber_13 : decode cX4_putsNumber 13 = .ok (.iadd, 1) := dk_96 (dk_at dksX4_putsNumber_0 13 rfl rfl)
theorem dX4_putsNumber_14 : decode cX4_putsNumber 14 = .ok (.invokevirtual 196, 3) := dk_182 0 196 (dk_at dksX4_putsNumber_0 14 rfl rfl)
theorem dX4_putsNumber_17 : decode cX4_putsNumber 17 = .ok (.aload_n 0, 1) := dk_42 (dk_at dksX4_putsNumber_0 17 rfl rfl)
theorem dX4_putsNumber_18 : decode cX4_putsNumber 18 = .ok (.bipush 48, 2) := dk_16 48 (dk_at dksX4_putsNumber_0 18 rfl rfl)
theorem dX4_putsNumber_20 : decode cX4_putsNumber 20 = .ok (.iload_n 1, 1) := dk_27 (dk_at dksX4_putsNumber_0 20 rfl rfl)
theorem dX4_putsNumber_21 : decode cX4_putsNumber 21 = .ok (.bipush 10, 2) := dk_16 10 (dk_at dksX4_putsNumber_0 21 rfl rfl)
theorem dX4_putsNumber_23 : decode cX4_putsNumber 23 = .ok (.irem, 1) := dk_112 (dk_at dksX4_putsNumber_0 23 rfl rfl)
theorem dX4_putsNumber_24 : decode cX4_putsNumber 24 = .ok (.iadd, 1) := dk_96 (dk_at dksX4_putsNumber_1 0 rfl rfl)
theorem dX4_putsNumber_25 : decode cX4_putsNumber 25 = .ok (.invokevirtual 196, 3) := dk_182 0 196 (dk_at dksX4_putsNumber_1 1 rfl rfl)
theorem dX4_putsNumber_28 : decode cX4_putsNumber 28 = .ok (.return_, 1) := dk_177 (dk_at dksX4_putsNumber_1 4 rfl rfl)
abbrev cX4_puts : ByteArray := prog_14_method_70_code
def yX4_puts : MethodName := ⟨RX4, "puts", "(I)V"⟩
def dkwX4_puts_0 : List UInt8 := [42, 180, 0, 23, 42, 180, 0, 159, 27, 79, 42, 89, 180, 0, 159, 4, 96, 181, 0, 159, 177]
abbrev dktX4_puts_0 : List UInt8 := dkwX4_puts_0 ++ []
theorem dksX4_puts_0 : cX4_puts.data.toList.drop 0 = dktX4_puts_0 := by decide +kernel
theorem dX4_puts_0 : decode cX4_puts 0 = .ok (.aload_n 0, 1) := dk_42 (dk_at dksX4_puts_0 0 rfl rfl)
theorem dX4_puts_1 : decode cX4_puts 1 = .ok (.getfield 23, 3) := dk_180 0 23 (dk_at dksX4_puts_0 1 rfl rfl)
theorem dX4_puts_4 : decode cX4_puts 4 = .ok (.aload_n 0, 1) := dk_42 (dk_at dksX4_puts_0 4 rfl rfl)
theorem dX4_puts_5 : decode cX4_puts 5 = .ok (.getfield 159, 3) := dk_180 0 159 (dk_at dksX4_puts_0 5 rfl rfl)
theorem dX4_puts_8 : decode cX4_puts 8 = .ok (.iload_n 1, 1) := dk_27 (dk_at dksX4_puts_0 8 rfl rfl)
theorem dX4_puts_9 : decode cX4_puts 9 = .ok (.iastore, 1) := dk_79 (dk_at dksX4_puts_0 9 rfl rfl)
theorem dX4_puts_10 : decode cX4_puts 10 = .ok (.aload_n 0, 1) := dk_42 (dk_at dksX4_puts_0 10 rfl rfl)
theorem dX4_puts_11 : decode cX4_puts 11 = .ok (.dup, 1) := dk_89 (dk_at dksX4_puts_0 11 rfl rfl)
theorem dX4_puts_12 : decode cX4_puts 12 = .ok (.getfield 159, 3) := dk_180 0 159 (dk_at dksX4_puts_0 12 rfl rfl)
theorem dX4_puts_15 : decode cX4_puts 15 = .ok (.iconst 1, 1) := dk_4 (dk_at dksX4_puts_0 15 rfl rfl)
theorem dX4_puts_16 : decode cX4_puts 16 = .ok (.iadd, 1) := dk_96 (dk_at dksX4_puts_0 16 rfl rfl)
theorem dX4_puts_17 : decode cX4_puts 17 = .ok (.putfield 159, 3) := dk_181 0 159 (dk_at dksX4_puts_0 17 rfl rfl)
theorem dX4_puts_20 : decode cX4_puts 20 = .ok (.return_, 1) := dk_177 (dk_at dksX4_puts_0 20 rfl rfl)
abbrev cX4_putsEntry : ByteArray := prog_14_method_73_code
def yX4_putsEntry : MethodName := ⟨RX4, "putsEntry", "(II)V"⟩
def dkwX4_putsEntry_6 : List UInt8 := [160, 0, 9, 42, 16, 42, 182, 0, 196, 177]
abbrev dktX4_putsEntry_6 : List UInt8 := dkwX4_putsEntry_6 ++ []
def dkwX4_putsEntry_5 : List UInt8 := [5, 16, 120, 182, 0, 203, 42, 21, 4, 6, 16, 109, 182, 0, 203, 42, 27, 28, 7, 182, 0, 122, 4]
abbrev dktX4_putsEntry_5 : List UInt8 := dkwX4_putsEntry_5 ++ dktX4_putsEntry_6
def dkwX4_putsEntry_4 : List UInt8 := [182, 0, 196, 42, 21, 4, 3, 16, 114, 182, 0, 203, 42, 21, 4, 4, 16, 119, 182, 0, 203, 42, 21, 4]
abbrev dktX4_putsEntry_4 : List UInt8 := dkwX4_putsEntry_4 ++ dktX4_putsEntry_5
def dkwX4_putsEntry_3 : List UInt8 := [16, 97, 182, 0, 196, 29, 5, 162, 0, 14, 42, 42, 27, 28, 4, 182, 0, 122, 182, 0, 200, 42, 16, 61]
abbrev dktX4_putsEntry_3 : List UInt8 := dkwX4_putsEntry_3 ++ dktX4_putsEntry_4
def dkwX4_putsEntry_2 : List UInt8 := [167, 0, 25, 29, 4, 160, 0, 8, 16, 103, 167, 0, 15, 29, 5, 160, 0, 8, 16, 111, 167, 0, 5]
abbrev dktX4_putsEntry_2 : List UInt8 := dkwX4_putsEntry_2 ++ dktX4_putsEntry_3
def dkwX4_putsEntry_1 : List UInt8 := [182, 0, 122, 4, 160, 0, 8, 16, 43, 167, 0, 5, 16, 45, 182, 0, 196, 42, 29, 154, 0, 8, 16, 117]
abbrev dktX4_putsEntry_1 : List UInt8 := dkwX4_putsEntry_1 ++ dktX4_putsEntry_2
def dkwX4_putsEntry_0 : List UInt8 := [42, 27, 28, 3, 182, 0, 122, 62, 42, 27, 28, 5, 182, 0, 122, 54, 4, 42, 42, 27, 28, 6]
abbrev dktX4_putsEntry_0 : List UInt8 := dkwX4_putsEntry_0 ++ dktX4_putsEntry_1
theorem dksX4_putsEntry_0 : cX4_putsEntry.data.toList.drop 0 = dktX4_putsEntry_0 := by decide +kernel
theorem dksX4_putsEntry_1 : cX4_putsEntry.data.toList.drop 22 = dktX4_putsEntry_1 := dk_seg dksX4_putsEntry_0 22 rfl rfl
theorem dksX4_putsEntry_2 : cX4_putsEntry.data.toList.drop 46 = dktX4_putsEntry_2 := dk_seg dksX4_putsEntry_1 24 rfl rfl
theorem dksX4_putsEntry_3 : cX4_putsEntry.data.toList.drop 69 = dktX4_putsEntry_3 := dk_seg dksX4_putsEntry_2 23 rfl rfl
theorem dksX4_putsEntry_4 : cX4_putsEntry.data.toList.drop 93 = dktX4_putsEntry_4 := dk_seg dksX4_putsEntry_3 24 rfl rfl
theorem dksX4_putsEntry_5 : cX4_putsEntry.data.toList.drop 117 = dktX4_putsEntry_5 := dk_seg dksX4_putsEntry_4 24 rfl rfl
theorem dksX4_putsEntry_6 : cX4_putsEntry.data.toList.drop 140 = dktX4_putsEntry_6 := dk_seg dksX4_putsEntry_5 23 rfl rfl
theorem dX4_putsEntry_0 : decode cX4_putsEntry 0 = .ok (.aload_n 0, 1) := dk_42 (dk_at dksX4_putsEntry_0 0 rfl rfl)
theorem dX4_putsEntry_1 : decode cX4_putsEntry 1 = .ok (.iload_n 1, 1) := dk_27 (dk_at dksX4_putsEntry_0 1 rfl rfl)
theorem dX4_putsEntry_2 : decode cX4_putsEntry 2 = .ok (.iload_n 2, 1) := dk_28 (dk_at dksX4_putsEntry_0 2 rfl rfl)
theorem dX4_putsEntry_3 : decode cX4_putsEntry 3 = .ok (.iconst 0, 1) := dk_3 (dk_at dksX4_putsEntry_0 3 rfl rfl)
theorem dX4_putsEntry_4 : decode cX4_putsEntry 4 = .ok (.invokevirtual 122, 3) := dk_182 0 122 (dk_at dksX4_putsEntry_0 4 rfl rfl)
theorem dX4_putsEntry_7 : decode cX4_putsEntry 7 = .ok (.istore_n 3, 1) := dk_62 (dk_at dksX4_putsEntry_0 7 rfl rfl)
theorem dX4_putsEntry_8 : decode cX4_putsEntry 8 = .ok (.aload_n 0, 1) := dk_42 (dk_at dksX4_putsEntry_0 8 rfl rfl)
theorem dX4_putsEntry_9 : decode cX4_putsEntry 9 = .ok (.iload_n 1, 1) := dk_27 (dk_at dksX4_putsEntry_0 9 rfl rfl)
theorem dX4_putsEntry_10 : decode cX4_putsEntry 10 = .ok (.iload_n 2, 1) := dk_28 (dk_at dksX4_putsEntry_0 10 rfl rfl)
theorem dX4_putsEntry_11 : decode cX4_putsEntry 11 = .ok (.iconst 2, 1) := dk_5 (dk_at dksX4_putsEntry_0 11 rfl rfl)
theorem dX4_putsEntry_12 : decode cX4_putsEntry 12 = .ok (.invokevirtual 122, 3) := dk_182 0 122 (dk_at dksX4_putsEntry_0 12 rfl rfl)
theorem dX4_putsEntry_15 : decode cX4_putsEntry 15 = .ok (.istore 4, 2) := dk_54 4 (dk_at dksX4_putsEntry_0 15 rfl rfl)
theorem dX4_putsEntry_17 : decode cX4_putsEntry 17 = .ok (.aload_n 0, 1) := dk_42 (dk_at dksX4_putsEntry_0 17 rfl rfl)
theorem dX4_putsEntry_18 : decode cX4_putsEntry 18 = .ok (.aload_n 0, 1) := dk_42 (dk_at dksX4_putsEntry_0 18 rfl rfl)
theorem dX4_putsEntry_19 : decode cX4_putsEntry 19 = .ok (.iload_n 1, 1) := dk_27 (dk_at dksX4_putsEntry_0 19 rfl rfl)
theorem dX4_putsEntry_20 : decode cX4_putsEntry 20 = .ok (.iload_n 2, 1) := dk_28 (dk_at dksX4_putsEntry_0 20 rfl rfl)
theorem dX4_putsEntry_21 : decode cX4_putsEntry 21 = .ok (.iconst 3, 1) := dk_6 (dk_at dksX4_putsEntry_0 21 rfl rfl)
theorem dX4_putsEntry_22 : decode cX4_putsEntry 22 = .ok (.invokevirtual 122, 3) := dk_182 0 122 (dk_at dksX4_putsEntry_1 0 rfl rfl)
theorem dX4_putsEntry_25 : decode cX4_putsEntry 25 = .ok (.iconst 1, 1) := dk_4 (dk_at dksX4_putsEntry_1 3 rfl rfl)
theorem dX4_putsEntry_26 : decode cX4_putsEntry 26 = .ok (.if_icmp .ne 8, 3) := dk_160 0 8 (dk_at dksX4_putsEntry_1 4 rfl rfl)
theorem dX4_putsEntry_29 : decode cX4_putsEntry 29 = .ok (.bipush 43, 2) := dk_16 43 (dk_at dksX4_putsEntry_1 7 rfl rfl)
theorem dX4_putsEntry_31 : decode cX4_putsEntry 31 = .ok (.goto 5, 3) := dk_167 0 5 (dk_at dksX4_putsEntry_1 9 rfl rfl)
theorem dX4_putsEntry_34 : decode cX4_putsEntry 34 = .ok (.bipush 45, 2) := dk_16 45 (dk_at dksX4_putsEntry_1 12 rfl rfl)
theorem dX4_putsEntry_36 : decode cX4_putsEntry 36 = .ok (.invokevirtual 196, 3) := dk_182 0 196 (dk_at dksX4_putsEntry_1 14 rfl rfl)
theorem dX4_putsEntry_39 : decode cX4_putsEntry 39 = .ok (.aload_n 0, 1) := dk_42 (dk_at dksX4_putsEntry_1 17 rfl rfl)
theorem dX4_putsEntry_40 : decode cX4_putsEntry 40 = .ok (.iload_n 3, 1) := dk_29 (dk_at dksX4_putsEntry_1 18 rfl rfl)
theorem dX4_putsEntry_41 : decode cX4_putsEntry 41 = .ok (.ifCond .ne 8, 3) := dk_154 0 8 (dk_at dksX4_putsEntry_1 19 rfl rfl)
theorem dX4_putsEntry_44 : decode cX4_putsEntry 44 = .ok (.bipush 117, 2) := dk_16 117 (dk_at dksX4_putsEntry_1 22 rfl rfl)
theorem dX4_putsEntry_46 : decode cX4_putsEntry 46 = .ok (.goto 25, 3) := dk_167 0 25 (dk_at dksX4_putsEntry_2 0 rfl rfl)
theorem dX4_putsEntry_49 : decode cX4_putsEntry 49 = .ok (.iload_n 3, 1) := dk_29 (dk_at dksX4_putsEntry_2 3 rfl rfl)
theorem dX4_putsEntry_50 : decode cX4_putsEntry 50 = .ok (.iconst 1, 1) := dk_4 (dk_at dksX4_putsEntry_2 4 rfl rfl)
theorem dX4_putsEntry_51 : decode cX4_putsEntry 51 = .ok (.if_icmp .ne 8, 3) := dk_160 0 8 (dk_at dksX4_putsEntry_2 5 rfl rfl)
theorem dX4_putsEntry_54 : decode cX4_putsEntry 54 = .ok (.bipush 103, 2) := dk_16 103 (dk_at dksX4_putsEntry_2 8 rfl rfl)
theorem dX4_putsEntry_56 : decode cX4_putsEntry 56 = .ok (.goto 15, 3) := dk_167 0 15 (dk_at dksX4_putsEntry_2 10 rfl rfl)
theorem dX4_putsEntry_59 : decode cX4_putsEntry 59 = .ok (.iload_n 3, 1) := dk_29 (dk_at dksX4_putsEntry_2 13 rfl rfl)
theorem dX4_putsEntry_60 : decode cX4_putsEntry 60 = .ok (.iconst 2, 1) := dk_5 (dk_at dksX4_putsEntry_2 14 rfl rfl)
theorem dX4_putsEntry_61 : decode cX4_putsEntry 61 = .ok (.if_icmp .ne 8, 3) := dk_160 0 8 (dk_at dksX4_putsEntry_2 15 rfl rfl)
theorem dX4_putsEntry_64 : decode cX4_putsEntry 64 = .ok (.bipush 111, 2) := dk_16 111 (dk_at dksX4_putsEntry_2 18 rfl rfl)
theorem dX4_putsEntry_66 : decode cX4_putsEntry 66 = .ok (.goto 5, 3) := dk_167 0 5 (dk_at dksX4_putsEntry_2 20 rfl rfl)
theorem dX4_putsEntry_69 : decode cX4_putsEntry 69 = .ok (.bipush 97, 2) := dk_16 97 (dk_at dksX4_putsEntry_3 0 rfl rfl)
theorem dX4_putsEntry_71 : decode cX4_putsEntry 71 = .ok (.invokevirtual 196, 3) := dk_182 0 196 (dk_at dksX4_putsEntry_3 2 rfl rfl)
theorem dX4_putsEntry_74 : decode cX4_putsEntry 74 = .ok (.iload_n 3, 1) := dk_29 (dk_at dksX4_putsEntry_3 5 rfl rfl)
theorem dX4_putsEntry_75 : decode cX4_putsEntry 75 = .ok (.iconst 2, 1) := dk_5 (dk_at dksX4_putsEntry_3 6 rfl rfl)
theorem dX4_putsEntry_76 : decode cX4_putsEntry 76 = .ok (.if_icmp .ge 14, 3) := dk_162 0 14 (dk_at dksX4_putsEntry_3 7 rfl rfl)
theorem dX4_putsEntry_79 : decode cX4_putsEntry 79 = .ok (.aload_n 0, 1) := dk_42 (dk_at dksX4_putsEntry_3 10 rfl rfl)
theorem dX4_putsEntry_80 : decode cX4_putsEntry 80 = .ok (.aload_n 0, 1) := dk_42 (dk_at dksX4_putsEntry_3 11 rfl rfl)
theorem dX4_putsEntry_81 : decode cX4_putsEntry 81 = .ok (.iload_n 1, 1) := dk_27 (dk_at dksX4_putsEntry_3 12 rfl rfl)
theorem dX4_putsEntry_82 : decode cX4_putsEntry 82 = .ok (.iload_n 2, 1) := dk_28 (dk_at dksX4_putsEntry_3 13 rfl rfl)
theorem dX4_putsEntry_83 : decode cX4_putsEntry 83 = .ok (.iconst 1, 1) := dk_4 (dk_at dksX4_putsEntry_3 14 rfl rfl)
theorem dX4_putsEntry_84 : decode cX4_putsEntry 84 = .ok (.invokevirtual 122, 3) := dk_182 0 122 (dk_at dksX4_putsEntry_3 15 rfl rfl)
theorem dX4_putsEntry_87 : decode cX4_putsEntry 87 = .ok (.invokevirtual 200, 3) := dk_182 0 200 (dk_at dksX4_putsEntry_3 18 rfl rfl)
theorem dX4_putsEntry_90 : decode cX4_putsEntry 90 = .ok (.aload_n 0, 1) := dk_42 (dk_at dksX4_putsEntry_3 21 rfl rfl)
theorem dX4_putsEntry_91 : decode cX4_putsEntry 91 = .ok (.bipush 61, 2) := dk_16 61 (dk_at dksX4_putsEntry_3 22 rfl rfl)
theorem dX4_putsEntry_93 : decode cX4_putsEntry 93 = .ok (.invokevirtual 196, 3) := dk_182 0 196 (dk_at dksX4_putsEntry_4 0 rfl rfl)
theorem dX4_putsEntry_96 : decode cX4_putsEntry 96 = .ok (.aload_n 0, 1) := dk_42 (dk_at dksX4_putsEntry_4 3 rfl rfl)
theorem dX4_putsEntry_97 : decode cX4_putsEntry 97 = .ok (.iload 4, 2) := dk_21 4 (dk_at dksX4_putsEntry_4 4 rfl rfl)
theorem dX4_putsEntry_99 : decode cX4_putsEntry 99 = .ok (.iconst 0, 1) := dk_3 (dk_at dksX4_putsEntry_4 6 rfl rfl)
theorem dX4_putsEntry_100 : decode cX4_putsEntry 100 = .ok (.bipush 114, 2) := dk_16 114 (dk_at dksX4_putsEntry_4 7 rfl rfl)
theorem dX4_putsEntry_102 : decode cX4_putsEntry 102 = .ok (.invokevirtual 203, 3) := dk_182 0 203 (dk_at dksX4_putsEntry_4 9 rfl rfl)
theorem dX4_putsEntry_105 : decode cX4_putsEntry 105 = .ok (.aload_n 0, 1) := dk_42 (dk_at dksX4_putsEntry_4 12 rfl rfl)
theorem dX4_putsEntry_106 : decode cX4_putsEntry 106 = .ok (.iload 4, 2) := dk_21 4 (dk_at dksX4_putsEntry_4 13 rfl rfl)
theorem dX4_putsEntry_108 : decode cX4_putsEntry 108 = .ok (.iconst 1, 1) := dk_4 (dk_at dksX4_putsEntry_4 15 rfl rfl)
theorem dX4_putsEntry_109 : decode cX4_putsEntry 109 = .ok (.bipush 119, 2) := dk_16 119 (dk_at dksX4_putsEntry_4 16 rfl rfl)
theorem dX4_putsEntry_111 : decode cX4_putsEntry 111 = .ok (.invokevirtual 203, 3) := dk_182 0 203 (dk_at dksX4_putsEntry_4 18 rfl rfl)
theorem dX4_putsEntry_114 : decode cX4_putsEntry 114 = .ok (.aload_n 0, 1) := dk_42 (dk_at dksX4_putsEntry_4 21 rfl rfl)
theorem dX4_putsEntry_115 : decode cX4_putsEntry 115 = .ok (.iload 4, 2) := dk_21 4 (dk_at dksX4_putsEntry_4 22 rfl rfl)
theorem dX4_putsEntry_117 : decode cX4_putsEntry 117 = .ok (.iconst 2, 1) := dk_5 (dk_at dksX4_putsEntry_5 0 rfl rfl)
theorem dX4_putsEntry_118 : decode cX4_putsEntry 118 = .ok (.bipush 120, 2) := dk_16 120 (dk_at dksX4_putsEntry_5 1 rfl rfl)
theorem dX4_putsEntry_120 : decode cX4_putsEntry 120 = .ok (.invokevirtual 203, 3) := dk_182 0 203 (dk_at dksX4_putsEntry_5 3 rfl rfl)
theorem dX4_putsEntry_123 : decode cX4_putsEntry 123 = .ok (.aload_n 0, 1) := dk_42 (dk_at dksX4_putsEntry_5 6 rfl rfl)
theorem dX4_putsEntry_124 : decode cX4_putsEntry 124 = .ok (.iload 4, 2) := dk_21 4 (dk_at dksX4_putsEntry_5 7 rfl rfl)
theorem dX4_putsEntry_126 : decode cX4_putsEntry 126 = .ok (.iconst 3, 1) := dk_6 (dk_at dksX4_putsEntry_5 9 rfl rfl)
theorem dX4_putsEntry_127 : decode cX4_putsEntry 127 = .ok (.bipush 109, 2) := dk_16 109 (dk_at dksX4_putsEntry_5 10 rfl rfl)
theorem dX4_putsEntry_129 : decode cX4_putsEntry 129 = .ok (.invokevirtual 203, 3) := dk_182 0 203 (dk_at dksX4_putsEntry_5 12 rfl rfl)
theorem dX4_putsEntry_132 : decode cX4_putsEntry 132 = .ok (.aload_n 0, 1) := dk_42 (dk_at dksX4_putsEntry_5 15 rfl rfl)
theorem dX4_putsEntry_133 : decode cX4_putsEntry 133 = .ok (.iload_n 1, 1) := dk_27 (dk_at dksX4_putsEntry_5 16 rfl rfl)
theorem dX4_putsEntry_134 : decode cX4_putsEntry 134 = .ok (.iload_n 2, 1) := dk_28 (dk_at dksX4_putsEntry_5 17 rfl rfl)
theorem dX4_putsEntry_135 : decode cX4_putsEntry 135 = .ok (.iconst 4, 1) := dk_7 (dk_at dksX4_putsEntry_5 18 rfl rfl)
theorem dX4_putsEntry_136 : decode cX4_putsEntry 136 = .ok (.invokevirtual 122, 3) := dk_182 0 122 (dk_at dksX4_putsEntry_5 19 rfl rfl)
theorem dX4_putsEntry_139 : decode cX4_putsEntry 139 = .ok (.iconst 1, 1) := dk_4 (dk_at dksX4_putsEntry_5 22 rfl rfl)
theorem dX4_putsEntry_140 : decode cX4_putsEntry 140 = .ok (.if_icmp .ne 9, 3) := dk_160 0 9 (dk_at dksX4_putsEntry_6 0 rfl rfl)
theorem dX4_putsEntry_143 : decode cX4_putsEntry 143 = .ok (.aload_n 0, 1) := dk_42 (dk_at dksX4_putsEntry_6 3 rfl rfl)
theorem dX4_putsEntry_144 : decode cX4_putsEntry 144 = .ok (.bipush 42, 2) := dk_16 42 (dk_at dksX4_putsEntry_6 4 rfl rfl)
theorem dX4_putsEntry_146 : decode cX4_putsEntry 146 = .ok (.invokevirtual 196, 3) := dk_182 0 196 (dk_at dksX4_putsEntry_6 6 rfl rfl)
theorem dX4_putsEntry_149 : decode cX4_putsEntry 149 = .ok (.return_, 1) := dk_177 (dk_at dksX4_putsEntry_6 9 rfl rfl)
abbrev cX4_putsRight : ByteArray := prog_14_method_72_code
def yX4_putsRight : MethodName := ⟨RX4, "putsRight", "(III)V"⟩
def dkwX4_putsRight_0 : List UInt8 := [27, 28, 184, 0, 65, 153, 0, 8, 42, 29, 182, 0, 196, 177]
abbrev dktX4_putsRight_0 : List UInt8 := dkwX4_putsRight_0 ++ []
theorem dksX4_putsRight_0 : cX4_putsRight.data.toList.drop 0 = dktX4_putsRight_0 := by decide +kernel
theorem dX4_putsRight_0 : decode cX4_putsRight 0 = .ok (.iload_n 1, 1) := dk_27 (dk_at dksX4_putsRight_0 0 rfl rfl)
theorem dX4_putsRight_1 : decode cX4_putsRight 1 = .ok (.iload_n 2, 1) := dk_28 (dk_at dksX4_putsRight_0 1 rfl rfl)
theorem dX4_putsRight_2 : decode cX4_putsRight 2 = .ok (.invokestatic 65, 3) := dk_184 0 65 (dk_at dksX4_putsRight_0 2 rfl rfl)
theorem dX4_putsRight_5 : decode cX4_putsRight 5 = .ok (.ifCond .eq 8, 3) := dk_153 0 8 (dk_at dksX4_putsRight_0 5 rfl rfl)
theorem dX4_putsRight_8 : decode cX4_putsRight 8 = .ok (.aload_n 0, 1) := dk_42 (dk_at dksX4_putsRight_0 8 rfl rfl)
theorem dX4_putsRight_9 : decode cX4_putsRight 9 = .ok (.iload_n 3, 1) := dk_29 (dk_at dksX4_putsRight_0 9 rfl rfl)
theorem dX4_putsRight_10 : decode cX4_putsRight 10 = .ok (.invokevirtual 196, 3) := dk_182 0 196 (dk_at dksX4_putsRight_0 10 rfl rfl)
theorem dX4_putsRight_13 : decode cX4_putsRight 13 = .ok (.return_, 1) := dk_177 (dk_at dksX4_putsRight_0 13 rfl rfl)
abbrev cX4_codeAt : ByteArray := prog_14_method_75_code
def yX4_codeAt : MethodName := ⟨RX4, "codeAt", "(I)I"⟩
def dkwX4_codeAt_1 : List UInt8 := [42, 180, 0, 159, 162, 0, 12, 42, 180, 0, 23, 27, 46, 167, 0, 4, 2, 172]
abbrev dktX4_codeAt_1 : List UInt8 := dkwX4_codeAt_1 ++ []
def dkwX4_codeAt_0 : List UInt8 := [42, 3, 181, 0, 39, 27, 3, 16, 79, 184, 0, 46, 154, 0, 11, 42, 4, 182, 0, 76, 167, 0, 21, 27]
abbrev dktX4_codeAt_0 : List UInt8 := dkwX4_codeAt_0 ++ dktX4_codeAt_1
theorem dksX4_codeAt_0 : cX4_codeAt.data.toList.drop 0 = dktX4_codeAt_0 := by decide +kernel
theorem dksX4_codeAt_1 : cX4_codeAt.data.toList.drop 24 = dktX4_codeAt_1 := dk_seg dksX4_codeAt_0 24 rfl rfl
theorem dX4_codeAt_0 : decode cX4_codeAt 0 = .ok (.aload_n 0, 1) := dk_42 (dk_at dksX4_codeAt_0 0 rfl rfl)
theorem dX4_codeAt_1 : decode cX4_codeAt 1 = .ok (.iconst 0, 1) := dk_3 (dk_at dksX4_codeAt_0 1 rfl rfl)
theorem dX4_codeAt_2 : decode cX4_codeAt 2 = .ok (.putfield 39, 3) := dk_181 0 39 (dk_at dksX4_codeAt_0 2 rfl rfl)
theorem dX4_codeAt_5 : decode cX4_codeAt 5 = .ok (.iload_n 1, 1) := dk_27 (dk_at dksX4_codeAt_0 5 rfl rfl)
theorem dX4_codeAt_6 : decode cX4_codeAt 6 = .ok (.iconst 0, 1) := dk_3 (dk_at dksX4_codeAt_0 6 rfl rfl)
theorem dX4_codeAt_7 : decode cX4_codeAt 7 = .ok (.bipush 79, 2) := dk_16 79 (dk_at dksX4_codeAt_0 7 rfl rfl)
theorem dX4_codeAt_9 : decode cX4_codeAt 9 = .ok (.invokestatic 46, 3) := dk_184 0 46 (dk_at dksX4_codeAt_0 9 rfl rfl)
theorem dX4_codeAt_12 : decode cX4_codeAt 12 = .ok (.ifCond .ne 11, 3) := dk_154 0 11 (dk_at dksX4_codeAt_0 12 rfl rfl)
theorem dX4_codeAt_15 : decode cX4_codeAt 15 = .ok (.aload_n 0, 1) := dk_42 (dk_at dksX4_codeAt_0 15 rfl rfl)
theorem dX4_codeAt_16 : decode cX4_codeAt 16 = .ok (.iconst 1, 1) := dk_4 (dk_at dksX4_codeAt_0 16 rfl rfl)
theorem dX4_codeAt_17 : decode cX4_codeAt 17 = .ok (.invokevirtual 76, 3) := dk_182 0 76 (dk_at dksX4_codeAt_0 17 rfl rfl)
theorem dX4_codeAt_20 : decode cX4_codeAt 20 = .ok (.goto 21, 3) := dk_167 0 21 (dk_at dksX4_codeAt_0 20 rfl rfl)
theorem dX4_codeAt_23 : decode cX4_codeAt 23 = .ok (.iload_n 1, 1) := dk_27 (dk_at dksX4_codeAt_0 23 rfl rfl)
theorem dX4_codeAt_24 : decode cX4_codeAt 24 = .ok (.aload_n 0, 1) := dk_42 (dk_at dksX4_codeAt_1 0 rfl rfl)
theorem dX4_codeAt_25 : decode cX4_codeAt 25 = .ok (.getfield 159, 3) := dk_180 0 159 (dk_at dksX4_codeAt_1 1 rfl rfl)
theorem dX4_codeAt_28 : decode cX4_codeAt 28 = .ok (.if_icmp .ge 12, 3) := dk_162 0 12 (dk_at dksX4_codeAt_1 4 rfl rfl)
theorem dX4_codeAt_31 : decode cX4_codeAt 31 = .ok (.aload_n 0, 1) := dk_42 (dk_at dksX4_codeAt_1 7 rfl rfl)
theorem dX4_codeAt_32 : decode cX4_codeAt 32 = .ok (.getfield 23, 3) := dk_180 0 23 (dk_at dksX4_codeAt_1 8 rfl rfl)
theorem dX4_codeAt_35 : decode cX4_codeAt 35 = .ok (.iload_n 1, 1) := dk_27 (dk_at dksX4_codeAt_1 11 rfl rfl)
theorem dX4_codeAt_36 : decode cX4_codeAt 36 = .ok (.iaload, 1) := dk_46 (dk_at dksX4_codeAt_1 12 rfl rfl)
theorem dX4_codeAt_37 : decode cX4_codeAt 37 = .ok (.goto 4, 3) := dk_167 0 4 (dk_at dksX4_codeAt_1 13 rfl rfl)
theorem dX4_codeAt_40 : decode cX4_codeAt 40 = .ok (.iconst (-1), 1) := dk_2 (dk_at dksX4_codeAt_1 16 rfl rfl)
theorem dX4_codeAt_41 : decode cX4_codeAt 41 = .ok (.ireturn, 1) := dk_172 (dk_at dksX4_codeAt_1 17 rfl rfl)
abbrev cX4_users : ByteArray := prog_14_method_76_code
def yX4_users : MethodName := ⟨RX4, "users", "()I"⟩
def dkwX4_users_0 : List UInt8 := [42, 3, 181, 0, 39, 42, 180, 0, 7, 3, 46, 172]
abbrev dktX4_users_0 : List UInt8 := dkwX4_users_0 ++ []
theorem dksX4_users_0 : cX4_users.data.toList.drop 0 = dktX4_users_0 := by decide +kernel
theorem dX4_users_0 : decode cX4_users 0 = .ok (.aload_n 0, 1) := dk_42 (dk_at dksX4_users_0 0 rfl rfl)
theorem dX4_users_1 : decode cX4_users 1 = .ok (.iconst 0, 1) := dk_3 (dk_at dksX4_users_0 1 rfl rfl)
theorem dX4_users_2 : decode cX4_users 2 = .ok (.putfield 39, 3) := dk_181 0 39 (dk_at dksX4_users_0 2 rfl rfl)
theorem dX4_users_5 : decode cX4_users 5 = .ok (.aload_n 0, 1) := dk_42 (dk_at dksX4_users_0 5 rfl rfl)
theorem dX4_users_6 : decode cX4_users 6 = .ok (.getfield 7, 3) := dk_180 0 7 (dk_at dksX4_users_0 6 rfl rfl)
theorem dX4_users_9 : decode cX4_users 9 = .ok (.iconst 0, 1) := dk_3 (dk_at dksX4_users_0 9 rfl rfl)
theorem dX4_users_10 : decode cX4_users 10 = .ok (.iaload, 1) := dk_46 (dk_at dksX4_users_0 10 rfl rfl)
theorem dX4_users_11 : decode cX4_users 11 = .ok (.ireturn, 1) := dk_172 (dk_at dksX4_users_0 11 rfl rfl)
abbrev cX4_groups : ByteArray := prog_14_method_77_code
def yX4_groups : MethodName := ⟨RX4, "groups", "()I"⟩
def dkwX4_groups_0 : List UInt8 := [42, 3, 181, 0, 39, 42, 180, 0, 7, 4, 46, 172]
abbrev dktX4_groups_0 : List UInt8 := dkwX4_groups_0 ++ []
theorem dksX4_groups_0 : cX4_groups.data.toList.drop 0 = dktX4_groups_0 := by decide +kernel
theorem dX4_groups_0 : decode cX4_groups 0 = .ok (.aload_n 0, 1) := dk_42 (dk_at dksX4_groups_0 0 rfl rfl)
theorem dX4_groups_1 : decode cX4_groups 1 = .ok (.iconst 0, 1) := dk_3 (dk_at dksX4_groups_0 1 rfl rfl)
theorem dX4_groups_2 : decode cX4_groups 2 = .ok (.putfield 39, 3) := dk_181 0 39 (dk_at dksX4_groups_0 2 rfl rfl)
theorem dX4_groups_5 : decode cX4_groups 5 = .ok (.aload_n 0, 1) := dk_42 (dk_at dksX4_groups_0 5 rfl rfl)
theorem dX4_groups_6 : decode cX4_groups 6 = .ok (.getfield 7, 3) := dk_180 0 7 (dk_at dksX4_groups_0 6 rfl rfl)
theorem dX4_groups_9 : decode cX4_groups 9 = .ok (.iconst 1, 1) := dk_4 (dk_at dksX4_groups_0 9 rfl rfl)
theorem dX4_groups_10 : decode cX4_groups 10 = .ok (.iaload, 1) := dk_46 (dk_at dksX4_groups_0 10 rfl rfl)
theorem dX4_groups_11 : decode cX4_groups 11 = .ok (.ireturn, 1) := dk_172 (dk_at dksX4_groups_0 11 rfl rfl)
abbrev cX4_isMember : ByteArray := prog_14_method_78_code
def yX4_isMember : MethodName := ⟨RX4, "isMember", "(II)Z"⟩
def dkwX4_isMember_2 : List UInt8 := [153, 0, 7, 4, 167, 0, 4, 3, 172]
abbrev dktX4_isMember_2 : List UInt8 := dkwX4_isMember_2 ++ []
def dkwX4_isMember_1 : List UInt8 := [181, 0, 39, 42, 180, 0, 39, 154, 0, 22, 42, 180, 0, 7, 5, 28, 96, 46, 27, 184, 0, 65]
abbrev dktX4_isMember_1 : List UInt8 := dkwX4_isMember_1 ++ dktX4_isMember_2
def dkwX4_isMember_0 : List UInt8 := [42, 42, 27, 182, 0, 82, 153, 0, 15, 42, 28, 182, 0, 85, 153, 0, 7, 3, 167, 0, 4, 4]
abbrev dktX4_isMember_0 : List UInt8 := dkwX4_isMember_0 ++ dktX4_isMember_1
theorem dksX4_isMember_0 : cX4_isMember.data.toList.drop 0 = dktX4_isMember_0 := by decide +kernel
theorem dksX4_isMember_1 : cX4_isMember.data.toList.drop 22 = dktX4_isMember_1 := dk_seg dksX4_isMember_0 22 rfl rfl
theorem dksX4_isMember_2 : cX4_isMember.data.toList.drop 44 = dktX4_isMember_2 := dk_seg dksX4_isMember_1 22 rfl rfl
theorem dX4_isMember_0 : decode cX4_isMember 0 = .ok (.aload_n 0, 1) := dk_42 (dk_at dksX4_isMember_0 0 rfl rfl)
theorem dX4_isMember_1 : decode cX4_isMember 1 = .ok (.aload_n 0, 1) := dk_42 (dk_at dksX4_isMember_0 1 rfl rfl)
theorem dX4_isMember_2 : decode cX4_isMember 2 = .ok (.iload_n 1, 1) := dk_27 (dk_at dksX4_isMember_0 2 rfl rfl)
theorem dX4_isMember_3 : decode cX4_isMember 3 = .ok (.invokevirtual 82, 3) := dk_182 0 82 (dk_at dksX4_isMember_0 3 rfl rfl)
theorem dX4_isMember_6 : decode cX4_isMember 6 = .ok (.ifCond .eq 15, 3) := dk_153 0 15 (dk_at dksX4_isMember_0 6 rfl rfl)
theorem dX4_isMember_9 : decode cX4_isMember 9 = .ok (.aload_n 0, 1) := dk_42 (dk_at dksX4_isMember_0 9 rfl rfl)
theorem dX4_isMember_10 : decode cX4_isMember 10 = .ok (.iload_n 2, 1) := dk_28 (dk_at dksX4_isMember_0 10 rfl rfl)
theorem dX4_isMember_11 : decode cX4_isMember 11 = .ok (.invokevirtual 85, 3) := dk_182 0 85 (dk_at dksX4_isMember_0 11 rfl rfl)
theorem dX4_isMember_14 : decode cX4_isMember 14 = .ok (.ifCond .eq 7, 3) := dk_153 0 7 (dk_at dksX4_isMember_0 14 rfl rfl)
theorem dX4_isMember_17 : decode cX4_isMember 17 = .ok (.iconst 0, 1) := dk_3 (dk_at dksX4_isMember_0 17 rfl rfl)
theorem dX4_isMember_18 : decode cX4_isMember 18 = .ok (.goto 4, 3) := dk_167 0 4 (dk_at dksX4_isMember_0 18 rfl rfl)
theorem dX4_isMember_21 : decode cX4_isMember 21 = .ok (.iconst 1, 1) := dk_4 (dk_at dksX4_isMember_0 21 rfl rfl)
theorem dX4_isMember_22 : decode cX4_isMember 22 = .ok (.putfield 39, 3) := dk_181 0 39 (dk_at dksX4_isMember_1 0 rfl rfl)
theorem dX4_isMember_25 : decode cX4_isMember 25 = .ok (.aload_n 0, 1) := dk_42 (dk_at dksX4_isMember_1 3 rfl rfl)
theorem dX4_isMember_26 : decode cX4_isMember 26 = .ok (.getfield 39, 3) := dk_180 0 39 (dk_at dksX4_isMember_1 4 rfl rfl)
theorem dX4_isMember_29 : decode cX4_isMember 29 = .ok (.ifCond .ne 22, 3) := dk_154 0 22 (dk_at dksX4_isMember_1 7 rfl rfl)
theorem dX4_isMember_32 : decode cX4_isMember 32 = .ok (.aload_n 0, 1) := dk_42 (dk_at dksX4_isMember_1 10 rfl rfl)
theorem dX4_isMember_33 : decode cX4_isMember 33 = .ok (.getfield 7, 3) := dk_180 0 7 (dk_at dksX4_isMember_1 11 rfl rfl)
theorem dX4_isMember_36 : decode cX4_isMember 36 = .ok (.iconst 2, 1) := dk_5 (dk_at dksX4_isMember_1 14 rfl rfl)
theorem dX4_isMember_37 : decode cX4_isMember 37 = .ok (.iload_n 2, 1) := dk_28 (dk_at dksX4_isMember_1 15 rfl rfl)
theorem dX4_isMember_38 : decode cX4_isMember 38 = .ok (.iadd, 1) := dk_96 (dk_at dksX4_isMember_1 16 rfl rfl)
theorem dX4_isMember_39 : decode cX4_isMember 39 = .ok (.iaload, 1) := dk_46 (dk_at dksX4_isMember_1 17 rfl rfl)
theorem dX4_isMember_40 : decode cX4_isMember 40 = .ok (.iload_n 1, 1) := dk_27 (dk_at dksX4_isMember_1 18 rfl rfl)
theorem dX4_isMember_41 : decode cX4_isMember 41 = .ok (.invokestatic 65, 3) := dk_184 0 65 (dk_at dksX4_isMember_1 19 rfl rfl)
theorem dX4_isMember_44 : decode cX4_isMember 44 = .ok (.ifCond .eq 7, 3) := dk_153 0 7 (dk_at dksX4_isMember_2 0 rfl rfl)
theorem dX4_isMember_47 : decode cX4_isMember 47 = .ok (.iconst 1, 1) := dk_4 (dk_at dksX4_isMember_2 3 rfl rfl)
theorem dX4_isMember_48 : decode cX4_isMember 48 = .ok (.goto 4, 3) := dk_167 0 4 (dk_at dksX4_isMember_2 4 rfl rfl)
theorem dX4_isMember_51 : decode cX4_isMember 51 = .ok (.iconst 0, 1) := dk_3 (dk_at dksX4_isMember_2 7 rfl rfl)
theorem dX4_isMember_52 : decode cX4_isMember 52 = .ok (.ireturn, 1) := dk_172 (dk_at dksX4_isMember_2 8 rfl rfl)
abbrev cX4_isNested : ByteArray := prog_14_method_79_code
def yX4_isNested : MethodName := ⟨RX4, "isNested", "(II)Z"⟩
def dkwX4_isNested_2 : List UInt8 := [153, 0, 7, 4, 167, 0, 4, 3, 172]
abbrev dktX4_isNested_2 : List UInt8 := dkwX4_isNested_2 ++ []
def dkwX4_isNested_1 : List UInt8 := [181, 0, 39, 42, 180, 0, 39, 154, 0, 23, 42, 180, 0, 7, 16, 10, 27, 96, 46, 28, 184, 0, 65]
abbrev dktX4_isNested_1 : List UInt8 := dkwX4_isNested_1 ++ dktX4_isNested_2
def dkwX4_isNested_0 : List UInt8 := [42, 42, 27, 182, 0, 85, 153, 0, 15, 42, 28, 182, 0, 85, 153, 0, 7, 3, 167, 0, 4, 4]
abbrev dktX4_isNested_0 : List UInt8 := dkwX4_isNested_0 ++ dktX4_isNested_1
theorem dksX4_isNested_0 : cX4_isNested.data.toList.drop 0 = dktX4_isNested_0 := by decide +kernel
theorem dksX4_isNested_1 : cX4_isNested.data.toList.drop 22 = dktX4_isNested_1 := dk_seg dksX4_isNested_0 22 rfl rfl
theorem dksX4_isNested_2 : cX4_isNested.data.toList.drop 45 = dktX4_isNested_2 := dk_seg dksX4_isNested_1 23 rfl rfl
theorem dX4_isNested_0 : decode cX4_isNested 0 = .ok (.aload_n 0, 1) := dk_42 (dk_at dksX4_isNested_0 0 rfl rfl)
theorem dX4_isNested_1 : decode cX4_isNested 1 = .ok (.aload_n 0, 1) := dk_42 (dk_at dksX4_isNested_0 1 rfl rfl)
theorem dX4_isNested_2 : decode cX4_isNested 2 = .ok (.iload_n 1, 1) := dk_27 (dk_at dksX4_isNested_0 2 rfl rfl)
theorem dX4_isNested_3 : decode cX4_isNested 3 = .ok (.invokevirtual 85, 3) := dk_182 0 85 (dk_at dksX4_isNested_0 3 rfl rfl)
theorem dX4_isNested_6 : decode cX4_isNested 6 = .ok (.ifCond .eq 15, 3) := dk_153 0 15 (dk_at dksX4_isNested_0 6 rfl rfl)
theorem dX4_isNested_9 : decode cX4_isNested 9 = .ok (.aload_n 0, 1) := dk_42 (dk_at dksX4_isNested_0 9 rfl rfl)
theorem dX4_isNested_10 : decode cX4_isNested 10 = .ok (.iload_n 2, 1) := dk_28 (dk_at dksX4_isNested_0 10 rfl rfl)
theorem dX4_isNested_11 : decode cX4_isNested 11 = .ok (.invokevirtual 85, 3) := dk_182 0 85 (dk_at dksX4_isNested_0 11 rfl rfl)
theorem dX4_isNested_14 : decode cX4_isNested 14 = .ok (.ifCond .eq 7, 3) := dk_153 0 7 (dk_at dksX4_isNested_0 14 rfl rfl)
theorem dX4_isNested_17 : decode cX4_isNested 17 = .ok (.iconst 0, 1) := dk_3 (dk_at dksX4_isNested_0 17 rfl rfl)
theorem dX4_isNested_18 : decode cX4_isNested 18 = .ok (.goto 4, 3) := dk_167 0 4 (dk_at dksX4_isNested_0 18 rfl rfl)
theorem dX4_isNested_21 : decode cX4_isNested 21 = .ok (.iconst 1, 1) := dk_4 (dk_at dksX4_isNested_0 21 rfl rfl)
theorem dX4_isNested_22 : decode cX4_isNested 22 = .ok (.putfield 39, 3) := dk_181 0 39 (dk_at dksX4_isNested_1 0 rfl rfl)
theorem dX4_isNested_25 : decode cX4_isNested 25 = .ok (.aload_n 0, 1) := dk_42 (dk_at dksX4_isNested_1 3 rfl rfl)
theorem dX4_isNested_26 : decode cX4_isNested 26 = .ok (.getfield 39, 3) := dk_180 0 39 (dk_at dksX4_isNested_1 4 rfl rfl)
theorem dX4_isNested_29 : decode cX4_isNested 29 = .ok (.ifCond .ne 23, 3) := dk_154 0 23 (dk_at dksX4_isNested_1 7 rfl rfl)
theorem dX4_isNested_32 : decode cX4_isNested 32 = .ok (.aload_n 0, 1) := dk_42 (dk_at dksX4_isNested_1 10 rfl rfl)
theorem dX4_isNested_33 : decode cX4_isNested 33 = .ok (.getfield 7, 3) := dk_180 0 7 (dk_at dksX4_isNested_1 11 rfl rfl)
theorem dX4_isNested_36 : decode cX4_isNested 36 = .ok (.bipush 10, 2) := dk_16 10 (dk_at dksX4_isNested_1 14 rfl rfl)
theorem dX4_isNested_38 : decode cX4_isNested 38 = .ok (.iload_n 1, 1) := dk_27 (dk_at dksX4_isNested_1 16 rfl rfl)
theorem dX4_isNested_39 : decode cX4_isNested 39 = .ok (.iadd, 1) := dk_96 (dk_at dksX4_isNested_1 17 rfl rfl)
theorem dX4_isNested_40 : decode cX4_isNested 40 = .ok (.iaload, 1) := dk_46 (dk_at dksX4_isNested_1 18 rfl rfl)
theorem dX4_isNested_41 : decode cX4_isNested 41 = .ok (.iload_n 2, 1) := dk_28 (dk_at dksX4_isNested_1 19 rfl rfl)
theorem dX4_isNested_42 : decode cX4_isNested 42 = .ok (.invokestatic 65, 3) := dk_184 0 65 (dk_at dksX4_isNested_1 20 rfl rfl)
theorem dX4_isNested_45 : decode cX4_isNested 45 = .ok (.ifCond .eq 7, 3) := dk_153 0 7 (dk_at dksX4_isNested_2 0 rfl rfl)
theorem dX4_isNested_48 : decode cX4_isNested 48 = .ok (.iconst 1, 1) := dk_4 (dk_at dksX4_isNested_2 3 rfl rfl)
theorem dX4_isNested_49 : decode cX4_isNested 49 = .ok (.goto 4, 3) := dk_167 0 4 (dk_at dksX4_isNested_2 4 rfl rfl)
theorem dX4_isNested_52 : decode cX4_isNested 52 = .ok (.iconst 0, 1) := dk_3 (dk_at dksX4_isNested_2 7 rfl rfl)
theorem dX4_isNested_53 : decode cX4_isNested 53 = .ok (.ireturn, 1) := dk_172 (dk_at dksX4_isNested_2 8 rfl rfl)
abbrev cX4_belongs : ByteArray := prog_14_method_81_code
def yX4_belongs : MethodName := ⟨RX4, "belongs", "(II)Z"⟩
def dkwX4_belongs_0 : List UInt8 := [42, 27, 28, 182, 0, 209, 172]
abbrev dktX4_belongs_0 : List UInt8 := dkwX4_belongs_0 ++ []
theorem dksX4_belongs_0 : cX4_belongs.data.toList.drop 0 = dktX4_belongs_0 := by decide +kernel
theorem dX4_belongs_0 : decode cX4_belongs 0 = .ok (.aload_n 0, 1) := dk_42 (dk_at dksX4_belongs_0 0 rfl rfl)
theorem dX4_belongs_1 : decode cX4_belongs 1 = .ok (.iload_n 1, 1) := dk_27 (dk_at dksX4_belongs_0 1 rfl rfl)
theorem dX4_belongs_2 : decode cX4_belongs 2 = .ok (.iload_n 2, 1) := dk_28 (dk_at dksX4_belongs_0 2 rfl rfl)
theorem dX4_belongs_3 : decode cX4_belongs 3 = .ok (.invokevirtual 209, 3) := dk_182 0 209 (dk_at dksX4_belongs_0 3 rfl rfl)
theorem dX4_belongs_6 : decode cX4_belongs 6 = .ok (.ireturn, 1) := dk_172 (dk_at dksX4_belongs_0 6 rfl rfl)
abbrev cX4_isOfGroup : ByteArray := prog_14_method_80_code
def yX4_isOfGroup : MethodName := ⟨RX4, "isOfGroup", "(II)Z"⟩
def dkwX4_isOfGroup_2 : List UInt8 := [172]
abbrev dktX4_isOfGroup_2 : List UInt8 := dkwX4_isOfGroup_2 ++ []
def dkwX4_isOfGroup_1 : List UInt8 := [181, 0, 39, 42, 180, 0, 39, 154, 0, 16, 42, 27, 28, 182, 0, 73, 153, 0, 7, 4, 167, 0, 4, 3]
abbrev dktX4_isOfGroup_1 : List UInt8 := dkwX4_isOfGroup_1 ++ dktX4_isOfGroup_2
def dkwX4_isOfGroup_0 : List UInt8 := [42, 42, 27, 182, 0, 82, 153, 0, 15, 42, 28, 182, 0, 85, 153, 0, 7, 3, 167, 0, 4, 4]
abbrev dktX4_isOfGroup_0 : List UInt8 := dkwX4_isOfGroup_0 ++ dktX4_isOfGroup_1
theorem dksX4_isOfGroup_0 : cX4_isOfGroup.data.toList.drop 0 = dktX4_isOfGroup_0 := by decide +kernel
theorem dksX4_isOfGroup_1 : cX4_isOfGroup.data.toList.drop 22 = dktX4_isOfGroup_1 := dk_seg dksX4_isOfGroup_0 22 rfl rfl
theorem dksX4_isOfGroup_2 : cX4_isOfGroup.data.toList.drop 46 = dktX4_isOfGroup_2 := dk_seg dksX4_isOfGroup_1 24 rfl rfl
theorem dX4_isOfGroup_0 : decode cX4_isOfGroup 0 = .ok (.aload_n 0, 1) := dk_42 (dk_at dksX4_isOfGroup_0 0 rfl rfl)
theorem dX4_isOfGroup_1 : decode cX4_isOfGroup 1 = .ok (.aload_n 0, 1) := dk_42 (dk_at dksX4_isOfGroup_0 1 rfl rfl)
theorem dX4_isOfGroup_2 : decode cX4_isOfGroup 2 = .ok (.iload_n 1, 1) := dk_27 (dk_at dksX4_isOfGroup_0 2 rfl rfl)
theorem dX4_isOfGroup_3 : decode cX4_isOfGroup 3 = .ok (.invokevirtual 82, 3) := dk_182 0 82 (dk_at dksX4_isOfGroup_0 3 rfl rfl)
theorem dX4_isOfGroup_6 : decode cX4_isOfGroup 6 = .ok (.ifCond .eq 15, 3) := dk_153 0 15 (dk_at dksX4_isOfGroup_0 6 rfl rfl)
theorem dX4_isOfGroup_9 : decode cX4_isOfGroup 9 = .ok (.aload_n 0, 1) := dk_42 (dk_at dksX4_isOfGroup_0 9 rfl rfl)
theorem dX4_isOfGroup_10 : decode cX4_isOfGroup 10 = .ok (.iload_n 2, 1) := dk_28 (dk_at dksX4_isOfGroup_0 10 rfl rfl)
theorem dX4_isOfGroup_11 : decode cX4_isOfGroup 11 = .ok (.invokevirtual 85, 3) := dk_182 0 85 (dk_at dksX4_isOfGroup_0 11 rfl rfl)
theorem dX4_isOfGroup_14 : decode cX4_isOfGroup 14 = .ok (.ifCond .eq 7, 3) := dk_153 0 7 (dk_at dksX4_isOfGroup_0 14 rfl rfl)
theorem dX4_isOfGroup_17 : decode cX4_isOfGroup 17 = .ok (.iconst 0, 1) := dk_3 (dk_at dksX4_isOfGroup_0 17 rfl rfl)
theorem dX4_isOfGroup_18 : decode cX4_isOfGroup 18 = .ok (.goto 4, 3) := dk_167 0 4 (dk_at dksX4_isOfGroup_0 18 rfl rfl)
theorem dX4_isOfGroup_21 : decode cX4_isOfGroup 21 = .ok (.iconst 1, 1) := dk_4 (dk_at dksX4_isOfGroup_0 21 rfl rfl)
theorem dX4_isOfGroup_22 : decode cX4_isOfGroup 22 = .ok (.putfield 39, 3) := dk_181 0 39 (dk_at dksX4_isOfGroup_1 0 rfl rfl)
theorem dX4_isOfGroup_25 : decode cX4_isOfGroup 25 = .ok (.aload_n 0, 1) := dk_42 (dk_at dksX4_isOfGroup_1 3 rfl rfl)
theorem dX4_isOfGroup_26 : decode cX4_isOfGroup 26 = .ok (.getfield 39, 3) := dk_180 0 39 (dk_at dksX4_isOfGroup_1 4 rfl rfl)
theorem dX4_isOfGroup_29 : decode cX4_isOfGroup 29 = .ok (.ifCond .ne 16, 3) := dk_154 0 16 (dk_at dksX4_isOfGroup_1 7 rfl rfl)
theorem dX4_isOfGroup_32 : decode cX4_isOfGroup 32 = .ok (.aload_n 0, 1) := dk_42 (dk_at dksX4_isOfGroup_1 10 rfl rfl)
theorem dX4_isOfGroup_33 : decode cX4_isOfGroup 33 = .ok (.iload_n 1, 1) := dk_27 (dk_at dksX4_isOfGroup_1 11 rfl rfl)
theorem dX4_isOfGroup_34 : decode cX4_isOfGroup 34 = .ok (.iload_n 2, 1) := dk_28 (dk_at dksX4_isOfGroup_1 12 rfl rfl)
theorem dX4_isOfGroup_35 : decode cX4_isOfGroup 35 = .ok (.invokevirtual 73, 3) := dk_182 0 73 (dk_at dksX4_isOfGroup_1 13 rfl rfl)
theorem dX4_isOfGroup_38 : decode cX4_isOfGroup 38 = .ok (.ifCond .eq 7, 3) := dk_153 0 7 (dk_at dksX4_isOfGroup_1 16 rfl rfl)
theorem dX4_isOfGroup_41 : decode cX4_isOfGroup 41 = .ok (.iconst 1, 1) := dk_4 (dk_at dksX4_isOfGroup_1 19 rfl rfl)
theorem dX4_isOfGroup_42 : decode cX4_isOfGroup 42 = .ok (.goto 4, 3) := dk_167 0 4 (dk_at dksX4_isOfGroup_1 20 rfl rfl)
theorem dX4_isOfGroup_45 : decode cX4_isOfGroup 45 = .ok (.iconst 0, 1) := dk_3 (dk_at dksX4_isOfGroup_1 23 rfl rfl)
theorem dX4_isOfGroup_46 : decode cX4_isOfGroup 46 = .ok (.ireturn, 1) := dk_172 (dk_at dksX4_isOfGroup_2 0 rfl rfl)
abbrev cX4_belongsByMembers : ByteArray := prog_14_method_82_code
def yX4_belongsByMembers : MethodName := ⟨RX4, "belongsByMembers", "(II)Z"⟩
def dkwX4_belongsByMembers_0 : List UInt8 := [42, 27, 28, 182, 0, 209, 172]
abbrev dktX4_belongsByMembers_0 : List UInt8 := dkwX4_belongsByMembers_0 ++ []
theorem dksX4_belongsByMembers_0 : cX4_belongsByMembers.data.toList.drop 0 = dktX4_belongsByMembers_0 := by decide +kernel
theorem dX4_belongsByMembers_0 : decode cX4_belongsByMembers 0 = .ok (.aload_n 0, 1) := dk_42 (dk_at dksX4_belongsByMembers_0 0 rfl rfl)
theorem dX4_belongsByMembers_1 : decode cX4_belongsByMembers 1 = .ok (.iload_n 1, 1) := dk_27 (dk_at dksX4_belongsByMembers_0 1 rfl rfl)
theorem dX4_belongsByMembers_2 : decode cX4_belongsByMembers 2 = .ok (.iload_n 2, 1) := dk_28 (dk_at dksX4_belongsByMembers_0 2 rfl rfl)
theorem dX4_belongsByMembers_3 : decode cX4_belongsByMembers 3 = .ok (.invokevirtual 209, 3) := dk_182 0 209 (dk_at dksX4_belongsByMembers_0 3 rfl rfl)
theorem dX4_belongsByMembers_6 : decode cX4_belongsByMembers 6 = .ok (.ireturn, 1) := dk_172 (dk_at dksX4_belongsByMembers_0 6 rfl rfl)
abbrev cX4_objects : ByteArray := prog_14_method_83_code
def yX4_objects : MethodName := ⟨RX4, "objects", "()I"⟩
def dkwX4_objects_0 : List UInt8 := [42, 3, 181, 0, 39, 42, 182, 0, 94, 172]
abbrev dktX4_objects_0 : List UInt8 := dkwX4_objects_0 ++ []
theorem dksX4_objects_0 : cX4_objects.data.toList.drop 0 = dktX4_objects_0 := by decide +kernel
theorem dX4_objects_0 : decode cX4_objects 0 = .ok (.aload_n 0, 1) := dk_42 (dk_at dksX4_objects_0 0 rfl rfl)
theorem dX4_objects_1 : decode cX4_objects 1 = .ok (.iconst 0, 1) := dk_3 (dk_at dksX4_objects_0 1 rfl rfl)
theorem dX4_objects_2 : decode cX4_objects 2 = .ok (.putfield 39, 3) := dk_181 0 39 (dk_at dksX4_objects_0 2 rfl rfl)
theorem dX4_objects_5 : decode cX4_objects 5 = .ok (.aload_n 0, 1) := dk_42 (dk_at dksX4_objects_0 5 rfl rfl)
theorem dX4_objects_6 : decode cX4_objects 6 = .ok (.invokevirtual 94, 3) := dk_182 0 94 (dk_at dksX4_objects_0 6 rfl rfl)
theorem dX4_objects_9 : decode cX4_objects 9 = .ok (.ireturn, 1) := dk_172 (dk_at dksX4_objects_0 9 rfl rfl)
abbrev cX4_isThere : ByteArray := prog_14_method_84_code
def yX4_isThere : MethodName := ⟨RX4, "isThere", "(I)Z"⟩
def dkwX4_isThere_0 : List UInt8 := [42, 3, 181, 0, 39, 42, 27, 182, 0, 57, 172]
abbrev dktX4_isThere_0 : List UInt8 := dkwX4_isThere_0 ++ []
theorem dksX4_isThere_0 : cX4_isThere.data.toList.drop 0 = dktX4_isThere_0 := by decide +kernel
theorem dX4_isThere_0 : decode cX4_isThere 0 = .ok (.aload_n 0, 1) := dk_42 (dk_at dksX4_isThere_0 0 rfl rfl)
theorem dX4_isThere_1 : decode cX4_isThere 1 = .ok (.iconst 0, 1) := dk_3 (dk_at dksX4_isThere_0 1 rfl rfl)
theorem dX4_isThere_2 : decode cX4_isThere 2 = .ok (.putfield 39, 3) := dk_181 0 39 (dk_at dksX4_isThere_0 2 rfl rfl)
theorem dX4_isThere_5 : decode cX4_isThere 5 = .ok (.aload_n 0, 1) := dk_42 (dk_at dksX4_isThere_0 5 rfl rfl)
theorem dX4_isThere_6 : decode cX4_isThere 6 = .ok (.iload_n 1, 1) := dk_27 (dk_at dksX4_isThere_0 6 rfl rfl)
theorem dX4_isThere_7 : decode cX4_isThere 7 = .ok (.invokevirtual 57, 3) := dk_182 0 57 (dk_at dksX4_isThere_0 7 rfl rfl)
theorem dX4_isThere_10 : decode cX4_isThere 10 = .ok (.ireturn, 1) := dk_172 (dk_at dksX4_isThere_0 10 rfl rfl)
abbrev cX4_parentOf : ByteArray := prog_14_method_86_code
def yX4_parentOf : MethodName := ⟨RX4, "parentOf", "(I)I"⟩
def dkwX4_parentOf_0 : List UInt8 := [42, 27, 4, 182, 0, 212, 172]
abbrev dktX4_parentOf_0 : List UInt8 := dkwX4_parentOf_0 ++ []
theorem dksX4_parentOf_0 : cX4_parentOf.data.toList.drop 0 = dktX4_parentOf_0 := by decide +kernel
theorem dX4_parentOf_0 : decode cX4_parentOf 0 = .ok (.aload_n 0, 1) := dk_42 (dk_at dksX4_parentOf_0 0 rfl rfl)
theorem dX4_parentOf_1 : decode cX4_parentOf 1 = .ok (.iload_n 1, 1) := dk_27 (dk_at dksX4_parentOf_0 1 rfl rfl)
theorem dX4_parentOf_2 : decode cX4_parentOf 2 = .ok (.iconst 1, 1) := dk_4 (dk_at dksX4_parentOf_0 2 rfl rfl)
theorem dX4_parentOf_3 : decode cX4_parentOf 3 = .ok (.invokevirtual 212, 3) := dk_182 0 212 (dk_at dksX4_parentOf_0 3 rfl rfl)
theorem dX4_parentOf_6 : decode cX4_parentOf 6 = .ok (.ireturn, 1) := dk_172 (dk_at dksX4_parentOf_0 6 rfl rfl)
abbrev cX4_ofObject : ByteArray := prog_14_method_85_code
def yX4_ofObject : MethodName := ⟨RX4, "ofObject", "(II)I"⟩
def dkwX4_ofObject_1 : List UInt8 := [42, 27, 28, 182, 0, 54, 167, 0, 4, 3, 172]
abbrev dktX4_ofObject_1 : List UInt8 := dkwX4_ofObject_1 ++ []
def dkwX4_ofObject_0 : List UInt8 := [42, 42, 27, 182, 0, 57, 153, 0, 7, 3, 167, 0, 4, 4, 181, 0, 39, 42, 180, 0, 39, 154, 0, 12]
abbrev dktX4_ofObject_0 : List UInt8 := dkwX4_ofObject_0 ++ dktX4_ofObject_1
theorem dksX4_ofObject_0 : cX4_ofObject.data.toList.drop 0 = dktX4_ofObject_0 := by decide +kernel
theorem dksX4_ofObject_1 : cX4_ofObject.data.toList.drop 24 = dktX4_ofObject_1 := dk_seg dksX4_ofObject_0 24 rfl rfl
theorem dX4_ofObject_0 : decode cX4_ofObject 0 = .ok (.aload_n 0, 1) := dk_42 (dk_at dksX4_ofObject_0 0 rfl rfl)
theorem dX4_ofObject_1 : decode cX4_ofObject 1 = .ok (.aload_n 0, 1) := dk_42 (dk_at dksX4_ofObject_0 1 rfl rfl)
theorem dX4_ofObject_2 : decode cX4_ofObject 2 = .ok (.iload_n 1, 1) := dk_27 (dk_at dksX4_ofObject_0 2 rfl rfl)
theorem dX4_ofObject_3 : decode cX4_ofObject 3 = .ok (.invokevirtual 57, 3) := dk_182 0 57 (dk_at dksX4_ofObject_0 3 rfl rfl)
theorem dX4_ofObject_6 : decode cX4_ofObject 6 = .ok (.ifCond .eq 7, 3) := dk_153 0 7 (dk_at dksX4_ofObject_0 6 rfl rfl)
theorem dX4_ofObject_9 : decode cX4_ofObject 9 = .ok (.iconst 0, 1) := dk_3 (dk_at dksX4_ofObject_0 9 rfl rfl)
theorem dX4_ofObject_10 : decode cX4_ofObject 10 = .ok (.goto 4, 3) := dk_167 0 4 (dk_at dksX4_ofObject_0 10 rfl rfl)
theorem dX4_ofObject_13 : decode cX4_ofObject 13 = .ok (.iconst 1, 1) := dk_4 (dk_at dksX4_ofObject_0 13 rfl rfl)
theorem dX4_ofObject_14 : decode cX4_ofObject 14 = .ok (.putfield 39, 3) := dk_181 0 39 (dk_at dksX4_ofObject_0 14 rfl rfl)
theorem dX4_ofObject_17 : decode cX4_ofObject 17 = .ok (.aload_n 0, 1) := dk_42 (dk_at dksX4_ofObject_0 17 rfl rfl)
theorem dX4_ofObject_18 : decode cX4_ofObject 18 = .ok (.getfield 39, 3) := dk_180 0 39 (dk_at dksX4_ofObject_0 18 rfl rfl)
theorem dX4_ofObject_21 : decode cX4_ofObject 21 = .ok (.ifCond .ne 12, 3) := dk_154 0 12 (dk_at dksX4_ofObject_0 21 rfl rfl)
theorem dX4_ofObject_24 : decode cX4_ofObject 24 = .ok (.aload_n 0, 1) := dk_42 (dk_at dksX4_ofObject_1 0 rfl rfl)
theorem dX4_ofObject_25 : decode cX4_ofObject 25 = .ok (.iload_n 1, 1) := dk_27 (dk_at dksX4_ofObject_1 1 rfl rfl)
theorem dX4_ofObject_26 : decode cX4_ofObject 26 = .ok (.iload_n 2, 1) := dk_28 (dk_at dksX4_ofObject_1 2 rfl rfl)
theorem dX4_ofObject_27 : decode cX4_ofObject 27 = .ok (.invokevirtual 54, 3) := dk_182 0 54 (dk_at dksX4_ofObject_1 3 rfl rfl)
theorem dX4_ofObject_30 : decode cX4_ofObject 30 = .ok (.goto 4, 3) := dk_167 0 4 (dk_at dksX4_ofObject_1 6 rfl rfl)
theorem dX4_ofObject_33 : decode cX4_ofObject 33 = .ok (.iconst 0, 1) := dk_3 (dk_at dksX4_ofObject_1 9 rfl rfl)
theorem dX4_ofObject_34 : decode cX4_ofObject 34 = .ok (.ireturn, 1) := dk_172 (dk_at dksX4_ofObject_1 10 rfl rfl)
abbrev cX4_ownerOf : ByteArray := prog_14_method_87_code
def yX4_ownerOf : MethodName := ⟨RX4, "ownerOf", "(I)I"⟩
def dkwX4_ownerOf_0 : List UInt8 := [42, 27, 5, 182, 0, 212, 172]
abbrev dktX4_ownerOf_0 : List UInt8 := dkwX4_ownerOf_0 ++ []
theorem dksX4_ownerOf_0 : cX4_ownerOf.data.toList.drop 0 = dktX4_ownerOf_0 := by decide +kernel
theorem dX4_ownerOf_0 : decode cX4_ownerOf 0 = .ok (.aload_n 0, 1) := dk_42 (dk_at dksX4_ownerOf_0 0 rfl rfl)
theorem dX4_ownerOf_1 : decode cX4_ownerOf 1 = .ok (.iload_n 1, 1) := dk_27 (dk_at dksX4_ownerOf_0 1 rfl rfl)
theorem dX4_ownerOf_2 : decode cX4_ownerOf 2 = .ok (.iconst 2, 1) := dk_5 (dk_at dksX4_ownerOf_0 2 rfl rfl)
theorem dX4_ownerOf_3 : decode cX4_ownerOf 3 = .ok (.invokevirtual 212, 3) := dk_182 0 212 (dk_at dksX4_ownerOf_0 3 rfl rfl)
theorem dX4_ownerOf_6 : decode cX4_ownerOf 6 = .ok (.ireturn, 1) := dk_172 (dk_at dksX4_ownerOf_0 6 rfl rfl)
abbrev cX4_maskOf : ByteArray := prog_14_method_88_code
def yX4_maskOf : MethodName := ⟨RX4, "maskOf", "(I)I"⟩
def dkwX4_maskOf_0 : List UInt8 := [42, 27, 6, 182, 0, 212, 172]
abbrev dktX4_maskOf_0 : List UInt8 := dkwX4_maskOf_0 ++ []
theorem dksX4_maskOf_0 : cX4_maskOf.data.toList.drop 0 = dktX4_maskOf_0 := by decide +kernel
theorem dX4_maskOf_0 : decode cX4_maskOf 0 = .ok (.aload_n 0, 1) := dk_42 (dk_at dksX4_maskOf_0 0 rfl rfl)
theorem dX4_maskOf_1 : decode cX4_maskOf 1 = .ok (.iload_n 1, 1) := dk_27 (dk_at dksX4_maskOf_0 1 rfl rfl)
theorem dX4_maskOf_2 : decode cX4_maskOf 2 = .ok (.iconst 3, 1) := dk_6 (dk_at dksX4_maskOf_0 2 rfl rfl)
theorem dX4_maskOf_3 : decode cX4_maskOf 3 = .ok (.invokevirtual 212, 3) := dk_182 0 212 (dk_at dksX4_maskOf_0 3 rfl rfl)
theorem dX4_maskOf_6 : decode cX4_maskOf 6 = .ok (.ireturn, 1) := dk_172 (dk_at dksX4_maskOf_0 6 rfl rfl)
abbrev cX4_isInheriting : ByteArray := prog_14_method_89_code
def yX4_isInheriting : MethodName := ⟨RX4, "isInheriting", "(I)Z"⟩
def dkwX4_isInheriting_0 : List UInt8 := [42, 27, 7, 182, 0, 212, 4, 160, 0, 7, 4, 167, 0, 4, 3, 172]
abbrev dktX4_isInheriting_0 : List UInt8 := dkwX4_isInheriting_0 ++ []
theorem dksX4_isInheriting_0 : cX4_isInheriting.data.toList.drop 0 = dktX4_isInheriting_0 := by decide +kernel
theorem dX4_isInheriting_0 : decode cX4_isInheriting 0 = .ok (.aload_n 0, 1) := dk_42 (dk_at dksX4_isInheriting_0 0 rfl rfl)
theorem dX4_isInheriting_1 : decode cX4_isInheriting 1 = .ok (.iload_n 1, 1) := dk_27 (dk_at dksX4_isInheriting_0 1 rfl rfl)
theorem dX4_isInheriting_2 : decode cX4_isInheriting 2 = .ok (.iconst 4, 1) := dk_7 (dk_at dksX4_isInheriting_0 2 rfl rfl)
theorem dX4_isInheriting_3 : decode cX4_isInheriting 3 = .ok (.invokevirtual 212, 3) := dk_182 0 212 (dk_at dksX4_isInheriting_0 3 rfl rfl)
theorem dX4_isInheriting_6 : decode cX4_isInheriting 6 = .ok (.iconst 1, 1) := dk_4 (dk_at dksX4_isInheriting_0 6 rfl rfl)
theorem dX4_isInheriting_7 : decode cX4_isInheriting 7 = .ok (.if_icmp .ne 7, 3) := dk_160 0 7 (dk_at dksX4_isInheriting_0 7 rfl rfl)
theorem dX4_isInheriting_10 : decode cX4_isInheriting 10 = .ok (.iconst 1, 1) := dk_4 (dk_at dksX4_isInheriting_0 10 rfl rfl)
theorem dX4_isInheriting_11 : decode cX4_isInheriting 11 = .ok (.goto 4, 3) := dk_167 0 4 (dk_at dksX4_isInheriting_0 11 rfl rfl)
theorem dX4_isInheriting_14 : decode cX4_isInheriting 14 = .ok (.iconst 0, 1) := dk_3 (dk_at dksX4_isInheriting_0 14 rfl rfl)
theorem dX4_isInheriting_15 : decode cX4_isInheriting 15 = .ok (.ireturn, 1) := dk_172 (dk_at dksX4_isInheriting_0 15 rfl rfl)
abbrev cX4_below : ByteArray := prog_14_method_90_code
def yX4_below : MethodName := ⟨RX4, "below", "(I)I"⟩
def dkwX4_below_1 : List UInt8 := [42, 27, 182, 0, 98, 167, 0, 4, 3, 172]
abbrev dktX4_below_1 : List UInt8 := dkwX4_below_1 ++ []
def dkwX4_below_0 : List UInt8 := [42, 42, 27, 182, 0, 57, 153, 0, 7, 3, 167, 0, 4, 4, 181, 0, 39, 42, 180, 0, 39, 154, 0, 11]
abbrev dktX4_below_0 : List UInt8 := dkwX4_below_0 ++ dktX4_below_1
theorem dksX4_below_0 : cX4_below.data.toList.drop 0 = dktX4_below_0 := by decide +kernel
theorem dksX4_below_1 : cX4_below.data.toList.drop 24 = dktX4_below_1 := dk_seg dksX4_below_0 24 rfl rfl
theorem dX4_below_0 : decode cX4_below 0 = .ok (.aload_n 0, 1) := dk_42 (dk_at dksX4_below_0 0 rfl rfl)
theorem dX4_below_1 : decode cX4_below 1 = .ok (.aload_n 0, 1) := dk_42 (dk_at dksX4_below_0 1 rfl rfl)
theorem dX4_below_2 : decode cX4_below 2 = .ok (.iload_n 1, 1) := dk_27 (dk_at dksX4_below_0 2 rfl rfl)
theorem dX4_below_3 : decode cX4_below 3 = .ok (.invokevirtual 57, 3) := dk_182 0 57 (dk_at dksX4_below_0 3 rfl rfl)
theorem dX4_below_6 : decode cX4_below 6 = .ok (.ifCond .eq 7, 3) := dk_153 0 7 (dk_at dksX4_below_0 6 rfl rfl)
theorem dX4_below_9 : decode cX4_below 9 = .ok (.iconst 0, 1) := dk_3 (dk_at dksX4_below_0 9 rfl rfl)
theorem dX4_below_10 : decode cX4_below 10 = .ok (.goto 4, 3) := dk_167 0 4 (dk_at dksX4_below_0 10 rfl rfl)
theorem dX4_below_13 : decode cX4_below 13 = .ok (.iconst 1, 1) := dk_4 (dk_at dksX4_below_0 13 rfl rfl)
theorem dX4_below_14 : decode cX4_below 14 = .ok (.putfield 39, 3) := dk_181 0 39 (dk_at dksX4_below_0 14 rfl rfl)
theorem dX4_below_17 : decode cX4_below 17 = .ok (.aload_n 0, 1) := dk_42 (dk_at dksX4_below_0 17 rfl rfl)
theorem dX4_below_18 : decode cX4_below 18 = .ok (.getfield 39, 3) := dk_180 0 39 (dk_at dksX4_below_0 18 rfl rfl)
theorem dX4_below_21 : decode cX4_below 21 = .ok (.ifCond .ne 11, 3) := dk_154 0 11 (dk_at dksX4_below_0 21 rfl rfl)
theorem dX4_below_24 : decode cX4_below 24 = .ok (.aload_n 0, 1) := dk_42 (dk_at dksX4_below_1 0 rfl rfl)
theorem dX4_below_25 : decode cX4_below 25 = .ok (.iload_n 1, 1) := dk_27 (dk_at dksX4_below_1 1 rfl rfl)
theorem dX4_below_26 : decode cX4_below 26 = .ok (.invokevirtual 98, 3) := dk_182 0 98 (dk_at dksX4_below_1 2 rfl rfl)
theorem dX4_below_29 : decode cX4_below 29 = .ok (.goto 4, 3) := dk_167 0 4 (dk_at dksX4_below_1 5 rfl rfl)
theorem dX4_below_32 : decode cX4_below 32 = .ok (.iconst 0, 1) := dk_3 (dk_at dksX4_below_1 8 rfl rfl)
theorem dX4_below_33 : decode cX4_below 33 = .ok (.ireturn, 1) := dk_172 (dk_at dksX4_below_1 9 rfl rfl)
abbrev cX4_entriesOf : ByteArray := prog_14_method_91_code
def yX4_entriesOf : MethodName := ⟨RX4, "entriesOf", "(I)I"⟩
def dkwX4_entriesOf_0 : List UInt8 := [42, 27, 8, 182, 0, 212, 172]
abbrev dktX4_entriesOf_0 : List UInt8 := dkwX4_entriesOf_0 ++ []
theorem dksX4_entriesOf_0 : cX4_entriesOf.data.toList.drop 0 = dktX4_entriesOf_0 := by decide +kernel
theorem dX4_entriesOf_0 : decode cX4_entriesOf 0 = .ok (.aload_n 0, 1) := dk_42 (dk_at dksX4_entriesOf_0 0 rfl rfl)
theorem dX4_entriesOf_1 : decode cX4_entriesOf 1 = .ok (.iload_n 1, 1) := dk_27 (dk_at dksX4_entriesOf_0 1 rfl rfl)
theorem dX4_entriesOf_2 : decode cX4_entriesOf 2 = .ok (.iconst 5, 1) := dk_8 (dk_at dksX4_entriesOf_0 2 rfl rfl)
theorem dX4_entriesOf_3 : decode cX4_entriesOf 3 = .ok (.invokevirtual 212, 3) := dk_182 0 212 (dk_at dksX4_entriesOf_0 3 rfl rfl)
theorem dX4_entriesOf_6 : decode cX4_entriesOf 6 = .ok (.ireturn, 1) := dk_172 (dk_at dksX4_entriesOf_0 6 rfl rfl)
abbrev cX4_isAllowing : ByteArray := prog_14_method_93_code
def yX4_isAllowing : MethodName := ⟨RX4, "isAllowing", "(II)Z"⟩
def dkwX4_isAllowing_0 : List UInt8 := [42, 27, 28, 6, 182, 0, 215, 4, 160, 0, 7, 4, 167, 0, 4, 3, 172]
abbrev dktX4_isAllowing_0 : List UInt8 := dkwX4_isAllowing_0 ++ []
theorem dksX4_isAllowing_0 : cX4_isAllowing.data.toList.drop 0 = dktX4_isAllowing_0 := by decide +kernel
theorem dX4_isAllowing_0 : decode cX4_isAllowing 0 = .ok (.aload_n 0, 1) := dk_42 (dk_at dksX4_isAllowing_0 0 rfl rfl)
theorem dX4_isAllowing_1 : decode cX4_isAllowing 1 = .ok (.iload_n 1, 1) := dk_27 (dk_at dksX4_isAllowing_0 1 rfl rfl)
theorem dX4_isAllowing_2 : decode cX4_isAllowing 2 = .ok (.iload_n 2, 1) := dk_28 (dk_at dksX4_isAllowing_0 2 rfl rfl)
theorem dX4_isAllowing_3 : decode cX4_isAllowing 3 = .ok (.iconst 3, 1) := dk_6 (dk_at dksX4_isAllowing_0 3 rfl rfl)
theorem dX4_isAllowing_4 : decode cX4_isAllowing 4 = .ok (.invokevirtual 215, 3) := dk_182 0 215 (dk_at dksX4_isAllowing_0 4 rfl rfl)
theorem dX4_isAllowing_7 : decode cX4_isAllowing 7 = .ok (.iconst 1, 1) := dk_4 (dk_at dksX4_isAllowing_0 7 rfl rfl)
theorem dX4_isAllowing_8 : decode cX4_isAllowing 8 = .ok (.if_icmp .ne 7, 3) := dk_160 0 7 (dk_at dksX4_isAllowing_0 8 rfl rfl)
theorem dX4_isAllowing_11 : decode cX4_isAllowing 11 = .ok (.iconst 1, 1) := dk_4 (dk_at dksX4_isAllowing_0 11 rfl rfl)
theorem dX4_isAllowing_12 : decode cX4_isAllowing 12 = .ok (.goto 4, 3) := dk_167 0 4 (dk_at dksX4_isAllowing_0 12 rfl rfl)
theorem dX4_isAllowing_15 : decode cX4_isAllowing 15 = .ok (.iconst 0, 1) := dk_3 (dk_at dksX4_isAllowing_0 15 rfl rfl)
theorem dX4_isAllowing_16 : decode cX4_isAllowing 16 = .ok (.ireturn, 1) := dk_172 (dk_at dksX4_isAllowing_0 16 rfl rfl)
abbrev cX4_ofTheEntry : ByteArray := prog_14_method_92_code
def yX4_ofTheEntry : MethodName := ⟨RX4, "ofTheEntry", "(III)I"⟩
def dkwX4_ofTheEntry_1 : List UInt8 := [154, 0, 13, 42, 27, 28, 29, 182, 0, 122, 167, 0, 4, 3, 172]
abbrev dktX4_ofTheEntry_1 : List UInt8 := dkwX4_ofTheEntry_1 ++ []
def dkwX4_ofTheEntry_0 : List UInt8 := [42, 42, 27, 28, 182, 0, 112, 153, 0, 7, 3, 167, 0, 4, 4, 181, 0, 39, 42, 180, 0, 39]
abbrev dktX4_ofTheEntry_0 : List UInt8 := dkwX4_ofTheEntry_0 ++ dktX4_ofTheEntry_1
theorem dksX4_ofTheEntry_0 : cX4_ofTheEntry.data.toList.drop 0 = dktX4_ofTheEntry_0 := by decide +kernel
theorem dksX4_ofTheEntry_1 : cX4_ofTheEntry.data.toList.drop 22 = dktX4_ofTheEntry_1 := dk_seg dksX4_ofTheEntry_0 22 rfl rfl
theorem dX4_ofTheEntry_0 : decode cX4_ofTheEntry 0 = .ok (.aload_n 0, 1) := dk_42 (dk_at dksX4_ofTheEntry_0 0 rfl rfl)
theorem dX4_ofTheEntry_1 : decode cX4_ofTheEntry 1 = .ok (.aload_n 0, 1) := dk_42 (dk_at dksX4_ofTheEntry_0 1 rfl rfl)
theorem dX4_ofTheEntry_2 : decode cX4_ofTheEntry 2 = .ok (.iload_n 1, 1) := dk_27 (dk_at dksX4_ofTheEntry_0 2 rfl rfl)
theorem dX4_ofTheEntry_3 : decode cX4_ofTheEntry 3 = .ok (.iload_n 2, 1) := dk_28 (dk_at dksX4_ofTheEntry_0 3 rfl rfl)
theorem dX4_ofTheEntry_4 : decode cX4_ofTheEntry 4 = .ok (.invokevirtual 112, 3) := dk_182 0 112 (dk_at dksX4_ofTheEntry_0 4 rfl rfl)
theorem dX4_ofTheEntry_7 : decode cX4_ofTheEntry 7 = .ok (.ifCond .eq 7, 3) := dk_153 0 7 (dk_at dksX4_ofTheEntry_0 7 rfl rfl)
theorem dX4_ofTheEntry_10 : decode cX4_ofTheEntry 10 = .ok (.iconst 0, 1) := dk_3 (dk_at dksX4_ofTheEntry_0 10 rfl rfl)
theorem dX4_ofTheEntry_11 : decode cX4_ofTheEntry 11 = .ok (.goto 4, 3) := dk_167 0 4 (dk_at dksX4_ofTheEntry_0 11 rfl rfl)
theorem dX4_ofTheEntry_14 : decode cX4_ofTheEntry 14 = .ok (.iconst 1, 1) := dk_4 (dk_at dksX4_ofTheEntry_0 14 rfl rfl)
theorem dX4_ofTheEntry_15 : decode cX4_ofTheEntry 15 = .ok (.putfield 39, 3) := dk_181 0 39 (dk_at dksX4_ofTheEntry_0 15 rfl rfl)
theorem dX4_ofTheEntry_18 : decode cX4_ofTheEntry 18 = .ok (.aload_n 0, 1) := dk_42 (dk_at dksX4_ofTheEntry_0 18 rfl rfl)
theorem dX4_ofTheEntry_19 : decode cX4_ofTheEntry 19 = .ok (.getfield 39, 3) := dk_180 0 39 (dk_at dksX4_ofTheEntry_0 19 rfl rfl)
theorem dX4_ofTheEntry_22 : decode cX4_ofTheEntry 22 = .ok (.ifCond .ne 13, 3) := dk_154 0 13 (dk_at dksX4_ofTheEntry_1 0 rfl rfl)
theorem dX4_ofTheEntry_25 : decode cX4_ofTheEntry 25 = .ok (.aload_n 0, 1) := dk_42 (dk_at dksX4_ofTheEntry_1 3 rfl rfl)
theorem dX4_ofTheEntry_26 : decode cX4_ofTheEntry 26 = .ok (.iload_n 1, 1) := dk_27 (dk_at dksX4_ofTheEntry_1 4 rfl rfl)
theorem dX4_ofTheEntry_27 : decode cX4_ofTheEntry 27 = .ok (.iload_n 2, 1) := dk_28 (dk_at dksX4_ofTheEntry_1 5 rfl rfl)
theorem dX4_ofTheEntry_28 : decode cX4_ofTheEntry 28 = .ok (.iload_n 3, 1) := dk_29 (dk_at dksX4_ofTheEntry_1 6 rfl rfl)
theorem dX4_ofTheEntry_29 : decode cX4_ofTheEntry 29 = .ok (.invokevirtual 122, 3) := dk_182 0 122 (dk_at dksX4_ofTheEntry_1 7 rfl rfl)
theorem dX4_ofTheEntry_32 : decode cX4_ofTheEntry 32 = .ok (.goto 4, 3) := dk_167 0 4 (dk_at dksX4_ofTheEntry_1 10 rfl rfl)
theorem dX4_ofTheEntry_35 : decode cX4_ofTheEntry 35 = .ok (.iconst 0, 1) := dk_3 (dk_at dksX4_ofTheEntry_1 13 rfl rfl)
theorem dX4_ofTheEntry_36 : decode cX4_ofTheEntry 36 = .ok (.ireturn, 1) := dk_172 (dk_at dksX4_ofTheEntry_1 14 rfl rfl)
abbrev cX4_rightsOfEntry : ByteArray := prog_14_method_94_code
def yX4_rightsOfEntry : MethodName := ⟨RX4, "rightsOfEntry", "(II)I"⟩
def dkwX4_rightsOfEntry_0 : List UInt8 := [42, 27, 28, 5, 182, 0, 215, 172]
abbrev dktX4_rightsOfEntry_0 : List UInt8 := dkwX4_rightsOfEntry_0 ++ []
theorem dksX4_rightsOfEntry_0 : cX4_rightsOfEntry.data.toList.drop 0 = dktX4_rightsOfEntry_0 := by decide +kernel
theorem dX4_rightsOfEntry_0 : decode cX4_rightsOfEntry 0 = .ok (.aload_n 0, 1) := dk_42 (dk_at dksX4_rightsOfEntry_0 0 rfl rfl)
theorem dX4_rightsOfEntry_1 : decode cX4_rightsOfEntry 1 = .ok (.iload_n 1, 1) := dk_27 (dk_at dksX4_rightsOfEntry_0 1 rfl rfl)
theorem dX4_rightsOfEntry_2 : decode cX4_rightsOfEntry 2 = .ok (.iload_n 2, 1) := dk_28 (dk_at dksX4_rightsOfEntry_0 2 rfl rfl)
theorem dX4_rightsOfEntry_3 : decode cX4_rightsOfEntry 3 = .ok (.iconst 2, 1) := dk_5 (dk_at dksX4_rightsOfEntry_0 3 rfl rfl)
theorem dX4_rightsOfEntry_4 : decode cX4_rightsOfEntry 4 = .ok (.invokevirtual 215, 3) := dk_182 0 215 (dk_at dksX4_rightsOfEntry_0 4 rfl rfl)
theorem dX4_rightsOfEntry_7 : decode cX4_rightsOfEntry 7 = .ok (.ireturn, 1) := dk_172 (dk_at dksX4_rightsOfEntry_0 7 rfl rfl)
abbrev cX4_userOfEntry : ByteArray := prog_14_method_96_code
def yX4_userOfEntry : MethodName := ⟨RX4, "userOfEntry", "(II)I"⟩
def dkwX4_userOfEntry_0 : List UInt8 := [42, 27, 28, 3, 182, 0, 218, 172]
abbrev dktX4_userOfEntry_0 : List UInt8 := dkwX4_userOfEntry_0 ++ []
theorem dksX4_userOfEntry_0 : cX4_userOfEntry.data.toList.drop 0 = dktX4_userOfEntry_0 := by decide +kernel
theorem dX4_userOfEntry_0 : decode cX4_userOfEntry 0 = .ok (.aload_n 0, 1) := dk_42 (dk_at dksX4_userOfEntry_0 0 rfl rfl)
theorem dX4_userOfEntry_1 : decode cX4_userOfEntry 1 = .ok (.iload_n 1, 1) := dk_27 (dk_at dksX4_userOfEntry_0 1 rfl rfl)
theorem dX4_userOfEntry_2 : decode cX4_userOfEntry 2 = .ok (.iload_n 2, 1) := dk_28 (dk_at dksX4_userOfEntry_0 2 rfl rfl)
theorem dX4_userOfEntry_3 : decode cX4_userOfEntry 3 = .ok (.iconst 0, 1) := dk_3 (dk_at dksX4_userOfEntry_0 3 rfl rfl)
theorem dX4_userOfEntry_4 : decode cX4_userOfEntry 4 = .ok (.invokevirtual 218, 3) := dk_182 0 218 (dk_at dksX4_userOfEntry_0 4 rfl rfl)
theorem dX4_userOfEntry_7 : decode cX4_userOfEntry 7 = .ok (.ireturn, 1) := dk_172 (dk_at dksX4_userOfEntry_0 7 rfl rfl)
abbrev cX4_whomOf : ByteArray := prog_14_method_95_code
def yX4_whomOf : MethodName := ⟨RX4, "whomOf", "(III)I"⟩
def dkwX4_whomOf_1 : List UInt8 := [160, 0, 13, 42, 27, 28, 4, 182, 0, 122, 167, 0, 4, 2, 172]
abbrev dktX4_whomOf_1 : List UInt8 := dkwX4_whomOf_1 ++ []
def dkwX4_whomOf_0 : List UInt8 := [42, 27, 28, 3, 182, 0, 215, 54, 4, 42, 180, 0, 39, 4, 160, 0, 7, 3, 167, 0, 20, 21, 4, 29]
abbrev dktX4_whomOf_0 : List UInt8 := dkwX4_whomOf_0 ++ dktX4_whomOf_1
theorem dksX4_whomOf_0 : cX4_whomOf.data.toList.drop 0 = dktX4_whomOf_0 := by decide +kernel
theorem dksX4_whomOf_1 : cX4_whomOf.data.toList.drop 24 = dktX4_whomOf_1 := dk_seg dksX4_whomOf_0 24 rfl rfl
theorem dX4_whomOf_0 : decode cX4_whomOf 0 = .ok (.aload_n 0, 1) := dk_42 (dk_at dksX4_whomOf_0 0 rfl rfl)
theorem dX4_whomOf_1 : decode cX4_whomOf 1 = .ok (.iload_n 1, 1) := dk_27 (dk_at dksX4_whomOf_0 1 rfl rfl)
theorem dX4_whomOf_2 : decode cX4_whomOf 2 = .ok (.iload_n 2, 1) := dk_28 (dk_at dksX4_whomOf_0 2 rfl rfl)
theorem dX4_whomOf_3 : decode cX4_whomOf 3 = .ok (.iconst 0, 1) := dk_3 (dk_at dksX4_whomOf_0 3 rfl rfl)
theorem dX4_whomOf_4 : decode cX4_whomOf 4 = .ok (.invokevirtual 215, 3) := dk_182 0 215 (dk_at dksX4_whomOf_0 4 rfl rfl)
theorem dX4_whomOf_7 : decode cX4_whomOf 7 = .ok (.istore 4, 2) := dk_54 4 (dk_at dksX4_whomOf_0 7 rfl rfl)
theorem dX4_whomOf_9 : decode cX4_whomOf 9 = .ok (.aload_n 0, 1) := dk_42 (dk_at dksX4_whomOf_0 9 rfl rfl)
theorem dX4_whomOf_10 : decode cX4_whomOf 10 = .ok (.getfield 39, 3) := dk_180 0 39 (dk_at dksX4_whomOf_0 10 rfl rfl)
theorem dX4_whomOf_13 : decode cX4_whomOf 13 = .ok (.iconst 1, 1) := dk_4 (dk_at dksX4_whomOf_0 13 rfl rfl)
theorem dX4_whomOf_14 : decode cX4_whomOf 14 = .ok (.if_icmp .ne 7, 3) := dk_160 0 7 (dk_at dksX4_whomOf_0 14 rfl rfl)
theorem dX4_whomOf_17 : decode cX4_whomOf 17 = .ok (.iconst 0, 1) := dk_3 (dk_at dksX4_whomOf_0 17 rfl rfl)
theorem dX4_whomOf_18 : decode cX4_whomOf 18 = .ok (.goto 20, 3) := dk_167 0 20 (dk_at dksX4_whomOf_0 18 rfl rfl)
theorem dX4_whomOf_21 : decode cX4_whomOf 21 = .ok (.iload 4, 2) := dk_21 4 (dk_at dksX4_whomOf_0 21 rfl rfl)
theorem dX4_whomOf_23 : decode cX4_whomOf 23 = .ok (.iload_n 3, 1) := dk_29 (dk_at dksX4_whomOf_0 23 rfl rfl)
theorem dX4_whomOf_24 : decode cX4_whomOf 24 = .ok (.if_icmp .ne 13, 3) := dk_160 0 13 (dk_at dksX4_whomOf_1 0 rfl rfl)
theorem dX4_whomOf_27 : decode cX4_whomOf 27 = .ok (.aload_n 0, 1) := dk_42 (dk_at dksX4_whomOf_1 3 rfl rfl)
theorem dX4_whomOf_28 : decode cX4_whomOf 28 = .ok (.iload_n 1, 1) := dk_27 (dk_at dksX4_whomOf_1 4 rfl rfl)
theorem dX4_whomOf_29 : decode cX4_whomOf 29 = .ok (.iload_n 2, 1) := dk_28 (dk_at dksX4_whomOf_1 5 rfl rfl)
theorem dX4_whomOf_30 : decode cX4_whomOf 30 = .ok (.iconst 1, 1) := dk_4 (dk_at dksX4_whomOf_1 6 rfl rfl)
theorem dX4_whomOf_31 : decode cX4_whomOf 31 = .ok (.invokevirtual 122, 3) := dk_182 0 122 (dk_at dksX4_whomOf_1 7 rfl rfl)
theorem dX4_whomOf_34 : decode cX4_whomOf 34 = .ok (.goto 4, 3) := dk_167 0 4 (dk_at dksX4_whomOf_1 10 rfl rfl)
theorem dX4_whomOf_37 : decode cX4_whomOf 37 = .ok (.iconst (-1), 1) := dk_2 (dk_at dksX4_whomOf_1 13 rfl rfl)
theorem dX4_whomOf_38 : decode cX4_whomOf 38 = .ok (.ireturn, 1) := dk_172 (dk_at dksX4_whomOf_1 14 rfl rfl)
abbrev cX4_groupOfEntry : ByteArray := prog_14_method_97_code
def yX4_groupOfEntry : MethodName := ⟨RX4, "groupOfEntry", "(II)I"⟩
def dkwX4_groupOfEntry_0 : List UInt8 := [42, 27, 28, 4, 182, 0, 218, 172]
abbrev dktX4_groupOfEntry_0 : List UInt8 := dkwX4_groupOfEntry_0 ++ []
theorem dksX4_groupOfEntry_0 : cX4_groupOfEntry.data.toList.drop 0 = dktX4_groupOfEntry_0 := by decide +kernel
theorem dX4_groupOfEntry_0 : decode cX4_groupOfEntry 0 = .ok (.aload_n 0, 1) := dk_42 (dk_at dksX4_groupOfEntry_0 0 rfl rfl)
theorem dX4_groupOfEntry_1 : decode cX4_groupOfEntry 1 = .ok (.iload_n 1, 1) := dk_27 (dk_at dksX4_groupOfEntry_0 1 rfl rfl)
theorem dX4_groupOfEntry_2 : decode cX4_groupOfEntry 2 = .ok (.iload_n 2, 1) := dk_28 (dk_at dksX4_groupOfEntry_0 2 rfl rfl)
theorem dX4_groupOfEntry_3 : decode cX4_groupOfEntry 3 = .ok (.iconst 1, 1) := dk_4 (dk_at dksX4_groupOfEntry_0 3 rfl rfl)
theorem dX4_groupOfEntry_4 : decode cX4_groupOfEntry 4 = .ok (.invokevirtual 218, 3) := dk_182 0 218 (dk_at dksX4_groupOfEntry_0 4 rfl rfl)
theorem dX4_groupOfEntry_7 : decode cX4_groupOfEntry 7 = .ok (.ireturn, 1) := dk_172 (dk_at dksX4_groupOfEntry_0 7 rfl rfl)
abbrev cX4_isForOwner : ByteArray := prog_14_method_98_code
def yX4_isForOwner : MethodName := ⟨RX4, "isForOwner", "(II)Z"⟩
def dkwX4_isForOwner_0 : List UInt8 := [42, 27, 28, 3, 182, 0, 215, 5, 160, 0, 7, 4, 167, 0, 4, 3, 172]
abbrev dktX4_isForOwner_0 : List UInt8 := dkwX4_isForOwner_0 ++ []
theorem dksX4_isForOwner_0 : cX4_isForOwner.data.toList.drop 0 = dktX4_isForOwner_0 := by decide +kernel
theorem dX4_isForOwner_0 : decode cX4_isForOwner 0 = .ok (.aload_n 0, 1) := dk_42 (dk_at dksX4_isForOwner_0 0 rfl rfl)
theorem dX4_isForOwner_1 : decode cX4_isForOwner 1 = .ok (.iload_n 1, 1) := dk_27 (dk_at dksX4_isForOwner_0 1 rfl rfl)
theorem dX4_isForOwner_2 : decode cX4_isForOwner 2 = .ok (.iload_n 2, 1) := dk_28 (dk_at dksX4_isForOwner_0 2 rfl rfl)
theorem dX4_isForOwner_3 : decode cX4_isForOwner 3 = .ok (.iconst 0, 1) := dk_3 (dk_at dksX4_isForOwner_0 3 rfl rfl)
theorem dX4_isForOwner_4 : decode cX4_isForOwner 4 = .ok (.invokevirtual 215, 3) := dk_182 0 215 (dk_at dksX4_isForOwner_0 4 rfl rfl)
theorem dX4_isForOwner_7 : decode cX4_isForOwner 7 = .ok (.iconst 2, 1) := dk_5 (dk_at dksX4_isForOwner_0 7 rfl rfl)
theorem dX4_isForOwner_8 : decode cX4_isForOwner 8 = .ok (.if_icmp .ne 7, 3) := dk_160 0 7 (dk_at dksX4_isForOwner_0 8 rfl rfl)
theorem dX4_isForOwner_11 : decode cX4_isForOwner 11 = .ok (.iconst 1, 1) := dk_4 (dk_at dksX4_isForOwner_0 11 rfl rfl)
theorem dX4_isForOwner_12 : decode cX4_isForOwner 12 = .ok (.goto 4, 3) := dk_167 0 4 (dk_at dksX4_isForOwner_0 12 rfl rfl)
theorem dX4_isForOwner_15 : decode cX4_isForOwner 15 = .ok (.iconst 0, 1) := dk_3 (dk_at dksX4_isForOwner_0 15 rfl rfl)
theorem dX4_isForOwner_16 : decode cX4_isForOwner 16 = .ok (.ireturn, 1) := dk_172 (dk_at dksX4_isForOwner_0 16 rfl rfl)
abbrev cX4_isForBelow : ByteArray := prog_14_method_99_code
def yX4_isForBelow : MethodName := ⟨RX4, "isForBelow", "(II)Z"⟩
def dkwX4_isForBelow_0 : List UInt8 := [42, 27, 28, 7, 182, 0, 215, 4, 160, 0, 7, 4, 167, 0, 4, 3, 172]
abbrev dktX4_isForBelow_0 : List UInt8 := dkwX4_isForBelow_0 ++ []
theorem dksX4_isForBelow_0 : cX4_isForBelow.data.toList.drop 0 = dktX4_isForBelow_0 := by decide +kernel
theorem dX4_isForBelow_0 : decode cX4_isForBelow 0 = .ok (.aload_n 0, 1) := dk_42 (dk_at dksX4_isForBelow_0 0 rfl rfl)
theorem dX4_isForBelow_1 : decode cX4_isForBelow 1 = .ok (.iload_n 1, 1) := dk_27 (dk_at dksX4_isForBelow_0 1 rfl rfl)
theorem dX4_isForBelow_2 : decode cX4_isForBelow 2 = .ok (.iload_n 2, 1) := dk_28 (dk_at dksX4_isForBelow_0 2 rfl rfl)
theorem dX4_isForBelow_3 : decode cX4_isForBelow 3 = .ok (.iconst 4, 1) := dk_7 (dk_at dksX4_isForBelow_0 3 rfl rfl)
theorem dX4_isForBelow_4 : decode cX4_isForBelow 4 = .ok (.invokevirtual 215, 3) := dk_182 0 215 (dk_at dksX4_isForBelow_0 4 rfl rfl)
theorem dX4_isForBelow_7 : decode cX4_isForBelow 7 = .ok (.iconst 1, 1) := dk_4 (dk_at dksX4_isForBelow_0 7 rfl rfl)
theorem dX4_isForBelow_8 : decode cX4_isForBelow 8 = .ok (.if_icmp .ne 7, 3) := dk_160 0 7 (dk_at dksX4_isForBelow_0 8 rfl rfl)
theorem dX4_isForBelow_11 : decode cX4_isForBelow 11 = .ok (.iconst 1, 1) := dk_4 (dk_at dksX4_isForBelow_0 11 rfl rfl)
theorem dX4_isForBelow_12 : decode cX4_isForBelow 12 = .ok (.goto 4, 3) := dk_167 0 4 (dk_at dksX4_isForBelow_0 12 rfl rfl)
theorem dX4_isForBelow_15 : decode cX4_isForBelow 15 = .ok (.iconst 0, 1) := dk_3 (dk_at dksX4_isForBelow_0 15 rfl rfl)
theorem dX4_isForBelow_16 : decode cX4_isForBelow 16 = .ok (.ireturn, 1) := dk_172 (dk_at dksX4_isForBelow_0 16 rfl rfl)
abbrev cX4_isAllowed : ByteArray := prog_14_method_101_code
def yX4_isAllowed : MethodName := ⟨RX4, "isAllowed", "(III)Z"⟩
def dkwX4_isAllowed_1 : List UInt8 := [3, 172]
abbrev dktX4_isAllowed_1 : List UInt8 := dkwX4_isAllowed_1 ++ []
def dkwX4_isAllowed_0 : List UInt8 := [42, 27, 28, 29, 182, 0, 221, 153, 0, 17, 42, 27, 28, 29, 182, 0, 150, 153, 0, 7, 4, 167, 0, 4]
abbrev dktX4_isAllowed_0 : List UInt8 := dkwX4_isAllowed_0 ++ dktX4_isAllowed_1
theorem dksX4_isAllowed_0 : cX4_isAllowed.data.toList.drop 0 = dktX4_isAllowed_0 := by decide +kernel
theorem dksX4_isAllowed_1 : cX4_isAllowed.data.toList.drop 24 = dktX4_isAllowed_1 := dk_seg dksX4_isAllowed_0 24 rfl rfl
theorem dX4_isAllowed_0 : decode cX4_isAllowed 0 = .ok (.aload_n 0, 1) := dk_42 (dk_at dksX4_isAllowed_0 0 rfl rfl)
theorem dX4_isAllowed_1 : decode cX4_isAllowed 1 = .ok (.iload_n 1, 1) := dk_27 (dk_at dksX4_isAllowed_0 1 rfl rfl)
theorem dX4_isAllowed_2 : decode cX4_isAllowed 2 = .ok (.iload_n 2, 1) := dk_28 (dk_at dksX4_isAllowed_0 2 rfl rfl)
theorem dX4_isAllowed_3 : decode cX4_isAllowed 3 = .ok (.iload_n 3, 1) := dk_29 (dk_at dksX4_isAllowed_0 3 rfl rfl)
theorem dX4_isAllowed_4 : decode cX4_isAllowed 4 = .ok (.invokevirtual 221, 3) := dk_182 0 221 (dk_at dksX4_isAllowed_0 4 rfl rfl)
theorem dX4_isAllowed_7 : decode cX4_isAllowed 7 = .ok (.ifCond .eq 17, 3) := dk_153 0 17 (dk_at dksX4_isAllowed_0 7 rfl rfl)
theorem dX4_isAllowed_10 : decode cX4_isAllowed 10 = .ok (.aload_n 0, 1) := dk_42 (dk_at dksX4_isAllowed_0 10 rfl rfl)
theorem dX4_isAllowed_11 : decode cX4_isAllowed 11 = .ok (.iload_n 1, 1) := dk_27 (dk_at dksX4_isAllowed_0 11 rfl rfl)
theorem dX4_isAllowed_12 : decode cX4_isAllowed 12 = .ok (.iload_n 2, 1) := dk_28 (dk_at dksX4_isAllowed_0 12 rfl rfl)
theorem dX4_isAllowed_13 : decode cX4_isAllowed 13 = .ok (.iload_n 3, 1) := dk_29 (dk_at dksX4_isAllowed_0 13 rfl rfl)
theorem dX4_isAllowed_14 : decode cX4_isAllowed 14 = .ok (.invokevirtual 150, 3) := dk_182 0 150 (dk_at dksX4_isAllowed_0 14 rfl rfl)
theorem dX4_isAllowed_17 : decode cX4_isAllowed 17 = .ok (.ifCond .eq 7, 3) := dk_153 0 7 (dk_at dksX4_isAllowed_0 17 rfl rfl)
theorem dX4_isAllowed_20 : decode cX4_isAllowed 20 = .ok (.iconst 1, 1) := dk_4 (dk_at dksX4_isAllowed_0 20 rfl rfl)
theorem dX4_isAllowed_21 : decode cX4_isAllowed 21 = .ok (.goto 4, 3) := dk_167 0 4 (dk_at dksX4_isAllowed_0 21 rfl rfl)
theorem dX4_isAllowed_24 : decode cX4_isAllowed 24 = .ok (.iconst 0, 1) := dk_3 (dk_at dksX4_isAllowed_1 0 rfl rfl)
theorem dX4_isAllowed_25 : decode cX4_isAllowed 25 = .ok (.ireturn, 1) := dk_172 (dk_at dksX4_isAllowed_1 1 rfl rfl)
abbrev cX4_isQuestion : ByteArray := prog_14_method_100_code
def yX4_isQuestion : MethodName := ⟨RX4, "isQuestion", "(III)Z"⟩
def dkwX4_isQuestion_2 : List UInt8 := [167, 0, 4, 3, 172]
abbrev dktX4_isQuestion_2 : List UInt8 := dkwX4_isQuestion_2 ++ []
def dkwX4_isQuestion_1 : List UInt8 := [184, 0, 156, 153, 0, 7, 3, 167, 0, 4, 5, 181, 0, 39, 42, 180, 0, 39, 154, 0, 7, 4]
abbrev dktX4_isQuestion_1 : List UInt8 := dkwX4_isQuestion_1 ++ dktX4_isQuestion_2
def dkwX4_isQuestion_0 : List UInt8 := [42, 42, 27, 182, 0, 82, 153, 0, 11, 42, 28, 182, 0, 57, 154, 0, 7, 4, 167, 0, 15, 29]
abbrev dktX4_isQuestion_0 : List UInt8 := dkwX4_isQuestion_0 ++ dktX4_isQuestion_1
theorem dksX4_isQuestion_0 : cX4_isQuestion.data.toList.drop 0 = dktX4_isQuestion_0 := by decide +kernel
theorem dksX4_isQuestion_1 : cX4_isQuestion.data.toList.drop 22 = dktX4_isQuestion_1 := dk_seg dksX4_isQuestion_0 22 rfl rfl
theorem dksX4_isQuestion_2 : cX4_isQuestion.data.toList.drop 44 = dktX4_isQuestion_2 := dk_seg dksX4_isQuestion_1 22 rfl rfl
theorem dX4_isQuestion_0 : decode cX4_isQuestion 0 = .ok (.aload_n 0, 1) := dk_42 (dk_at dksX4_isQuestion_0 0 rfl rfl)
theorem dX4_isQuestion_1 : decode cX4_isQuestion 1 = .ok (.aload_n 0, 1) := dk_42 (dk_at dksX4_isQuestion_0 1 rfl rfl)
theorem dX4_isQuestion_2 : decode cX4_isQuestion 2 = .ok (.iload_n 1, 1) := dk_27 (dk_at dksX4_isQuestion_0 2 rfl rfl)
theorem dX4_isQuestion_3 : decode cX4_isQuestion 3 = .ok (.invokevirtual 82, 3) := dk_182 0 82 (dk_at dksX4_isQuestion_0 3 rfl rfl)
theorem dX4_isQuestion_6 : decode cX4_isQuestion 6 = .ok (.ifCond .eq 11, 3) := dk_153 0 11 (dk_at dksX4_isQuestion_0 6 rfl rfl)
theorem dX4_isQuestion_9 : decode cX4_isQuestion 9 = .ok (.aload_n 0, 1) := dk_42 (dk_at dksX4_isQuestion_0 9 rfl rfl)
theorem dX4_isQuestion_10 : decode cX4_isQuestion 10 = .ok (.iload_n 2, 1) := dk_28 (dk_at dksX4_isQuestion_0 10 rfl rfl)
theorem dX4_isQuestion_11 : decode cX4_isQuestion 11 = .ok (.invokevirtual 57, 3) := dk_182 0 57 (dk_at dksX4_isQuestion_0 11 rfl rfl)
theorem dX4_isQuestion_14 : decode cX4_isQuestion 14 = .ok (.ifCond .ne 7, 3) := dk_154 0 7 (dk_at dksX4_isQuestion_0 14 rfl rfl)
theorem dX4_isQuestion_17 : decode cX4_isQuestion 17 = .ok (.iconst 1, 1) := dk_4 (dk_at dksX4_isQuestion_0 17 rfl rfl)
theorem dX4_isQuestion_18 : decode cX4_isQuestion 18 = .ok (.goto 15, 3) := dk_167 0 15 (dk_at dksX4_isQuestion_0 18 rfl rfl)
theorem dX4_isQuestion_21 : decode cX4_isQuestion 21 = .ok (.iload_n 3, 1) := dk_29 (dk_at dksX4_isQuestion_0 21 rfl rfl)
theorem dX4_isQuestion_22 : decode cX4_isQuestion 22 = .ok (.invokestatic 156, 3) := dk_184 0 156 (dk_at dksX4_isQuestion_1 0 rfl rfl)
theorem dX4_isQuestion_25 : decode cX4_isQuestion 25 = .ok (.ifCond .eq 7, 3) := dk_153 0 7 (dk_at dksX4_isQuestion_1 3 rfl rfl)
theorem dX4_isQuestion_28 : decode cX4_isQuestion 28 = .ok (.iconst 0, 1) := dk_3 (dk_at dksX4_isQuestion_1 6 rfl rfl)
theorem dX4_isQuestion_29 : decode cX4_isQuestion 29 = .ok (.goto 4, 3) := dk_167 0 4 (dk_at dksX4_isQuestion_1 7 rfl rfl)
theorem dX4_isQuestion_32 : decode cX4_isQuestion 32 = .ok (.iconst 2, 1) := dk_5 (dk_at dksX4_isQuestion_1 10 rfl rfl)
theorem dX4_isQuestion_33 : decode cX4_isQuestion 33 = .ok (.putfield 39, 3) := dk_181 0 39 (dk_at dksX4_isQuestion_1 11 rfl rfl)
theorem dX4_isQuestion_36 : decode cX4_isQuestion 36 = .ok (.aload_n 0, 1) := dk_42 (dk_at dksX4_isQuestion_1 14 rfl rfl)
theorem dX4_isQuestion_37 : decode cX4_isQuestion 37 = .ok (.getfield 39, 3) := dk_180 0 39 (dk_at dksX4_isQuestion_1 15 rfl rfl)
theorem dX4_isQuestion_40 : decode cX4_isQuestion 40 = .ok (.ifCond .ne 7, 3) := dk_154 0 7 (dk_at dksX4_isQuestion_1 18 rfl rfl)
theorem dX4_isQuestion_43 : decode cX4_isQuestion 43 = .ok (.iconst 1, 1) := dk_4 (dk_at dksX4_isQuestion_1 21 rfl rfl)
theorem dX4_isQuestion_44 : decode cX4_isQuestion 44 = .ok (.goto 4, 3) := dk_167 0 4 (dk_at dksX4_isQuestion_2 0 rfl rfl)
theorem dX4_isQuestion_47 : decode cX4_isQuestion 47 = .ok (.iconst 0, 1) := dk_3 (dk_at dksX4_isQuestion_2 3 rfl rfl)
theorem dX4_isQuestion_48 : decode cX4_isQuestion 48 = .ok (.ireturn, 1) := dk_172 (dk_at dksX4_isQuestion_2 4 rfl rfl)
abbrev cX4_isAllowedByHandingDown : ByteArray := prog_14_method_102_code
def yX4_isAllowedByHandingDown : MethodName := ⟨RX4, "isAllowedByHandingDown", "(III)Z"⟩
def dkwX4_isAllowedByHandingDown_1 : List UInt8 := [3, 172]
abbrev dktX4_isAllowedByHandingDown_1 : List UInt8 := dkwX4_isAllowedByHandingDown_1 ++ []
def dkwX4_isAllowedByHandingDown_0 : List UInt8 := [42, 27, 28, 29, 182, 0, 221, 153, 0, 17, 42, 27, 28, 29, 182, 0, 150, 153, 0, 7, 4, 167, 0, 4]
abbrev dktX4_isAllowedByHandingDown_0 : List UInt8 := dkwX4_isAllowedByHandingDown_0 ++ dktX4_isAllowedByHandingDown_1
theorem dksX4_isAllowedByHandingDown_0 : cX4_isAllowedByHandingDown.data.toList.drop 0 = dktX4_isAllowedByHandingDown_0 := by decide +kernel
theorem dksX4_isAllowedByHandingDown_1 : cX4_isAllowedByHandingDown.data.toList.drop 24 = dktX4_isAllowedByHandingDown_1 := dk_seg dksX4_isAllowedByHandingDown_0 24 rfl rfl
theorem dX4_isAllowedByHandingDown_0 : decode cX4_isAllowedByHandingDown 0 = .ok (.aload_n 0, 1) := dk_42 (dk_at dksX4_isAllowedByHandingDown_0 0 rfl rfl)
theorem dX4_isAllowedByHandingDown_1 : decode cX4_isAllowedByHandingDown 1 = .ok (.iload_n 1, 1) := dk_27 (dk_at dksX4_isAllowedByHandingDown_0 1 rfl rfl)
theorem dX4_isAllowedByHandingDown_2 : decode cX4_isAllowedByHandingDown 2 = .ok (.iload_n 2, 1) := dk_28 (dk_at dksX4_isAllowedByHandingDown_0 2 rfl rfl)
theorem dX4_isAllowedByHandingDown_3 : decode cX4_isAllowedByHandingDown 3 = .ok (.iload_n 3, 1) := dk_29 (dk_at dksX4_isAllowedByHandingDown_0 3 rfl rfl)
theorem dX4_isAllowedByHandingDown_4 : decode cX4_isAllowedByHandingDown 4 = .ok (.invokevirtual 221, 3) := dk_182 0 221 (dk_at dksX4_isAllowedByHandingDown_0 4 rfl rfl)
theorem dX4_isAllowedByHandingDown_7 : decode cX4_isAllowedByHandingDown 7 = .ok (.ifCond .eq 17, 3) := dk_153 0 17 (dk_at dksX4_isAllowedByHandingDown_0 7 rfl rfl)
theorem dX4_isAllowedByHandingDown_10 : decode cX4_isAllowedByHandingDown 10 = .ok (.aload_n 0, 1) := dk_42 (dk_at dksX4_isAllowedByHandingDown_0 10 rfl rfl)
theorem dX4_isAllowedByHandingDown_11 : decode cX4_isAllowedByHandingDown 11 = .ok (.iload_n 1, 1) := dk_27 (dk_at dksX4_isAllowedByHandingDown_0 11 rfl rfl)
theorem dX4_isAllowedByHandingDown_12 : decode cX4_isAllowedByHandingDown 12 = .ok (.iload_n 2, 1) := dk_28 (dk_at dksX4_isAllowedByHandingDown_0 12 rfl rfl)
theorem dX4_isAllowedByHandingDown_13 : decode cX4_isAllowedByHandingDown 13 = .ok (.iload_n 3, 1) := dk_29 (dk_at dksX4_isAllowedByHandingDown_0 13 rfl rfl)
theorem dX4_isAllowedByHandingDown_14 : decode cX4_isAllowedByHandingDown 14 = .ok (.invokevirtual 150, 3) := dk_182 0 150 (dk_at dksX4_isAllowedByHandingDown_0 14 rfl rfl)
theorem dX4_isAllowedByHandingDown_17 : decode cX4_isAllowedByHandingDown 17 = .ok (.ifCond .eq 7, 3) := dk_153 0 7 (dk_at dksX4_isAllowedByHandingDown_0 17 rfl rfl)
theorem dX4_isAllowedByHandingDown_20 : decode cX4_isAllowedByHandingDown 20 = .ok (.iconst 1, 1) := dk_4 (dk_at dksX4_isAllowedByHandingDown_0 20 rfl rfl)
theorem dX4_isAllowedByHandingDown_21 : decode cX4_isAllowedByHandingDown 21 = .ok (.goto 4, 3) := dk_167 0 4 (dk_at dksX4_isAllowedByHandingDown_0 21 rfl rfl)
theorem dX4_isAllowedByHandingDown_24 : decode cX4_isAllowedByHandingDown 24 = .ok (.iconst 0, 1) := dk_3 (dk_at dksX4_isAllowedByHandingDown_1 0 rfl rfl)
theorem dX4_isAllowedByHandingDown_25 : decode cX4_isAllowedByHandingDown 25 = .ok (.ireturn, 1) := dk_172 (dk_at dksX4_isAllowedByHandingDown_1 1 rfl rfl)
abbrev cX4_rightsOf : ByteArray := prog_14_method_103_code
def yX4_rightsOf : MethodName := ⟨RX4, "rightsOf", "(II)I"⟩
def dkwX4_rightsOf_1 : List UInt8 := [181, 0, 39, 42, 180, 0, 39, 154, 0, 12, 42, 27, 28, 182, 0, 119, 167, 0, 4, 3, 172]
abbrev dktX4_rightsOf_1 : List UInt8 := dkwX4_rightsOf_1 ++ []
def dkwX4_rightsOf_0 : List UInt8 := [42, 42, 27, 182, 0, 82, 153, 0, 15, 42, 28, 182, 0, 57, 153, 0, 7, 3, 167, 0, 4, 4]
abbrev dktX4_rightsOf_0 : List UInt8 := dkwX4_rightsOf_0 ++ dktX4_rightsOf_1
theorem dksX4_rightsOf_0 : cX4_rightsOf.data.toList.drop 0 = dktX4_rightsOf_0 := by decide +kernel
theorem dksX4_rightsOf_1 : cX4_rightsOf.data.toList.drop 22 = dktX4_rightsOf_1 := dk_seg dksX4_rightsOf_0 22 rfl rfl
theorem dX4_rightsOf_0 : decode cX4_rightsOf 0 = .ok (.aload_n 0, 1) := dk_42 (dk_at dksX4_rightsOf_0 0 rfl rfl)
theorem dX4_rightsOf_1 : decode cX4_rightsOf 1 = .ok (.aload_n 0, 1) := dk_42 (dk_at dksX4_rightsOf_0 1 rfl rfl)
theorem dX4_rightsOf_2 : decode cX4_rightsOf 2 = .ok (.iload_n 1, 1) := dk_27 (dk_at dksX4_rightsOf_0 2 rfl rfl)
theorem dX4_rightsOf_3 : decode cX4_rightsOf 3 = .ok (.invokevirtual 82, 3) := dk_182 0 82 (dk_at dksX4_rightsOf_0 3 rfl rfl)
theorem dX4_rightsOf_6 : decode cX4_rightsOf 6 = .ok (.ifCond .eq 15, 3) := dk_153 0 15 (dk_at dksX4_rightsOf_0 6 rfl rfl)
theorem dX4_rightsOf_9 : decode cX4_rightsOf 9 = .ok (.aload_n 0, 1) := dk_42 (dk_at dksX4_rightsOf_0 9 rfl rfl)
theorem dX4_rightsOf_10 : decode cX4_rightsOf 10 = .ok (.iload_n 2, 1) := dk_28 (dk_at dksX4_rightsOf_0 10 rfl rfl)
theorem dX4_rightsOf_11 : decode cX4_rightsOf 11 = .ok (.invokevirtual 57, 3) := dk_182 0 57 (dk_at dksX4_rightsOf_0 11 rfl rfl)
theorem dX4_rightsOf_14 : decode cX4_rightsOf 14 = .ok (.ifCond .eq 7, 3) := dk_153 0 7 (dk_at dksX4_rightsOf_0 14 rfl rfl)
theorem dX4_rightsOf_17 : decode cX4_rightsOf 17 = .ok (.iconst 0, 1) := dk_3 (dk_at dksX4_rightsOf_0 17 rfl rfl)
theorem dX4_rightsOf_18 : decode cX4_rightsOf 18 = .ok (.goto 4, 3) := dk_167 0 4 (dk_at dksX4_rightsOf_0 18 rfl rfl)
theorem dX4_rightsOf_21 : decode cX4_rightsOf 21 = .ok (.iconst 1, 1) := dk_4 (dk_at dksX4_rightsOf_0 21 rfl rfl)
theorem dX4_rightsOf_22 : decode cX4_rightsOf 22 = .ok (.putfield 39, 3) := dk_181 0 39 (dk_at dksX4_rightsOf_1 0 rfl rfl)
theorem dX4_rightsOf_25 : decode cX4_rightsOf 25 = .ok (.aload_n 0, 1) := dk_42 (dk_at dksX4_rightsOf_1 3 rfl rfl)
theorem dX4_rightsOf_26 : decode cX4_rightsOf 26 = .ok (.getfield 39, 3) := dk_180 0 39 (dk_at dksX4_rightsOf_1 4 rfl rfl)
theorem dX4_rightsOf_29 : decode cX4_rightsOf 29 = .ok (.ifCond .ne 12, 3) := dk_154 0 12 (dk_at dksX4_rightsOf_1 7 rfl rfl)
theorem dX4_rightsOf_32 : decode cX4_rightsOf 32 = .ok (.aload_n 0, 1) := dk_42 (dk_at dksX4_rightsOf_1 10 rfl rfl)
theorem dX4_rightsOf_33 : decode cX4_rightsOf 33 = .ok (.iload_n 1, 1) := dk_27 (dk_at dksX4_rightsOf_1 11 rfl rfl)
theorem dX4_rightsOf_34 : decode cX4_rightsOf 34 = .ok (.iload_n 2, 1) := dk_28 (dk_at dksX4_rightsOf_1 12 rfl rfl)
theorem dX4_rightsOf_35 : decode cX4_rightsOf 35 = .ok (.invokevirtual 119, 3) := dk_182 0 119 (dk_at dksX4_rightsOf_1 13 rfl rfl)
theorem dX4_rightsOf_38 : decode cX4_rightsOf 38 = .ok (.goto 4, 3) := dk_167 0 4 (dk_at dksX4_rightsOf_1 16 rfl rfl)
theorem dX4_rightsOf_41 : decode cX4_rightsOf 41 = .ok (.iconst 0, 1) := dk_3 (dk_at dksX4_rightsOf_1 19 rfl rfl)
theorem dX4_rightsOf_42 : decode cX4_rightsOf 42 = .ok (.ireturn, 1) := dk_172 (dk_at dksX4_rightsOf_1 20 rfl rfl)
abbrev cX4_decidingObject : ByteArray := prog_14_method_104_code
def yX4_decidingObject : MethodName := ⟨RX4, "decidingObject", "(III)I"⟩
def dkwX4_decidingObject_2 : List UInt8 := [172]
abbrev dktX4_decidingObject_2 : List UInt8 := dkwX4_decidingObject_2 ++ []
def dkwX4_decidingObject_1 : List UInt8 := [180, 0, 39, 158, 0, 7, 3, 167, 0, 17, 21, 4, 156, 0, 7, 2, 167, 0, 8, 21, 4, 16, 6, 108]
abbrev dktX4_decidingObject_1 : List UInt8 := dkwX4_decidingObject_1 ++ dktX4_decidingObject_2
def dkwX4_decidingObject_0 : List UInt8 := [42, 27, 28, 29, 182, 0, 221, 153, 0, 13, 42, 27, 28, 29, 182, 0, 144, 167, 0, 4, 3, 54, 4, 42]
abbrev dktX4_decidingObject_0 : List UInt8 := dkwX4_decidingObject_0 ++ dktX4_decidingObject_1
theorem dksX4_decidingObject_0 : cX4_decidingObject.data.toList.drop 0 = dktX4_decidingObject_0 := by decide +kernel
theorem dksX4_decidingObject_1 : cX4_decidingObject.data.toList.drop 24 = dktX4_decidingObject_1 := dk_seg dksX4_decidingObject_0 24 rfl rfl
theorem dksX4_decidingObject_2 : cX4_decidingObject.data.toList.drop 48 = dktX4_decidingObject_2 := dk_seg dksX4_decidingObject_1 24 rfl rfl
theorem dX4_decidingObject_0 : decode cX4_decidingObject 0 = .ok (.aload_n 0, 1) := dk_42 (dk_at dksX4_decidingObject_0 0 rfl rfl)
theorem dX4_decidingObject_1 : decode cX4_decidingObject 1 = .ok (.iload_n 1, 1) := dk_27 (dk_at dksX4_decidingObject_0 1 rfl rfl)
theorem dX4_decidingObject_2 : decode cX4_decidingObject 2 = .ok (.iload_n 2, 1) := dk_28 (dk_at dksX4_decidingObject_0 2 rfl rfl)
theorem dX4_decidingObject_3 : decode cX4_decidingObject 3 = .ok (.iload_n 3, 1) := dk_29 (dk_at dksX4_decidingObject_0 3 rfl rfl)
theorem dX4_decidingObject_4 : decode cX4_decidingObject 4 = .ok (.invokevirtual 221, 3) := dk_182 0 221 (dk_at dksX4_decidingObject_0 4 rfl rfl)
theorem dX4_decidingObject_7 : decode cX4_decidingObject 7 = .ok (.ifCond .eq 13, 3) := dk_153 0 13 (dk_at dksX4_decidingObject_0 7 rfl rfl)
theorem dX4_decidingObject_10 : decode cX4_decidingObject 10 = .ok (.aload_n 0, 1) := dk_42 (dk_at dksX4_decidingObject_0 10 rfl rfl)
theorem dX4_decidingObject_11 : decode cX4_decidingObject 11 = .ok (.iload_n 1, 1) := dk_27 (dk_at dksX4_decidingObject_0 11 rfl rfl)
theorem dX4_decidingObject_12 : decode cX4_decidingObject 12 = .ok (.iload_n 2, 1) := dk_28 (dk_at dksX4_decidingObject_0 12 rfl rfl)
theorem dX4_decidingObject_13 : decode cX4_decidingObject 13 = .ok (.iload_n 3, 1) := dk_29 (dk_at dksX4_decidingObject_0 13 rfl rfl)
theorem dX4_decidingObject_14 : decode cX4_decidingObject 14 = .ok (.invokevirtual 144, 3) := dk_182 0 144 (dk_at dksX4_decidingObject_0 14 rfl rfl)
theorem dX4_decidingObject_17 : decode cX4_decidingObject 17 = .ok (.goto 4, 3) := dk_167 0 4 (dk_at dksX4_decidingObject_0 17 rfl rfl)
theorem dX4_decidingObject_20 : decode cX4_decidingObject 20 = .ok (.iconst 0, 1) := dk_3 (dk_at dksX4_decidingObject_0 20 rfl rfl)
theorem dX4_decidingObject_21 : decode cX4_decidingObject 21 = .ok (.istore 4, 2) := dk_54 4 (dk_at dksX4_decidingObject_0 21 rfl rfl)
theorem dX4_decidingObject_23 : decode cX4_decidingObject 23 = .ok (.aload_n 0, 1) := dk_42 (dk_at dksX4_decidingObject_0 23 rfl rfl)
theorem dX4_decidingObject_24 : decode cX4_decidingObject 24 = .ok (.getfield 39, 3) := dk_180 0 39 (dk_at dksX4_decidingObject_1 0 rfl rfl)
theorem dX4_decidingObject_27 : decode cX4_decidingObject 27 = .ok (.ifCond .le 7, 3) := dk_158 0 7 (dk_at dksX4_decidingObject_1 3 rfl rfl)
theorem dX4_decidingObject_30 : decode cX4_decidingObject 30 = .ok (.iconst 0, 1) := dk_3 (dk_at dksX4_decidingObject_1 6 rfl rfl)
theorem dX4_decidingObject_31 : decode cX4_decidingObject 31 = .ok (.goto 17, 3) := dk_167 0 17 (dk_at dksX4_decidingObject_1 7 rfl rfl)
theorem dX4_decidingObject_34 : decode cX4_decidingObject 34 = .ok (.iload 4, 2) := dk_21 4 (dk_at dksX4_decidingObject_1 10 rfl rfl)
theorem dX4_decidingObject_36 : decode cX4_decidingObject 36 = .ok (.ifCond .ge 7, 3) := dk_156 0 7 (dk_at dksX4_decidingObject_1 12 rfl rfl)
theorem dX4_decidingObject_39 : decode cX4_decidingObject 39 = .ok (.iconst (-1), 1) := dk_2 (dk_at dksX4_decidingObject_1 15 rfl rfl)
theorem dX4_decidingObject_40 : decode cX4_decidingObject 40 = .ok (.goto 8, 3) := dk_167 0 8 (dk_at dksX4_decidingObject_1 16 rfl rfl)
theorem dX4_decidingObject_43 : decode cX4_decidingObject 43 = .ok (.iload 4, 2) := dk_21 4 (dk_at dksX4_decidingObject_1 19 rfl rfl)
theorem dX4_decidingObject_45 : decode cX4_decidingObject 45 = .ok (.bipush 6, 2) := dk_16 6 (dk_at dksX4_decidingObject_1 21 rfl rfl)
theorem dX4_decidingObject_47 : decode cX4_decidingObject 47 = .ok (.idiv, 1) := dk_108 (dk_at dksX4_decidingObject_1 23 rfl rfl)
theorem dX4_decidingObject_48 : decode cX4_decidingObject 48 = .ok (.ireturn, 1) := dk_172 (dk_at dksX4_decidingObject_2 0 rfl rfl)
abbrev cX4_decidingEntry : ByteArray := prog_14_method_105_code
def yX4_decidingEntry : MethodName := ⟨RX4, "decidingEntry", "(III)I"⟩
def dkwX4_decidingEntry_2 : List UInt8 := [172]
abbrev dktX4_decidingEntry_2 : List UInt8 := dkwX4_decidingEntry_2 ++ []
def dkwX4_decidingEntry_1 : List UInt8 := [180, 0, 39, 158, 0, 7, 3, 167, 0, 17, 21, 4, 156, 0, 7, 2, 167, 0, 8, 21, 4, 16, 6, 112]
abbrev dktX4_decidingEntry_1 : List UInt8 := dkwX4_decidingEntry_1 ++ dktX4_decidingEntry_2
def dkwX4_decidingEntry_0 : List UInt8 := [42, 27, 28, 29, 182, 0, 221, 153, 0, 13, 42, 27, 28, 29, 182, 0, 144, 167, 0, 4, 3, 54, 4, 42]
abbrev dktX4_decidingEntry_0 : List UInt8 := dkwX4_decidingEntry_0 ++ dktX4_decidingEntry_1
theorem dksX4_decidingEntry_0 : cX4_decidingEntry.data.toList.drop 0 = dktX4_decidingEntry_0 := by decide +kernel
theorem dksX4_decidingEntry_1 : cX4_decidingEntry.data.toList.drop 24 = dktX4_decidingEntry_1 := dk_seg dksX4_decidingEntry_0 24 rfl rfl
theorem dksX4_decidingEntry_2 : cX4_decidingEntry.data.toList.drop 48 = dktX4_decidingEntry_2 := dk_seg dksX4_decidingEntry_1 24 rfl rfl
theorem dX4_decidingEntry_0 : decode cX4_decidingEntry 0 = .ok (.aload_n 0, 1) := dk_42 (dk_at dksX4_decidingEntry_0 0 rfl rfl)
theorem dX4_decidingEntry_1 : decode cX4_decidingEntry 1 = .ok (.iload_n 1, 1) := dk_27 (dk_at dksX4_decidingEntry_0 1 rfl rfl)
theorem dX4_decidingEntry_2 : decode cX4_decidingEntry 2 = .ok (.iload_n 2, 1) := dk_28 (dk_at dksX4_decidingEntry_0 2 rfl rfl)
theorem dX4_decidingEntry_3 : decode cX4_decidingEntry 3 = .ok (.iload_n 3, 1) := dk_29 (dk_at dksX4_decidingEntry_0 3 rfl rfl)
theorem dX4_decidingEntry_4 : decode cX4_decidingEntry 4 = .ok (.invokevirtual 221, 3) := dk_182 0 221 (dk_at dksX4_decidingEntry_0 4 rfl rfl)
theorem dX4_decidingEntry_7 : decode cX4_decidingEntry 7 = .ok (.ifCond .eq 13, 3) := dk_153 0 13 (dk_at dksX4_decidingEntry_0 7 rfl rfl)
theorem dX4_decidingEntry_10 : decode cX4_decidingEntry 10 = .ok (.aload_n 0, 1) := dk_42 (dk_at dksX4_decidingEntry_0 10 rfl rfl)
theorem dX4_decidingEntry_11 : decode cX4_decidingEntry 11 = .ok (.iload_n 1, 1) := dk_27 (dk_at dksX4_decidingEntry_0 11 rfl rfl)
theorem dX4_decidingEntry_12 : decode cX4_decidingEntry 12 = .ok (.iload_n 2, 1) := dk_28 (dk_at dksX4_decidingEntry_0 12 rfl rfl)
theorem dX4_decidingEntry_13 : decode cX4_decidingEntry 13 = .ok (.iload_n 3, 1) := dk_29 (dk_at dksX4_decidingEntry_0 13 rfl rfl)
theorem dX4_decidingEntry_14 : decode cX4_decidingEntry 14 = .ok (.invokevirtual 144, 3) := dk_182 0 144 (dk_at dksX4_decidingEntry_0 14 rfl rfl)
theorem dX4_decidingEntry_17 : decode cX4_decidingEntry 17 = .ok (.goto 4, 3) := dk_167 0 4 (dk_at dksX4_decidingEntry_0 17 rfl rfl)
theorem dX4_decidingEntry_20 : decode cX4_decidingEntry 20 = .ok (.iconst 0, 1) := dk_3 (dk_at dksX4_decidingEntry_0 20 rfl rfl)
theorem dX4_decidingEntry_21 : decode cX4_decidingEntry 21 = .ok (.istore 4, 2) := dk_54 4 (dk_at dksX4_decidingEntry_0 21 rfl rfl)
theorem dX4_decidingEntry_23 : decode cX4_decidingEntry 23 = .ok (.aload_n 0, 1) := dk_42 (dk_at dksX4_decidingEntry_0 23 rfl rfl)
theorem dX4_decidingEntry_24 : decode cX4_decidingEntry 24 = .ok (.getfield 39, 3) := dk_180 0 39 (dk_at dksX4_decidingEntry_1 0 rfl rfl)
theorem dX4_decidingEntry_27 : decode cX4_decidingEntry 27 = .ok (.ifCond .le 7, 3) := dk_158 0 7 (dk_at dksX4_decidingEntry_1 3 rfl rfl)
theorem dX4_decidingEntry_30 : decode cX4_decidingEntry 30 = .ok (.iconst 0, 1) := dk_3 (dk_at dksX4_decidingEntry_1 6 rfl rfl)
theorem dX4_decidingEntry_31 : decode cX4_decidingEntry 31 = .ok (.goto 17, 3) := dk_167 0 17 (dk_at dksX4_decidingEntry_1 7 rfl rfl)
theorem dX4_decidingEntry_34 : decode cX4_decidingEntry 34 = .ok (.iload 4, 2) := dk_21 4 (dk_at dksX4_decidingEntry_1 10 rfl rfl)
theorem dX4_decidingEntry_36 : decode cX4_decidingEntry 36 = .ok (.ifCond .ge 7, 3) := dk_156 0 7 (dk_at dksX4_decidingEntry_1 12 rfl rfl)
theorem dX4_decidingEntry_39 : decode cX4_decidingEntry 39 = .ok (.iconst (-1), 1) := dk_2 (dk_at dksX4_decidingEntry_1 15 rfl rfl)
theorem dX4_decidingEntry_40 : decode cX4_decidingEntry 40 = .ok (.goto 8, 3) := dk_167 0 8 (dk_at dksX4_decidingEntry_1 16 rfl rfl)
theorem dX4_decidingEntry_43 : decode cX4_decidingEntry 43 = .ok (.iload 4, 2) := dk_21 4 (dk_at dksX4_decidingEntry_1 19 rfl rfl)
theorem dX4_decidingEntry_45 : decode cX4_decidingEntry 45 = .ok (.bipush 6, 2) := dk_16 6 (dk_at dksX4_decidingEntry_1 21 rfl rfl)
theorem dX4_decidingEntry_47 : decode cX4_decidingEntry 47 = .ok (.irem, 1) := dk_112 (dk_at dksX4_decidingEntry_1 23 rfl rfl)
theorem dX4_decidingEntry_48 : decode cX4_decidingEntry 48 = .ok (.ireturn, 1) := dk_172 (dk_at dksX4_decidingEntry_2 0 rfl rfl)
abbrev cX4_isStoppedByMask : ByteArray := prog_14_method_106_code
def yX4_isStoppedByMask : MethodName := ⟨RX4, "isStoppedByMask", "(III)Z"⟩
def dkwX4_isStoppedByMask_1 : List UInt8 := [182, 0, 147, 153, 0, 7, 4, 167, 0, 4, 3, 172]
abbrev dktX4_isStoppedByMask_1 : List UInt8 := dkwX4_isStoppedByMask_1 ++ []
def dkwX4_isStoppedByMask_0 : List UInt8 := [42, 27, 28, 29, 182, 0, 221, 153, 0, 27, 42, 27, 28, 29, 182, 0, 150, 154, 0, 17, 42, 27, 28, 29]
abbrev dktX4_isStoppedByMask_0 : List UInt8 := dkwX4_isStoppedByMask_0 ++ dktX4_isStoppedByMask_1
theorem dksX4_isStoppedByMask_0 : cX4_isStoppedByMask.data.toList.drop 0 = dktX4_isStoppedByMask_0 := by decide +kernel
theorem dksX4_isStoppedByMask_1 : cX4_isStoppedByMask.data.toList.drop 24 = dktX4_isStoppedByMask_1 := dk_seg dksX4_isStoppedByMask_0 24 rfl rfl
theorem dX4_isStoppedByMask_0 : decode cX4_isStoppedByMask 0 = .ok (.aload_n 0, 1) := dk_42 (dk_at dksX4_isStoppedByMask_0 0 rfl rfl)
theorem dX4_isStoppedByMask_1 : decode cX4_isStoppedByMask 1 = .ok (.iload_n 1, 1) := dk_27 (dk_at dksX4_isStoppedByMask_0 1 rfl rfl)
theorem dX4_isStoppedByMask_2 : decode cX4_isStoppedByMask 2 = .ok (.iload_n 2, 1) := dk_28 (dk_at dksX4_isStoppedByMask_0 2 rfl rfl)
theorem dX4_isStoppedByMask_3 : decode cX4_isStoppedByMask 3 = .ok (.iload_n 3, 1) := dk_29 (dk_at dksX4_isStoppedByMask_0 3 rfl rfl)
theorem dX4_isStoppedByMask_4 : decode cX4_isStoppedByMask 4 = .ok (.invokevirtual 221, 3) := dk_182 0 221 (dk_at dksX4_isStoppedByMask_0 4 rfl rfl)
theorem dX4_isStoppedByMask_7 : decode cX4_isStoppedByMask 7 = .ok (.ifCond .eq 27, 3) := dk_153 0 27 (dk_at dksX4_isStoppedByMask_0 7 rfl rfl)
theorem dX4_isStoppedByMask_10 : decode cX4_isStoppedByMask 10 = .ok (.aload_n 0, 1) := dk_42 (dk_at dksX4_isStoppedByMask_0 10 rfl rfl)
theorem dX4_isStoppedByMask_11 : decode cX4_isStoppedByMask 11 = .ok (.iload_n 1, 1) := dk_27 (dk_at dksX4_isStoppedByMask_0 11 rfl rfl)
theorem dX4_isStoppedByMask_12 : decode cX4_isStoppedByMask 12 = .ok (.iload_n 2, 1) := dk_28 (dk_at dksX4_isStoppedByMask_0 12 rfl rfl)
theorem dX4_isStoppedByMask_13 : decode cX4_isStoppedByMask 13 = .ok (.iload_n 3, 1) := dk_29 (dk_at dksX4_isStoppedByMask_0 13 rfl rfl)
theorem dX4_isStoppedByMask_14 : decode cX4_isStoppedByMask 14 = .ok (.invokevirtual 150, 3) := dk_182 0 150 (dk_at dksX4_isStoppedByMask_0 14 rfl rfl)
theorem dX4_isStoppedByMask_17 : decode cX4_isStoppedByMask 17 = .ok (.ifCond .ne 17, 3) := dk_154 0 17 (dk_at dksX4_isStoppedByMask_0 17 rfl rfl)
theorem dX4_isStoppedByMask_20 : decode cX4_isStoppedByMask 20 = .ok (.aload_n 0, 1) := dk_42 (dk_at dksX4_isStoppedByMask_0 20 rfl rfl)
theorem dX4_isStoppedByMask_21 : decode cX4_isStoppedByMask 21 = .ok (.iload_n 1, 1) := dk_27 (dk_at dksX4_isStoppedByMask_0 21 rfl rfl)
theorem dX4_isStoppedByMask_22 : decode cX4_isStoppedByMask 22 = .ok (.iload_n 2, 1) := dk_28 (dk_at dksX4_isStoppedByMask_0 22 rfl rfl)
theorem dX4_isStoppedByMask_23 : decode cX4_isStoppedByMask 23 = .ok (.iload_n 3, 1) := dk_29 (dk_at dksX4_isStoppedByMask_0 23 rfl rfl)
theorem dX4_isStoppedByMask_24 : decode cX4_isStoppedByMask 24 = .ok (.invokevirtual 147, 3) := dk_182 0 147 (dk_at dksX4_isStoppedByMask_1 0 rfl rfl)
theorem dX4_isStoppedByMask_27 : decode cX4_isStoppedByMask 27 = .ok (.ifCond .eq 7, 3) := dk_153 0 7 (dk_at dksX4_isStoppedByMask_1 3 rfl rfl)
theorem dX4_isStoppedByMask_30 : decode cX4_isStoppedByMask 30 = .ok (.iconst 1, 1) := dk_4 (dk_at dksX4_isStoppedByMask_1 6 rfl rfl)
theorem dX4_isStoppedByMask_31 : decode cX4_isStoppedByMask 31 = .ok (.goto 4, 3) := dk_167 0 4 (dk_at dksX4_isStoppedByMask_1 7 rfl rfl)
theorem dX4_isStoppedByMask_34 : decode cX4_isStoppedByMask 34 = .ok (.iconst 0, 1) := dk_3 (dk_at dksX4_isStoppedByMask_1 10 rfl rfl)
theorem dX4_isStoppedByMask_35 : decode cX4_isStoppedByMask 35 = .ok (.ireturn, 1) := dk_172 (dk_at dksX4_isStoppedByMask_1 11 rfl rfl)
abbrev cX4_usersWith : ByteArray := prog_14_method_107_code
def yX4_usersWith : MethodName := ⟨RX4, "usersWith", "(II)I"⟩
def dkwX4_usersWith_3 : List UInt8 := [132, 4, 1, 167, 255, 216, 29, 172]
abbrev dktX4_usersWith_3 : List UInt8 := dkwX4_usersWith_3 ++ []
def dkwX4_usersWith_2 : List UInt8 := [154, 0, 28, 29, 42, 21, 4, 27, 28, 182, 0, 150, 153, 0, 7, 4, 167, 0, 4, 3, 96, 62]
abbrev dktX4_usersWith_2 : List UInt8 := dkwX4_usersWith_2 ++ dktX4_usersWith_3
def dkwX4_usersWith_1 : List UInt8 := [5, 181, 0, 39, 3, 62, 3, 54, 4, 21, 4, 42, 180, 0, 7, 3, 46, 162, 0, 35, 42, 180, 0, 39]
abbrev dktX4_usersWith_1 : List UInt8 := dkwX4_usersWith_1 ++ dktX4_usersWith_2
def dkwX4_usersWith_0 : List UInt8 := [42, 42, 27, 182, 0, 57, 154, 0, 7, 4, 167, 0, 15, 28, 184, 0, 156, 153, 0, 7, 3, 167, 0, 4]
abbrev dktX4_usersWith_0 : List UInt8 := dkwX4_usersWith_0 ++ dktX4_usersWith_1
theorem dksX4_usersWith_0 : cX4_usersWith.data.toList.drop 0 = dktX4_usersWith_0 := by decide +kernel
theorem dksX4_usersWith_1 : cX4_usersWith.data.toList.drop 24 = dktX4_usersWith_1 := dk_seg dksX4_usersWith_0 24 rfl rfl
theorem dksX4_usersWith_2 : cX4_usersWith.data.toList.drop 48 = dktX4_usersWith_2 := dk_seg dksX4_usersWith_1 24 rfl rfl
theorem dksX4_usersWith_3 : cX4_usersWith.data.toList.drop 70 = dktX4_usersWith_3 := dk_seg dksX4_usersWith_2 22 rfl rfl
theorem dX4_usersWith_0 : decode cX4_usersWith 0 = .ok (.aload_n 0, 1) := dk_42 (dk_at dksX4_usersWith_0 0 rfl rfl)
theorem dX4_usersWith_1 : decode cX4_usersWith 1 = .ok (.aload_n 0, 1) := dk_42 (dk_at dksX4_usersWith_0 1 rfl rfl)
theorem dX4_usersWith_2 : decode cX4_usersWith 2 = .ok (.iload_n 1, 1) := dk_27 (dk_at dksX4_usersWith_0 2 rfl rfl)
theorem dX4_usersWith_3 : decode cX4_usersWith 3 = .ok (.invokevirtual 57, 3) := dk_182 0 57 (dk_at dksX4_usersWith_0 3 rfl rfl)
theorem dX4_usersWith_6 : decode cX4_usersWith 6 = .ok (.ifCond .ne 7, 3) := dk_154 0 7 (dk_at dksX4_usersWith_0 6 rfl rfl)
theorem dX4_usersWith_9 : decode cX4_usersWith 9 = .ok (.iconst 1, 1) := dk_4 (dk_at dksX4_usersWith_0 9 rfl rfl)
theorem dX4_usersWith_10 : decode cX4_usersWith 10 = .ok (.goto 15, 3) := dk_167 0 15 (dk_at dksX4_usersWith_0 10 rfl rfl)
theorem dX4_usersWith_13 : decode cX4_usersWith 13 = .ok (.iload_n 2, 1) := dk_28 (dk_at dksX4_usersWith_0 13 rfl rfl)
theorem dX4_usersWith_14 : decode cX4_usersWith 14 = .ok (.invokestatic 156, 3) := dk_184 0 156 (dk_at dksX4_usersWith_0 14 rfl rfl)
theorem dX4_usersWith_17 : decode cX4_usersWith 17 = .ok (.ifCond .eq 7, 3) := dk_153 0 7 (dk_at dksX4_usersWith_0 17 rfl rfl)
theorem dX4_usersWith_20 : decode cX4_usersWith 20 = .ok (.iconst 0, 1) := dk_3 (dk_at dksX4_usersWith_0 20 rfl rfl)
theorem dX4_usersWith_21 : decode cX4_usersWith 21 = .ok (.goto 4, 3) := dk_167 0 4 (dk_at dksX4_usersWith_0 21 rfl rfl)
theorem dX4_usersWith_24 : decode cX4_usersWith 24 = .ok (.iconst 2, 1) := dk_5 (dk_at dksX4_usersWith_1 0 rfl rfl)
theorem dX4_usersWith_25 : decode cX4_usersWith 25 = .ok (.putfield 39, 3) := dk_181 0 39 (dk_at dksX4_usersWith_1 1 rfl rfl)
theorem dX4_usersWith_28 : decode cX4_usersWith 28 = .ok (.iconst 0, 1) := dk_3 (dk_at dksX4_usersWith_1 4 rfl rfl)
theorem dX4_usersWith_29 : decode cX4_usersWith 29 = .ok (.istore_n 3, 1) := dk_62 (dk_at dksX4_usersWith_1 5 rfl rfl)
theorem dX4_usersWith_30 : decode cX4_usersWith 30 = .ok (.iconst 0, 1) := dk_3 (dk_at dksX4_usersWith_1 6 rfl rfl)
theorem dX4_usersWith_31 : decode cX4_usersWith 31 = .ok (.istore 4, 2) := dk_54 4 (dk_at dksX4_usersWith_1 7 rfl rfl)
theorem dX4_usersWith_33 : decode cX4_usersWith 33 = .ok (.iload 4, 2) := dk_21 4 (dk_at dksX4_usersWith_1 9 rfl rfl)
theorem dX4_usersWith_35 : decode cX4_usersWith 35 = .ok (.aload_n 0, 1) := dk_42 (dk_at dksX4_usersWith_1 11 rfl rfl)
theorem dX4_usersWith_36 : decode cX4_usersWith 36 = .ok (.getfield 7, 3) := dk_180 0 7 (dk_at dksX4_usersWith_1 12 rfl rfl)
theorem dX4_usersWith_39 : decode cX4_usersWith 39 = .ok (.iconst 0, 1) := dk_3 (dk_at dksX4_usersWith_1 15 rfl rfl)
theorem dX4_usersWith_40 : decode cX4_usersWith 40 = .ok (.iaload, 1) := dk_46 (dk_at dksX4_usersWith_1 16 rfl rfl)
theorem dX4_usersWith_41 : decode cX4_usersWith 41 = .ok (.if_icmp .ge 35, 3) := dk_162 0 35 (dk_at dksX4_usersWith_1 17 rfl rfl)
theorem dX4_usersWith_44 : decode cX4_usersWith 44 = .ok (.aload_n 0, 1) := dk_42 (dk_at dksX4_usersWith_1 20 rfl rfl)
theorem dX4_usersWith_45 : decode cX4_usersWith 45 = .ok (.getfield 39, 3) := dk_180 0 39 (dk_at dksX4_usersWith_1 21 rfl rfl)
theorem dX4_usersWith_48 : decode cX4_usersWith 48 = .ok (.ifCond .ne 28, 3) := dk_154 0 28 (dk_at dksX4_usersWith_2 0 rfl rfl)
theorem dX4_usersWith_51 : decode cX4_usersWith 51 = .ok (.iload_n 3, 1) := dk_29 (dk_at dksX4_usersWith_2 3 rfl rfl)
theorem dX4_usersWith_52 : decode cX4_usersWith 52 = .ok (.aload_n 0, 1) := dk_42 (dk_at dksX4_usersWith_2 4 rfl rfl)
theorem dX4_usersWith_53 : decode cX4_usersWith 53 = .ok (.iload 4, 2) := dk_21 4 (dk_at dksX4_usersWith_2 5 rfl rfl)
theorem dX4_usersWith_55 : decode cX4_usersWith 55 = .ok (.iload_n 1, 1) := dk_27 (dk_at dksX4_usersWith_2 7 rfl rfl)
theorem dX4_usersWith_56 : decode cX4_usersWith 56 = .ok (.iload_n 2, 1) := dk_28 (dk_at dksX4_usersWith_2 8 rfl rfl)
theorem dX4_usersWith_57 : decode cX4_usersWith 57 = .ok (.invokevirtual 150, 3) := dk_182 0 150 (dk_at dksX4_usersWith_2 9 rfl rfl)
theorem dX4_usersWith_60 : decode cX4_usersWith 60 = .ok (.ifCond .eq 7, 3) := dk_153 0 7 (dk_at dksX4_usersWith_2 12 rfl rfl)
theorem dX4_usersWith_63 : decode cX4_usersWith 63 = .ok (.iconst 1, 1) := dk_4 (dk_at dksX4_usersWith_2 15 rfl rfl)
theorem dX4_usersWith_64 : decode cX4_usersWith 64 = .ok (.goto 4, 3) := dk_167 0 4 (dk_at dksX4_usersWith_2 16 rfl rfl)
theorem dX4_usersWith_67 : decode cX4_usersWith 67 = .ok (.iconst 0, 1) := dk_3 (dk_at dksX4_usersWith_2 19 rfl rfl)
theorem dX4_usersWith_68 : decode cX4_usersWith 68 = .ok (.iadd, 1) := dk_96 (dk_at dksX4_usersWith_2 20 rfl rfl)
theorem dX4_usersWith_69 : decode cX4_usersWith 69 = .ok (.istore_n 3, 1) := dk_62 (dk_at dksX4_usersWith_2 21 rfl rfl)
theorem dX4_usersWith_70 : decode cX4_usersWith 70 = .ok (.iinc 4 1, 3) := dk_132 4 1 (dk_at dksX4_usersWith_3 0 rfl rfl)
theorem dX4_usersWith_73 : decode cX4_usersWith 73 = .ok (.goto (-40), 3) := dk_167 255 216 (dk_at dksX4_usersWith_3 3 rfl rfl)
theorem dX4_usersWith_76 : decode cX4_usersWith 76 = .ok (.iload_n 3, 1) := dk_29 (dk_at dksX4_usersWith_3 6 rfl rfl)
theorem dX4_usersWith_77 : decode cX4_usersWith 77 = .ok (.ireturn, 1) := dk_172 (dk_at dksX4_usersWith_3 7 rfl rfl)
abbrev cX4_rightsThrough : ByteArray := prog_14_method_109_code
def yX4_rightsThrough : MethodName := ⟨RX4, "rightsThrough", "(II)I"⟩
def dkwX4_rightsThrough_3 : List UInt8 := [153, 0, 7, 4, 167, 0, 4, 3, 96, 62, 132, 4, 1, 167, 255, 203, 29, 172]
abbrev dktX4_rightsThrough_3 : List UInt8 := dkwX4_rightsThrough_3 ++ []
def dkwX4_rightsThrough_2 : List UInt8 := [21, 4, 7, 108, 182, 0, 57, 153, 0, 24, 42, 27, 21, 4, 7, 108, 21, 4, 7, 112, 28, 182, 0, 224]
abbrev dktX4_rightsThrough_2 : List UInt8 := dkwX4_rightsThrough_2 ++ dktX4_rightsThrough_3
def dkwX4_rightsThrough_1 : List UInt8 := [181, 0, 39, 3, 62, 3, 54, 4, 21, 4, 16, 80, 162, 0, 52, 42, 180, 0, 39, 154, 0, 45, 29, 42]
abbrev dktX4_rightsThrough_1 : List UInt8 := dkwX4_rightsThrough_1 ++ dktX4_rightsThrough_2
def dkwX4_rightsThrough_0 : List UInt8 := [42, 42, 27, 182, 0, 82, 153, 0, 15, 42, 28, 182, 0, 85, 153, 0, 7, 3, 167, 0, 4, 4]
abbrev dktX4_rightsThrough_0 : List UInt8 := dkwX4_rightsThrough_0 ++ dktX4_rightsThrough_1
theorem dksX4_rightsThrough_0 : cX4_rightsThrough.data.toList.drop 0 = dktX4_rightsThrough_0 := by decide +kernel
theorem dksX4_rightsThrough_1 : cX4_rightsThrough.data.toList.drop 22 = dktX4_rightsThrough_1 := dk_seg dksX4_rightsThrough_0 22 rfl rfl
theorem dksX4_rightsThrough_2 : cX4_rightsThrough.data.toList.drop 46 = dktX4_rightsThrough_2 := dk_seg dksX4_rightsThrough_1 24 rfl rfl
theorem dksX4_rightsThrough_3 : cX4_rightsThrough.data.toList.drop 70 = dktX4_rightsThrough_3 := dk_seg dksX4_rightsThrough_2 24 rfl rfl
theorem dX4_rightsThrough_0 : decode cX4_rightsThrough 0 = .ok (.aload_n 0, 1) := dk_42 (dk_at dksX4_rightsThrough_0 0 rfl rfl)
theorem dX4_rightsThrough_1 : decode cX4_rightsThrough 1 = .ok (.aload_n 0, 1) := dk_42 (dk_at dksX4_rightsThrough_0 1 rfl rfl)
theorem dX4_rightsThrough_2 : decode cX4_rightsThrough 2 = .ok (.iload_n 1, 1) := dk_27 (dk_at dksX4_rightsThrough_0 2 rfl rfl)
theorem dX4_rightsThrough_3 : decode cX4_rightsThrough 3 = .ok (.invokevirtual 82, 3) := dk_182 0 82 (dk_at dksX4_rightsThrough_0 3 rfl rfl)
theorem dX4_rightsThrough_6 : decode cX4_rightsThrough 6 = .ok (.ifCond .eq 15, 3) := dk_153 0 15 (dk_at dksX4_rightsThrough_0 6 rfl rfl)
theorem dX4_rightsThrough_9 : decode cX4_rightsThrough 9 = .ok (.aload_n 0, 1) := dk_42 (dk_at dksX4_rightsThrough_0 9 rfl rfl)
theorem dX4_rightsThrough_10 : decode cX4_rightsThrough 10 = .ok (.iload_n 2, 1) := dk_28 (dk_at dksX4_rightsThrough_0 10 rfl rfl)
theorem dX4_rightsThrough_11 : decode cX4_rightsThrough 11 = .ok (.invokevirtual 85, 3) := dk_182 0 85 (dk_at dksX4_rightsThrough_0 11 rfl rfl)
theorem dX4_rightsThrough_14 : decode cX4_rightsThrough 14 = .ok (.ifCond .eq 7, 3) := dk_153 0 7 (dk_at dksX4_rightsThrough_0 14 rfl rfl)
theorem dX4_rightsThrough_17 : decode cX4_rightsThrough 17 = .ok (.iconst 0, 1) := dk_3 (dk_at dksX4_rightsThrough_0 17 rfl rfl)
theorem dX4_rightsThrough_18 : decode cX4_rightsThrough 18 = .ok (.goto 4, 3) := dk_167 0 4 (dk_at dksX4_rightsThrough_0 18 rfl rfl)
theorem dX4_rightsThrough_21 : decode cX4_rightsThrough 21 = .ok (.iconst 1, 1) := dk_4 (dk_at dksX4_rightsThrough_0 21 rfl rfl)
theorem dX4_rightsThrough_22 : decode cX4_rightsThrough 22 = .ok (.putfield 39, 3) := dk_181 0 39 (dk_at dksX4_rightsThrough_1 0 rfl rfl)
theorem dX4_rightsThrough_25 : decode cX4_rightsThrough 25 = .ok (.iconst 0, 1) := dk_3 (dk_at dksX4_rightsThrough_1 3 rfl rfl)
theorem dX4_rightsThrough_26 : decode cX4_rightsThrough 26 = .ok (.istore_n 3, 1) := dk_62 (dk_at dksX4_rightsThrough_1 4 rfl rfl)
theorem dX4_rightsThrough_27 : decode cX4_rightsThrough 27 = .ok (.iconst 0, 1) := dk_3 (dk_at dksX4_rightsThrough_1 5 rfl rfl)
theorem dX4_rightsThrough_28 : decode cX4_rightsThrough 28 = .ok (.istore 4, 2) := dk_54 4 (dk_at dksX4_rightsThrough_1 6 rfl rfl)
theorem dX4_rightsThrough_30 : decode cX4_rightsThrough 30 = .ok (.iload 4, 2) := dk_21 4 (dk_at dksX4_rightsThrough_1 8 rfl rfl)
theorem dX4_rightsThrough_32 : decode cX4_rightsThrough 32 = .ok (.bipush 80, 2) := dk_16 80 (dk_at dksX4_rightsThrough_1 10 rfl rfl)
theorem dX4_rightsThrough_34 : decode cX4_rightsThrough 34 = .ok (.if_icmp .ge 52, 3) := dk_162 0 52 (dk_at dksX4_rightsThrough_1 12 rfl rfl)
theorem dX4_rightsThrough_37 : decode cX4_rightsThrough 37 = .ok (.aload_n 0, 1) := dk_42 (dk_at dksX4_rightsThrough_1 15 rfl rfl)
theorem dX4_rightsThrough_38 : decode cX4_rightsThrough 38 = .ok (.getfield 39, 3) := dk_180 0 39 (dk_at dksX4_rightsThrough_1 16 rfl rfl)
theorem dX4_rightsThrough_41 : decode cX4_rightsThrough 41 = .ok (.ifCond .ne 45, 3) := dk_154 0 45 (dk_at dksX4_rightsThrough_1 19 rfl rfl)
theorem dX4_rightsThrough_44 : decode cX4_rightsThrough 44 = .ok (.iload_n 3, 1) := dk_29 (dk_at dksX4_rightsThrough_1 22 rfl rfl)
theorem dX4_rightsThrough_45 : decode cX4_rightsThrough 45 = .ok (.aload_n 0, 1) := dk_42 (dk_at dksX4_rightsThrough_1 23 rfl rfl)
theorem dX4_rightsThrough_46 : decode cX4_rightsThrough 46 = .ok (.iload 4, 2) := dk_21 4 (dk_at dksX4_rightsThrough_2 0 rfl rfl)
theorem dX4_rightsThrough_48 : decode cX4_rightsThrough 48 = .ok (.iconst 4, 1) := dk_7 (dk_at dksX4_rightsThrough_2 2 rfl rfl)
theorem dX4_rightsThrough_49 : decode cX4_rightsThrough 49 = .ok (.idiv, 1) := dk_108 (dk_at dksX4_rightsThrough_2 3 rfl rfl)
theorem dX4_rightsThrough_50 : decode cX4_rightsThrough 50 = .ok (.invokevirtual 57, 3) := dk_182 0 57 (dk_at dksX4_rightsThrough_2 4 rfl rfl)
theorem dX4_rightsThrough_53 : decode cX4_rightsThrough 53 = .ok (.ifCond .eq 24, 3) := dk_153 0 24 (dk_at dksX4_rightsThrough_2 7 rfl rfl)
theorem dX4_rightsThrough_56 : decode cX4_rightsThrough 56 = .ok (.aload_n 0, 1) := dk_42 (dk_at dksX4_rightsThrough_2 10 rfl rfl)
theorem dX4_rightsThrough_57 : decode cX4_rightsThrough 57 = .ok (.iload_n 1, 1) := dk_27 (dk_at dksX4_rightsThrough_2 11 rfl rfl)
theorem dX4_rightsThrough_58 : decode cX4_rightsThrough 58 = .ok (.iload 4, 2) := dk_21 4 (dk_at dksX4_rightsThrough_2 12 rfl rfl)
theorem dX4_rightsThrough_60 : decode cX4_rightsThrough 60 = .ok (.iconst 4, 1) := dk_7 (dk_at dksX4_rightsThrough_2 14 rfl rfl)
theorem dX4_rightsThrough_61 : decode cX4_rightsThrough 61 = .ok (.idiv, 1) := dk_108 (dk_at dksX4_rightsThrough_2 15 rfl rfl)
theorem dX4_rightsThrough_62 : decode cX4_rightsThrough 62 = .ok (.iload 4, 2) := dk_21 4 (dk_at dksX4_rightsThrough_2 16 rfl rfl)
theorem dX4_rightsThrough_64 : decode cX4_rightsThrough 64 = .ok (.iconst 4, 1) := dk_7 (dk_at dksX4_rightsThrough_2 18 rfl rfl)
theorem dX4_rightsThrough_65 : decode cX4_rightsThrough 65 = .ok (.irem, 1) := dk_112 (dk_at dksX4_rightsThrough_2 19 rfl rfl)
theorem dX4_rightsThrough_66 : decode cX4_rightsThrough 66 = .ok (.iload_n 2, 1) := dk_28 (dk_at dksX4_rightsThrough_2 20 rfl rfl)
theorem dX4_rightsThrough_67 : decode cX4_rightsThrough 67 = .ok (.invokevirtual 224, 3) := dk_182 0 224 (dk_at dksX4_rightsThrough_2 21 rfl rfl)
theorem dX4_rightsThrough_70 : decode cX4_rightsThrough 70 = .ok (.ifCond .eq 7, 3) := dk_153 0 7 (dk_at dksX4_rightsThrough_3 0 rfl rfl)
theorem dX4_rightsThrough_73 : decode cX4_rightsThrough 73 = .ok (.iconst 1, 1) := dk_4 (dk_at dksX4_rightsThrough_3 3 rfl rfl)
theorem dX4_rightsThrough_74 : decode cX4_rightsThrough 74 = .ok (.goto 4, 3) := dk_167 0 4 (dk_at dksX4_rightsThrough_3 4 rfl rfl)
theorem dX4_rightsThrough_77 : decode cX4_rightsThrough 77 = .ok (.iconst 0, 1) := dk_3 (dk_at dksX4_rightsThrough_3 7 rfl rfl)
theorem dX4_rightsThrough_78 : decode cX4_rightsThrough 78 = .ok (.iadd, 1) := dk_96 (dk_at dksX4_rightsThrough_3 8 rfl rfl)
theorem dX4_rightsThrough_79 : decode cX4_rightsThrough 79 = .ok (.istore_n 3, 1) := dk_62 (dk_at dksX4_rightsThrough_3 9 rfl rfl)
theorem dX4_rightsThrough_80 : decode cX4_rightsThrough 80 = .ok (.iinc 4 1, 3) := dk_132 4 1 (dk_at dksX4_rightsThrough_3 10 rfl rfl)
theorem dX4_rightsThrough_83 : decode cX4_rightsThrough 83 = .ok (.goto (-53), 3) := dk_167 255 203 (dk_at dksX4_rightsThrough_3 13 rfl rfl)
theorem dX4_rightsThrough_86 : decode cX4_rightsThrough 86 = .ok (.iload_n 3, 1) := dk_29 (dk_at dksX4_rightsThrough_3 16 rfl rfl)
theorem dX4_rightsThrough_87 : decode cX4_rightsThrough 87 = .ok (.ireturn, 1) := dk_172 (dk_at dksX4_rightsThrough_3 17 rfl rfl)
abbrev cX4_isThrough : ByteArray := prog_14_method_108_code
def yX4_isThrough : MethodName := ⟨RX4, "isThrough", "(IIII)Z"⟩
def dkwX4_isThrough_3 : List UInt8 := [21, 6, 21, 7, 4, 182, 0, 122, 21, 4, 160, 0, 7, 4, 167, 0, 4, 3, 172]
abbrev dktX4_isThrough_3 : List UInt8 := dkwX4_isThrough_3 ++ []
def dkwX4_isThrough_2 : List UInt8 := [21, 7, 6, 182, 0, 122, 4, 160, 0, 34, 42, 21, 6, 21, 7, 3, 182, 0, 122, 4, 160, 0, 21, 42]
abbrev dktX4_isThrough_2 : List UInt8 := dkwX4_isThrough_2 ++ dktX4_isThrough_3
def dkwX4_isThrough_1 : List UInt8 := [21, 5, 156, 0, 5, 3, 172, 21, 5, 16, 6, 108, 54, 6, 21, 5, 16, 6, 112, 54, 7, 42, 21, 6]
abbrev dktX4_isThrough_1 : List UInt8 := dkwX4_isThrough_1 ++ dktX4_isThrough_2
def dkwX4_isThrough_0 : List UInt8 := [42, 27, 28, 29, 182, 0, 150, 153, 0, 13, 42, 27, 28, 29, 182, 0, 144, 167, 0, 4, 2, 54, 5]
abbrev dktX4_isThrough_0 : List UInt8 := dkwX4_isThrough_0 ++ dktX4_isThrough_1
theorem dksX4_isThrough_0 : cX4_isThrough.data.toList.drop 0 = dktX4_isThrough_0 := by decide +kernel
theorem dksX4_isThrough_1 : cX4_isThrough.data.toList.drop 23 = dktX4_isThrough_1 := dk_seg dksX4_isThrough_0 23 rfl rfl
theorem dksX4_isThrough_2 : cX4_isThrough.data.toList.drop 47 = dktX4_isThrough_2 := dk_seg dksX4_isThrough_1 24 rfl rfl
theorem dksX4_isThrough_3 : cX4_isThrough.data.toList.drop 71 = dktX4_isThrough_3 := dk_seg dksX4_isThrough_2 24 rfl rfl
theorem dX4_isThrough_0 : decode cX4_isThrough 0 = .ok (.aload_n 0, 1) := dk_42 (dk_at dksX4_isThrough_0 0 rfl rfl)
theorem dX4_isThrough_1 : decode cX4_isThrough 1 = .ok (.iload_n 1, 1) := dk_27 (dk_at dksX4_isThrough_0 1 rfl rfl)
theorem dX4_isThrough_2 : decode cX4_isThrough 2 = .ok (.iload_n 2, 1) := dk_28 (dk_at dksX4_isThrough_0 2 rfl rfl)
theorem dX4_isThrough_3 : decode cX4_isThrough 3 = .ok (.iload_n 3, 1) := dk_29 (dk_at dksX4_isThrough_0 3 rfl rfl)
theorem dX4_isThrough_4 : decode cX4_isThrough 4 = .ok (.invokevirtual 150, 3) := dk_182 0 150 (dk_at dksX4_isThrough_0 4 rfl rfl)
theorem dX4_isThrough_7 : decode cX4_isThrough 7 = .ok (.ifCond .eq 13, 3) := dk_153 0 13 (dk_at dksX4_isThrough_0 7 rfl rfl)
theorem dX4_isThrough_10 : decode cX4_isThrough 10 = .ok (.aload_n 0, 1) := dk_42 (dk_at dksX4_isThrough_0 10 rfl rfl)
theorem dX4_isThrough_11 : decode cX4_isThrough 11 = .ok (.iload_n 1, 1) := dk_27 (dk_at dksX4_isThrough_0 11 rfl rfl)
theorem dX4_isThrough_12 : decode cX4_isThrough 12 = .ok (.iload_n 2, 1) := dk_28 (dk_at dksX4_isThrough_0 12 rfl rfl)
theorem dX4_isThrough_13 : decode cX4_isThrough 13 = .ok (.iload_n 3, 1) := dk_29 (dk_at dksX4_isThrough_0 13 rfl rfl)
theorem dX4_isThrough_14 : decode cX4_isThrough 14 = .ok (.invokevirtual 144, 3) := dk_182 0 144 (dk_at dksX4_isThrough_0 14 rfl rfl)
theorem dX4_isThrough_17 : decode cX4_isThrough 17 = .ok (.goto 4, 3) := dk_167 0 4 (dk_at dksX4_isThrough_0 17 rfl rfl)
theorem dX4_isThrough_20 : decode cX4_isThrough 20 = .ok (.iconst (-1), 1) := dk_2 (dk_at dksX4_isThrough_0 20 rfl rfl)
theorem dX4_isThrough_21 : decode cX4_isThrough 21 = .ok (.istore 5, 2) := dk_54 5 (dk_at dksX4_isThrough_0 21 rfl rfl)
theorem dX4_isThrough_23 : decode cX4_isThrough 23 = .ok (.iload 5, 2) := dk_21 5 (dk_at dksX4_isThrough_1 0 rfl rfl)
theorem dX4_isThrough_25 : decode cX4_isThrough 25 = .ok (.ifCond .ge 5, 3) := dk_156 0 5 (dk_at dksX4_isThrough_1 2 rfl rfl)
theorem dX4_isThrough_28 : decode cX4_isThrough 28 = .ok (.iconst 0, 1) := dk_3 (dk_at dksX4_isThrough_1 5 rfl rfl)
theorem dX4_isThrough_29 : decode cX4_isThrough 29 = .ok (.ireturn, 1) := dk_172 (dk_at dksX4_isThrough_1 6 rfl rfl)
theorem dX4_isThrough_30 : decode cX4_isThrough 30 = .ok (.iload 5, 2) := dk_21 5 (dk_at dksX4_isThrough_1 7 rfl rfl)
theorem dX4_isThrough_32 : decode cX4_isThrough 32 = .ok (.bipush 6, 2) := dk_16 6 (dk_at dksX4_isThrough_1 9 rfl rfl)
theorem dX4_isThrough_34 : decode cX4_isThrough 34 = .ok (.idiv, 1) := dk_108 (dk_at dksX4_isThrough_1 11 rfl rfl)
theorem dX4_isThrough_35 : decode cX4_isThrough 35 = .ok (.istore 6, 2) := dk_54 6 (dk_at dksX4_isThrough_1 12 rfl rfl)
theorem dX4_isThrough_37 : decode cX4_isThrough 37 = .ok (.iload 5, 2) := dk_21 5 (dk_at dksX4_isThrough_1 14 rfl rfl)
theorem dX4_isThrough_39 : decode cX4_isThrough 39 = .ok (.bipush 6, 2) := dk_16 6 (dk_at dksX4_isThrough_1 16 rfl rfl)
theorem dX4_isThrough_41 : decode cX4_isThrough 41 = .ok (.irem, 1) := dk_112 (dk_at dksX4_isThrough_1 18 rfl rfl)
theorem dX4_isThrough_42 : decode cX4_isThrough 42 = .ok (.istore 7, 2) := dk_54 7 (dk_at dksX4_isThrough_1 19 rfl rfl)
theorem dX4_isThrough_44 : decode cX4_isThrough 44 = .ok (.aload_n 0, 1) := dk_42 (dk_at dksX4_isThrough_1 21 rfl rfl)
theorem dX4_isThrough_45 : decode cX4_isThrough 45 = .ok (.iload 6, 2) := dk_21 6 (dk_at dksX4_isThrough_1 22 rfl rfl)
theorem dX4_isThrough_47 : decode cX4_isThrough 47 = .ok (.iload 7, 2) := dk_21 7 (dk_at dksX4_isThrough_2 0 rfl rfl)
theorem dX4_isThrough_49 : decode cX4_isThrough 49 = .ok (.iconst 3, 1) := dk_6 (dk_at dksX4_isThrough_2 2 rfl rfl)
theorem dX4_isThrough_50 : decode cX4_isThrough 50 = .ok (.invokevirtual 122, 3) := dk_182 0 122 (dk_at dksX4_isThrough_2 3 rfl rfl)
theorem dX4_isThrough_53 : decode cX4_isThrough 53 = .ok (.iconst 1, 1) := dk_4 (dk_at dksX4_isThrough_2 6 rfl rfl)
theorem dX4_isThrough_54 : decode cX4_isThrough 54 = .ok (.if_icmp .ne 34, 3) := dk_160 0 34 (dk_at dksX4_isThrough_2 7 rfl rfl)
theorem dX4_isThrough_57 : decode cX4_isThrough 57 = .ok (.aload_n 0, 1) := dk_42 (dk_at dksX4_isThrough_2 10 rfl rfl)
theorem dX4_isThrough_58 : decode cX4_isThrough 58 = .ok (.iload 6, 2) := dk_21 6 (dk_at dksX4_isThrough_2 11 rfl rfl)
theorem dX4_isThrough_60 : decode cX4_isThrough 60 = .ok (.iload 7, 2) := dk_21 7 (dk_at dksX4_isThrough_2 13 rfl rfl)
theorem dX4_isThrough_62 : decode cX4_isThrough 62 = .ok (.iconst 0, 1) := dk_3 (dk_at dksX4_isThrough_2 15 rfl rfl)
theorem dX4_isThrough_63 : decode cX4_isThrough 63 = .ok (.invokevirtual 122, 3) := dk_182 0 122 (dk_at dksX4_isThrough_2 16 rfl rfl)
theorem dX4_isThrough_66 : decode cX4_isThrough 66 = .ok (.iconst 1, 1) := dk_4 (dk_at dksX4_isThrough_2 19 rfl rfl)
theorem dX4_isThrough_67 : decode cX4_isThrough 67 = .ok (.if_icmp .ne 21, 3) := dk_160 0 21 (dk_at dksX4_isThrough_2 20 rfl rfl)
theorem dX4_isThrough_70 : decode cX4_isThrough 70 = .ok (.aload_n 0, 1) := dk_42 (dk_at dksX4_isThrough_2 23 rfl rfl)
theorem dX4_isThrough_71 : decode cX4_isThrough 71 = .ok (.iload 6, 2) := dk_21 6 (dk_at dksX4_isThrough_3 0 rfl rfl)
theorem dX4_isThrough_73 : decode cX4_isThrough 73 = .ok (.iload 7, 2) := dk_21 7 (dk_at dksX4_isThrough_3 2 rfl rfl)
theorem dX4_isThrough_75 : decode cX4_isThrough 75 = .ok (.iconst 1, 1) := dk_4 (dk_at dksX4_isThrough_3 4 rfl rfl)
theorem dX4_isThrough_76 : decode cX4_isThrough 76 = .ok (.invokevirtual 122, 3) := dk_182 0 122 (dk_at dksX4_isThrough_3 5 rfl rfl)
theorem dX4_isThrough_79 : decode cX4_isThrough 79 = .ok (.iload 4, 2) := dk_21 4 (dk_at dksX4_isThrough_3 8 rfl rfl)
theorem dX4_isThrough_81 : decode cX4_isThrough 81 = .ok (.if_icmp .ne 7, 3) := dk_160 0 7 (dk_at dksX4_isThrough_3 10 rfl rfl)
theorem dX4_isThrough_84 : decode cX4_isThrough 84 = .ok (.iconst 1, 1) := dk_4 (dk_at dksX4_isThrough_3 13 rfl rfl)
theorem dX4_isThrough_85 : decode cX4_isThrough 85 = .ok (.goto 4, 3) := dk_167 0 4 (dk_at dksX4_isThrough_3 14 rfl rfl)
theorem dX4_isThrough_88 : decode cX4_isThrough 88 = .ok (.iconst 0, 1) := dk_3 (dk_at dksX4_isThrough_3 17 rfl rfl)
theorem dX4_isThrough_89 : decode cX4_isThrough 89 = .ok (.ireturn, 1) := dk_172 (dk_at dksX4_isThrough_3 18 rfl rfl)
abbrev cX4_isNeedless : ByteArray := prog_14_method_110_code
def yX4_isNeedless : MethodName := ⟨RX4, "isNeedless", "(II)Z"⟩
def dkwX4_isNeedless_2 : List UInt8 := [182, 0, 137, 154, 0, 7, 4, 167, 0, 4, 3, 62, 42, 27, 28, 182, 0, 134, 29, 172]
abbrev dktX4_isNeedless_2 : List UInt8 := dkwX4_isNeedless_2 ++ []
def dkwX4_isNeedless_1 : List UInt8 := [160, 0, 5, 3, 172, 42, 182, 0, 128, 42, 27, 28, 182, 0, 131, 42, 27, 28, 182, 0, 115, 42]
abbrev dktX4_isNeedless_1 : List UInt8 := dkwX4_isNeedless_1 ++ dktX4_isNeedless_2
def dkwX4_isNeedless_0 : List UInt8 := [42, 42, 27, 28, 182, 0, 112, 153, 0, 7, 3, 167, 0, 4, 4, 181, 0, 39, 42, 180, 0, 39, 4]
abbrev dktX4_isNeedless_0 : List UInt8 := dkwX4_isNeedless_0 ++ dktX4_isNeedless_1
theorem dksX4_isNeedless_0 : cX4_isNeedless.data.toList.drop 0 = dktX4_isNeedless_0 := by decide +kernel
theorem dksX4_isNeedless_1 : cX4_isNeedless.data.toList.drop 23 = dktX4_isNeedless_1 := dk_seg dksX4_isNeedless_0 23 rfl rfl
theorem dksX4_isNeedless_2 : cX4_isNeedless.data.toList.drop 45 = dktX4_isNeedless_2 := dk_seg dksX4_isNeedless_1 22 rfl rfl
theorem dX4_isNeedless_0 : decode cX4_isNeedless 0 = .ok (.aload_n 0, 1) := dk_42 (dk_at dksX4_isNeedless_0 0 rfl rfl)
theorem dX4_isNeedless_1 : decode cX4_isNeedless 1 = .ok (.aload_n 0, 1) := dk_42 (dk_at dksX4_isNeedless_0 1 rfl rfl)
theorem dX4_isNeedless_2 : decode cX4_isNeedless 2 = .ok (.iload_n 1, 1) := dk_27 (dk_at dksX4_isNeedless_0 2 rfl rfl)
theorem dX4_isNeedless_3 : decode cX4_isNeedless 3 = .ok (.iload_n 2, 1) := dk_28 (dk_at dksX4_isNeedless_0 3 rfl rfl)
theorem dX4_isNeedless_4 : decode cX4_isNeedless 4 = .ok (.invokevirtual 112, 3) := dk_182 0 112 (dk_at dksX4_isNeedless_0 4 rfl rfl)
theorem dX4_isNeedless_7 : decode cX4_isNeedless 7 = .ok (.ifCond .eq 7, 3) := dk_153 0 7 (dk_at dksX4_isNeedless_0 7 rfl rfl)
theorem dX4_isNeedless_10 : decode cX4_isNeedless 10 = .ok (.iconst 0, 1) := dk_3 (dk_at dksX4_isNeedless_0 10 rfl rfl)
theorem dX4_isNeedless_11 : decode cX4_isNeedless 11 = .ok (.goto 4, 3) := dk_167 0 4 (dk_at dksX4_isNeedless_0 11 rfl rfl)
theorem dX4_isNeedless_14 : decode cX4_isNeedless 14 = .ok (.iconst 1, 1) := dk_4 (dk_at dksX4_isNeedless_0 14 rfl rfl)
theorem dX4_isNeedless_15 : decode cX4_isNeedless 15 = .ok (.putfield 39, 3) := dk_181 0 39 (dk_at dksX4_isNeedless_0 15 rfl rfl)
theorem dX4_isNeedless_18 : decode cX4_isNeedless 18 = .ok (.aload_n 0, 1) := dk_42 (dk_at dksX4_isNeedless_0 18 rfl rfl)
theorem dX4_isNeedless_19 : decode cX4_isNeedless 19 = .ok (.getfield 39, 3) := dk_180 0 39 (dk_at dksX4_isNeedless_0 19 rfl rfl)
theorem dX4_isNeedless_22 : decode cX4_isNeedless 22 = .ok (.iconst 1, 1) := dk_4 (dk_at dksX4_isNeedless_0 22 rfl rfl)
theorem dX4_isNeedless_23 : decode cX4_isNeedless 23 = .ok (.if_icmp .ne 5, 3) := dk_160 0 5 (dk_at dksX4_isNeedless_1 0 rfl rfl)
theorem dX4_isNeedless_26 : decode cX4_isNeedless 26 = .ok (.iconst 0, 1) := dk_3 (dk_at dksX4_isNeedless_1 3 rfl rfl)
theorem dX4_isNeedless_27 : decode cX4_isNeedless 27 = .ok (.ireturn, 1) := dk_172 (dk_at dksX4_isNeedless_1 4 rfl rfl)
theorem dX4_isNeedless_28 : decode cX4_isNeedless 28 = .ok (.aload_n 0, 1) := dk_42 (dk_at dksX4_isNeedless_1 5 rfl rfl)
theorem dX4_isNeedless_29 : decode cX4_isNeedless 29 = .ok (.invokevirtual 128, 3) := dk_182 0 128 (dk_at dksX4_isNeedless_1 6 rfl rfl)
theorem dX4_isNeedless_32 : decode cX4_isNeedless 32 = .ok (.aload_n 0, 1) := dk_42 (dk_at dksX4_isNeedless_1 9 rfl rfl)
theorem dX4_isNeedless_33 : decode cX4_isNeedless 33 = .ok (.iload_n 1, 1) := dk_27 (dk_at dksX4_isNeedless_1 10 rfl rfl)
theorem dX4_isNeedless_34 : decode cX4_isNeedless 34 = .ok (.iload_n 2, 1) := dk_28 (dk_at dksX4_isNeedless_1 11 rfl rfl)
theorem dX4_isNeedless_35 : decode cX4_isNeedless 35 = .ok (.invokevirtual 131, 3) := dk_182 0 131 (dk_at dksX4_isNeedless_1 12 rfl rfl)
theorem dX4_isNeedless_38 : decode cX4_isNeedless 38 = .ok (.aload_n 0, 1) := dk_42 (dk_at dksX4_isNeedless_1 15 rfl rfl)
theorem dX4_isNeedless_39 : decode cX4_isNeedless 39 = .ok (.iload_n 1, 1) := dk_27 (dk_at dksX4_isNeedless_1 16 rfl rfl)
theorem dX4_isNeedless_40 : decode cX4_isNeedless 40 = .ok (.iload_n 2, 1) := dk_28 (dk_at dksX4_isNeedless_1 17 rfl rfl)
theorem dX4_isNeedless_41 : decode cX4_isNeedless 41 = .ok (.invokevirtual 115, 3) := dk_182 0 115 (dk_at dksX4_isNeedless_1 18 rfl rfl)
theorem dX4_isNeedless_44 : decode cX4_isNeedless 44 = .ok (.aload_n 0, 1) := dk_42 (dk_at dksX4_isNeedless_1 21 rfl rfl)
theorem dX4_isNeedless_45 : decode cX4_isNeedless 45 = .ok (.invokevirtual 137, 3) := dk_182 0 137 (dk_at dksX4_isNeedless_2 0 rfl rfl)
theorem dX4_isNeedless_48 : decode cX4_isNeedless 48 = .ok (.ifCond .ne 7, 3) := dk_154 0 7 (dk_at dksX4_isNeedless_2 3 rfl rfl)
theorem dX4_isNeedless_51 : decode cX4_isNeedless 51 = .ok (.iconst 1, 1) := dk_4 (dk_at dksX4_isNeedless_2 6 rfl rfl)
theorem dX4_isNeedless_52 : decode cX4_isNeedless 52 = .ok (.goto 4, 3) := dk_167 0 4 (dk_at dksX4_isNeedless_2 7 rfl rfl)
theorem dX4_isNeedless_55 : decode cX4_isNeedless 55 = .ok (.iconst 0, 1) := dk_3 (dk_at dksX4_isNeedless_2 10 rfl rfl)
theorem dX4_isNeedless_56 : decode cX4_isNeedless 56 = .ok (.istore_n 3, 1) := dk_62 (dk_at dksX4_isNeedless_2 11 rfl rfl)
theorem dX4_isNeedless_57 : decode cX4_isNeedless 57 = .ok (.aload_n 0, 1) := dk_42 (dk_at dksX4_isNeedless_2 12 rfl rfl)
theorem dX4_isNeedless_58 : decode cX4_isNeedless 58 = .ok (.iload_n 1, 1) := dk_27 (dk_at dksX4_isNeedless_2 13 rfl rfl)
theorem dX4_isNeedless_59 : decode cX4_isNeedless 59 = .ok (.iload_n 2, 1) := dk_28 (dk_at dksX4_isNeedless_2 14 rfl rfl)
theorem dX4_isNeedless_60 : decode cX4_isNeedless 60 = .ok (.invokevirtual 134, 3) := dk_182 0 134 (dk_at dksX4_isNeedless_2 15 rfl rfl)
theorem dX4_isNeedless_63 : decode cX4_isNeedless 63 = .ok (.iload_n 3, 1) := dk_29 (dk_at dksX4_isNeedless_2 18 rfl rfl)
theorem dX4_isNeedless_64 : decode cX4_isNeedless 64 = .ok (.ireturn, 1) := dk_172 (dk_at dksX4_isNeedless_2 19 rfl rfl)
abbrev cX4_allRights : ByteArray := prog_14_method_111_code
def yX4_allRights : MethodName := ⟨RX4, "allRights", "()I"⟩
def dkwX4_allRights_0 : List UInt8 := [42, 3, 181, 0, 39, 42, 182, 0, 227, 172]
abbrev dktX4_allRights_0 : List UInt8 := dkwX4_allRights_0 ++ []
theorem dksX4_allRights_0 : cX4_allRights.data.toList.drop 0 = dktX4_allRights_0 := by decide +kernel
theorem dX4_allRights_0 : decode cX4_allRights 0 = .ok (.aload_n 0, 1) := dk_42 (dk_at dksX4_allRights_0 0 rfl rfl)
theorem dX4_allRights_1 : decode cX4_allRights 1 = .ok (.iconst 0, 1) := dk_3 (dk_at dksX4_allRights_0 1 rfl rfl)
theorem dX4_allRights_2 : decode cX4_allRights 2 = .ok (.putfield 39, 3) := dk_181 0 39 (dk_at dksX4_allRights_0 2 rfl rfl)
theorem dX4_allRights_5 : decode cX4_allRights 5 = .ok (.aload_n 0, 1) := dk_42 (dk_at dksX4_allRights_0 5 rfl rfl)
theorem dX4_allRights_6 : decode cX4_allRights 6 = .ok (.invokevirtual 227, 3) := dk_182 0 227 (dk_at dksX4_allRights_0 6 rfl rfl)
theorem dX4_allRights_9 : decode cX4_allRights 9 = .ok (.ireturn, 1) := dk_172 (dk_at dksX4_allRights_0 9 rfl rfl)
abbrev cX4_everything : ByteArray := prog_14_method_56_code
def yX4_everything : MethodName := ⟨RX4, "everything", "()I"⟩
def dkwX4_everything_2 : List UInt8 := [132, 3, 1, 167, 255, 223, 132, 2, 1, 167, 255, 205, 27, 172]
abbrev dktX4_everything_2 : List UInt8 := dkwX4_everything_2 ++ []
def dkwX4_everything_1 : List UInt8 := [29, 182, 0, 57, 153, 0, 15, 42, 28, 29, 182, 0, 119, 184, 0, 153, 167, 0, 4, 3, 96, 60]
abbrev dktX4_everything_1 : List UInt8 := dkwX4_everything_1 ++ dktX4_everything_2
def dkwX4_everything_0 : List UInt8 := [3, 60, 3, 61, 28, 42, 180, 0, 7, 3, 46, 162, 0, 47, 3, 62, 29, 16, 20, 162, 0, 33, 27, 42]
abbrev dktX4_everything_0 : List UInt8 := dkwX4_everything_0 ++ dktX4_everything_1
theorem dksX4_everything_0 : cX4_everything.data.toList.drop 0 = dktX4_everything_0 := by decide +kernel
theorem dksX4_everything_1 : cX4_everything.data.toList.drop 24 = dktX4_everything_1 := dk_seg dksX4_everything_0 24 rfl rfl
theorem dksX4_everything_2 : cX4_everything.data.toList.drop 46 = dktX4_everything_2 := dk_seg dksX4_everything_1 22 rfl rfl
theorem dX4_everything_0 : decode cX4_everything 0 = .ok (.iconst 0, 1) := dk_3 (dk_at dksX4_everything_0 0 rfl rfl)
theorem dX4_everything_1 : decode cX4_everything 1 = .ok (.istore_n 1, 1) := dk_60 (dk_at dksX4_everything_0 1 rfl rfl)
theorem dX4_everything_2 : decode cX4_everything 2 = .ok (.iconst 0, 1) := dk_3 (dk_at dksX4_everything_0 2 rfl rfl)
theorem dX4_everything_3 : decode cX4_everything 3 = .ok (.istore_n 2, 1) := dk_61 (dk_at dksX4_everything_0 3 rfl rfl)
theorem dX4_everything_4 : decode cX4_everything 4 = .ok (.iload_n 2, 1) := dk_28 (dk_at dksX4_everything_0 4 rfl rfl)
theorem dX4_everything_5 : decode cX4_everything 5 = .ok (.aload_n 0, 1) := dk_42 (dk_at dksX4_everything_0 5 rfl rfl)
theorem dX4_everything_6 : decode cX4_everything 6 = .ok (.getfield 7, 3) := dk_180 0 7 (dk_at dksX4_everything_0 6 rfl rfl)
theorem dX4_everything_9 : decode cX4_everything 9 = .ok (.iconst 0, 1) := dk_3 (dk_at dksX4_everything_0 9 rfl rfl)
theorem dX4_everything_10 : decode cX4_everything 10 = .ok (.iaload, 1) := dk_46 (dk_at dksX4_everything_0 10 rfl rfl)
theorem dX4_everything_11 : decode cX4_everything 11 = .ok (.if_icmp .ge 47, 3) := dk_162 0 47 (dk_at dksX4_everything_0 11 rfl rfl)
theorem dX4_everything_14 : decode cX4_everything 14 = .ok (.iconst 0, 1) := dk_3 (dk_at dksX4_everything_0 14 rfl rfl)
theorem dX4_everything_15 : decode cX4_everything 15 = .ok (.istore_n 3, 1) := dk_62 (dk_at dksX4_everything_0 15 rfl rfl)
theorem dX4_everything_16 : decode cX4_everything 16 = .ok (.iload_n 3, 1) := dk_29 (dk_at dksX4_everything_0 16 rfl rfl)
theorem dX4_everything_17 : decode cX4_everything 17 = .ok (.bipush 20, 2) := dk_16 20 (dk_at dksX4_everything_0 17 rfl rfl)
theorem dX4_everything_19 : decode cX4_everything 19 = .ok (.if_icmp .ge 33, 3) := dk_162 0 33 (dk_at dksX4_everything_0 19 rfl rfl)
theorem dX4_everything_22 : decode cX4_everything 22 = .ok (.iload_n 1, 1) := dk_27 (dk_at dksX4_everything_0 22 rfl rfl)
theorem dX4_everything_23 : decode cX4_everything 23 = .ok (.aload_n 0, 1) := dk_42 (dk_at dksX4_everything_0 23 rfl rfl)
theorem dX4_everything_24 : decode cX4_everything 24 = .ok (.iload_n 3, 1) := dk_29 (dk_at dksX4_everything_1 0 rfl rfl)
theorem dX4_everything_25 : decode cX4_everything 25 = .ok (.invokevirtual 57, 3) := dk_182 0 57 (dk_at dksX4_everything_1 1 rfl rfl)
theorem dX4_everything_28 : decode cX4_everything 28 = .ok (.ifCond .eq 15, 3) := dk_153 0 15 (dk_at dksX4_everything_1 4 rfl rfl)
theorem dX4_everything_31 : decode cX4_everything 31 = .ok (.aload_n 0, 1) := dk_42 (dk_at dksX4_everything_1 7 rfl rfl)
theorem dX4_everything_32 : decode cX4_everything 32 = .ok (.iload_n 2, 1) := dk_28 (dk_at dksX4_everything_1 8 rfl rfl)
theorem dX4_everything_33 : decode cX4_everything 33 = .ok (.iload_n 3, 1) := dk_29 (dk_at dksX4_everything_1 9 rfl rfl)
theorem dX4_everything_34 : decode cX4_everything 34 = .ok (.invokevirtual 119, 3) := dk_182 0 119 (dk_at dksX4_everything_1 10 rfl rfl)
theorem dX4_everything_37 : decode cX4_everything 37 = .ok (.invokestatic 153, 3) := dk_184 0 153 (dk_at dksX4_everything_1 13 rfl rfl)
theorem dX4_everything_40 : decode cX4_everything 40 = .ok (.goto 4, 3) := dk_167 0 4 (dk_at dksX4_everything_1 16 rfl rfl)
theorem dX4_everything_43 : decode cX4_everything 43 = .ok (.iconst 0, 1) := dk_3 (dk_at dksX4_everything_1 19 rfl rfl)
theorem dX4_everything_44 : decode cX4_everything 44 = .ok (.iadd, 1) := dk_96 (dk_at dksX4_everything_1 20 rfl rfl)
theorem dX4_everything_45 : decode cX4_everything 45 = .ok (.istore_n 1, 1) := dk_60 (dk_at dksX4_everything_1 21 rfl rfl)
theorem dX4_everything_46 : decode cX4_everything 46 = .ok (.iinc 3 1, 3) := dk_132 3 1 (dk_at dksX4_everything_2 0 rfl rfl)
theorem dX4_everything_49 : decode cX4_everything 49 = .ok (.goto (-33), 3) := dk_167 255 223 (dk_at dksX4_everything_2 3 rfl rfl)
theorem dX4_everything_52 : decode cX4_everything 52 = .ok (.iinc 2 1, 3) := dk_132 2 1 (dk_at dksX4_everything_2 6 rfl rfl)
theorem dX4_everything_55 : decode cX4_everything 55 = .ok (.goto (-51), 3) := dk_167 255 205 (dk_at dksX4_everything_2 9 rfl rfl)
theorem dX4_everything_58 : decode cX4_everything 58 = .ok (.iload_n 1, 1) := dk_27 (dk_at dksX4_everything_2 12 rfl rfl)
theorem dX4_everything_59 : decode cX4_everything 59 = .ok (.ireturn, 1) := dk_172 (dk_at dksX4_everything_2 13 rfl rfl)
abbrev cX4_size : ByteArray := prog_14_method_17_code
def yX4_size : MethodName := ⟨RX4, "size", "(I)I"⟩
def dkwX4_size_1 : List UInt8 := [96, 60, 132, 2, 1, 167, 255, 231, 27, 172]
abbrev dktX4_size_1 : List UInt8 := dkwX4_size_1 ++ []
def dkwX4_size_0 : List UInt8 := [3, 60, 3, 61, 28, 16, 20, 162, 0, 25, 27, 26, 28, 184, 0, 65, 153, 0, 7, 4, 167, 0, 4, 3]
abbrev dktX4_size_0 : List UInt8 := dkwX4_size_0 ++ dktX4_size_1
theorem dksX4_size_0 : cX4_size.data.toList.drop 0 = dktX4_size_0 := by decide +kernel
theorem dksX4_size_1 : cX4_size.data.toList.drop 24 = dktX4_size_1 := dk_seg dksX4_size_0 24 rfl rfl
theorem dX4_size_0 : decode cX4_size 0 = .ok (.iconst 0, 1) := dk_3 (dk_at dksX4_size_0 0 rfl rfl)
theorem dX4_size_1 : decode cX4_size 1 = .ok (.istore_n 1, 1) := dk_60 (dk_at dksX4_size_0 1 rfl rfl)
theorem dX4_size_2 : decode cX4_size 2 = .ok (.iconst 0, 1) := dk_3 (dk_at dksX4_size_0 2 rfl rfl)
theorem dX4_size_3 : decode cX4_size 3 = .ok (.istore_n 2, 1) := dk_61 (dk_at dksX4_size_0 3 rfl rfl)
theorem dX4_size_4 : decode cX4_size 4 = .ok (.iload_n 2, 1) := dk_28 (dk_at dksX4_size_0 4 rfl rfl)
theorem dX4_size_5 : decode cX4_size 5 = .ok (.bipush 20, 2) := dk_16 20 (dk_at dksX4_size_0 5 rfl rfl)
theorem dX4_size_7 : decode cX4_size 7 = .ok (.if_icmp .ge 25, 3) := dk_162 0 25 (dk_at dksX4_size_0 7 rfl rfl)
theorem dX4_size_10 : decode cX4_size 10 = .ok (.iload_n 1, 1) := dk_27 (dk_at dksX4_size_0 10 rfl rfl)
theorem dX4_size_11 : decode cX4_size 11 = .ok (.iload_n 0, 1) := dk_26 (dk_at dksX4_size_0 11 rfl rfl)
theorem dX4_size_12 : decode cX4_size 12 = .ok (.iload_n 2, 1) := dk_28 (dk_at dksX4_size_0 12 rfl rfl)
theorem dX4_size_13 : decode cX4_size 13 = .ok (.invokestatic 65, 3) := dk_184 0 65 (dk_at dksX4_size_0 13 rfl rfl)
theorem dX4_size_16 : decode cX4_size 16 = .ok (.ifCond .eq 7, 3) := dk_153 0 7 (dk_at dksX4_size_0 16 rfl rfl)
theorem dX4_size_19 : decode cX4_size 19 = .ok (.iconst 1, 1) := dk_4 (dk_at dksX4_size_0 19 rfl rfl)
theorem dX4_size_20 : decode cX4_size 20 = .ok (.goto 4, 3) := dk_167 0 4 (dk_at dksX4_size_0 20 rfl rfl)
theorem dX4_size_23 : decode cX4_size 23 = .ok (.iconst 0, 1) := dk_3 (dk_at dksX4_size_0 23 rfl rfl)
theorem dX4_size_24 : decode cX4_size 24 = .ok (.iadd, 1) := dk_96 (dk_at dksX4_size_1 0 rfl rfl)
theorem dX4_size_25 : decode cX4_size 25 = .ok (.istore_n 1, 1) := dk_60 (dk_at dksX4_size_1 1 rfl rfl)
theorem dX4_size_26 : decode cX4_size 26 = .ok (.iinc 2 1, 3) := dk_132 2 1 (dk_at dksX4_size_1 2 rfl rfl)
theorem dX4_size_29 : decode cX4_size 29 = .ok (.goto (-25), 3) := dk_167 255 231 (dk_at dksX4_size_1 5 rfl rfl)
theorem dX4_size_32 : decode cX4_size 32 = .ok (.iload_n 1, 1) := dk_27 (dk_at dksX4_size_1 8 rfl rfl)
theorem dX4_size_33 : decode cX4_size 33 = .ok (.ireturn, 1) := dk_172 (dk_at dksX4_size_1 9 rfl rfl)
abbrev cX4_openness : ByteArray := prog_14_method_112_code
def yX4_openness : MethodName := ⟨RX4, "openness", "()D"⟩
def dkwX4_openness_1 : List UInt8 := [104, 135, 111, 175]
abbrev dktX4_openness_1 : List UInt8 := dkwX4_openness_1 ++ []
def dkwX4_openness_0 : List UInt8 := [42, 3, 181, 0, 39, 42, 182, 0, 227, 135, 72, 39, 7, 42, 180, 0, 7, 3, 46, 104, 42, 182, 0, 94]
abbrev dktX4_openness_0 : List UInt8 := dkwX4_openness_0 ++ dktX4_openness_1
theorem dksX4_openness_0 : cX4_openness.data.toList.drop 0 = dktX4_openness_0 := by decide +kernel
theorem dksX4_openness_1 : cX4_openness.data.toList.drop 24 = dktX4_openness_1 := dk_seg dksX4_openness_0 24 rfl rfl
theorem dX4_openness_0 : decode cX4_openness 0 = .ok (.aload_n 0, 1) := dk_42 (dk_at dksX4_openness_0 0 rfl rfl)
theorem dX4_openness_1 : decode cX4_openness 1 = .ok (.iconst 0, 1) := dk_3 (dk_at dksX4_openness_0 1 rfl rfl)
theorem dX4_openness_2 : decode cX4_openness 2 = .ok (.putfield 39, 3) := dk_181 0 39 (dk_at dksX4_openness_0 2 rfl rfl)
theorem dX4_openness_5 : decode cX4_openness 5 = .ok (.aload_n 0, 1) := dk_42 (dk_at dksX4_openness_0 5 rfl rfl)
theorem dX4_openness_6 : decode cX4_openness 6 = .ok (.invokevirtual 227, 3) := dk_182 0 227 (dk_at dksX4_openness_0 6 rfl rfl)
theorem dX4_openness_9 : decode cX4_openness 9 = .ok (.i2d, 1) := dk_135 (dk_at dksX4_openness_0 9 rfl rfl)
theorem dX4_openness_10 : decode cX4_openness 10 = .ok (.dstore_n 1, 1) := dk_72 (dk_at dksX4_openness_0 10 rfl rfl)
theorem dX4_openness_11 : decode cX4_openness 11 = .ok (.dload_n 1, 1) := dk_39 (dk_at dksX4_openness_0 11 rfl rfl)
theorem dX4_openness_12 : decode cX4_openness 12 = .ok (.iconst 4, 1) := dk_7 (dk_at dksX4_openness_0 12 rfl rfl)
theorem dX4_openness_13 : decode cX4_openness 13 = .ok (.aload_n 0, 1) := dk_42 (dk_at dksX4_openness_0 13 rfl rfl)
theorem dX4_openness_14 : decode cX4_openness 14 = .ok (.getfield 7, 3) := dk_180 0 7 (dk_at dksX4_openness_0 14 rfl rfl)
theorem dX4_openness_17 : decode cX4_openness 17 = .ok (.iconst 0, 1) := dk_3 (dk_at dksX4_openness_0 17 rfl rfl)
theorem dX4_openness_18 : decode cX4_openness 18 = .ok (.iaload, 1) := dk_46 (dk_at dksX4_openness_0 18 rfl rfl)
theorem dX4_openness_19 : decode cX4_openness 19 = .ok (.imul, 1) := dk_104 (dk_at dksX4_openness_0 19 rfl rfl)
theorem dX4_openness_20 : decode cX4_openness 20 = .ok (.aload_n 0, 1) := dk_42 (dk_at dksX4_openness_0 20 rfl rfl)
theorem dX4_openness_21 : decode cX4_openness 21 = .ok (.invokevirtual 94, 3) := dk_182 0 94 (dk_at dksX4_openness_0 21 rfl rfl)
theorem dX4_openness_24 : decode cX4_openness 24 = .ok (.imul, 1) := dk_104 (dk_at dksX4_openness_1 0 rfl rfl)
theorem dX4_openness_25 : decode cX4_openness 25 = .ok (.i2d, 1) := dk_135 (dk_at dksX4_openness_1 1 rfl rfl)
theorem dX4_openness_26 : decode cX4_openness 26 = .ok (.ddiv, 1) := dk_111 (dk_at dksX4_openness_1 2 rfl rfl)
theorem dX4_openness_27 : decode cX4_openness 27 = .ok (.dreturn, 1) := dk_175 (dk_at dksX4_openness_1 3 rfl rfl)
abbrev cX4_requests : ByteArray := prog_14_method_113_code
def yX4_requests : MethodName := ⟨RX4, "requests", "()I"⟩
def dkwX4_requests_0 : List UInt8 := [42, 3, 181, 0, 39, 42, 180, 0, 7, 17, 2, 251, 46, 172]
abbrev dktX4_requests_0 : List UInt8 := dkwX4_requests_0 ++ []
theorem dksX4_requests_0 : cX4_requests.data.toList.drop 0 = dktX4_requests_0 := by decide +kernel
theorem dX4_requests_0 : decode cX4_requests 0 = .ok (.aload_n 0, 1) := dk_42 (dk_at dksX4_requests_0 0 rfl rfl)
theorem dX4_requests_1 : decode cX4_requests 1 = .ok (.iconst 0, 1) := dk_3 (dk_at dksX4_requests_0 1 rfl rfl)
theorem dX4_requests_2 : decode cX4_requests 2 = .ok (.putfield 39, 3) := dk_181 0 39 (dk_at dksX4_requests_0 2 rfl rfl)
theorem dX4_requests_5 : decode cX4_requests 5 = .ok (.aload_n 0, 1) := dk_42 (dk_at dksX4_requests_0 5 rfl rfl)
theorem dX4_requests_6 : decode cX4_requests 6 = .ok (.getfield 7, 3) := dk_180 0 7 (dk_at dksX4_requests_0 6 rfl rfl)
theorem dX4_requests_9 : decode cX4_requests 9 = .ok (.sipush 763, 3) := dk_17 2 251 (dk_at dksX4_requests_0 9 rfl rfl)
theorem dX4_requests_12 : decode cX4_requests 12 = .ok (.iaload, 1) := dk_46 (dk_at dksX4_requests_0 12 rfl rfl)
theorem dX4_requests_13 : decode cX4_requests 13 = .ok (.ireturn, 1) := dk_172 (dk_at dksX4_requests_0 13 rfl rfl)
abbrev cX4_refusals : ByteArray := prog_14_method_114_code
def yX4_refusals : MethodName := ⟨RX4, "refusals", "()I"⟩
def dkwX4_refusals_0 : List UInt8 := [42, 3, 181, 0, 39, 42, 180, 0, 7, 17, 2, 252, 46, 172]
abbrev dktX4_refusals_0 : List UInt8 := dkwX4_refusals_0 ++ []
theorem dksX4_refusals_0 : cX4_refusals.data.toList.drop 0 = dktX4_refusals_0 := by decide +kernel
theorem dX4_refusals_0 : decode cX4_refusals 0 = .ok (.aload_n 0, 1) := dk_42 (dk_at dksX4_refusals_0 0 rfl rfl)
theorem dX4_refusals_1 : decode cX4_refusals 1 = .ok (.iconst 0, 1) := dk_3 (dk_at dksX4_refusals_0 1 rfl rfl)
theorem dX4_refusals_2 : decode cX4_refusals 2 = .ok (.putfield 39, 3) := dk_181 0 39 (dk_at dksX4_refusals_0 2 rfl rfl)
theorem dX4_refusals_5 : decode cX4_refusals 5 = .ok (.aload_n 0, 1) := dk_42 (dk_at dksX4_refusals_0 5 rfl rfl)
theorem dX4_refusals_6 : decode cX4_refusals 6 = .ok (.getfield 7, 3) := dk_180 0 7 (dk_at dksX4_refusals_0 6 rfl rfl)
theorem dX4_refusals_9 : decode cX4_refusals 9 = .ok (.sipush 764, 3) := dk_17 2 252 (dk_at dksX4_refusals_0 9 rfl rfl)
theorem dX4_refusals_12 : decode cX4_refusals 12 = .ok (.iaload, 1) := dk_46 (dk_at dksX4_refusals_0 12 rfl rfl)
theorem dX4_refusals_13 : decode cX4_refusals 13 = .ok (.ireturn, 1) := dk_172 (dk_at dksX4_refusals_0 13 rfl rfl)
abbrev cX4_userOfRequest : ByteArray := prog_14_method_116_code
def yX4_userOfRequest : MethodName := ⟨RX4, "userOfRequest", "(I)I"⟩
def dkwX4_userOfRequest_0 : List UInt8 := [42, 27, 3, 182, 0, 230, 172]
abbrev dktX4_userOfRequest_0 : List UInt8 := dkwX4_userOfRequest_0 ++ []
theorem dksX4_userOfRequest_0 : cX4_userOfRequest.data.toList.drop 0 = dktX4_userOfRequest_0 := by decide +kernel
theorem dX4_userOfRequest_0 : decode cX4_userOfRequest 0 = .ok (.aload_n 0, 1) := dk_42 (dk_at dksX4_userOfRequest_0 0 rfl rfl)
theorem dX4_userOfRequest_1 : decode cX4_userOfRequest 1 = .ok (.iload_n 1, 1) := dk_27 (dk_at dksX4_userOfRequest_0 1 rfl rfl)
theorem dX4_userOfRequest_2 : decode cX4_userOfRequest 2 = .ok (.iconst 0, 1) := dk_3 (dk_at dksX4_userOfRequest_0 2 rfl rfl)
theorem dX4_userOfRequest_3 : decode cX4_userOfRequest 3 = .ok (.invokevirtual 230, 3) := dk_182 0 230 (dk_at dksX4_userOfRequest_0 3 rfl rfl)
theorem dX4_userOfRequest_6 : decode cX4_userOfRequest 6 = .ok (.ireturn, 1) := dk_172 (dk_at dksX4_userOfRequest_0 6 rfl rfl)
abbrev cX4_logged : ByteArray := prog_14_method_115_code
def yX4_logged : MethodName := ⟨RX4, "logged", "(II)I"⟩
def dkwX4_logged_2 : List UInt8 := [167, 0, 4, 3, 172]
abbrev dktX4_logged_2 : List UInt8 := dkwX4_logged_2 ++ []
def dkwX4_logged_1 : List UInt8 := [181, 0, 39, 42, 180, 0, 39, 154, 0, 20, 42, 180, 0, 7, 17, 2, 226, 6, 27, 104, 96, 28, 96, 46]
abbrev dktX4_logged_1 : List UInt8 := dkwX4_logged_1 ++ dktX4_logged_2
def dkwX4_logged_0 : List UInt8 := [42, 27, 3, 42, 180, 0, 7, 17, 2, 250, 46, 4, 100, 184, 0, 46, 153, 0, 7, 3, 167, 0, 4, 4]
abbrev dktX4_logged_0 : List UInt8 := dkwX4_logged_0 ++ dktX4_logged_1
theorem dksX4_logged_0 : cX4_logged.data.toList.drop 0 = dktX4_logged_0 := by decide +kernel
theorem dksX4_logged_1 : cX4_logged.data.toList.drop 24 = dktX4_logged_1 := dk_seg dksX4_logged_0 24 rfl rfl
theorem dksX4_logged_2 : cX4_logged.data.toList.drop 48 = dktX4_logged_2 := dk_seg dksX4_logged_1 24 rfl rfl
theorem dX4_logged_0 : decode cX4_logged 0 = .ok (.aload_n 0, 1) := dk_42 (dk_at dksX4_logged_0 0 rfl rfl)
theorem dX4_logged_1 : decode cX4_logged 1 = .ok (.iload_n 1, 1) := dk_27 (dk_at dksX4_logged_0 1 rfl rfl)
theorem dX4_logged_2 : decode cX4_logged 2 = .ok (.iconst 0, 1) := dk_3 (dk_at dksX4_logged_0 2 rfl rfl)
theorem dX4_logged_3 : decode cX4_logged 3 = .ok (.aload_n 0, 1) := dk_42 (dk_at dksX4_logged_0 3 rfl rfl)
theorem dX4_logged_4 : decode cX4_logged 4 = .ok (.getfield 7, 3) := dk_180 0 7 (dk_at dksX4_logged_0 4 rfl rfl)
theorem dX4_logged_7 : decode cX4_logged 7 = .ok (.sipush 762, 3) := dk_17 2 250 (dk_at dksX4_logged_0 7 rfl rfl)
theorem dX4_logged_10 : decode cX4_logged 10 = .ok (.iaload, 1) := dk_46 (dk_at dksX4_logged_0 10 rfl rfl)
theorem dX4_logged_11 : decode cX4_logged 11 = .ok (.iconst 1, 1) := dk_4 (dk_at dksX4_logged_0 11 rfl rfl)
theorem dX4_logged_12 : decode cX4_logged 12 = .ok (.isub, 1) := dk_100 (dk_at dksX4_logged_0 12 rfl rfl)
theorem dX4_logged_13 : decode cX4_logged 13 = .ok (.invokestatic 46, 3) := dk_184 0 46 (dk_at dksX4_logged_0 13 rfl rfl)
theorem dX4_logged_16 : decode cX4_logged 16 = .ok (.ifCond .eq 7, 3) := dk_153 0 7 (dk_at dksX4_logged_0 16 rfl rfl)
theorem dX4_logged_19 : decode cX4_logged 19 = .ok (.iconst 0, 1) := dk_3 (dk_at dksX4_logged_0 19 rfl rfl)
theorem dX4_logged_20 : decode cX4_logged 20 = .ok (.goto 4, 3) := dk_167 0 4 (dk_at dksX4_logged_0 20 rfl rfl)
theorem dX4_logged_23 : decode cX4_logged 23 = .ok (.iconst 1, 1) := dk_4 (dk_at dksX4_logged_0 23 rfl rfl)
theorem dX4_logged_24 : decode cX4_logged 24 = .ok (.putfield 39, 3) := dk_181 0 39 (dk_at dksX4_logged_1 0 rfl rfl)
theorem dX4_logged_27 : decode cX4_logged 27 = .ok (.aload_n 0, 1) := dk_42 (dk_at dksX4_logged_1 3 rfl rfl)
theorem dX4_logged_28 : decode cX4_logged 28 = .ok (.getfield 39, 3) := dk_180 0 39 (dk_at dksX4_logged_1 4 rfl rfl)
theorem dX4_logged_31 : decode cX4_logged 31 = .ok (.ifCond .ne 20, 3) := dk_154 0 20 (dk_at dksX4_logged_1 7 rfl rfl)
theorem dX4_logged_34 : decode cX4_logged 34 = .ok (.aload_n 0, 1) := dk_42 (dk_at dksX4_logged_1 10 rfl rfl)
theorem dX4_logged_35 : decode cX4_logged 35 = .ok (.getfield 7, 3) := dk_180 0 7 (dk_at dksX4_logged_1 11 rfl rfl)
theorem dX4_logged_38 : decode cX4_logged 38 = .ok (.sipush 738, 3) := dk_17 2 226 (dk_at dksX4_logged_1 14 rfl rfl)
theorem dX4_logged_41 : decode cX4_logged 41 = .ok (.iconst 3, 1) := dk_6 (dk_at dksX4_logged_1 17 rfl rfl)
theorem dX4_logged_42 : decode cX4_logged 42 = .ok (.iload_n 1, 1) := dk_27 (dk_at dksX4_logged_1 18 rfl rfl)
theorem dX4_logged_43 : decode cX4_logged 43 = .ok (.imul, 1) := dk_104 (dk_at dksX4_logged_1 19 rfl rfl)
theorem dX4_logged_44 : decode cX4_logged 44 = .ok (.iadd, 1) := dk_96 (dk_at dksX4_logged_1 20 rfl rfl)
theorem dX4_logged_45 : decode cX4_logged 45 = .ok (.iload_n 2, 1) := dk_28 (dk_at dksX4_logged_1 21 rfl rfl)
theorem dX4_logged_46 : decode cX4_logged 46 = .ok (.iadd, 1) := dk_96 (dk_at dksX4_logged_1 22 rfl rfl)
theorem dX4_logged_47 : decode cX4_logged 47 = .ok (.iaload, 1) := dk_46 (dk_at dksX4_logged_1 23 rfl rfl)
theorem dX4_logged_48 : decode cX4_logged 48 = .ok (.goto 4, 3) := dk_167 0 4 (dk_at dksX4_logged_2 0 rfl rfl)
theorem dX4_logged_51 : decode cX4_logged 51 = .ok (.iconst 0, 1) := dk_3 (dk_at dksX4_logged_2 3 rfl rfl)
theorem dX4_logged_52 : decode cX4_logged 52 = .ok (.ireturn, 1) := dk_172 (dk_at dksX4_logged_2 4 rfl rfl)
abbrev cX4_objectOfRequest : ByteArray := prog_14_method_117_code
def yX4_objectOfRequest : MethodName := ⟨RX4, "objectOfRequest", "(I)I"⟩
def dkwX4_objectOfRequest_0 : List UInt8 := [42, 27, 4, 182, 0, 230, 172]
abbrev dktX4_objectOfRequest_0 : List UInt8 := dkwX4_objectOfRequest_0 ++ []
theorem dksX4_objectOfRequest_0 : cX4_objectOfRequest.data.toList.drop 0 = dktX4_objectOfRequest_0 := by decide +kernel
theorem dX4_objectOfRequest_0 : decode cX4_objectOfRequest 0 = .ok (.aload_n 0, 1) := dk_42 (dk_at dksX4_objectOfRequest_0 0 rfl rfl)
theorem dX4_objectOfRequest_1 : decode cX4_objectOfRequest 1 = .ok (.iload_n 1, 1) := dk_27 (dk_at dksX4_objectOfRequest_0 1 rfl rfl)
theorem dX4_objectOfRequest_2 : decode cX4_objectOfRequest 2 = .ok (.iconst 1, 1) := dk_4 (dk_at dksX4_objectOfRequest_0 2 rfl rfl)
theorem dX4_objectOfRequest_3 : decode cX4_objectOfRequest 3 = .ok (.invokevirtual 230, 3) := dk_182 0 230 (dk_at dksX4_objectOfRequest_0 3 rfl rfl)
theorem dX4_objectOfRequest_6 : decode cX4_objectOfRequest 6 = .ok (.ireturn, 1) := dk_172 (dk_at dksX4_objectOfRequest_0 6 rfl rfl)
abbrev cX4_wasAllowed : ByteArray := prog_14_method_118_code
def yX4_wasAllowed : MethodName := ⟨RX4, "wasAllowed", "(I)Z"⟩
def dkwX4_wasAllowed_0 : List UInt8 := [42, 27, 5, 182, 0, 230, 4, 160, 0, 7, 4, 167, 0, 4, 3, 172]
abbrev dktX4_wasAllowed_0 : List UInt8 := dkwX4_wasAllowed_0 ++ []
theorem dksX4_wasAllowed_0 : cX4_wasAllowed.data.toList.drop 0 = dktX4_wasAllowed_0 := by decide +kernel
theorem dX4_wasAllowed_0 : decode cX4_wasAllowed 0 = .ok (.aload_n 0, 1) := dk_42 (dk_at dksX4_wasAllowed_0 0 rfl rfl)
theorem dX4_wasAllowed_1 : decode cX4_wasAllowed 1 = .ok (.iload_n 1, 1) := dk_27 (dk_at dksX4_wasAllowed_0 1 rfl rfl)
theorem dX4_wasAllowed_2 : decode cX4_wasAllowed 2 = .ok (.iconst 2, 1) := dk_5 (dk_at dksX4_wasAllowed_0 2 rfl rfl)
theorem dX4_wasAllowed_3 : decode cX4_wasAllowed 3 = .ok (.invokevirtual 230, 3) := dk_182 0 230 (dk_at dksX4_wasAllowed_0 3 rfl rfl)
theorem dX4_wasAllowed_6 : decode cX4_wasAllowed 6 = .ok (.iconst 1, 1) := dk_4 (dk_at dksX4_wasAllowed_0 6 rfl rfl)
theorem dX4_wasAllowed_7 : decode cX4_wasAllowed 7 = .ok (.if_icmp .ne 7, 3) := dk_160 0 7 (dk_at dksX4_wasAllowed_0 7 rfl rfl)
theorem dX4_wasAllowed_10 : decode cX4_wasAllowed 10 = .ok (.iconst 1, 1) := dk_4 (dk_at dksX4_wasAllowed_0 10 rfl rfl)
theorem dX4_wasAllowed_11 : decode cX4_wasAllowed 11 = .ok (.goto 4, 3) := dk_167 0 4 (dk_at dksX4_wasAllowed_0 11 rfl rfl)
theorem dX4_wasAllowed_14 : decode cX4_wasAllowed 14 = .ok (.iconst 0, 1) := dk_3 (dk_at dksX4_wasAllowed_0 14 rfl rfl)
theorem dX4_wasAllowed_15 : decode cX4_wasAllowed 15 = .ok (.ireturn, 1) := dk_172 (dk_at dksX4_wasAllowed_0 15 rfl rfl)
abbrev cX4_undo : ByteArray := prog_14_method_119_code
def yX4_undo : MethodName := ⟨RX4, "undo", "()I"⟩
def dkwX4_undo_2 : List UInt8 := [17, 2, 253, 42, 180, 0, 43, 104, 27, 96, 46, 79, 132, 1, 1, 167, 255, 225, 42, 180, 0, 43, 172]
abbrev dktX4_undo_2 : List UInt8 := dkwX4_undo_2 ++ []
def dkwX4_undo_1 : List UInt8 := [100, 181, 0, 43, 3, 60, 27, 17, 2, 253, 162, 0, 30, 42, 180, 0, 7, 27, 42, 180, 0, 13]
abbrev dktX4_undo_1 : List UInt8 := dkwX4_undo_1 ++ dktX4_undo_2
def dkwX4_undo_0 : List UInt8 := [42, 3, 181, 0, 39, 42, 180, 0, 43, 154, 0, 9, 42, 4, 182, 0, 76, 172, 42, 89, 180, 0, 43, 4]
abbrev dktX4_undo_0 : List UInt8 := dkwX4_undo_0 ++ dktX4_undo_1
theorem dksX4_undo_0 : cX4_undo.data.toList.drop 0 = dktX4_undo_0 := by decide +kernel
theorem dksX4_undo_1 : cX4_undo.data.toList.drop 24 = dktX4_undo_1 := dk_seg dksX4_undo_0 24 rfl rfl
theorem dksX4_undo_2 : cX4_undo.data.toList.drop 46 = dktX4_undo_2 := dk_seg dksX4_undo_1 22 rfl rfl
theorem dX4_undo_0 : decode cX4_undo 0 = .ok (.aload_n 0, 1) := dk_42 (dk_at dksX4_undo_0 0 rfl rfl)
theorem dX4_undo_1 : decode cX4_undo 1 = .ok (.iconst 0, 1) := dk_3 (dk_at dksX4_undo_0 1 rfl rfl)
theorem dX4_undo_2 : decode cX4_undo 2 = .ok (.putfield 39, 3) := dk_181 0 39 (dk_at dksX4_undo_0 2 rfl rfl)
theorem dX4_undo_5 : decode cX4_undo 5 = .ok (.aload_n 0, 1) := dk_42 (dk_at dksX4_undo_0 5 rfl rfl)
theorem dX4_undo_6 : decode cX4_undo 6 = .ok (.getfield 43, 3) := dk_180 0 43 (dk_at dksX4_undo_0 6 rfl rfl)
theorem dX4_undo_9 : decode cX4_undo 9 = .ok (.ifCond .ne 9, 3) := dk_154 0 9 (dk_at dksX4_undo_0 9 rfl rfl)
theorem dX4_undo_12 : decode cX4_undo 12 = .ok (.aload_n 0, 1) := dk_42 (dk_at dksX4_undo_0 12 rfl rfl)
theorem dX4_undo_13 : decode cX4_undo 13 = .ok (.iconst 1, 1) := dk_4 (dk_at dksX4_undo_0 13 rfl rfl)
theorem dX4_undo_14 : decode cX4_undo 14 = .ok (.invokevirtual 76, 3) := dk_182 0 76 (dk_at dksX4_undo_0 14 rfl rfl)
theorem dX4_undo_17 : decode cX4_undo 17 = .ok (.ireturn, 1) := dk_172 (dk_at dksX4_undo_0 17 rfl rfl)
theorem dX4_undo_18 : decode cX4_undo 18 = .ok (.aload_n 0, 1) := dk_42 (dk_at dksX4_undo_0 18 rfl rfl)
theorem dX4_undo_19 : decode cX4_undo 19 = .ok (.dup, 1) := dk_89 (dk_at dksX4_undo_0 19 rfl rfl)
theorem dX4_undo_20 : decode cX4_undo 20 = .ok (.getfield 43, 3) := dk_180 0 43 (dk_at dksX4_undo_0 20 rfl rfl)
theorem dX4_undo_23 : decode cX4_undo 23 = .ok (.iconst 1, 1) := dk_4 (dk_at dksX4_undo_0 23 rfl rfl)
theorem dX4_undo_24 : decode cX4_undo 24 = .ok (.isub, 1) := dk_100 (dk_at dksX4_undo_1 0 rfl rfl)
theorem dX4_undo_25 : decode cX4_undo 25 = .ok (.putfield 43, 3) := dk_181 0 43 (dk_at dksX4_undo_1 1 rfl rfl)
theorem dX4_undo_28 : decode cX4_undo 28 = .ok (.iconst 0, 1) := dk_3 (dk_at dksX4_undo_1 4 rfl rfl)
theorem dX4_undo_29 : decode cX4_undo 29 = .ok (.istore_n 1, 1) := dk_60 (dk_at dksX4_undo_1 5 rfl rfl)
theorem dX4_undo_30 : decode cX4_undo 30 = .ok (.iload_n 1, 1) := dk_27 (dk_at dksX4_undo_1 6 rfl rfl)
theorem dX4_undo_31 : decode cX4_undo 31 = .ok (.sipush 765, 3) := dk_17 2 253 (dk_at dksX4_undo_1 7 rfl rfl)
theorem dX4_undo_34 : decode cX4_undo 34 = .ok (.if_icmp .ge 30, 3) := dk_162 0 30 (dk_at dksX4_undo_1 10 rfl rfl)
theorem dX4_undo_37 : decode cX4_undo 37 = .ok (.aload_n 0, 1) := dk_42 (dk_at dksX4_undo_1 13 rfl rfl)
theorem dX4_undo_38 : decode cX4_undo 38 = .ok (.getfield 7, 3) := dk_180 0 7 (dk_at dksX4_undo_1 14 rfl rfl)
theorem dX4_undo_41 : decode cX4_undo 41 = .ok (.iload_n 1, 1) := dk_27 (dk_at dksX4_undo_1 17 rfl rfl)
theorem dX4_undo_42 : decode cX4_undo 42 = .ok (.aload_n 0, 1) := dk_42 (dk_at dksX4_undo_1 18 rfl rfl)
theorem dX4_undo_43 : decode cX4_undo 43 = .ok (.getfield 13, 3) := dk_180 0 13 (dk_at dksX4_undo_1 19 rfl rfl)
theorem dX4_undo_46 : decode cX4_undo 46 = .ok (.sipush 765, 3) := dk_17 2 253 (dk_at dksX4_undo_2 0 rfl rfl)
theorem dX4_undo_49 : decode cX4_undo 49 = .ok (.aload_n 0, 1) := dk_42 (dk_at dksX4_undo_2 3 rfl rfl)
theorem dX4_undo_50 : decode cX4_undo 50 = .ok (.getfield 43, 3) := dk_180 0 43 (dk_at dksX4_undo_2 4 rfl rfl)
theorem dX4_undo_53 : decode cX4_undo 53 = .ok (.imul, 1) := dk_104 (dk_at dksX4_undo_2 7 rfl rfl)
theorem dX4_undo_54 : decode cX4_undo 54 = .ok (.iload_n 1, 1) := dk_27 (dk_at dksX4_undo_2 8 rfl rfl)
theorem dX4_undo_55 : decode cX4_undo 55 = .ok (.iadd, 1) := dk_96 (dk_at dksX4_undo_2 9 rfl rfl)
theorem dX4_undo_56 : decode cX4_undo 56 = .ok (.iaload, 1) := dk_46 (dk_at dksX4_undo_2 10 rfl rfl)
theorem dX4_undo_57 : decode cX4_undo 57 = .ok (.iastore, 1) := dk_79 (dk_at dksX4_undo_2 11 rfl rfl)
theorem dX4_undo_58 : decode cX4_undo 58 = .ok (.iinc 1 1, 3) := dk_132 1 1 (dk_at dksX4_undo_2 12 rfl rfl)
theorem dX4_undo_61 : decode cX4_undo 61 = .ok (.goto (-31), 3) := dk_167 255 225 (dk_at dksX4_undo_2 15 rfl rfl)
theorem dX4_undo_64 : decode cX4_undo 64 = .ok (.aload_n 0, 1) := dk_42 (dk_at dksX4_undo_2 18 rfl rfl)
theorem dX4_undo_65 : decode cX4_undo 65 = .ok (.getfield 43, 3) := dk_180 0 43 (dk_at dksX4_undo_2 19 rfl rfl)
theorem dX4_undo_68 : decode cX4_undo 68 = .ok (.ireturn, 1) := dk_172 (dk_at dksX4_undo_2 22 rfl rfl)
abbrev cX4_save : ByteArray := prog_14_method_120_code
def yX4_save : MethodName := ⟨RX4, "save", "(I)I"⟩
def dkwX4_save_2 : List UInt8 := [180, 0, 7, 28, 46, 79, 132, 2, 1, 167, 255, 228, 42, 182, 0, 94, 172]
abbrev dktX4_save_2 : List UInt8 := dkwX4_save_2 ++ []
def dkwX4_save_1 : List UInt8 := [27, 4, 84, 3, 61, 28, 17, 2, 253, 162, 0, 27, 42, 180, 0, 16, 17, 2, 253, 27, 104, 28, 96, 42]
abbrev dktX4_save_1 : List UInt8 := dkwX4_save_1 ++ dktX4_save_2
def dkwX4_save_0 : List UInt8 := [42, 3, 181, 0, 39, 27, 3, 4, 184, 0, 46, 154, 0, 9, 42, 4, 182, 0, 76, 172, 42, 180, 0, 19]
abbrev dktX4_save_0 : List UInt8 := dkwX4_save_0 ++ dktX4_save_1
theorem dksX4_save_0 : cX4_save.data.toList.drop 0 = dktX4_save_0 := by decide +kernel
theorem dksX4_save_1 : cX4_save.data.toList.drop 24 = dktX4_save_1 := dk_seg dksX4_save_0 24 rfl rfl
theorem dksX4_save_2 : cX4_save.data.toList.drop 48 = dktX4_save_2 := dk_seg dksX4_save_1 24 rfl rfl
theorem dX4_save_0 : decode cX4_save 0 = .ok (.aload_n 0, 1) := dk_42 (dk_at dksX4_save_0 0 rfl rfl)
theorem dX4_save_1 : decode cX4_save 1 = .ok (.iconst 0, 1) := dk_3 (dk_at dksX4_save_0 1 rfl rfl)
theorem dX4_save_2 : decode cX4_save 2 = .ok (.putfield 39, 3) := dk_181 0 39 (dk_at dksX4_save_0 2 rfl rfl)
theorem dX4_save_5 : decode cX4_save 5 = .ok (.iload_n 1, 1) := dk_27 (dk_at dksX4_save_0 5 rfl rfl)
theorem dX4_save_6 : decode cX4_save 6 = .ok (.iconst 0, 1) := dk_3 (dk_at dksX4_save_0 6 rfl rfl)
theorem dX4_save_7 : decode cX4_save 7 = .ok (.iconst 1, 1) := dk_4 (dk_at dksX4_save_0 7 rfl rfl)
theorem dX4_save_8 : decode cX4_save 8 = .ok (.invokestatic 46, 3) := dk_184 0 46 (dk_at dksX4_save_0 8 rfl rfl)
theorem dX4_save_11 : decode cX4_save 11 = .ok (.ifCond .ne 9, 3) := dk_154 0 9 (dk_at dksX4_save_0 11 rfl rfl)
theorem dX4_save_14 : decode cX4_save 14 = .ok (.aload_n 0, 1) := dk_42 (dk_at dksX4_save_0 14 rfl rfl)
theorem dX4_save_15 : decode cX4_save 15 = .ok (.iconst 1, 1) := dk_4 (dk_at dksX4_save_0 15 rfl rfl)
theorem dX4_save_16 : decode cX4_save 16 = .ok (.invokevirtual 76, 3) := dk_182 0 76 (dk_at dksX4_save_0 16 rfl rfl)
theorem dX4_save_19 : decode cX4_save 19 = .ok (.ireturn, 1) := dk_172 (dk_at dksX4_save_0 19 rfl rfl)
theorem dX4_save_20 : decode cX4_save 20 = .ok (.aload_n 0, 1) := dk_42 (dk_at dksX4_save_0 20 rfl rfl)
theorem dX4_save_21 : decode cX4_save 21 = .ok (.getfield 19, 3) := dk_180 0 19 (dk_at dksX4_save_0 21 rfl rfl)
theorem dX4_save_24 : decode cX4_save 24 = .ok (.iload_n 1, 1) := dk_27 (dk_at dksX4_save_1 0 rfl rfl)
theorem dX4_save_25 : decode cX4_save 25 = .ok (.iconst 1, 1) := dk_4 (dk_at dksX4_save_1 1 rfl rfl)
theorem dX4_save_26 : decode cX4_save 26 = .ok (.bastore, 1) := dk_84 (dk_at dksX4_save_1 2 rfl rfl)
theorem dX4_save_27 : decode cX4_save 27 = .ok (.iconst 0, 1) := dk_3 (dk_at dksX4_save_1 3 rfl rfl)
theorem dX4_save_28 : decode cX4_save 28 = .ok (.istore_n 2, 1) := dk_61 (dk_at dksX4_save_1 4 rfl rfl)
theorem dX4_save_29 : decode cX4_save 29 = .ok (.iload_n 2, 1) := dk_28 (dk_at dksX4_save_1 5 rfl rfl)
theorem dX4_save_30 : decode cX4_save 30 = .ok (.sipush 765, 3) := dk_17 2 253 (dk_at dksX4_save_1 6 rfl rfl)
theorem dX4_save_33 : decode cX4_save 33 = .ok (.if_icmp .ge 27, 3) := dk_162 0 27 (dk_at dksX4_save_1 9 rfl rfl)
theorem dX4_save_36 : decode cX4_save 36 = .ok (.aload_n 0, 1) := dk_42 (dk_at dksX4_save_1 12 rfl rfl)
theorem dX4_save_37 : decode cX4_save 37 = .ok (.getfield 16, 3) := dk_180 0 16 (dk_at dksX4_save_1 13 rfl rfl)
theorem dX4_save_40 : decode cX4_save 40 = .ok (.sipush 765, 3) := dk_17 2 253 (dk_at dksX4_save_1 16 rfl rfl)
theorem dX4_save_43 : decode cX4_save 43 = .ok (.iload_n 1, 1) := dk_27 (dk_at dksX4_save_1 19 rfl rfl)
theorem dX4_save_44 : decode cX4_save 44 = .ok (.imul, 1) := dk_104 (dk_at dksX4_save_1 20 rfl rfl)
theorem dX4_save_45 : decode cX4_save 45 = .ok (.iload_n 2, 1) := dk_28 (dk_at dksX4_save_1 21 rfl rfl)
theorem dX4_save_46 : decode cX4_save 46 = .ok (.iadd, 1) := dk_96 (dk_at dksX4_save_1 22 rfl rfl)
theorem dX4_save_47 : decode cX4_save 47 = .ok (.aload_n 0, 1) := dk_42 (dk_at dksX4_save_1 23 rfl rfl)
theorem dX4_save_48 : decode cX4_save 48 = .ok (.getfield 7, 3) := dk_180 0 7 (dk_at dksX4_save_2 0 rfl rfl)
theorem dX4_save_51 : decode cX4_save 51 = .ok (.iload_n 2, 1) := dk_28 (dk_at dksX4_save_2 3 rfl rfl)
theorem dX4_save_52 : decode cX4_save 52 = .ok (.iaload, 1) := dk_46 (dk_at dksX4_save_2 4 rfl rfl)
theorem dX4_save_53 : decode cX4_save 53 = .ok (.iastore, 1) := dk_79 (dk_at dksX4_save_2 5 rfl rfl)
theorem dX4_save_54 : decode cX4_save 54 = .ok (.iinc 2 1, 3) := dk_132 2 1 (dk_at dksX4_save_2 6 rfl rfl)
theorem dX4_save_57 : decode cX4_save 57 = .ok (.goto (-28), 3) := dk_167 255 228 (dk_at dksX4_save_2 9 rfl rfl)
theorem dX4_save_60 : decode cX4_save 60 = .ok (.aload_n 0, 1) := dk_42 (dk_at dksX4_save_2 12 rfl rfl)
theorem dX4_save_61 : decode cX4_save 61 = .ok (.invokevirtual 94, 3) := dk_182 0 94 (dk_at dksX4_save_2 13 rfl rfl)
theorem dX4_save_64 : decode cX4_save 64 = .ok (.ireturn, 1) := dk_172 (dk_at dksX4_save_2 16 rfl rfl)
abbrev cX4_restore : ByteArray := prog_14_method_121_code
def yX4_restore : MethodName := ⟨RX4, "restore", "(I)I"⟩
def dkwX4_restore_3 : List UInt8 := [42, 182, 0, 94, 172]
abbrev dktX4_restore_3 : List UInt8 := dkwX4_restore_3 ++ []
def dkwX4_restore_2 : List UInt8 := [42, 180, 0, 7, 28, 42, 180, 0, 16, 17, 2, 253, 27, 104, 28, 96, 46, 79, 132, 2, 1, 167, 255, 228]
abbrev dktX4_restore_2 : List UInt8 := dkwX4_restore_2 ++ dktX4_restore_3
def dkwX4_restore_1 : List UInt8 := [27, 51, 154, 0, 9, 42, 5, 182, 0, 76, 172, 42, 182, 0, 79, 3, 61, 28, 17, 2, 253, 162, 0, 27]
abbrev dktX4_restore_1 : List UInt8 := dkwX4_restore_1 ++ dktX4_restore_2
def dkwX4_restore_0 : List UInt8 := [42, 3, 181, 0, 39, 27, 3, 4, 184, 0, 46, 154, 0, 9, 42, 4, 182, 0, 76, 172, 42, 180, 0, 19]
abbrev dktX4_restore_0 : List UInt8 := dkwX4_restore_0 ++ dktX4_restore_1
theorem dksX4_restore_0 : cX4_restore.data.toList.drop 0 = dktX4_restore_0 := by decide +kernel
theorem dksX4_restore_1 : cX4_restore.data.toList.drop 24 = dktX4_restore_1 := dk_seg dksX4_restore_0 24 rfl rfl
theorem dksX4_restore_2 : cX4_restore.data.toList.drop 48 = dktX4_restore_2 := dk_seg dksX4_restore_1 24 rfl rfl
theorem dksX4_restore_3 : cX4_restore.data.toList.drop 72 = dktX4_restore_3 := dk_seg dksX4_restore_2 24 rfl rfl
theorem dX4_restore_0 : decode cX4_restore 0 = .ok (.aload_n 0, 1) := dk_42 (dk_at dksX4_restore_0 0 rfl rfl)
theorem dX4_restore_1 : decode cX4_restore 1 = .ok (.iconst 0, 1) := dk_3 (dk_at dksX4_restore_0 1 rfl rfl)
theorem dX4_restore_2 : decode cX4_restore 2 = .ok (.putfield 39, 3) := dk_181 0 39 (dk_at dksX4_restore_0 2 rfl rfl)
theorem dX4_restore_5 : decode cX4_restore 5 = .ok (.iload_n 1, 1) := dk_27 (dk_at dksX4_restore_0 5 rfl rfl)
theorem dX4_restore_6 : decode cX4_restore 6 = .ok (.iconst 0, 1) := dk_3 (dk_at dksX4_restore_0 6 rfl rfl)
theorem dX4_restore_7 : decode cX4_restore 7 = .ok (.iconst 1, 1) := dk_4 (dk_at dksX4_restore_0 7 rfl rfl)
theorem dX4_restore_8 : decode cX4_restore 8 = .ok (.invokestatic 46, 3) := dk_184 0 46 (dk_at dksX4_restore_0 8 rfl rfl)
theorem dX4_restore_11 : decode cX4_restore 11 = .ok (.ifCond .ne 9, 3) := dk_154 0 9 (dk_at dksX4_restore_0 11 rfl rfl)
theorem dX4_restore_14 : decode cX4_restore 14 = .ok (.aload_n 0, 1) := dk_42 (dk_at dksX4_restore_0 14 rfl rfl)
theorem dX4_restore_15 : decode cX4_restore 15 = .ok (.iconst 1, 1) := dk_4 (dk_at dksX4_restore_0 15 rfl rfl)
theorem dX4_restore_16 : decode cX4_restore 16 = .ok (.invokevirtual 76, 3) := dk_182 0 76 (dk_at dksX4_restore_0 16 rfl rfl)
theorem dX4_restore_19 : decode cX4_restore 19 = .ok (.ireturn, 1) := dk_172 (dk_at dksX4_restore_0 19 rfl rfl)
theorem dX4_restore_20 : decode cX4_restore 20 = .ok (.aload_n 0, 1) := dk_42 (dk_at dksX4_restore_0 20 rfl rfl)
theorem dX4_restore_21 : decode cX4_restore 21 = .ok (.getfield 19, 3) := dk_180 0 19 (dk_at dksX4_restore_0 21 rfl rfl)
theorem dX4_restore_24 : decode cX4_restore 24 = .ok (.iload_n 1, 1) := dk_27 (dk_at dksX4_restore_1 0 rfl rfl)
theorem dX4_restore_25 : decode cX4_restore 25 = .ok (.baload, 1) := dk_51 (dk_at dksX4_restore_1 1 rfl rfl)
theorem dX4_restore_26 : decode cX4_restore 26 = .ok (.ifCond .ne 9, 3) := dk_154 0 9 (dk_at dksX4_restore_1 2 rfl rfl)
theorem dX4_restore_29 : decode cX4_restore 29 = .ok (.aload_n 0, 1) := dk_42 (dk_at dksX4_restore_1 5 rfl rfl)
theorem dX4_restore_30 : decode cX4_restore 30 = .ok (.iconst 2, 1) := dk_5 (dk_at dksX4_restore_1 6 rfl rfl)
theorem dX4_restore_31 : decode cX4_restore 31 = .ok (.invokevirtual 76, 3) := dk_182 0 76 (dk_at dksX4_restore_1 7 rfl rfl)
theorem dX4_restore_34 : decode cX4_restore 34 = .ok (.ireturn, 1) := dk_172 (dk_at dksX4_restore_1 10 rfl rfl)
theorem dX4_restore_35 : decode cX4_restore 35 = .ok (.aload_n 0, 1) := dk_42 (dk_at dksX4_restore_1 11 rfl rfl)
theorem dX4_restore_36 : decode cX4_restore 36 = .ok (.invokevirtual 79, 3) := dk_182 0 79 (dk_at dksX4_restore_1 12 rfl rfl)
theorem dX4_restore_39 : decode cX4_restore 39 = .ok (.iconst 0, 1) := dk_3 (dk_at dksX4_restore_1 15 rfl rfl)
theorem dX4_restore_40 : decode cX4_restore 40 = .ok (.istore_n 2, 1) := dk_61 (dk_at dksX4_restore_1 16 rfl rfl)
theorem dX4_restore_41 : decode cX4_restore 41 = .ok (.iload_n 2, 1) := dk_28 (dk_at dksX4_restore_1 17 rfl rfl)
theorem dX4_restore_42 : decode cX4_restore 42 = .ok (.sipush 765, 3) := dk_17 2 253 (dk_at dksX4_restore_1 18 rfl rfl)
theorem dX4_restore_45 : decode cX4_restore 45 = .ok (.if_icmp .ge 27, 3) := dk_162 0 27 (dk_at dksX4_restore_1 21 rfl rfl)
theorem dX4_restore_48 : decode cX4_restore 48 = .ok (.aload_n 0, 1) := dk_42 (dk_at dksX4_restore_2 0 rfl rfl)
theorem dX4_restore_49 : decode cX4_restore 49 = .ok (.getfield 7, 3) := dk_180 0 7 (dk_at dksX4_restore_2 1 rfl rfl)
theorem dX4_restore_52 : decode cX4_restore 52 = .ok (.iload_n 2, 1) := dk_28 (dk_at dksX4_restore_2 4 rfl rfl)
theorem dX4_restore_53 : decode cX4_restore 53 = .ok (.aload_n 0, 1) := dk_42 (dk_at dksX4_restore_2 5 rfl rfl)
theorem dX4_restore_54 : decode cX4_restore 54 = .ok (.getfield 16, 3) := dk_180 0 16 (dk_at dksX4_restore_2 6 rfl rfl)
theorem dX4_restore_57 : decode cX4_restore 57 = .ok (.sipush 765, 3) := dk_17 2 253 (dk_at dksX4_restore_2 9 rfl rfl)
theorem dX4_restore_60 : decode cX4_restore 60 = .ok (.iload_n 1, 1) := dk_27 (dk_at dksX4_restore_2 12 rfl rfl)
theorem dX4_restore_61 : decode cX4_restore 61 = .ok (.imul, 1) := dk_104 (dk_at dksX4_restore_2 13 rfl rfl)
theorem dX4_restore_62 : decode cX4_restore 62 = .ok (.iload_n 2, 1) := dk_28 (dk_at dksX4_restore_2 14 rfl rfl)
theorem dX4_restore_63 : decode cX4_restore 63 = .ok (.iadd, 1) := dk_96 (dk_at dksX4_restore_2 15 rfl rfl)
theorem dX4_restore_64 : decode cX4_restore 64 = .ok (.iaload, 1) := dk_46 (dk_at dksX4_restore_2 16 rfl rfl)
theorem dX4_restore_65 : decode cX4_restore 65 = .ok (.iastore, 1) := dk_79 (dk_at dksX4_restore_2 17 rfl rfl)
theorem dX4_restore_66 : decode cX4_restore 66 = .ok (.iinc 2 1, 3) := dk_132 2 1 (dk_at dksX4_restore_2 18 rfl rfl)
theorem dX4_restore_69 : decode cX4_restore 69 = .ok (.goto (-28), 3) := dk_167 255 228 (dk_at dksX4_restore_2 21 rfl rfl)
theorem dX4_restore_72 : decode cX4_restore 72 = .ok (.aload_n 0, 1) := dk_42 (dk_at dksX4_restore_3 0 rfl rfl)
theorem dX4_restore_73 : decode cX4_restore 73 = .ok (.invokevirtual 94, 3) := dk_182 0 94 (dk_at dksX4_restore_3 1 rfl rfl)
theorem dX4_restore_76 : decode cX4_restore 76 = .ok (.ireturn, 1) := dk_172 (dk_at dksX4_restore_3 4 rfl rfl)
theorem q93 : (Jvm.Cond.initialized "PermissionDeskModel") ∈ lw_all := lw_g (lw_at lw_m1 13 rfl) rfl
theorem q873 : (Jvm.Cond.selects "PermissionDeskModel" ({ cls := "java/lang/Object", name := "getClass", desc := "()Ljava/lang/Class;" } : Jvm.MethodName) ({ cls := "java/lang/Object", name := "getClass", desc := "()Ljava/lang/Class;" } : Jvm.MethodName)) ∈ lw_all := lw_g (lw_at lw_m4 73 rfl) rfl
theorem q1682 : (Jvm.Cond.selects "PermissionDeskModel" ({ cls := "java/lang/Object", name := "toString", desc := "()Ljava/lang/String;" } : Jvm.MethodName) ({ cls := "java/lang/Object", name := "toString", desc := "()Ljava/lang/String;" } : Jvm.MethodName)) ∈ lw_all := lw_g (lw_at lw_m7 162 rfl) rfl
theorem q2047 : (Jvm.Cond.instantiable "PermissionDeskModel" (15 : Nat)) ∈ lw_all := lw_g (lw_at lw_m9 47 rfl) rfl
theorem q2049 : (Jvm.Cond.instanceMethod ({ cls := "PermissionDeskModel", name := "<init>", desc := "()V" } : Jvm.MethodName)) ∈ lw_all := lw_g (lw_at lw_m9 49 rfl) rfl
theorem q2050 : (Jvm.Cond.code ({ cls := "PermissionDeskModel", name := "<init>", desc := "()V" } : Jvm.MethodName) prog_14_method_1_code (1 : Nat) (Option.none : Option Jvm.ClassFile.FieldType)) ∈ lw_all := lw_g (lw_at lw_m9 50 rfl) rfl
theorem q2051 : (Jvm.Cond.methodLink "PermissionDeskModel" (1 : Nat) ({ cls := "java/lang/Object", name := "<init>", desc := "()V" } : Jvm.MethodName)) ∈ lw_all := lw_g (lw_at lw_m9 51 rfl) rfl
theorem q2052 : (Jvm.Cond.methodLink "PermissionDeskModel" (35 : Nat) ({ cls := "PermissionDeskModel", name := "founds", desc := "(III)V" } : Jvm.MethodName)) ∈ lw_all := lw_g (lw_at lw_m9 52 rfl) rfl
theorem q2053 : (Jvm.Cond.privateMethod ({ cls := "PermissionDeskModel", name := "founds", desc := "(III)V" } : Jvm.MethodName)) ∈ lw_tbl := lw_at lw_m9 53 rfl
theorem q2054 : (Jvm.Cond.instanceMethod ({ cls := "PermissionDeskModel", name := "founds", desc := "(III)V" } : Jvm.MethodName)) ∈ lw_all := lw_g (lw_at lw_m9 54 rfl) rfl
theorem q2055 : (Jvm.Cond.code ({ cls := "PermissionDeskModel", name := "founds", desc := "(III)V" } : Jvm.MethodName) prog_14_method_27_code (5 : Nat) (Option.none : Option Jvm.ClassFile.FieldType)) ∈ lw_all := lw_g (lw_at lw_m9 55 rfl) rfl
theorem q2056 : (Jvm.Cond.methodLink "PermissionDeskModel" (50 : Nat) ({ cls := "PermissionDeskModel", name := "at", desc := "(II)I" } : Jvm.MethodName)) ∈ lw_all := lw_g (lw_at lw_m9 56 rfl) rfl
theorem q2057 : (Jvm.Cond.static ({ cls := "PermissionDeskModel", name := "at", desc := "(II)I" } : Jvm.MethodName)) ∈ lw_all := lw_g (lw_at lw_m9 57 rfl) rfl
theorem q2058 : (Jvm.Cond.code ({ cls := "PermissionDeskModel", name := "at", desc := "(II)I" } : Jvm.MethodName) prog_14_method_8_code (2 : Nat) (Option.some Jvm.ClassFile.FieldType.int)) ∈ lw_all := lw_g (lw_at lw_m9 58 rfl) rfl
theorem q2059 : (Jvm.Cond.fieldLink "PermissionDeskModel" (7 : Nat) "PermissionDeskModel" "s" "[I") ∈ lw_all := lw_g (lw_at lw_m9 59 rfl) rfl
theorem q2060 : (Jvm.Cond.fieldLink "PermissionDeskModel" (13 : Nat) "PermissionDeskModel" "past" "[I") ∈ lw_all := lw_g (lw_at lw_m9 60 rfl) rfl
theorem q2061 : (Jvm.Cond.fieldLink "PermissionDeskModel" (16 : Nat) "PermissionDeskModel" "slots" "[I") ∈ lw_all := lw_g (lw_at lw_m9 61 rfl) rfl
theorem q2062 : (Jvm.Cond.fieldLink "PermissionDeskModel" (19 : Nat) "PermissionDeskModel" "filled" "[Z") ∈ lw_all := lw_g (lw_at lw_m9 62 rfl) rfl
theorem q2063 : (Jvm.Cond.fieldLink "PermissionDeskModel" (43 : Nat) "PermissionDeskModel" "pasts" "I") ∈ lw_all := lw_g (lw_at lw_m9 63 rfl) rfl
theorem q2064 : (Jvm.Cond.fieldLink "PermissionDeskModel" (39 : Nat) "PermissionDeskModel" "last" "I") ∈ lw_all := lw_g (lw_at lw_m9 64 rfl) rfl
theorem q2065 : (Jvm.Cond.fieldLink "PermissionDeskModel" (23 : Nat) "PermissionDeskModel" "pad" "[I") ∈ lw_all := lw_g (lw_at lw_m9 65 rfl) rfl
theorem q2066 : (Jvm.Cond.fieldLink "PermissionDeskModel" (159 : Nat) "PermissionDeskModel" "typed" "I") ∈ lw_all := lw_g (lw_at lw_m9 66 rfl) rfl
theorem q2067 : (Jvm.Cond.fieldLink "PermissionDeskModel" (26 : Nat) "PermissionDeskModel" "was" "[I") ∈ lw_all := lw_g (lw_at lw_m9 67 rfl) rfl
theorem q2068 : (Jvm.Cond.fieldLink "PermissionDeskModel" (29 : Nat) "PermissionDeskModel" "one" "[I") ∈ lw_all := lw_g (lw_at lw_m9 68 rfl) rfl
theorem q2069 : (Jvm.Cond.fieldLink "PermissionDeskModel" (162 : Nat) "PermissionDeskModel" "spot" "I") ∈ lw_all := lw_g (lw_at lw_m9 69 rfl) rfl
theorem q2070 : (Jvm.Cond.fieldLink "PermissionDeskModel" (184 : Nat) "PermissionDeskModel" "told" "I") ∈ lw_all := lw_g (lw_at lw_m9 70 rfl) rfl
theorem q2071 : (Jvm.Cond.fieldLink "PermissionDeskModel" (171 : Nat) "PermissionDeskModel" "parts" "I") ∈ lw_all := lw_g (lw_at lw_m9 71 rfl) rfl
theorem q2072 : (Jvm.Cond.fieldLink "PermissionDeskModel" (168 : Nat) "PermissionDeskModel" "value" "I") ∈ lw_all := lw_g (lw_at lw_m9 72 rfl) rfl
theorem q2073 : (Jvm.Cond.fieldLink "PermissionDeskModel" (32 : Nat) "PermissionDeskModel" "part" "[I") ∈ lw_all := lw_g (lw_at lw_m9 73 rfl) rfl
theorem q2074 : (Jvm.Cond.laysFinal "PermissionDeskModel" "PermissionDeskModel" "s" "[I") ∈ lw_all := lw_g (lw_at lw_m9 74 rfl) rfl
theorem q2075 : (Jvm.Cond.soleField "PermissionDeskModel" "s") ∈ lw_all := lw_g (lw_at lw_m9 75 rfl) rfl
theorem q2076 : (Jvm.Cond.laysFinal "PermissionDeskModel" "PermissionDeskModel" "past" "[I") ∈ lw_all := lw_g (lw_at lw_m9 76 rfl) rfl
theorem q2077 : (Jvm.Cond.soleField "PermissionDeskModel" "past") ∈ lw_all := lw_g (lw_at lw_m9 77 rfl) rfl
theorem q2078 : (Jvm.Cond.laysFinal "PermissionDeskModel" "PermissionDeskModel" "slots" "[I") ∈ lw_all := lw_g (lw_at lw_m9 78 rfl) rfl
theorem q2079 : (Jvm.Cond.soleField "PermissionDeskModel" "slots") ∈ lw_all := lw_g (lw_at lw_m9 79 rfl) rfl
theorem q2080 : (Jvm.Cond.laysFinal "PermissionDeskModel" "PermissionDeskModel" "filled" "[Z") ∈ lw_all := lw_g (lw_at lw_m9 80 rfl) rfl
theorem q2081 : (Jvm.Cond.soleField "PermissionDeskModel" "filled") ∈ lw_all := lw_g (lw_at lw_m9 81 rfl) rfl
theorem q2082 : (Jvm.Cond.lays "PermissionDeskModel" "PermissionDeskModel" "pasts" "I") ∈ lw_all := lw_g (lw_at lw_m9 82 rfl) rfl
theorem q2083 : (Jvm.Cond.soleField "PermissionDeskModel" "pasts") ∈ lw_all := lw_g (lw_at lw_m9 83 rfl) rfl
theorem q2084 : (Jvm.Cond.lays "PermissionDeskModel" "PermissionDeskModel" "last" "I") ∈ lw_all := lw_g (lw_at lw_m9 84 rfl) rfl
theorem q2085 : (Jvm.Cond.soleField "PermissionDeskModel" "last") ∈ lw_all := lw_g (lw_at lw_m9 85 rfl) rfl
theorem q2086 : (Jvm.Cond.laysFinal "PermissionDeskModel" "PermissionDeskModel" "pad" "[I") ∈ lw_all := lw_g (lw_at lw_m9 86 rfl) rfl
theorem q2087 : (Jvm.Cond.soleField "PermissionDeskModel" "pad") ∈ lw_all := lw_g (lw_at lw_m9 87 rfl) rfl
theorem q2088 : (Jvm.Cond.lays "PermissionDeskModel" "PermissionDeskModel" "typed" "I") ∈ lw_all := lw_g (lw_at lw_m9 88 rfl) rfl
theorem q2089 : (Jvm.Cond.soleField "PermissionDeskModel" "typed") ∈ lw_all := lw_g (lw_at lw_m9 89 rfl) rfl
theorem q2090 : (Jvm.Cond.laysFinal "PermissionDeskModel" "PermissionDeskModel" "was" "[I") ∈ lw_all := lw_g (lw_at lw_m9 90 rfl) rfl
theorem q2091 : (Jvm.Cond.soleField "PermissionDeskModel" "was") ∈ lw_all := lw_g (lw_at lw_m9 91 rfl) rfl
theorem q2092 : (Jvm.Cond.laysFinal "PermissionDeskModel" "PermissionDeskModel" "one" "[I") ∈ lw_all := lw_g (lw_at lw_m9 92 rfl) rfl
theorem q2093 : (Jvm.Cond.soleField "PermissionDeskModel" "one") ∈ lw_all := lw_g (lw_at lw_m9 93 rfl) rfl
theorem q2094 : (Jvm.Cond.lays "PermissionDeskModel" "PermissionDeskModel" "spot" "I") ∈ lw_all := lw_g (lw_at lw_m9 94 rfl) rfl
theorem q2095 : (Jvm.Cond.soleField "PermissionDeskModel" "spot") ∈ lw_all := lw_g (lw_at lw_m9 95 rfl) rfl
theorem q2096 : (Jvm.Cond.lays "PermissionDeskModel" "PermissionDeskModel" "told" "I") ∈ lw_all := lw_g (lw_at lw_m9 96 rfl) rfl
theorem q2097 : (Jvm.Cond.soleField "PermissionDeskModel" "told") ∈ lw_all := lw_g (lw_at lw_m9 97 rfl) rfl
theorem q2098 : (Jvm.Cond.lays "PermissionDeskModel" "PermissionDeskModel" "parts" "I") ∈ lw_all := lw_g (lw_at lw_m9 98 rfl) rfl
theorem q2099 : (Jvm.Cond.soleField "PermissionDeskModel" "parts") ∈ lw_all := lw_g (lw_at lw_m9 99 rfl) rfl
theorem q2100 : (Jvm.Cond.lays "PermissionDeskModel" "PermissionDeskModel" "value" "I") ∈ lw_all := lw_g (lw_at lw_m9 100 rfl) rfl
theorem q2101 : (Jvm.Cond.soleField "PermissionDeskModel" "value") ∈ lw_all := lw_g (lw_at lw_m9 101 rfl) rfl
theorem q2102 : (Jvm.Cond.laysFinal "PermissionDeskModel" "PermissionDeskModel" "part" "[I") ∈ lw_all := lw_g (lw_at lw_m9 102 rfl) rfl
theorem q2103 : (Jvm.Cond.soleField "PermissionDeskModel" "part") ∈ lw_all := lw_g (lw_at lw_m9 103 rfl) rfl
theorem q2104 : (Jvm.Cond.superclass "PermissionDeskModel" "java/lang/Object") ∈ lw_all := lw_g (lw_at lw_m9 104 rfl) rfl
theorem q2106 : (Jvm.Cond.instanceMethod ({ cls := "PermissionDeskModel", name := "thrown", desc := "()I" } : Jvm.MethodName)) ∈ lw_all := lw_g (lw_at lw_m9 106 rfl) rfl
theorem q2107 : (Jvm.Cond.selects "PermissionDeskModel" ({ cls := "PermissionDeskModel", name := "thrown", desc := "()I" } : Jvm.MethodName) ({ cls := "PermissionDeskModel", name := "thrown", desc := "()I" } : Jvm.MethodName)) ∈ lw_all := lw_g (lw_at lw_m9 107 rfl) rfl
theorem q2108 : (Jvm.Cond.code ({ cls := "PermissionDeskModel", name := "thrown", desc := "()I" } : Jvm.MethodName) prog_14_method_2_code (1 : Nat) (Option.some Jvm.ClassFile.FieldType.int)) ∈ lw_all := lw_g (lw_at lw_m9 108 rfl) rfl
theorem q2110 : (Jvm.Cond.instanceMethod ({ cls := "PermissionDeskModel", name := "addUser", desc := "()I" } : Jvm.MethodName)) ∈ lw_all := lw_g (lw_at lw_m9 110 rfl) rfl
theorem q2111 : (Jvm.Cond.selects "PermissionDeskModel" ({ cls := "PermissionDeskModel", name := "addUser", desc := "()I" } : Jvm.MethodName) ({ cls := "PermissionDeskModel", name := "addUser", desc := "()I" } : Jvm.MethodName)) ∈ lw_all := lw_g (lw_at lw_m9 111 rfl) rfl
theorem q2112 : (Jvm.Cond.code ({ cls := "PermissionDeskModel", name := "addUser", desc := "()I" } : Jvm.MethodName) prog_14_method_21_code (1 : Nat) (Option.some Jvm.ClassFile.FieldType.int)) ∈ lw_all := lw_g (lw_at lw_m9 112 rfl) rfl
theorem q2113 : (Jvm.Cond.methodLink "PermissionDeskModel" (76 : Nat) ({ cls := "PermissionDeskModel", name := "fails", desc := "(I)I" } : Jvm.MethodName)) ∈ lw_all := lw_g (lw_at lw_m9 113 rfl) rfl
theorem q2114 : (Jvm.Cond.privateMethod ({ cls := "PermissionDeskModel", name := "fails", desc := "(I)I" } : Jvm.MethodName)) ∈ lw_tbl := lw_at lw_m9 114 rfl
theorem q2115 : (Jvm.Cond.instanceMethod ({ cls := "PermissionDeskModel", name := "fails", desc := "(I)I" } : Jvm.MethodName)) ∈ lw_all := lw_g (lw_at lw_m9 115 rfl) rfl
theorem q2116 : (Jvm.Cond.code ({ cls := "PermissionDeskModel", name := "fails", desc := "(I)I" } : Jvm.MethodName) prog_14_method_4_code (2 : Nat) (Option.some Jvm.ClassFile.FieldType.int)) ∈ lw_all := lw_g (lw_at lw_m9 116 rfl) rfl
theorem q2117 : (Jvm.Cond.methodLink "PermissionDeskModel" (79 : Nat) ({ cls := "PermissionDeskModel", name := "changes", desc := "()V" } : Jvm.MethodName)) ∈ lw_all := lw_g (lw_at lw_m9 117 rfl) rfl
theorem q2118 : (Jvm.Cond.privateMethod ({ cls := "PermissionDeskModel", name := "changes", desc := "()V" } : Jvm.MethodName)) ∈ lw_tbl := lw_at lw_m9 118 rfl
theorem q2119 : (Jvm.Cond.instanceMethod ({ cls := "PermissionDeskModel", name := "changes", desc := "()V" } : Jvm.MethodName)) ∈ lw_all := lw_g (lw_at lw_m9 119 rfl) rfl
theorem q2120 : (Jvm.Cond.code ({ cls := "PermissionDeskModel", name := "changes", desc := "()V" } : Jvm.MethodName) prog_14_method_5_code (2 : Nat) (Option.none : Option Jvm.ClassFile.FieldType)) ∈ lw_all := lw_g (lw_at lw_m9 120 rfl) rfl
theorem q2122 : (Jvm.Cond.instanceMethod ({ cls := "PermissionDeskModel", name := "addGroup", desc := "()I" } : Jvm.MethodName)) ∈ lw_all := lw_g (lw_at lw_m9 122 rfl) rfl
theorem q2123 : (Jvm.Cond.selects "PermissionDeskModel" ({ cls := "PermissionDeskModel", name := "addGroup", desc := "()I" } : Jvm.MethodName) ({ cls := "PermissionDeskModel", name := "addGroup", desc := "()I" } : Jvm.MethodName)) ∈ lw_all := lw_g (lw_at lw_m9 123 rfl) rfl
theorem q2124 : (Jvm.Cond.code ({ cls := "PermissionDeskModel", name := "addGroup", desc := "()I" } : Jvm.MethodName) prog_14_method_22_code (1 : Nat) (Option.some Jvm.ClassFile.FieldType.int)) ∈ lw_all := lw_g (lw_at lw_m9 124 rfl) rfl
theorem q2126 : (Jvm.Cond.instanceMethod ({ cls := "PermissionDeskModel", name := "join", desc := "(II)I" } : Jvm.MethodName)) ∈ lw_all := lw_g (lw_at lw_m9 126 rfl) rfl
theorem q2127 : (Jvm.Cond.selects "PermissionDeskModel" ({ cls := "PermissionDeskModel", name := "join", desc := "(II)I" } : Jvm.MethodName) ({ cls := "PermissionDeskModel", name := "join", desc := "(II)I" } : Jvm.MethodName)) ∈ lw_all := lw_g (lw_at lw_m9 127 rfl) rfl
theorem q2128 : (Jvm.Cond.code ({ cls := "PermissionDeskModel", name := "join", desc := "(II)I" } : Jvm.MethodName) prog_14_method_23_code (3 : Nat) (Option.some Jvm.ClassFile.FieldType.int)) ∈ lw_all := lw_g (lw_at lw_m9 128 rfl) rfl
theorem q2129 : (Jvm.Cond.methodLink "PermissionDeskModel" (82 : Nat) ({ cls := "PermissionDeskModel", name := "isUser", desc := "(I)Z" } : Jvm.MethodName)) ∈ lw_all := lw_g (lw_at lw_m9 129 rfl) rfl
theorem q2130 : (Jvm.Cond.privateMethod ({ cls := "PermissionDeskModel", name := "isUser", desc := "(I)Z" } : Jvm.MethodName)) ∈ lw_tbl := lw_at lw_m9 130 rfl
theorem q2131 : (Jvm.Cond.instanceMethod ({ cls := "PermissionDeskModel", name := "isUser", desc := "(I)Z" } : Jvm.MethodName)) ∈ lw_all := lw_g (lw_at lw_m9 131 rfl) rfl
theorem q2132 : (Jvm.Cond.code ({ cls := "PermissionDeskModel", name := "isUser", desc := "(I)Z" } : Jvm.MethodName) prog_14_method_6_code (2 : Nat) (Option.some Jvm.ClassFile.FieldType.boolean)) ∈ lw_all := lw_g (lw_at lw_m9 132 rfl) rfl
theorem q2133 : (Jvm.Cond.methodLink "PermissionDeskModel" (46 : Nat) ({ cls := "PermissionDeskModel", name := "in", desc := "(III)Z" } : Jvm.MethodName)) ∈ lw_all := lw_g (lw_at lw_m9 133 rfl) rfl
theorem q2134 : (Jvm.Cond.static ({ cls := "PermissionDeskModel", name := "in", desc := "(III)Z" } : Jvm.MethodName)) ∈ lw_all := lw_g (lw_at lw_m9 134 rfl) rfl
theorem q2135 : (Jvm.Cond.code ({ cls := "PermissionDeskModel", name := "in", desc := "(III)Z" } : Jvm.MethodName) prog_14_method_3_code (3 : Nat) (Option.some Jvm.ClassFile.FieldType.boolean)) ∈ lw_all := lw_g (lw_at lw_m9 135 rfl) rfl
theorem q2136 : (Jvm.Cond.methodLink "PermissionDeskModel" (85 : Nat) ({ cls := "PermissionDeskModel", name := "isGroup", desc := "(I)Z" } : Jvm.MethodName)) ∈ lw_all := lw_g (lw_at lw_m9 136 rfl) rfl
theorem q2137 : (Jvm.Cond.privateMethod ({ cls := "PermissionDeskModel", name := "isGroup", desc := "(I)Z" } : Jvm.MethodName)) ∈ lw_tbl := lw_at lw_m9 137 rfl
theorem q2138 : (Jvm.Cond.instanceMethod ({ cls := "PermissionDeskModel", name := "isGroup", desc := "(I)Z" } : Jvm.MethodName)) ∈ lw_all := lw_g (lw_at lw_m9 138 rfl) rfl
theorem q2139 : (Jvm.Cond.code ({ cls := "PermissionDeskModel", name := "isGroup", desc := "(I)Z" } : Jvm.MethodName) prog_14_method_7_code (2 : Nat) (Option.some Jvm.ClassFile.FieldType.boolean)) ∈ lw_all := lw_g (lw_at lw_m9 139 rfl) rfl
theorem q2140 : (Jvm.Cond.methodLink "PermissionDeskModel" (65 : Nat) ({ cls := "PermissionDeskModel", name := "has", desc := "(II)Z" } : Jvm.MethodName)) ∈ lw_all := lw_g (lw_at lw_m9 140 rfl) rfl
theorem q2141 : (Jvm.Cond.static ({ cls := "PermissionDeskModel", name := "has", desc := "(II)Z" } : Jvm.MethodName)) ∈ lw_all := lw_g (lw_at lw_m9 141 rfl) rfl
theorem q2142 : (Jvm.Cond.code ({ cls := "PermissionDeskModel", name := "has", desc := "(II)Z" } : Jvm.MethodName) prog_14_method_16_code (2 : Nat) (Option.some Jvm.ClassFile.FieldType.boolean)) ∈ lw_all := lw_g (lw_at lw_m9 142 rfl) rfl
theorem q2143 : (Jvm.Cond.methodLink "PermissionDeskModel" (88 : Nat) ({ cls := "PermissionDeskModel", name := "howMany", desc := "(I)I" } : Jvm.MethodName)) ∈ lw_all := lw_g (lw_at lw_m9 143 rfl) rfl
theorem q2144 : (Jvm.Cond.privateMethod ({ cls := "PermissionDeskModel", name := "howMany", desc := "(I)I" } : Jvm.MethodName)) ∈ lw_tbl := lw_at lw_m9 144 rfl
theorem q2145 : (Jvm.Cond.instanceMethod ({ cls := "PermissionDeskModel", name := "howMany", desc := "(I)I" } : Jvm.MethodName)) ∈ lw_all := lw_g (lw_at lw_m9 145 rfl) rfl
theorem q2146 : (Jvm.Cond.code ({ cls := "PermissionDeskModel", name := "howMany", desc := "(I)I" } : Jvm.MethodName) prog_14_method_20_code (4 : Nat) (Option.some Jvm.ClassFile.FieldType.int)) ∈ lw_all := lw_g (lw_at lw_m9 146 rfl) rfl
theorem q2147 : (Jvm.Cond.methodLink "PermissionDeskModel" (73 : Nat) ({ cls := "PermissionDeskModel", name := "isOf", desc := "(II)Z" } : Jvm.MethodName)) ∈ lw_all := lw_g (lw_at lw_m9 147 rfl) rfl
theorem q2148 : (Jvm.Cond.privateMethod ({ cls := "PermissionDeskModel", name := "isOf", desc := "(II)Z" } : Jvm.MethodName)) ∈ lw_tbl := lw_at lw_m9 148 rfl
theorem q2149 : (Jvm.Cond.instanceMethod ({ cls := "PermissionDeskModel", name := "isOf", desc := "(II)Z" } : Jvm.MethodName)) ∈ lw_all := lw_g (lw_at lw_m9 149 rfl) rfl
theorem q2150 : (Jvm.Cond.code ({ cls := "PermissionDeskModel", name := "isOf", desc := "(II)Z" } : Jvm.MethodName) prog_14_method_19_code (5 : Nat) (Option.some Jvm.ClassFile.FieldType.boolean)) ∈ lw_all := lw_g (lw_at lw_m9 150 rfl) rfl
theorem q2151 : (Jvm.Cond.methodLink "PermissionDeskModel" (69 : Nat) ({ cls := "PermissionDeskModel", name := "outers", desc := "(I)I" } : Jvm.MethodName)) ∈ lw_all := lw_g (lw_at lw_m9 151 rfl) rfl
theorem q2152 : (Jvm.Cond.privateMethod ({ cls := "PermissionDeskModel", name := "outers", desc := "(I)I" } : Jvm.MethodName)) ∈ lw_tbl := lw_at lw_m9 152 rfl
theorem q2153 : (Jvm.Cond.instanceMethod ({ cls := "PermissionDeskModel", name := "outers", desc := "(I)I" } : Jvm.MethodName)) ∈ lw_all := lw_g (lw_at lw_m9 153 rfl) rfl
theorem q2154 : (Jvm.Cond.code ({ cls := "PermissionDeskModel", name := "outers", desc := "(I)I" } : Jvm.MethodName) prog_14_method_18_code (5 : Nat) (Option.some Jvm.ClassFile.FieldType.int)) ∈ lw_all := lw_g (lw_at lw_m9 154 rfl) rfl
theorem q2156 : (Jvm.Cond.instanceMethod ({ cls := "PermissionDeskModel", name := "leave", desc := "(II)I" } : Jvm.MethodName)) ∈ lw_all := lw_g (lw_at lw_m9 156 rfl) rfl
theorem q2157 : (Jvm.Cond.selects "PermissionDeskModel" ({ cls := "PermissionDeskModel", name := "leave", desc := "(II)I" } : Jvm.MethodName) ({ cls := "PermissionDeskModel", name := "leave", desc := "(II)I" } : Jvm.MethodName)) ∈ lw_all := lw_g (lw_at lw_m9 157 rfl) rfl
theorem q2158 : (Jvm.Cond.code ({ cls := "PermissionDeskModel", name := "leave", desc := "(II)I" } : Jvm.MethodName) prog_14_method_24_code (3 : Nat) (Option.some Jvm.ClassFile.FieldType.int)) ∈ lw_all := lw_g (lw_at lw_m9 158 rfl) rfl
theorem q2160 : (Jvm.Cond.instanceMethod ({ cls := "PermissionDeskModel", name := "nest", desc := "(II)I" } : Jvm.MethodName)) ∈ lw_all := lw_g (lw_at lw_m9 160 rfl) rfl
theorem q2161 : (Jvm.Cond.selects "PermissionDeskModel" ({ cls := "PermissionDeskModel", name := "nest", desc := "(II)I" } : Jvm.MethodName) ({ cls := "PermissionDeskModel", name := "nest", desc := "(II)I" } : Jvm.MethodName)) ∈ lw_all := lw_g (lw_at lw_m9 161 rfl) rfl
theorem q2162 : (Jvm.Cond.code ({ cls := "PermissionDeskModel", name := "nest", desc := "(II)I" } : Jvm.MethodName) prog_14_method_25_code (3 : Nat) (Option.some Jvm.ClassFile.FieldType.int)) ∈ lw_all := lw_g (lw_at lw_m9 162 rfl) rfl
theorem q2164 : (Jvm.Cond.instanceMethod ({ cls := "PermissionDeskModel", name := "unnest", desc := "(II)I" } : Jvm.MethodName)) ∈ lw_all := lw_g (lw_at lw_m9 164 rfl) rfl
theorem q2165 : (Jvm.Cond.selects "PermissionDeskModel" ({ cls := "PermissionDeskModel", name := "unnest", desc := "(II)I" } : Jvm.MethodName) ({ cls := "PermissionDeskModel", name := "unnest", desc := "(II)I" } : Jvm.MethodName)) ∈ lw_all := lw_g (lw_at lw_m9 165 rfl) rfl
theorem q2166 : (Jvm.Cond.code ({ cls := "PermissionDeskModel", name := "unnest", desc := "(II)I" } : Jvm.MethodName) prog_14_method_26_code (3 : Nat) (Option.some Jvm.ClassFile.FieldType.int)) ∈ lw_all := lw_g (lw_at lw_m9 166 rfl) rfl
theorem q2168 : (Jvm.Cond.instanceMethod ({ cls := "PermissionDeskModel", name := "make", desc := "(II)I" } : Jvm.MethodName)) ∈ lw_all := lw_g (lw_at lw_m9 168 rfl) rfl
theorem q2169 : (Jvm.Cond.selects "PermissionDeskModel" ({ cls := "PermissionDeskModel", name := "make", desc := "(II)I" } : Jvm.MethodName) ({ cls := "PermissionDeskModel", name := "make", desc := "(II)I" } : Jvm.MethodName)) ∈ lw_all := lw_g (lw_at lw_m9 169 rfl) rfl
theorem q2170 : (Jvm.Cond.code ({ cls := "PermissionDeskModel", name := "make", desc := "(II)I" } : Jvm.MethodName) prog_14_method_31_code (4 : Nat) (Option.some Jvm.ClassFile.FieldType.int)) ∈ lw_all := lw_g (lw_at lw_m9 170 rfl) rfl
theorem q2171 : (Jvm.Cond.methodLink "PermissionDeskModel" (57 : Nat) ({ cls := "PermissionDeskModel", name := "isObject", desc := "(I)Z" } : Jvm.MethodName)) ∈ lw_all := lw_g (lw_at lw_m9 171 rfl) rfl
theorem q2172 : (Jvm.Cond.privateMethod ({ cls := "PermissionDeskModel", name := "isObject", desc := "(I)Z" } : Jvm.MethodName)) ∈ lw_tbl := lw_at lw_m9 172 rfl
theorem q2173 : (Jvm.Cond.instanceMethod ({ cls := "PermissionDeskModel", name := "isObject", desc := "(I)Z" } : Jvm.MethodName)) ∈ lw_all := lw_g (lw_at lw_m9 173 rfl) rfl
theorem q2174 : (Jvm.Cond.code ({ cls := "PermissionDeskModel", name := "isObject", desc := "(I)Z" } : Jvm.MethodName) prog_14_method_10_code (2 : Nat) (Option.some Jvm.ClassFile.FieldType.boolean)) ∈ lw_all := lw_g (lw_at lw_m9 174 rfl) rfl
theorem q2175 : (Jvm.Cond.methodLink "PermissionDeskModel" (54 : Nat) ({ cls := "PermissionDeskModel", name := "of", desc := "(II)I" } : Jvm.MethodName)) ∈ lw_all := lw_g (lw_at lw_m9 175 rfl) rfl
theorem q2176 : (Jvm.Cond.privateMethod ({ cls := "PermissionDeskModel", name := "of", desc := "(II)I" } : Jvm.MethodName)) ∈ lw_tbl := lw_at lw_m9 176 rfl
theorem q2177 : (Jvm.Cond.instanceMethod ({ cls := "PermissionDeskModel", name := "of", desc := "(II)I" } : Jvm.MethodName)) ∈ lw_all := lw_g (lw_at lw_m9 177 rfl) rfl
theorem q2178 : (Jvm.Cond.code ({ cls := "PermissionDeskModel", name := "of", desc := "(II)I" } : Jvm.MethodName) prog_14_method_9_code (3 : Nat) (Option.some Jvm.ClassFile.FieldType.int)) ∈ lw_all := lw_g (lw_at lw_m9 178 rfl) rfl
theorem q2179 : (Jvm.Cond.methodLink "PermissionDeskModel" (94 : Nat) ({ cls := "PermissionDeskModel", name := "howManyObjects", desc := "()I" } : Jvm.MethodName)) ∈ lw_all := lw_g (lw_at lw_m9 179 rfl) rfl
theorem q2180 : (Jvm.Cond.privateMethod ({ cls := "PermissionDeskModel", name := "howManyObjects", desc := "()I" } : Jvm.MethodName)) ∈ lw_tbl := lw_at lw_m9 180 rfl
theorem q2181 : (Jvm.Cond.instanceMethod ({ cls := "PermissionDeskModel", name := "howManyObjects", desc := "()I" } : Jvm.MethodName)) ∈ lw_all := lw_g (lw_at lw_m9 181 rfl) rfl
theorem q2182 : (Jvm.Cond.code ({ cls := "PermissionDeskModel", name := "howManyObjects", desc := "()I" } : Jvm.MethodName) prog_14_method_28_code (3 : Nat) (Option.some Jvm.ClassFile.FieldType.int)) ∈ lw_all := lw_g (lw_at lw_m9 182 rfl) rfl
theorem q2184 : (Jvm.Cond.instanceMethod ({ cls := "PermissionDeskModel", name := "remove", desc := "(I)I" } : Jvm.MethodName)) ∈ lw_all := lw_g (lw_at lw_m9 184 rfl) rfl
theorem q2185 : (Jvm.Cond.selects "PermissionDeskModel" ({ cls := "PermissionDeskModel", name := "remove", desc := "(I)I" } : Jvm.MethodName) ({ cls := "PermissionDeskModel", name := "remove", desc := "(I)I" } : Jvm.MethodName)) ∈ lw_all := lw_g (lw_at lw_m9 185 rfl) rfl
theorem q2186 : (Jvm.Cond.code ({ cls := "PermissionDeskModel", name := "remove", desc := "(I)I" } : Jvm.MethodName) prog_14_method_32_code (3 : Nat) (Option.some Jvm.ClassFile.FieldType.int)) ∈ lw_all := lw_g (lw_at lw_m9 186 rfl) rfl
theorem q2187 : (Jvm.Cond.methodLink "PermissionDeskModel" (98 : Nat) ({ cls := "PermissionDeskModel", name := "belows", desc := "(I)I" } : Jvm.MethodName)) ∈ lw_all := lw_g (lw_at lw_m9 187 rfl) rfl
theorem q2188 : (Jvm.Cond.privateMethod ({ cls := "PermissionDeskModel", name := "belows", desc := "(I)I" } : Jvm.MethodName)) ∈ lw_tbl := lw_at lw_m9 188 rfl
theorem q2189 : (Jvm.Cond.instanceMethod ({ cls := "PermissionDeskModel", name := "belows", desc := "(I)I" } : Jvm.MethodName)) ∈ lw_all := lw_g (lw_at lw_m9 189 rfl) rfl
theorem q2190 : (Jvm.Cond.code ({ cls := "PermissionDeskModel", name := "belows", desc := "(I)I" } : Jvm.MethodName) prog_14_method_30_code (4 : Nat) (Option.some Jvm.ClassFile.FieldType.int)) ∈ lw_all := lw_g (lw_at lw_m9 190 rfl) rfl
theorem q2191 : (Jvm.Cond.methodLink "PermissionDeskModel" (91 : Nat) ({ cls := "PermissionDeskModel", name := "isBelow", desc := "(II)Z" } : Jvm.MethodName)) ∈ lw_all := lw_g (lw_at lw_m9 191 rfl) rfl
theorem q2192 : (Jvm.Cond.privateMethod ({ cls := "PermissionDeskModel", name := "isBelow", desc := "(II)Z" } : Jvm.MethodName)) ∈ lw_tbl := lw_at lw_m9 192 rfl
theorem q2193 : (Jvm.Cond.instanceMethod ({ cls := "PermissionDeskModel", name := "isBelow", desc := "(II)Z" } : Jvm.MethodName)) ∈ lw_all := lw_g (lw_at lw_m9 193 rfl) rfl
theorem q2194 : (Jvm.Cond.code ({ cls := "PermissionDeskModel", name := "isBelow", desc := "(II)Z" } : Jvm.MethodName) prog_14_method_29_code (4 : Nat) (Option.some Jvm.ClassFile.FieldType.boolean)) ∈ lw_all := lw_g (lw_at lw_m9 194 rfl) rfl
theorem q2196 : (Jvm.Cond.instanceMethod ({ cls := "PermissionDeskModel", name := "move", desc := "(II)I" } : Jvm.MethodName)) ∈ lw_all := lw_g (lw_at lw_m9 196 rfl) rfl
theorem q2197 : (Jvm.Cond.selects "PermissionDeskModel" ({ cls := "PermissionDeskModel", name := "move", desc := "(II)I" } : Jvm.MethodName) ({ cls := "PermissionDeskModel", name := "move", desc := "(II)I" } : Jvm.MethodName)) ∈ lw_all := lw_g (lw_at lw_m9 197 rfl) rfl
theorem q2198 : (Jvm.Cond.code ({ cls := "PermissionDeskModel", name := "move", desc := "(II)I" } : Jvm.MethodName) prog_14_method_33_code (4 : Nat) (Option.some Jvm.ClassFile.FieldType.int)) ∈ lw_all := lw_g (lw_at lw_m9 198 rfl) rfl
theorem q2200 : (Jvm.Cond.instanceMethod ({ cls := "PermissionDeskModel", name := "giveTo", desc := "(II)I" } : Jvm.MethodName)) ∈ lw_all := lw_g (lw_at lw_m9 200 rfl) rfl
theorem q2201 : (Jvm.Cond.selects "PermissionDeskModel" ({ cls := "PermissionDeskModel", name := "giveTo", desc := "(II)I" } : Jvm.MethodName) ({ cls := "PermissionDeskModel", name := "giveTo", desc := "(II)I" } : Jvm.MethodName)) ∈ lw_all := lw_g (lw_at lw_m9 201 rfl) rfl
theorem q2202 : (Jvm.Cond.code ({ cls := "PermissionDeskModel", name := "giveTo", desc := "(II)I" } : Jvm.MethodName) prog_14_method_34_code (4 : Nat) (Option.some Jvm.ClassFile.FieldType.int)) ∈ lw_all := lw_g (lw_at lw_m9 202 rfl) rfl
theorem q2204 : (Jvm.Cond.instanceMethod ({ cls := "PermissionDeskModel", name := "setMask", desc := "(II)I" } : Jvm.MethodName)) ∈ lw_all := lw_g (lw_at lw_m9 204 rfl) rfl
theorem q2205 : (Jvm.Cond.selects "PermissionDeskModel" ({ cls := "PermissionDeskModel", name := "setMask", desc := "(II)I" } : Jvm.MethodName) ({ cls := "PermissionDeskModel", name := "setMask", desc := "(II)I" } : Jvm.MethodName)) ∈ lw_all := lw_g (lw_at lw_m9 205 rfl) rfl
theorem q2206 : (Jvm.Cond.code ({ cls := "PermissionDeskModel", name := "setMask", desc := "(II)I" } : Jvm.MethodName) prog_14_method_35_code (4 : Nat) (Option.some Jvm.ClassFile.FieldType.int)) ∈ lw_all := lw_g (lw_at lw_m9 206 rfl) rfl
theorem q2208 : (Jvm.Cond.instanceMethod ({ cls := "PermissionDeskModel", name := "setInheriting", desc := "(IZ)Z" } : Jvm.MethodName)) ∈ lw_all := lw_g (lw_at lw_m9 208 rfl) rfl
theorem q2209 : (Jvm.Cond.selects "PermissionDeskModel" ({ cls := "PermissionDeskModel", name := "setInheriting", desc := "(IZ)Z" } : Jvm.MethodName) ({ cls := "PermissionDeskModel", name := "setInheriting", desc := "(IZ)Z" } : Jvm.MethodName)) ∈ lw_all := lw_g (lw_at lw_m9 209 rfl) rfl
theorem q2210 : (Jvm.Cond.code ({ cls := "PermissionDeskModel", name := "setInheriting", desc := "(IZ)Z" } : Jvm.MethodName) prog_14_method_36_code (4 : Nat) (Option.some Jvm.ClassFile.FieldType.boolean)) ∈ lw_all := lw_g (lw_at lw_m9 210 rfl) rfl
theorem q2212 : (Jvm.Cond.instanceMethod ({ cls := "PermissionDeskModel", name := "addForUser", desc := "(IIIZZ)I" } : Jvm.MethodName)) ∈ lw_all := lw_g (lw_at lw_m9 212 rfl) rfl
theorem q2213 : (Jvm.Cond.selects "PermissionDeskModel" ({ cls := "PermissionDeskModel", name := "addForUser", desc := "(IIIZZ)I" } : Jvm.MethodName) ({ cls := "PermissionDeskModel", name := "addForUser", desc := "(IIIZZ)I" } : Jvm.MethodName)) ∈ lw_all := lw_g (lw_at lw_m9 213 rfl) rfl
theorem q2214 : (Jvm.Cond.code ({ cls := "PermissionDeskModel", name := "addForUser", desc := "(IIIZZ)I" } : Jvm.MethodName) prog_14_method_41_code (6 : Nat) (Option.some Jvm.ClassFile.FieldType.int)) ∈ lw_all := lw_g (lw_at lw_m9 214 rfl) rfl
theorem q2215 : (Jvm.Cond.methodLink "PermissionDeskModel" (108 : Nat) ({ cls := "PermissionDeskModel", name := "adds", desc := "(IIIIZZ)I" } : Jvm.MethodName)) ∈ lw_all := lw_g (lw_at lw_m9 215 rfl) rfl
theorem q2216 : (Jvm.Cond.privateMethod ({ cls := "PermissionDeskModel", name := "adds", desc := "(IIIIZZ)I" } : Jvm.MethodName)) ∈ lw_tbl := lw_at lw_m9 216 rfl
theorem q2217 : (Jvm.Cond.instanceMethod ({ cls := "PermissionDeskModel", name := "adds", desc := "(IIIIZZ)I" } : Jvm.MethodName)) ∈ lw_all := lw_g (lw_at lw_m9 217 rfl) rfl
theorem q2218 : (Jvm.Cond.code ({ cls := "PermissionDeskModel", name := "adds", desc := "(IIIIZZ)I" } : Jvm.MethodName) prog_14_method_40_code (8 : Nat) (Option.some Jvm.ClassFile.FieldType.int)) ∈ lw_all := lw_g (lw_at lw_m9 218 rfl) rfl
theorem q2219 : (Jvm.Cond.methodLink "PermissionDeskModel" (101 : Nat) ({ cls := "PermissionDeskModel", name := "areRights", desc := "(I)Z" } : Jvm.MethodName)) ∈ lw_all := lw_g (lw_at lw_m9 219 rfl) rfl
theorem q2220 : (Jvm.Cond.static ({ cls := "PermissionDeskModel", name := "areRights", desc := "(I)Z" } : Jvm.MethodName)) ∈ lw_all := lw_g (lw_at lw_m9 220 rfl) rfl
theorem q2221 : (Jvm.Cond.code ({ cls := "PermissionDeskModel", name := "areRights", desc := "(I)Z" } : Jvm.MethodName) prog_14_method_15_code (1 : Nat) (Option.some Jvm.ClassFile.FieldType.boolean)) ∈ lw_all := lw_g (lw_at lw_m9 221 rfl) rfl
theorem q2222 : (Jvm.Cond.methodLink "PermissionDeskModel" (104 : Nat) ({ cls := "PermissionDeskModel", name := "writes", desc := "(IIIIIZZ)V" } : Jvm.MethodName)) ∈ lw_all := lw_g (lw_at lw_m9 222 rfl) rfl
theorem q2223 : (Jvm.Cond.privateMethod ({ cls := "PermissionDeskModel", name := "writes", desc := "(IIIIIZZ)V" } : Jvm.MethodName)) ∈ lw_tbl := lw_at lw_m9 223 rfl
theorem q2224 : (Jvm.Cond.instanceMethod ({ cls := "PermissionDeskModel", name := "writes", desc := "(IIIIIZZ)V" } : Jvm.MethodName)) ∈ lw_all := lw_g (lw_at lw_m9 224 rfl) rfl
theorem q2225 : (Jvm.Cond.code ({ cls := "PermissionDeskModel", name := "writes", desc := "(IIIIIZZ)V" } : Jvm.MethodName) prog_14_method_39_code (8 : Nat) (Option.none : Option Jvm.ClassFile.FieldType)) ∈ lw_all := lw_g (lw_at lw_m9 225 rfl) rfl
theorem q2226 : (Jvm.Cond.methodLink "PermissionDeskModel" (61 : Nat) ({ cls := "PermissionDeskModel", name := "entryAt", desc := "(III)I" } : Jvm.MethodName)) ∈ lw_all := lw_g (lw_at lw_m9 226 rfl) rfl
theorem q2227 : (Jvm.Cond.static ({ cls := "PermissionDeskModel", name := "entryAt", desc := "(III)I" } : Jvm.MethodName)) ∈ lw_all := lw_g (lw_at lw_m9 227 rfl) rfl
theorem q2228 : (Jvm.Cond.code ({ cls := "PermissionDeskModel", name := "entryAt", desc := "(III)I" } : Jvm.MethodName) prog_14_method_12_code (3 : Nat) (Option.some Jvm.ClassFile.FieldType.int)) ∈ lw_all := lw_g (lw_at lw_m9 228 rfl) rfl
theorem q2230 : (Jvm.Cond.instanceMethod ({ cls := "PermissionDeskModel", name := "addForGroup", desc := "(IIIZZ)I" } : Jvm.MethodName)) ∈ lw_all := lw_g (lw_at lw_m9 230 rfl) rfl
theorem q2231 : (Jvm.Cond.selects "PermissionDeskModel" ({ cls := "PermissionDeskModel", name := "addForGroup", desc := "(IIIZZ)I" } : Jvm.MethodName) ({ cls := "PermissionDeskModel", name := "addForGroup", desc := "(IIIZZ)I" } : Jvm.MethodName)) ∈ lw_all := lw_g (lw_at lw_m9 231 rfl) rfl
theorem q2232 : (Jvm.Cond.code ({ cls := "PermissionDeskModel", name := "addForGroup", desc := "(IIIZZ)I" } : Jvm.MethodName) prog_14_method_42_code (6 : Nat) (Option.some Jvm.ClassFile.FieldType.int)) ∈ lw_all := lw_g (lw_at lw_m9 232 rfl) rfl
theorem q2234 : (Jvm.Cond.instanceMethod ({ cls := "PermissionDeskModel", name := "addForOwner", desc := "(IIZZ)I" } : Jvm.MethodName)) ∈ lw_all := lw_g (lw_at lw_m9 234 rfl) rfl
theorem q2235 : (Jvm.Cond.selects "PermissionDeskModel" ({ cls := "PermissionDeskModel", name := "addForOwner", desc := "(IIZZ)I" } : Jvm.MethodName) ({ cls := "PermissionDeskModel", name := "addForOwner", desc := "(IIZZ)I" } : Jvm.MethodName)) ∈ lw_all := lw_g (lw_at lw_m9 235 rfl) rfl
theorem q2236 : (Jvm.Cond.code ({ cls := "PermissionDeskModel", name := "addForOwner", desc := "(IIZZ)I" } : Jvm.MethodName) prog_14_method_43_code (5 : Nat) (Option.some Jvm.ClassFile.FieldType.int)) ∈ lw_all := lw_g (lw_at lw_m9 236 rfl) rfl
theorem q2238 : (Jvm.Cond.instanceMethod ({ cls := "PermissionDeskModel", name := "addForAll", desc := "(IIZZ)I" } : Jvm.MethodName)) ∈ lw_all := lw_g (lw_at lw_m9 238 rfl) rfl
theorem q2239 : (Jvm.Cond.selects "PermissionDeskModel" ({ cls := "PermissionDeskModel", name := "addForAll", desc := "(IIZZ)I" } : Jvm.MethodName) ({ cls := "PermissionDeskModel", name := "addForAll", desc := "(IIZZ)I" } : Jvm.MethodName)) ∈ lw_all := lw_g (lw_at lw_m9 239 rfl) rfl
theorem q2240 : (Jvm.Cond.code ({ cls := "PermissionDeskModel", name := "addForAll", desc := "(IIZZ)I" } : Jvm.MethodName) prog_14_method_44_code (5 : Nat) (Option.some Jvm.ClassFile.FieldType.int)) ∈ lw_all := lw_g (lw_at lw_m10 0 rfl) rfl
theorem q2242 : (Jvm.Cond.instanceMethod ({ cls := "PermissionDeskModel", name := "removeEntry", desc := "(II)I" } : Jvm.MethodName)) ∈ lw_all := lw_g (lw_at lw_m10 2 rfl) rfl
theorem q2243 : (Jvm.Cond.selects "PermissionDeskModel" ({ cls := "PermissionDeskModel", name := "removeEntry", desc := "(II)I" } : Jvm.MethodName) ({ cls := "PermissionDeskModel", name := "removeEntry", desc := "(II)I" } : Jvm.MethodName)) ∈ lw_all := lw_g (lw_at lw_m10 3 rfl) rfl
theorem q2244 : (Jvm.Cond.code ({ cls := "PermissionDeskModel", name := "removeEntry", desc := "(II)I" } : Jvm.MethodName) prog_14_method_45_code (3 : Nat) (Option.some Jvm.ClassFile.FieldType.int)) ∈ lw_all := lw_g (lw_at lw_m10 4 rfl) rfl
theorem q2245 : (Jvm.Cond.methodLink "PermissionDeskModel" (112 : Nat) ({ cls := "PermissionDeskModel", name := "isEntry", desc := "(II)Z" } : Jvm.MethodName)) ∈ lw_all := lw_g (lw_at lw_m10 5 rfl) rfl
theorem q2246 : (Jvm.Cond.privateMethod ({ cls := "PermissionDeskModel", name := "isEntry", desc := "(II)Z" } : Jvm.MethodName)) ∈ lw_tbl := lw_at lw_m10 6 rfl
theorem q2247 : (Jvm.Cond.instanceMethod ({ cls := "PermissionDeskModel", name := "isEntry", desc := "(II)Z" } : Jvm.MethodName)) ∈ lw_all := lw_g (lw_at lw_m10 7 rfl) rfl
theorem q2248 : (Jvm.Cond.code ({ cls := "PermissionDeskModel", name := "isEntry", desc := "(II)Z" } : Jvm.MethodName) prog_14_method_11_code (3 : Nat) (Option.some Jvm.ClassFile.FieldType.boolean)) ∈ lw_all := lw_g (lw_at lw_m10 8 rfl) rfl
theorem q2249 : (Jvm.Cond.methodLink "PermissionDeskModel" (115 : Nat) ({ cls := "PermissionDeskModel", name := "takesOut", desc := "(II)V" } : Jvm.MethodName)) ∈ lw_all := lw_g (lw_at lw_m10 9 rfl) rfl
theorem q2250 : (Jvm.Cond.privateMethod ({ cls := "PermissionDeskModel", name := "takesOut", desc := "(II)V" } : Jvm.MethodName)) ∈ lw_tbl := lw_at lw_m10 10 rfl
theorem q2251 : (Jvm.Cond.instanceMethod ({ cls := "PermissionDeskModel", name := "takesOut", desc := "(II)V" } : Jvm.MethodName)) ∈ lw_all := lw_g (lw_at lw_m10 11 rfl) rfl
theorem q2252 : (Jvm.Cond.code ({ cls := "PermissionDeskModel", name := "takesOut", desc := "(II)V" } : Jvm.MethodName) prog_14_method_37_code (4 : Nat) (Option.none : Option Jvm.ClassFile.FieldType)) ∈ lw_all := lw_g (lw_at lw_m10 12 rfl) rfl
theorem q2254 : (Jvm.Cond.instanceMethod ({ cls := "PermissionDeskModel", name := "moveEntry", desc := "(III)I" } : Jvm.MethodName)) ∈ lw_all := lw_g (lw_at lw_m10 14 rfl) rfl
theorem q2255 : (Jvm.Cond.selects "PermissionDeskModel" ({ cls := "PermissionDeskModel", name := "moveEntry", desc := "(III)I" } : Jvm.MethodName) ({ cls := "PermissionDeskModel", name := "moveEntry", desc := "(III)I" } : Jvm.MethodName)) ∈ lw_all := lw_g (lw_at lw_m10 15 rfl) rfl
theorem q2256 : (Jvm.Cond.code ({ cls := "PermissionDeskModel", name := "moveEntry", desc := "(III)I" } : Jvm.MethodName) prog_14_method_50_code (4 : Nat) (Option.some Jvm.ClassFile.FieldType.int)) ∈ lw_all := lw_g (lw_at lw_m10 16 rfl) rfl
theorem q2257 : (Jvm.Cond.methodLink "PermissionDeskModel" (128 : Nat) ({ cls := "PermissionDeskModel", name := "notes", desc := "()V" } : Jvm.MethodName)) ∈ lw_all := lw_g (lw_at lw_m10 17 rfl) rfl
theorem q2258 : (Jvm.Cond.privateMethod ({ cls := "PermissionDeskModel", name := "notes", desc := "()V" } : Jvm.MethodName)) ∈ lw_tbl := lw_at lw_m10 18 rfl
theorem q2259 : (Jvm.Cond.instanceMethod ({ cls := "PermissionDeskModel", name := "notes", desc := "()V" } : Jvm.MethodName)) ∈ lw_all := lw_g (lw_at lw_m10 19 rfl) rfl
theorem q2260 : (Jvm.Cond.code ({ cls := "PermissionDeskModel", name := "notes", desc := "()V" } : Jvm.MethodName) prog_14_method_46_code (2 : Nat) (Option.none : Option Jvm.ClassFile.FieldType)) ∈ lw_all := lw_g (lw_at lw_m10 20 rfl) rfl
theorem q2261 : (Jvm.Cond.methodLink "PermissionDeskModel" (119 : Nat) ({ cls := "PermissionDeskModel", name := "rights", desc := "(II)I" } : Jvm.MethodName)) ∈ lw_all := lw_g (lw_at lw_m10 21 rfl) rfl
theorem q2262 : (Jvm.Cond.privateMethod ({ cls := "PermissionDeskModel", name := "rights", desc := "(II)I" } : Jvm.MethodName)) ∈ lw_tbl := lw_at lw_m10 22 rfl
theorem q2263 : (Jvm.Cond.instanceMethod ({ cls := "PermissionDeskModel", name := "rights", desc := "(II)I" } : Jvm.MethodName)) ∈ lw_all := lw_g (lw_at lw_m10 23 rfl) rfl
theorem q2264 : (Jvm.Cond.code ({ cls := "PermissionDeskModel", name := "rights", desc := "(II)I" } : Jvm.MethodName) prog_14_method_55_code (5 : Nat) (Option.some Jvm.ClassFile.FieldType.int)) ∈ lw_all := lw_g (lw_at lw_m10 24 rfl) rfl
theorem q2265 : (Jvm.Cond.methodLink "PermissionDeskModel" (150 : Nat) ({ cls := "PermissionDeskModel", name := "allows", desc := "(III)Z" } : Jvm.MethodName)) ∈ lw_all := lw_g (lw_at lw_m10 25 rfl) rfl
theorem q2266 : (Jvm.Cond.privateMethod ({ cls := "PermissionDeskModel", name := "allows", desc := "(III)Z" } : Jvm.MethodName)) ∈ lw_tbl := lw_at lw_m10 26 rfl
theorem q2267 : (Jvm.Cond.instanceMethod ({ cls := "PermissionDeskModel", name := "allows", desc := "(III)Z" } : Jvm.MethodName)) ∈ lw_all := lw_g (lw_at lw_m10 27 rfl) rfl
theorem q2268 : (Jvm.Cond.code ({ cls := "PermissionDeskModel", name := "allows", desc := "(III)Z" } : Jvm.MethodName) prog_14_method_54_code (4 : Nat) (Option.some Jvm.ClassFile.FieldType.boolean)) ∈ lw_all := lw_g (lw_at lw_m10 28 rfl) rfl
theorem q2269 : (Jvm.Cond.methodLink "PermissionDeskModel" (147 : Nat) ({ cls := "PermissionDeskModel", name := "isByList", desc := "(III)Z" } : Jvm.MethodName)) ∈ lw_all := lw_g (lw_at lw_m10 29 rfl) rfl
theorem q2270 : (Jvm.Cond.privateMethod ({ cls := "PermissionDeskModel", name := "isByList", desc := "(III)Z" } : Jvm.MethodName)) ∈ lw_tbl := lw_at lw_m10 30 rfl
theorem q2271 : (Jvm.Cond.instanceMethod ({ cls := "PermissionDeskModel", name := "isByList", desc := "(III)Z" } : Jvm.MethodName)) ∈ lw_all := lw_g (lw_at lw_m10 31 rfl) rfl
theorem q2272 : (Jvm.Cond.code ({ cls := "PermissionDeskModel", name := "isByList", desc := "(III)Z" } : Jvm.MethodName) prog_14_method_53_code (5 : Nat) (Option.some Jvm.ClassFile.FieldType.boolean)) ∈ lw_all := lw_g (lw_at lw_m10 32 rfl) rfl
theorem q2273 : (Jvm.Cond.methodLink "PermissionDeskModel" (144 : Nat) ({ cls := "PermissionDeskModel", name := "decides", desc := "(III)I" } : Jvm.MethodName)) ∈ lw_all := lw_g (lw_at lw_m10 33 rfl) rfl
theorem q2274 : (Jvm.Cond.privateMethod ({ cls := "PermissionDeskModel", name := "decides", desc := "(III)I" } : Jvm.MethodName)) ∈ lw_tbl := lw_at lw_m10 34 rfl
theorem q2275 : (Jvm.Cond.instanceMethod ({ cls := "PermissionDeskModel", name := "decides", desc := "(III)I" } : Jvm.MethodName)) ∈ lw_all := lw_g (lw_at lw_m10 35 rfl) rfl
theorem q2276 : (Jvm.Cond.code ({ cls := "PermissionDeskModel", name := "decides", desc := "(III)I" } : Jvm.MethodName) prog_14_method_52_code (7 : Nat) (Option.some Jvm.ClassFile.FieldType.int)) ∈ lw_all := lw_g (lw_at lw_m10 36 rfl) rfl
theorem q2277 : (Jvm.Cond.methodLink "PermissionDeskModel" (122 : Nat) ({ cls := "PermissionDeskModel", name := "ofEntry", desc := "(III)I" } : Jvm.MethodName)) ∈ lw_all := lw_g (lw_at lw_m10 37 rfl) rfl
theorem q2278 : (Jvm.Cond.privateMethod ({ cls := "PermissionDeskModel", name := "ofEntry", desc := "(III)I" } : Jvm.MethodName)) ∈ lw_tbl := lw_at lw_m10 38 rfl
theorem q2279 : (Jvm.Cond.instanceMethod ({ cls := "PermissionDeskModel", name := "ofEntry", desc := "(III)I" } : Jvm.MethodName)) ∈ lw_all := lw_g (lw_at lw_m10 39 rfl) rfl
theorem q2280 : (Jvm.Cond.code ({ cls := "PermissionDeskModel", name := "ofEntry", desc := "(III)I" } : Jvm.MethodName) prog_14_method_13_code (4 : Nat) (Option.some Jvm.ClassFile.FieldType.int)) ∈ lw_all := lw_g (lw_at lw_m10 40 rfl) rfl
theorem q2281 : (Jvm.Cond.methodLink "PermissionDeskModel" (140 : Nat) ({ cls := "PermissionDeskModel", name := "isFor", desc := "(IIII)Z" } : Jvm.MethodName)) ∈ lw_all := lw_g (lw_at lw_m10 41 rfl) rfl
theorem q2282 : (Jvm.Cond.privateMethod ({ cls := "PermissionDeskModel", name := "isFor", desc := "(IIII)Z" } : Jvm.MethodName)) ∈ lw_tbl := lw_at lw_m10 42 rfl
theorem q2283 : (Jvm.Cond.instanceMethod ({ cls := "PermissionDeskModel", name := "isFor", desc := "(IIII)Z" } : Jvm.MethodName)) ∈ lw_all := lw_g (lw_at lw_m10 43 rfl) rfl
theorem q2284 : (Jvm.Cond.code ({ cls := "PermissionDeskModel", name := "isFor", desc := "(IIII)Z" } : Jvm.MethodName) prog_14_method_51_code (6 : Nat) (Option.some Jvm.ClassFile.FieldType.boolean)) ∈ lw_all := lw_g (lw_at lw_m10 44 rfl) rfl
theorem q2285 : (Jvm.Cond.methodLink "PermissionDeskModel" (131 : Nat) ({ cls := "PermissionDeskModel", name := "keepsOne", desc := "(II)V" } : Jvm.MethodName)) ∈ lw_all := lw_g (lw_at lw_m10 45 rfl) rfl
theorem q2286 : (Jvm.Cond.privateMethod ({ cls := "PermissionDeskModel", name := "keepsOne", desc := "(II)V" } : Jvm.MethodName)) ∈ lw_tbl := lw_at lw_m10 46 rfl
theorem q2287 : (Jvm.Cond.instanceMethod ({ cls := "PermissionDeskModel", name := "keepsOne", desc := "(II)V" } : Jvm.MethodName)) ∈ lw_all := lw_g (lw_at lw_m10 47 rfl) rfl
theorem q2288 : (Jvm.Cond.code ({ cls := "PermissionDeskModel", name := "keepsOne", desc := "(II)V" } : Jvm.MethodName) prog_14_method_48_code (4 : Nat) (Option.none : Option Jvm.ClassFile.FieldType)) ∈ lw_all := lw_g (lw_at lw_m10 48 rfl) rfl
theorem q2289 : (Jvm.Cond.methodLink "PermissionDeskModel" (134 : Nat) ({ cls := "PermissionDeskModel", name := "putsOne", desc := "(II)V" } : Jvm.MethodName)) ∈ lw_all := lw_g (lw_at lw_m10 49 rfl) rfl
theorem q2290 : (Jvm.Cond.privateMethod ({ cls := "PermissionDeskModel", name := "putsOne", desc := "(II)V" } : Jvm.MethodName)) ∈ lw_tbl := lw_at lw_m10 50 rfl
theorem q2291 : (Jvm.Cond.instanceMethod ({ cls := "PermissionDeskModel", name := "putsOne", desc := "(II)V" } : Jvm.MethodName)) ∈ lw_all := lw_g (lw_at lw_m10 51 rfl) rfl
theorem q2292 : (Jvm.Cond.code ({ cls := "PermissionDeskModel", name := "putsOne", desc := "(II)V" } : Jvm.MethodName) prog_14_method_49_code (4 : Nat) (Option.none : Option Jvm.ClassFile.FieldType)) ∈ lw_all := lw_g (lw_at lw_m10 52 rfl) rfl
theorem q2293 : (Jvm.Cond.methodLink "PermissionDeskModel" (125 : Nat) ({ cls := "PermissionDeskModel", name := "opens", desc := "(II)V" } : Jvm.MethodName)) ∈ lw_all := lw_g (lw_at lw_m10 53 rfl) rfl
theorem q2294 : (Jvm.Cond.privateMethod ({ cls := "PermissionDeskModel", name := "opens", desc := "(II)V" } : Jvm.MethodName)) ∈ lw_tbl := lw_at lw_m10 54 rfl
theorem q2295 : (Jvm.Cond.instanceMethod ({ cls := "PermissionDeskModel", name := "opens", desc := "(II)V" } : Jvm.MethodName)) ∈ lw_all := lw_g (lw_at lw_m10 55 rfl) rfl
theorem q2296 : (Jvm.Cond.code ({ cls := "PermissionDeskModel", name := "opens", desc := "(II)V" } : Jvm.MethodName) prog_14_method_38_code (4 : Nat) (Option.none : Option Jvm.ClassFile.FieldType)) ∈ lw_all := lw_g (lw_at lw_m10 56 rfl) rfl
theorem q2297 : (Jvm.Cond.methodLink "PermissionDeskModel" (137 : Nat) ({ cls := "PermissionDeskModel", name := "unlike", desc := "()I" } : Jvm.MethodName)) ∈ lw_all := lw_g (lw_at lw_m10 57 rfl) rfl
theorem q2298 : (Jvm.Cond.privateMethod ({ cls := "PermissionDeskModel", name := "unlike", desc := "()I" } : Jvm.MethodName)) ∈ lw_tbl := lw_at lw_m10 58 rfl
theorem q2299 : (Jvm.Cond.instanceMethod ({ cls := "PermissionDeskModel", name := "unlike", desc := "()I" } : Jvm.MethodName)) ∈ lw_all := lw_g (lw_at lw_m10 59 rfl) rfl
theorem q2300 : (Jvm.Cond.code ({ cls := "PermissionDeskModel", name := "unlike", desc := "()I" } : Jvm.MethodName) prog_14_method_47_code (5 : Nat) (Option.some Jvm.ClassFile.FieldType.int)) ∈ lw_all := lw_g (lw_at lw_m10 60 rfl) rfl
theorem q2302 : (Jvm.Cond.instanceMethod ({ cls := "PermissionDeskModel", name := "ask", desc := "(III)Z" } : Jvm.MethodName)) ∈ lw_all := lw_g (lw_at lw_m10 62 rfl) rfl
theorem q2303 : (Jvm.Cond.selects "PermissionDeskModel" ({ cls := "PermissionDeskModel", name := "ask", desc := "(III)Z" } : Jvm.MethodName) ({ cls := "PermissionDeskModel", name := "ask", desc := "(III)Z" } : Jvm.MethodName)) ∈ lw_all := lw_g (lw_at lw_m10 63 rfl) rfl
theorem q2304 : (Jvm.Cond.code ({ cls := "PermissionDeskModel", name := "ask", desc := "(III)Z" } : Jvm.MethodName) prog_14_method_57_code (6 : Nat) (Option.some Jvm.ClassFile.FieldType.boolean)) ∈ lw_all := lw_g (lw_at lw_m10 64 rfl) rfl
theorem q2305 : (Jvm.Cond.methodLink "PermissionDeskModel" (156 : Nat) ({ cls := "PermissionDeskModel", name := "isRight", desc := "(I)Z" } : Jvm.MethodName)) ∈ lw_all := lw_g (lw_at lw_m10 65 rfl) rfl
theorem q2306 : (Jvm.Cond.static ({ cls := "PermissionDeskModel", name := "isRight", desc := "(I)Z" } : Jvm.MethodName)) ∈ lw_all := lw_g (lw_at lw_m10 66 rfl) rfl
theorem q2307 : (Jvm.Cond.code ({ cls := "PermissionDeskModel", name := "isRight", desc := "(I)Z" } : Jvm.MethodName) prog_14_method_14_code (1 : Nat) (Option.some Jvm.ClassFile.FieldType.boolean)) ∈ lw_all := lw_g (lw_at lw_m10 67 rfl) rfl
theorem q2309 : (Jvm.Cond.instanceMethod ({ cls := "PermissionDeskModel", name := "share", desc := "(IIII)I" } : Jvm.MethodName)) ∈ lw_all := lw_g (lw_at lw_m10 69 rfl) rfl
theorem q2310 : (Jvm.Cond.selects "PermissionDeskModel" ({ cls := "PermissionDeskModel", name := "share", desc := "(IIII)I" } : Jvm.MethodName) ({ cls := "PermissionDeskModel", name := "share", desc := "(IIII)I" } : Jvm.MethodName)) ∈ lw_all := lw_g (lw_at lw_m10 70 rfl) rfl
theorem q2311 : (Jvm.Cond.code ({ cls := "PermissionDeskModel", name := "share", desc := "(IIII)I" } : Jvm.MethodName) prog_14_method_58_code (7 : Nat) (Option.some Jvm.ClassFile.FieldType.int)) ∈ lw_all := lw_g (lw_at lw_m10 71 rfl) rfl
theorem q2313 : (Jvm.Cond.instanceMethod ({ cls := "PermissionDeskModel", name := "append", desc := "(I)I" } : Jvm.MethodName)) ∈ lw_all := lw_g (lw_at lw_m10 73 rfl) rfl
theorem q2314 : (Jvm.Cond.selects "PermissionDeskModel" ({ cls := "PermissionDeskModel", name := "append", desc := "(I)I" } : Jvm.MethodName) ({ cls := "PermissionDeskModel", name := "append", desc := "(I)I" } : Jvm.MethodName)) ∈ lw_all := lw_g (lw_at lw_m10 74 rfl) rfl
theorem q2315 : (Jvm.Cond.code ({ cls := "PermissionDeskModel", name := "append", desc := "(I)I" } : Jvm.MethodName) prog_14_method_59_code (2 : Nat) (Option.some Jvm.ClassFile.FieldType.int)) ∈ lw_all := lw_g (lw_at lw_m10 75 rfl) rfl
theorem q2317 : (Jvm.Cond.instanceMethod ({ cls := "PermissionDeskModel", name := "clear", desc := "()I" } : Jvm.MethodName)) ∈ lw_all := lw_g (lw_at lw_m10 77 rfl) rfl
theorem q2318 : (Jvm.Cond.selects "PermissionDeskModel" ({ cls := "PermissionDeskModel", name := "clear", desc := "()I" } : Jvm.MethodName) ({ cls := "PermissionDeskModel", name := "clear", desc := "()I" } : Jvm.MethodName)) ∈ lw_all := lw_g (lw_at lw_m10 78 rfl) rfl
theorem q2319 : (Jvm.Cond.code ({ cls := "PermissionDeskModel", name := "clear", desc := "()I" } : Jvm.MethodName) prog_14_method_60_code (2 : Nat) (Option.some Jvm.ClassFile.FieldType.int)) ∈ lw_all := lw_g (lw_at lw_m10 79 rfl) rfl
theorem q2321 : (Jvm.Cond.instanceMethod ({ cls := "PermissionDeskModel", name := "fault", desc := "()I" } : Jvm.MethodName)) ∈ lw_all := lw_g (lw_at lw_m10 81 rfl) rfl
theorem q2322 : (Jvm.Cond.selects "PermissionDeskModel" ({ cls := "PermissionDeskModel", name := "fault", desc := "()I" } : Jvm.MethodName) ({ cls := "PermissionDeskModel", name := "fault", desc := "()I" } : Jvm.MethodName)) ∈ lw_all := lw_g (lw_at lw_m10 82 rfl) rfl
theorem q2323 : (Jvm.Cond.code ({ cls := "PermissionDeskModel", name := "fault", desc := "()I" } : Jvm.MethodName) prog_14_method_67_code (1 : Nat) (Option.some Jvm.ClassFile.FieldType.int)) ∈ lw_all := lw_g (lw_at lw_m10 83 rfl) rfl
theorem q2324 : (Jvm.Cond.methodLink "PermissionDeskModel" (190 : Nat) ({ cls := "PermissionDeskModel", name := "wrong", desc := "()I" } : Jvm.MethodName)) ∈ lw_all := lw_g (lw_at lw_m10 84 rfl) rfl
theorem q2325 : (Jvm.Cond.privateMethod ({ cls := "PermissionDeskModel", name := "wrong", desc := "()I" } : Jvm.MethodName)) ∈ lw_tbl := lw_at lw_m10 85 rfl
theorem q2326 : (Jvm.Cond.instanceMethod ({ cls := "PermissionDeskModel", name := "wrong", desc := "()I" } : Jvm.MethodName)) ∈ lw_all := lw_g (lw_at lw_m10 86 rfl) rfl
theorem q2327 : (Jvm.Cond.code ({ cls := "PermissionDeskModel", name := "wrong", desc := "()I" } : Jvm.MethodName) prog_14_method_66_code (2 : Nat) (Option.some Jvm.ClassFile.FieldType.int)) ∈ lw_all := lw_g (lw_at lw_m10 87 rfl) rfl
theorem q2328 : (Jvm.Cond.methodLink "PermissionDeskModel" (177 : Nat) ({ cls := "PermissionDeskModel", name := "number", desc := "(I)Z" } : Jvm.MethodName)) ∈ lw_all := lw_g (lw_at lw_m10 88 rfl) rfl
theorem q2329 : (Jvm.Cond.privateMethod ({ cls := "PermissionDeskModel", name := "number", desc := "(I)Z" } : Jvm.MethodName)) ∈ lw_tbl := lw_at lw_m10 89 rfl
theorem q2330 : (Jvm.Cond.instanceMethod ({ cls := "PermissionDeskModel", name := "number", desc := "(I)Z" } : Jvm.MethodName)) ∈ lw_all := lw_g (lw_at lw_m10 90 rfl) rfl
theorem q2331 : (Jvm.Cond.code ({ cls := "PermissionDeskModel", name := "number", desc := "(I)Z" } : Jvm.MethodName) prog_14_method_63_code (2 : Nat) (Option.some Jvm.ClassFile.FieldType.boolean)) ∈ lw_all := lw_g (lw_at lw_m10 91 rfl) rfl
theorem q2332 : (Jvm.Cond.methodLink "PermissionDeskModel" (165 : Nat) ({ cls := "PermissionDeskModel", name := "sees", desc := "(II)Z" } : Jvm.MethodName)) ∈ lw_all := lw_g (lw_at lw_m10 92 rfl) rfl
theorem q2333 : (Jvm.Cond.privateMethod ({ cls := "PermissionDeskModel", name := "sees", desc := "(II)Z" } : Jvm.MethodName)) ∈ lw_tbl := lw_at lw_m10 93 rfl
theorem q2334 : (Jvm.Cond.instanceMethod ({ cls := "PermissionDeskModel", name := "sees", desc := "(II)Z" } : Jvm.MethodName)) ∈ lw_all := lw_g (lw_at lw_m10 94 rfl) rfl
theorem q2335 : (Jvm.Cond.code ({ cls := "PermissionDeskModel", name := "sees", desc := "(II)Z" } : Jvm.MethodName) prog_14_method_61_code (3 : Nat) (Option.some Jvm.ClassFile.FieldType.boolean)) ∈ lw_all := lw_g (lw_at lw_m10 95 rfl) rfl
theorem q2336 : (Jvm.Cond.methodLink "PermissionDeskModel" (174 : Nat) ({ cls := "PermissionDeskModel", name := "sign", desc := "(I)Z" } : Jvm.MethodName)) ∈ lw_all := lw_g (lw_at lw_m10 96 rfl) rfl
theorem q2337 : (Jvm.Cond.privateMethod ({ cls := "PermissionDeskModel", name := "sign", desc := "(I)Z" } : Jvm.MethodName)) ∈ lw_tbl := lw_at lw_m10 97 rfl
theorem q2338 : (Jvm.Cond.instanceMethod ({ cls := "PermissionDeskModel", name := "sign", desc := "(I)Z" } : Jvm.MethodName)) ∈ lw_all := lw_g (lw_at lw_m10 98 rfl) rfl
theorem q2339 : (Jvm.Cond.code ({ cls := "PermissionDeskModel", name := "sign", desc := "(I)Z" } : Jvm.MethodName) prog_14_method_62_code (3 : Nat) (Option.some Jvm.ClassFile.FieldType.boolean)) ∈ lw_all := lw_g (lw_at lw_m10 99 rfl) rfl
theorem q2340 : (Jvm.Cond.methodLink "PermissionDeskModel" (187 : Nat) ({ cls := "PermissionDeskModel", name := "entryRead", desc := "()Z" } : Jvm.MethodName)) ∈ lw_all := lw_g (lw_at lw_m10 100 rfl) rfl
theorem q2341 : (Jvm.Cond.privateMethod ({ cls := "PermissionDeskModel", name := "entryRead", desc := "()Z" } : Jvm.MethodName)) ∈ lw_tbl := lw_at lw_m10 101 rfl
theorem q2342 : (Jvm.Cond.instanceMethod ({ cls := "PermissionDeskModel", name := "entryRead", desc := "()Z" } : Jvm.MethodName)) ∈ lw_all := lw_g (lw_at lw_m10 102 rfl) rfl
theorem q2343 : (Jvm.Cond.code ({ cls := "PermissionDeskModel", name := "entryRead", desc := "()Z" } : Jvm.MethodName) prog_14_method_65_code (4 : Nat) (Option.some Jvm.ClassFile.FieldType.boolean)) ∈ lw_all := lw_g (lw_at lw_m10 103 rfl) rfl
theorem q2344 : (Jvm.Cond.methodLink "PermissionDeskModel" (180 : Nat) ({ cls := "PermissionDeskModel", name := "whomRead", desc := "()Z" } : Jvm.MethodName)) ∈ lw_all := lw_g (lw_at lw_m10 104 rfl) rfl
theorem q2345 : (Jvm.Cond.privateMethod ({ cls := "PermissionDeskModel", name := "whomRead", desc := "()Z" } : Jvm.MethodName)) ∈ lw_tbl := lw_at lw_m10 105 rfl
theorem q2346 : (Jvm.Cond.instanceMethod ({ cls := "PermissionDeskModel", name := "whomRead", desc := "()Z" } : Jvm.MethodName)) ∈ lw_all := lw_g (lw_at lw_m10 106 rfl) rfl
theorem q2347 : (Jvm.Cond.code ({ cls := "PermissionDeskModel", name := "whomRead", desc := "()Z" } : Jvm.MethodName) prog_14_method_64_code (3 : Nat) (Option.some Jvm.ClassFile.FieldType.boolean)) ∈ lw_all := lw_g (lw_at lw_m10 107 rfl) rfl
theorem q2349 : (Jvm.Cond.instanceMethod ({ cls := "PermissionDeskModel", name := "loadEntries", desc := "()I" } : Jvm.MethodName)) ∈ lw_all := lw_g (lw_at lw_m10 109 rfl) rfl
theorem q2350 : (Jvm.Cond.selects "PermissionDeskModel" ({ cls := "PermissionDeskModel", name := "loadEntries", desc := "()I" } : Jvm.MethodName) ({ cls := "PermissionDeskModel", name := "loadEntries", desc := "()I" } : Jvm.MethodName)) ∈ lw_all := lw_g (lw_at lw_m10 110 rfl) rfl
theorem q2351 : (Jvm.Cond.code ({ cls := "PermissionDeskModel", name := "loadEntries", desc := "()I" } : Jvm.MethodName) prog_14_method_69_code (2 : Nat) (Option.some Jvm.ClassFile.FieldType.int)) ∈ lw_all := lw_g (lw_at lw_m10 111 rfl) rfl
theorem q2352 : (Jvm.Cond.methodLink "PermissionDeskModel" (193 : Nat) ({ cls := "PermissionDeskModel", name := "areThere", desc := "()Z" } : Jvm.MethodName)) ∈ lw_all := lw_g (lw_at lw_m10 112 rfl) rfl
theorem q2353 : (Jvm.Cond.privateMethod ({ cls := "PermissionDeskModel", name := "areThere", desc := "()Z" } : Jvm.MethodName)) ∈ lw_tbl := lw_at lw_m10 113 rfl
theorem q2354 : (Jvm.Cond.instanceMethod ({ cls := "PermissionDeskModel", name := "areThere", desc := "()Z" } : Jvm.MethodName)) ∈ lw_all := lw_g (lw_at lw_m10 114 rfl) rfl
theorem q2355 : (Jvm.Cond.code ({ cls := "PermissionDeskModel", name := "areThere", desc := "()Z" } : Jvm.MethodName) prog_14_method_68_code (4 : Nat) (Option.some Jvm.ClassFile.FieldType.boolean)) ∈ lw_all := lw_g (lw_at lw_m10 115 rfl) rfl
theorem q2357 : (Jvm.Cond.instanceMethod ({ cls := "PermissionDeskModel", name := "writeEntries", desc := "(I)I" } : Jvm.MethodName)) ∈ lw_all := lw_g (lw_at lw_m10 117 rfl) rfl
theorem q2358 : (Jvm.Cond.selects "PermissionDeskModel" ({ cls := "PermissionDeskModel", name := "writeEntries", desc := "(I)I" } : Jvm.MethodName) ({ cls := "PermissionDeskModel", name := "writeEntries", desc := "(I)I" } : Jvm.MethodName)) ∈ lw_all := lw_g (lw_at lw_m10 118 rfl) rfl
theorem q2359 : (Jvm.Cond.code ({ cls := "PermissionDeskModel", name := "writeEntries", desc := "(I)I" } : Jvm.MethodName) prog_14_method_74_code (3 : Nat) (Option.some Jvm.ClassFile.FieldType.int)) ∈ lw_all := lw_g (lw_at lw_m10 119 rfl) rfl
theorem q2360 : (Jvm.Cond.methodLink "PermissionDeskModel" (200 : Nat) ({ cls := "PermissionDeskModel", name := "putsNumber", desc := "(I)V" } : Jvm.MethodName)) ∈ lw_all := lw_g (lw_at lw_m10 120 rfl) rfl
theorem q2361 : (Jvm.Cond.privateMethod ({ cls := "PermissionDeskModel", name := "putsNumber", desc := "(I)V" } : Jvm.MethodName)) ∈ lw_tbl := lw_at lw_m10 121 rfl
theorem q2362 : (Jvm.Cond.instanceMethod ({ cls := "PermissionDeskModel", name := "putsNumber", desc := "(I)V" } : Jvm.MethodName)) ∈ lw_all := lw_g (lw_at lw_m10 122 rfl) rfl
theorem q2363 : (Jvm.Cond.code ({ cls := "PermissionDeskModel", name := "putsNumber", desc := "(I)V" } : Jvm.MethodName) prog_14_method_71_code (2 : Nat) (Option.none : Option Jvm.ClassFile.FieldType)) ∈ lw_all := lw_g (lw_at lw_m10 123 rfl) rfl
theorem q2364 : (Jvm.Cond.methodLink "PermissionDeskModel" (196 : Nat) ({ cls := "PermissionDeskModel", name := "puts", desc := "(I)V" } : Jvm.MethodName)) ∈ lw_all := lw_g (lw_at lw_m10 124 rfl) rfl
theorem q2365 : (Jvm.Cond.privateMethod ({ cls := "PermissionDeskModel", name := "puts", desc := "(I)V" } : Jvm.MethodName)) ∈ lw_tbl := lw_at lw_m10 125 rfl
theorem q2366 : (Jvm.Cond.instanceMethod ({ cls := "PermissionDeskModel", name := "puts", desc := "(I)V" } : Jvm.MethodName)) ∈ lw_all := lw_g (lw_at lw_m10 126 rfl) rfl
theorem q2367 : (Jvm.Cond.code ({ cls := "PermissionDeskModel", name := "puts", desc := "(I)V" } : Jvm.MethodName) prog_14_method_70_code (2 : Nat) (Option.none : Option Jvm.ClassFile.FieldType)) ∈ lw_all := lw_g (lw_at lw_m10 127 rfl) rfl
theorem q2368 : (Jvm.Cond.methodLink "PermissionDeskModel" (206 : Nat) ({ cls := "PermissionDeskModel", name := "putsEntry", desc := "(II)V" } : Jvm.MethodName)) ∈ lw_all := lw_g (lw_at lw_m10 128 rfl) rfl
theorem q2369 : (Jvm.Cond.privateMethod ({ cls := "PermissionDeskModel", name := "putsEntry", desc := "(II)V" } : Jvm.MethodName)) ∈ lw_tbl := lw_at lw_m10 129 rfl
theorem q2370 : (Jvm.Cond.instanceMethod ({ cls := "PermissionDeskModel", name := "putsEntry", desc := "(II)V" } : Jvm.MethodName)) ∈ lw_all := lw_g (lw_at lw_m10 130 rfl) rfl
theorem q2371 : (Jvm.Cond.code ({ cls := "PermissionDeskModel", name := "putsEntry", desc := "(II)V" } : Jvm.MethodName) prog_14_method_73_code (5 : Nat) (Option.none : Option Jvm.ClassFile.FieldType)) ∈ lw_all := lw_g (lw_at lw_m10 131 rfl) rfl
theorem q2372 : (Jvm.Cond.methodLink "PermissionDeskModel" (203 : Nat) ({ cls := "PermissionDeskModel", name := "putsRight", desc := "(III)V" } : Jvm.MethodName)) ∈ lw_all := lw_g (lw_at lw_m10 132 rfl) rfl
theorem q2373 : (Jvm.Cond.privateMethod ({ cls := "PermissionDeskModel", name := "putsRight", desc := "(III)V" } : Jvm.MethodName)) ∈ lw_tbl := lw_at lw_m10 133 rfl
theorem q2374 : (Jvm.Cond.instanceMethod ({ cls := "PermissionDeskModel", name := "putsRight", desc := "(III)V" } : Jvm.MethodName)) ∈ lw_all := lw_g (lw_at lw_m10 134 rfl) rfl
theorem q2375 : (Jvm.Cond.code ({ cls := "PermissionDeskModel", name := "putsRight", desc := "(III)V" } : Jvm.MethodName) prog_14_method_72_code (4 : Nat) (Option.none : Option Jvm.ClassFile.FieldType)) ∈ lw_all := lw_g (lw_at lw_m10 135 rfl) rfl
theorem q2377 : (Jvm.Cond.instanceMethod ({ cls := "PermissionDeskModel", name := "codeAt", desc := "(I)I" } : Jvm.MethodName)) ∈ lw_all := lw_g (lw_at lw_m10 137 rfl) rfl
theorem q2378 : (Jvm.Cond.selects "PermissionDeskModel" ({ cls := "PermissionDeskModel", name := "codeAt", desc := "(I)I" } : Jvm.MethodName) ({ cls := "PermissionDeskModel", name := "codeAt", desc := "(I)I" } : Jvm.MethodName)) ∈ lw_all := lw_g (lw_at lw_m10 138 rfl) rfl
theorem q2379 : (Jvm.Cond.code ({ cls := "PermissionDeskModel", name := "codeAt", desc := "(I)I" } : Jvm.MethodName) prog_14_method_75_code (2 : Nat) (Option.some Jvm.ClassFile.FieldType.int)) ∈ lw_all := lw_g (lw_at lw_m10 139 rfl) rfl
theorem q2381 : (Jvm.Cond.instanceMethod ({ cls := "PermissionDeskModel", name := "users", desc := "()I" } : Jvm.MethodName)) ∈ lw_all := lw_g (lw_at lw_m10 141 rfl) rfl
theorem q2382 : (Jvm.Cond.selects "PermissionDeskModel" ({ cls := "PermissionDeskModel", name := "users", desc := "()I" } : Jvm.MethodName) ({ cls := "PermissionDeskModel", name := "users", desc := "()I" } : Jvm.MethodName)) ∈ lw_all := lw_g (lw_at lw_m10 142 rfl) rfl
theorem q2383 : (Jvm.Cond.code ({ cls := "PermissionDeskModel", name := "users", desc := "()I" } : Jvm.MethodName) prog_14_method_76_code (1 : Nat) (Option.some Jvm.ClassFile.FieldType.int)) ∈ lw_all := lw_g (lw_at lw_m10 143 rfl) rfl
theorem q2385 : (Jvm.Cond.instanceMethod ({ cls := "PermissionDeskModel", name := "groups", desc := "()I" } : Jvm.MethodName)) ∈ lw_all := lw_g (lw_at lw_m10 145 rfl) rfl
theorem q2386 : (Jvm.Cond.selects "PermissionDeskModel" ({ cls := "PermissionDeskModel", name := "groups", desc := "()I" } : Jvm.MethodName) ({ cls := "PermissionDeskModel", name := "groups", desc := "()I" } : Jvm.MethodName)) ∈ lw_all := lw_g (lw_at lw_m10 146 rfl) rfl
theorem q2387 : (Jvm.Cond.code ({ cls := "PermissionDeskModel", name := "groups", desc := "()I" } : Jvm.MethodName) prog_14_method_77_code (1 : Nat) (Option.some Jvm.ClassFile.FieldType.int)) ∈ lw_all := lw_g (lw_at lw_m10 147 rfl) rfl
theorem q2389 : (Jvm.Cond.instanceMethod ({ cls := "PermissionDeskModel", name := "isMember", desc := "(II)Z" } : Jvm.MethodName)) ∈ lw_all := lw_g (lw_at lw_m10 149 rfl) rfl
theorem q2390 : (Jvm.Cond.selects "PermissionDeskModel" ({ cls := "PermissionDeskModel", name := "isMember", desc := "(II)Z" } : Jvm.MethodName) ({ cls := "PermissionDeskModel", name := "isMember", desc := "(II)Z" } : Jvm.MethodName)) ∈ lw_all := lw_g (lw_at lw_m10 150 rfl) rfl
theorem q2391 : (Jvm.Cond.code ({ cls := "PermissionDeskModel", name := "isMember", desc := "(II)Z" } : Jvm.MethodName) prog_14_method_78_code (3 : Nat) (Option.some Jvm.ClassFile.FieldType.boolean)) ∈ lw_all := lw_g (lw_at lw_m10 151 rfl) rfl
theorem q2393 : (Jvm.Cond.instanceMethod ({ cls := "PermissionDeskModel", name := "isNested", desc := "(II)Z" } : Jvm.MethodName)) ∈ lw_all := lw_g (lw_at lw_m10 153 rfl) rfl
theorem q2394 : (Jvm.Cond.selects "PermissionDeskModel" ({ cls := "PermissionDeskModel", name := "isNested", desc := "(II)Z" } : Jvm.MethodName) ({ cls := "PermissionDeskModel", name := "isNested", desc := "(II)Z" } : Jvm.MethodName)) ∈ lw_all := lw_g (lw_at lw_m10 154 rfl) rfl
theorem q2395 : (Jvm.Cond.code ({ cls := "PermissionDeskModel", name := "isNested", desc := "(II)Z" } : Jvm.MethodName) prog_14_method_79_code (3 : Nat) (Option.some Jvm.ClassFile.FieldType.boolean)) ∈ lw_all := lw_g (lw_at lw_m10 155 rfl) rfl
theorem q2397 : (Jvm.Cond.instanceMethod ({ cls := "PermissionDeskModel", name := "belongs", desc := "(II)Z" } : Jvm.MethodName)) ∈ lw_all := lw_g (lw_at lw_m10 157 rfl) rfl
theorem q2398 : (Jvm.Cond.selects "PermissionDeskModel" ({ cls := "PermissionDeskModel", name := "belongs", desc := "(II)Z" } : Jvm.MethodName) ({ cls := "PermissionDeskModel", name := "belongs", desc := "(II)Z" } : Jvm.MethodName)) ∈ lw_all := lw_g (lw_at lw_m10 158 rfl) rfl
theorem q2399 : (Jvm.Cond.code ({ cls := "PermissionDeskModel", name := "belongs", desc := "(II)Z" } : Jvm.MethodName) prog_14_method_81_code (3 : Nat) (Option.some Jvm.ClassFile.FieldType.boolean)) ∈ lw_all := lw_g (lw_at lw_m10 159 rfl) rfl
theorem q2400 : (Jvm.Cond.methodLink "PermissionDeskModel" (209 : Nat) ({ cls := "PermissionDeskModel", name := "isOfGroup", desc := "(II)Z" } : Jvm.MethodName)) ∈ lw_all := lw_g (lw_at lw_m10 160 rfl) rfl
theorem q2401 : (Jvm.Cond.privateMethod ({ cls := "PermissionDeskModel", name := "isOfGroup", desc := "(II)Z" } : Jvm.MethodName)) ∈ lw_tbl := lw_at lw_m10 161 rfl
theorem q2402 : (Jvm.Cond.instanceMethod ({ cls := "PermissionDeskModel", name := "isOfGroup", desc := "(II)Z" } : Jvm.MethodName)) ∈ lw_all := lw_g (lw_at lw_m10 162 rfl) rfl
theorem q2403 : (Jvm.Cond.code ({ cls := "PermissionDeskModel", name := "isOfGroup", desc := "(II)Z" } : Jvm.MethodName) prog_14_method_80_code (3 : Nat) (Option.some Jvm.ClassFile.FieldType.boolean)) ∈ lw_all := lw_g (lw_at lw_m10 163 rfl) rfl
theorem q2405 : (Jvm.Cond.instanceMethod ({ cls := "PermissionDeskModel", name := "belongsByMembers", desc := "(II)Z" } : Jvm.MethodName)) ∈ lw_all := lw_g (lw_at lw_m10 165 rfl) rfl
theorem q2406 : (Jvm.Cond.selects "PermissionDeskModel" ({ cls := "PermissionDeskModel", name := "belongsByMembers", desc := "(II)Z" } : Jvm.MethodName) ({ cls := "PermissionDeskModel", name := "belongsByMembers", desc := "(II)Z" } : Jvm.MethodName)) ∈ lw_all := lw_g (lw_at lw_m10 166 rfl) rfl
theorem q2407 : (Jvm.Cond.code ({ cls := "PermissionDeskModel", name := "belongsByMembers", desc := "(II)Z" } : Jvm.MethodName) prog_14_method_82_code (3 : Nat) (Option.some Jvm.ClassFile.FieldType.boolean)) ∈ lw_all := lw_g (lw_at lw_m10 167 rfl) rfl
theorem q2409 : (Jvm.Cond.instanceMethod ({ cls := "PermissionDeskModel", name := "objects", desc := "()I" } : Jvm.MethodName)) ∈ lw_all := lw_g (lw_at lw_m10 169 rfl) rfl
theorem q2410 : (Jvm.Cond.selects "PermissionDeskModel" ({ cls := "PermissionDeskModel", name := "objects", desc := "()I" } : Jvm.MethodName) ({ cls := "PermissionDeskModel", name := "objects", desc := "()I" } : Jvm.MethodName)) ∈ lw_all := lw_g (lw_at lw_m10 170 rfl) rfl
theorem q2411 : (Jvm.Cond.code ({ cls := "PermissionDeskModel", name := "objects", desc := "()I" } : Jvm.MethodName) prog_14_method_83_code (1 : Nat) (Option.some Jvm.ClassFile.FieldType.int)) ∈ lw_all := lw_g (lw_at lw_m10 171 rfl) rfl
theorem q2413 : (Jvm.Cond.instanceMethod ({ cls := "PermissionDeskModel", name := "isThere", desc := "(I)Z" } : Jvm.MethodName)) ∈ lw_all := lw_g (lw_at lw_m10 173 rfl) rfl
theorem q2414 : (Jvm.Cond.selects "PermissionDeskModel" ({ cls := "PermissionDeskModel", name := "isThere", desc := "(I)Z" } : Jvm.MethodName) ({ cls := "PermissionDeskModel", name := "isThere", desc := "(I)Z" } : Jvm.MethodName)) ∈ lw_all := lw_g (lw_at lw_m10 174 rfl) rfl
theorem q2415 : (Jvm.Cond.code ({ cls := "PermissionDeskModel", name := "isThere", desc := "(I)Z" } : Jvm.MethodName) prog_14_method_84_code (2 : Nat) (Option.some Jvm.ClassFile.FieldType.boolean)) ∈ lw_all := lw_g (lw_at lw_m10 175 rfl) rfl
theorem q2417 : (Jvm.Cond.instanceMethod ({ cls := "PermissionDeskModel", name := "parentOf", desc := "(I)I" } : Jvm.MethodName)) ∈ lw_all := lw_g (lw_at lw_m10 177 rfl) rfl
theorem q2418 : (Jvm.Cond.selects "PermissionDeskModel" ({ cls := "PermissionDeskModel", name := "parentOf", desc := "(I)I" } : Jvm.MethodName) ({ cls := "PermissionDeskModel", name := "parentOf", desc := "(I)I" } : Jvm.MethodName)) ∈ lw_all := lw_g (lw_at lw_m10 178 rfl) rfl
theorem q2419 : (Jvm.Cond.code ({ cls := "PermissionDeskModel", name := "parentOf", desc := "(I)I" } : Jvm.MethodName) prog_14_method_86_code (2 : Nat) (Option.some Jvm.ClassFile.FieldType.int)) ∈ lw_all := lw_g (lw_at lw_m10 179 rfl) rfl
theorem q2420 : (Jvm.Cond.methodLink "PermissionDeskModel" (212 : Nat) ({ cls := "PermissionDeskModel", name := "ofObject", desc := "(II)I" } : Jvm.MethodName)) ∈ lw_all := lw_g (lw_at lw_m10 180 rfl) rfl
theorem q2421 : (Jvm.Cond.privateMethod ({ cls := "PermissionDeskModel", name := "ofObject", desc := "(II)I" } : Jvm.MethodName)) ∈ lw_tbl := lw_at lw_m10 181 rfl
theorem q2422 : (Jvm.Cond.instanceMethod ({ cls := "PermissionDeskModel", name := "ofObject", desc := "(II)I" } : Jvm.MethodName)) ∈ lw_all := lw_g (lw_at lw_m10 182 rfl) rfl
theorem q2423 : (Jvm.Cond.code ({ cls := "PermissionDeskModel", name := "ofObject", desc := "(II)I" } : Jvm.MethodName) prog_14_method_85_code (3 : Nat) (Option.some Jvm.ClassFile.FieldType.int)) ∈ lw_all := lw_g (lw_at lw_m10 183 rfl) rfl
theorem q2425 : (Jvm.Cond.instanceMethod ({ cls := "PermissionDeskModel", name := "ownerOf", desc := "(I)I" } : Jvm.MethodName)) ∈ lw_all := lw_g (lw_at lw_m10 185 rfl) rfl
theorem q2426 : (Jvm.Cond.selects "PermissionDeskModel" ({ cls := "PermissionDeskModel", name := "ownerOf", desc := "(I)I" } : Jvm.MethodName) ({ cls := "PermissionDeskModel", name := "ownerOf", desc := "(I)I" } : Jvm.MethodName)) ∈ lw_all := lw_g (lw_at lw_m10 186 rfl) rfl
theorem q2427 : (Jvm.Cond.code ({ cls := "PermissionDeskModel", name := "ownerOf", desc := "(I)I" } : Jvm.MethodName) prog_14_method_87_code (2 : Nat) (Option.some Jvm.ClassFile.FieldType.int)) ∈ lw_all := lw_g (lw_at lw_m10 187 rfl) rfl
theorem q2429 : (Jvm.Cond.instanceMethod ({ cls := "PermissionDeskModel", name := "maskOf", desc := "(I)I" } : Jvm.MethodName)) ∈ lw_all := lw_g (lw_at lw_m10 189 rfl) rfl
theorem q2430 : (Jvm.Cond.selects "PermissionDeskModel" ({ cls := "PermissionDeskModel", name := "maskOf", desc := "(I)I" } : Jvm.MethodName) ({ cls := "PermissionDeskModel", name := "maskOf", desc := "(I)I" } : Jvm.MethodName)) ∈ lw_all := lw_g (lw_at lw_m10 190 rfl) rfl
theorem q2431 : (Jvm.Cond.code ({ cls := "PermissionDeskModel", name := "maskOf", desc := "(I)I" } : Jvm.MethodName) prog_14_method_88_code (2 : Nat) (Option.some Jvm.ClassFile.FieldType.int)) ∈ lw_all := lw_g (lw_at lw_m10 191 rfl) rfl
theorem q2433 : (Jvm.Cond.instanceMethod ({ cls := "PermissionDeskModel", name := "isInheriting", desc := "(I)Z" } : Jvm.MethodName)) ∈ lw_all := lw_g (lw_at lw_m10 193 rfl) rfl
theorem q2434 : (Jvm.Cond.selects "PermissionDeskModel" ({ cls := "PermissionDeskModel", name := "isInheriting", desc := "(I)Z" } : Jvm.MethodName) ({ cls := "PermissionDeskModel", name := "isInheriting", desc := "(I)Z" } : Jvm.MethodName)) ∈ lw_all := lw_g (lw_at lw_m10 194 rfl) rfl
theorem q2435 : (Jvm.Cond.code ({ cls := "PermissionDeskModel", name := "isInheriting", desc := "(I)Z" } : Jvm.MethodName) prog_14_method_89_code (2 : Nat) (Option.some Jvm.ClassFile.FieldType.boolean)) ∈ lw_all := lw_g (lw_at lw_m10 195 rfl) rfl
theorem q2437 : (Jvm.Cond.instanceMethod ({ cls := "PermissionDeskModel", name := "below", desc := "(I)I" } : Jvm.MethodName)) ∈ lw_all := lw_g (lw_at lw_m10 197 rfl) rfl
theorem q2438 : (Jvm.Cond.selects "PermissionDeskModel" ({ cls := "PermissionDeskModel", name := "below", desc := "(I)I" } : Jvm.MethodName) ({ cls := "PermissionDeskModel", name := "below", desc := "(I)I" } : Jvm.MethodName)) ∈ lw_all := lw_g (lw_at lw_m10 198 rfl) rfl
theorem q2439 : (Jvm.Cond.code ({ cls := "PermissionDeskModel", name := "below", desc := "(I)I" } : Jvm.MethodName) prog_14_method_90_code (2 : Nat) (Option.some Jvm.ClassFile.FieldType.int)) ∈ lw_all := lw_g (lw_at lw_m10 199 rfl) rfl
theorem q2441 : (Jvm.Cond.instanceMethod ({ cls := "PermissionDeskModel", name := "entriesOf", desc := "(I)I" } : Jvm.MethodName)) ∈ lw_all := lw_g (lw_at lw_m10 201 rfl) rfl
theorem q2442 : (Jvm.Cond.selects "PermissionDeskModel" ({ cls := "PermissionDeskModel", name := "entriesOf", desc := "(I)I" } : Jvm.MethodName) ({ cls := "PermissionDeskModel", name := "entriesOf", desc := "(I)I" } : Jvm.MethodName)) ∈ lw_all := lw_g (lw_at lw_m10 202 rfl) rfl
theorem q2443 : (Jvm.Cond.code ({ cls := "PermissionDeskModel", name := "entriesOf", desc := "(I)I" } : Jvm.MethodName) prog_14_method_91_code (2 : Nat) (Option.some Jvm.ClassFile.FieldType.int)) ∈ lw_all := lw_g (lw_at lw_m10 203 rfl) rfl
theorem q2445 : (Jvm.Cond.instanceMethod ({ cls := "PermissionDeskModel", name := "isAllowing", desc := "(II)Z" } : Jvm.MethodName)) ∈ lw_all := lw_g (lw_at lw_m10 205 rfl) rfl
theorem q2446 : (Jvm.Cond.selects "PermissionDeskModel" ({ cls := "PermissionDeskModel", name := "isAllowing", desc := "(II)Z" } : Jvm.MethodName) ({ cls := "PermissionDeskModel", name := "isAllowing", desc := "(II)Z" } : Jvm.MethodName)) ∈ lw_all := lw_g (lw_at lw_m10 206 rfl) rfl
theorem q2447 : (Jvm.Cond.code ({ cls := "PermissionDeskModel", name := "isAllowing", desc := "(II)Z" } : Jvm.MethodName) prog_14_method_93_code (3 : Nat) (Option.some Jvm.ClassFile.FieldType.boolean)) ∈ lw_all := lw_g (lw_at lw_m10 207 rfl) rfl
theorem q2448 : (Jvm.Cond.methodLink "PermissionDeskModel" (215 : Nat) ({ cls := "PermissionDeskModel", name := "ofTheEntry", desc := "(III)I" } : Jvm.MethodName)) ∈ lw_all := lw_g (lw_at lw_m10 208 rfl) rfl
theorem q2449 : (Jvm.Cond.privateMethod ({ cls := "PermissionDeskModel", name := "ofTheEntry", desc := "(III)I" } : Jvm.MethodName)) ∈ lw_tbl := lw_at lw_m10 209 rfl
theorem q2450 : (Jvm.Cond.instanceMethod ({ cls := "PermissionDeskModel", name := "ofTheEntry", desc := "(III)I" } : Jvm.MethodName)) ∈ lw_all := lw_g (lw_at lw_m10 210 rfl) rfl
theorem q2451 : (Jvm.Cond.code ({ cls := "PermissionDeskModel", name := "ofTheEntry", desc := "(III)I" } : Jvm.MethodName) prog_14_method_92_code (4 : Nat) (Option.some Jvm.ClassFile.FieldType.int)) ∈ lw_all := lw_g (lw_at lw_m10 211 rfl) rfl
theorem q2453 : (Jvm.Cond.instanceMethod ({ cls := "PermissionDeskModel", name := "rightsOfEntry", desc := "(II)I" } : Jvm.MethodName)) ∈ lw_all := lw_g (lw_at lw_m10 213 rfl) rfl
theorem q2454 : (Jvm.Cond.selects "PermissionDeskModel" ({ cls := "PermissionDeskModel", name := "rightsOfEntry", desc := "(II)I" } : Jvm.MethodName) ({ cls := "PermissionDeskModel", name := "rightsOfEntry", desc := "(II)I" } : Jvm.MethodName)) ∈ lw_all := lw_g (lw_at lw_m10 214 rfl) rfl
theorem q2455 : (Jvm.Cond.code ({ cls := "PermissionDeskModel", name := "rightsOfEntry", desc := "(II)I" } : Jvm.MethodName) prog_14_method_94_code (3 : Nat) (Option.some Jvm.ClassFile.FieldType.int)) ∈ lw_all := lw_g (lw_at lw_m10 215 rfl) rfl
theorem q2457 : (Jvm.Cond.instanceMethod ({ cls := "PermissionDeskModel", name := "userOfEntry", desc := "(II)I" } : Jvm.MethodName)) ∈ lw_all := lw_g (lw_at lw_m10 217 rfl) rfl
theorem q2458 : (Jvm.Cond.selects "PermissionDeskModel" ({ cls := "PermissionDeskModel", name := "userOfEntry", desc := "(II)I" } : Jvm.MethodName) ({ cls := "PermissionDeskModel", name := "userOfEntry", desc := "(II)I" } : Jvm.MethodName)) ∈ lw_all := lw_g (lw_at lw_m10 218 rfl) rfl
theorem q2459 : (Jvm.Cond.code ({ cls := "PermissionDeskModel", name := "userOfEntry", desc := "(II)I" } : Jvm.MethodName) prog_14_method_96_code (3 : Nat) (Option.some Jvm.ClassFile.FieldType.int)) ∈ lw_all := lw_g (lw_at lw_m10 219 rfl) rfl
theorem q2460 : (Jvm.Cond.methodLink "PermissionDeskModel" (218 : Nat) ({ cls := "PermissionDeskModel", name := "whomOf", desc := "(III)I" } : Jvm.MethodName)) ∈ lw_all := lw_g (lw_at lw_m10 220 rfl) rfl
theorem q2461 : (Jvm.Cond.privateMethod ({ cls := "PermissionDeskModel", name := "whomOf", desc := "(III)I" } : Jvm.MethodName)) ∈ lw_tbl := lw_at lw_m10 221 rfl
theorem q2462 : (Jvm.Cond.instanceMethod ({ cls := "PermissionDeskModel", name := "whomOf", desc := "(III)I" } : Jvm.MethodName)) ∈ lw_all := lw_g (lw_at lw_m10 222 rfl) rfl
theorem q2463 : (Jvm.Cond.code ({ cls := "PermissionDeskModel", name := "whomOf", desc := "(III)I" } : Jvm.MethodName) prog_14_method_95_code (5 : Nat) (Option.some Jvm.ClassFile.FieldType.int)) ∈ lw_all := lw_g (lw_at lw_m10 223 rfl) rfl
theorem q2465 : (Jvm.Cond.instanceMethod ({ cls := "PermissionDeskModel", name := "groupOfEntry", desc := "(II)I" } : Jvm.MethodName)) ∈ lw_all := lw_g (lw_at lw_m10 225 rfl) rfl
theorem q2466 : (Jvm.Cond.selects "PermissionDeskModel" ({ cls := "PermissionDeskModel", name := "groupOfEntry", desc := "(II)I" } : Jvm.MethodName) ({ cls := "PermissionDeskModel", name := "groupOfEntry", desc := "(II)I" } : Jvm.MethodName)) ∈ lw_all := lw_g (lw_at lw_m10 226 rfl) rfl
theorem q2467 : (Jvm.Cond.code ({ cls := "PermissionDeskModel", name := "groupOfEntry", desc := "(II)I" } : Jvm.MethodName) prog_14_method_97_code (3 : Nat) (Option.some Jvm.ClassFile.FieldType.int)) ∈ lw_all := lw_g (lw_at lw_m10 227 rfl) rfl
theorem q2469 : (Jvm.Cond.instanceMethod ({ cls := "PermissionDeskModel", name := "isForOwner", desc := "(II)Z" } : Jvm.MethodName)) ∈ lw_all := lw_g (lw_at lw_m10 229 rfl) rfl
theorem q2470 : (Jvm.Cond.selects "PermissionDeskModel" ({ cls := "PermissionDeskModel", name := "isForOwner", desc := "(II)Z" } : Jvm.MethodName) ({ cls := "PermissionDeskModel", name := "isForOwner", desc := "(II)Z" } : Jvm.MethodName)) ∈ lw_all := lw_g (lw_at lw_m10 230 rfl) rfl
theorem q2471 : (Jvm.Cond.code ({ cls := "PermissionDeskModel", name := "isForOwner", desc := "(II)Z" } : Jvm.MethodName) prog_14_method_98_code (3 : Nat) (Option.some Jvm.ClassFile.FieldType.boolean)) ∈ lw_all := lw_g (lw_at lw_m10 231 rfl) rfl
theorem q2473 : (Jvm.Cond.instanceMethod ({ cls := "PermissionDeskModel", name := "isForBelow", desc := "(II)Z" } : Jvm.MethodName)) ∈ lw_all := lw_g (lw_at lw_m10 233 rfl) rfl
theorem q2474 : (Jvm.Cond.selects "PermissionDeskModel" ({ cls := "PermissionDeskModel", name := "isForBelow", desc := "(II)Z" } : Jvm.MethodName) ({ cls := "PermissionDeskModel", name := "isForBelow", desc := "(II)Z" } : Jvm.MethodName)) ∈ lw_all := lw_g (lw_at lw_m10 234 rfl) rfl
theorem q2475 : (Jvm.Cond.code ({ cls := "PermissionDeskModel", name := "isForBelow", desc := "(II)Z" } : Jvm.MethodName) prog_14_method_99_code (3 : Nat) (Option.some Jvm.ClassFile.FieldType.boolean)) ∈ lw_all := lw_g (lw_at lw_m10 235 rfl) rfl
theorem q2477 : (Jvm.Cond.instanceMethod ({ cls := "PermissionDeskModel", name := "isAllowed", desc := "(III)Z" } : Jvm.MethodName)) ∈ lw_all := lw_g (lw_at lw_m10 237 rfl) rfl
theorem q2478 : (Jvm.Cond.selects "PermissionDeskModel" ({ cls := "PermissionDeskModel", name := "isAllowed", desc := "(III)Z" } : Jvm.MethodName) ({ cls := "PermissionDeskModel", name := "isAllowed", desc := "(III)Z" } : Jvm.MethodName)) ∈ lw_all := lw_g (lw_at lw_m10 238 rfl) rfl
theorem q2479 : (Jvm.Cond.code ({ cls := "PermissionDeskModel", name := "isAllowed", desc := "(III)Z" } : Jvm.MethodName) prog_14_method_101_code (4 : Nat) (Option.some Jvm.ClassFile.FieldType.boolean)) ∈ lw_all := lw_g (lw_at lw_m10 239 rfl) rfl
theorem q2480 : (Jvm.Cond.methodLink "PermissionDeskModel" (221 : Nat) ({ cls := "PermissionDeskModel", name := "isQuestion", desc := "(III)Z" } : Jvm.MethodName)) ∈ lw_all := lw_g (lw_at lw_m11 0 rfl) rfl
theorem q2481 : (Jvm.Cond.privateMethod ({ cls := "PermissionDeskModel", name := "isQuestion", desc := "(III)Z" } : Jvm.MethodName)) ∈ lw_tbl := lw_at lw_m11 1 rfl
theorem q2482 : (Jvm.Cond.instanceMethod ({ cls := "PermissionDeskModel", name := "isQuestion", desc := "(III)Z" } : Jvm.MethodName)) ∈ lw_all := lw_g (lw_at lw_m11 2 rfl) rfl
theorem q2483 : (Jvm.Cond.code ({ cls := "PermissionDeskModel", name := "isQuestion", desc := "(III)Z" } : Jvm.MethodName) prog_14_method_100_code (4 : Nat) (Option.some Jvm.ClassFile.FieldType.boolean)) ∈ lw_all := lw_g (lw_at lw_m11 3 rfl) rfl
theorem q2485 : (Jvm.Cond.instanceMethod ({ cls := "PermissionDeskModel", name := "isAllowedByHandingDown", desc := "(III)Z" } : Jvm.MethodName)) ∈ lw_all := lw_g (lw_at lw_m11 5 rfl) rfl
theorem q2486 : (Jvm.Cond.selects "PermissionDeskModel" ({ cls := "PermissionDeskModel", name := "isAllowedByHandingDown", desc := "(III)Z" } : Jvm.MethodName) ({ cls := "PermissionDeskModel", name := "isAllowedByHandingDown", desc := "(III)Z" } : Jvm.MethodName)) ∈ lw_all := lw_g (lw_at lw_m11 6 rfl) rfl
theorem q2487 : (Jvm.Cond.code ({ cls := "PermissionDeskModel", name := "isAllowedByHandingDown", desc := "(III)Z" } : Jvm.MethodName) prog_14_method_102_code (4 : Nat) (Option.some Jvm.ClassFile.FieldType.boolean)) ∈ lw_all := lw_g (lw_at lw_m11 7 rfl) rfl
theorem q2489 : (Jvm.Cond.instanceMethod ({ cls := "PermissionDeskModel", name := "rightsOf", desc := "(II)I" } : Jvm.MethodName)) ∈ lw_all := lw_g (lw_at lw_m11 9 rfl) rfl
theorem q2490 : (Jvm.Cond.selects "PermissionDeskModel" ({ cls := "PermissionDeskModel", name := "rightsOf", desc := "(II)I" } : Jvm.MethodName) ({ cls := "PermissionDeskModel", name := "rightsOf", desc := "(II)I" } : Jvm.MethodName)) ∈ lw_all := lw_g (lw_at lw_m11 10 rfl) rfl
theorem q2491 : (Jvm.Cond.code ({ cls := "PermissionDeskModel", name := "rightsOf", desc := "(II)I" } : Jvm.MethodName) prog_14_method_103_code (3 : Nat) (Option.some Jvm.ClassFile.FieldType.int)) ∈ lw_all := lw_g (lw_at lw_m11 11 rfl) rfl
theorem q2493 : (Jvm.Cond.instanceMethod ({ cls := "PermissionDeskModel", name := "decidingObject", desc := "(III)I" } : Jvm.MethodName)) ∈ lw_all := lw_g (lw_at lw_m11 13 rfl) rfl
theorem q2494 : (Jvm.Cond.selects "PermissionDeskModel" ({ cls := "PermissionDeskModel", name := "decidingObject", desc := "(III)I" } : Jvm.MethodName) ({ cls := "PermissionDeskModel", name := "decidingObject", desc := "(III)I" } : Jvm.MethodName)) ∈ lw_all := lw_g (lw_at lw_m11 14 rfl) rfl
theorem q2495 : (Jvm.Cond.code ({ cls := "PermissionDeskModel", name := "decidingObject", desc := "(III)I" } : Jvm.MethodName) prog_14_method_104_code (5 : Nat) (Option.some Jvm.ClassFile.FieldType.int)) ∈ lw_all := lw_g (lw_at lw_m11 15 rfl) rfl
theorem q2497 : (Jvm.Cond.instanceMethod ({ cls := "PermissionDeskModel", name := "decidingEntry", desc := "(III)I" } : Jvm.MethodName)) ∈ lw_all := lw_g (lw_at lw_m11 17 rfl) rfl
theorem q2498 : (Jvm.Cond.selects "PermissionDeskModel" ({ cls := "PermissionDeskModel", name := "decidingEntry", desc := "(III)I" } : Jvm.MethodName) ({ cls := "PermissionDeskModel", name := "decidingEntry", desc := "(III)I" } : Jvm.MethodName)) ∈ lw_all := lw_g (lw_at lw_m11 18 rfl) rfl
theorem q2499 : (Jvm.Cond.code ({ cls := "PermissionDeskModel", name := "decidingEntry", desc := "(III)I" } : Jvm.MethodName) prog_14_method_105_code (5 : Nat) (Option.some Jvm.ClassFile.FieldType.int)) ∈ lw_all := lw_g (lw_at lw_m11 19 rfl) rfl
theorem q2501 : (Jvm.Cond.instanceMethod ({ cls := "PermissionDeskModel", name := "isStoppedByMask", desc := "(III)Z" } : Jvm.MethodName)) ∈ lw_all := lw_g (lw_at lw_m11 21 rfl) rfl
theorem q2502 : (Jvm.Cond.selects "PermissionDeskModel" ({ cls := "PermissionDeskModel", name := "isStoppedByMask", desc := "(III)Z" } : Jvm.MethodName) ({ cls := "PermissionDeskModel", name := "isStoppedByMask", desc := "(III)Z" } : Jvm.MethodName)) ∈ lw_all := lw_g (lw_at lw_m11 22 rfl) rfl
theorem q2503 : (Jvm.Cond.code ({ cls := "PermissionDeskModel", name := "isStoppedByMask", desc := "(III)Z" } : Jvm.MethodName) prog_14_method_106_code (4 : Nat) (Option.some Jvm.ClassFile.FieldType.boolean)) ∈ lw_all := lw_g (lw_at lw_m11 23 rfl) rfl
theorem q2505 : (Jvm.Cond.instanceMethod ({ cls := "PermissionDeskModel", name := "usersWith", desc := "(II)I" } : Jvm.MethodName)) ∈ lw_all := lw_g (lw_at lw_m11 25 rfl) rfl
theorem q2506 : (Jvm.Cond.selects "PermissionDeskModel" ({ cls := "PermissionDeskModel", name := "usersWith", desc := "(II)I" } : Jvm.MethodName) ({ cls := "PermissionDeskModel", name := "usersWith", desc := "(II)I" } : Jvm.MethodName)) ∈ lw_all := lw_g (lw_at lw_m11 26 rfl) rfl
theorem q2507 : (Jvm.Cond.code ({ cls := "PermissionDeskModel", name := "usersWith", desc := "(II)I" } : Jvm.MethodName) prog_14_method_107_code (5 : Nat) (Option.some Jvm.ClassFile.FieldType.int)) ∈ lw_all := lw_g (lw_at lw_m11 27 rfl) rfl
theorem q2509 : (Jvm.Cond.instanceMethod ({ cls := "PermissionDeskModel", name := "rightsThrough", desc := "(II)I" } : Jvm.MethodName)) ∈ lw_all := lw_g (lw_at lw_m11 29 rfl) rfl
theorem q2510 : (Jvm.Cond.selects "PermissionDeskModel" ({ cls := "PermissionDeskModel", name := "rightsThrough", desc := "(II)I" } : Jvm.MethodName) ({ cls := "PermissionDeskModel", name := "rightsThrough", desc := "(II)I" } : Jvm.MethodName)) ∈ lw_all := lw_g (lw_at lw_m11 30 rfl) rfl
theorem q2511 : (Jvm.Cond.code ({ cls := "PermissionDeskModel", name := "rightsThrough", desc := "(II)I" } : Jvm.MethodName) prog_14_method_109_code (5 : Nat) (Option.some Jvm.ClassFile.FieldType.int)) ∈ lw_all := lw_g (lw_at lw_m11 31 rfl) rfl
theorem q2512 : (Jvm.Cond.methodLink "PermissionDeskModel" (224 : Nat) ({ cls := "PermissionDeskModel", name := "isThrough", desc := "(IIII)Z" } : Jvm.MethodName)) ∈ lw_all := lw_g (lw_at lw_m11 32 rfl) rfl
theorem q2513 : (Jvm.Cond.privateMethod ({ cls := "PermissionDeskModel", name := "isThrough", desc := "(IIII)Z" } : Jvm.MethodName)) ∈ lw_tbl := lw_at lw_m11 33 rfl
theorem q2514 : (Jvm.Cond.instanceMethod ({ cls := "PermissionDeskModel", name := "isThrough", desc := "(IIII)Z" } : Jvm.MethodName)) ∈ lw_all := lw_g (lw_at lw_m11 34 rfl) rfl
theorem q2515 : (Jvm.Cond.code ({ cls := "PermissionDeskModel", name := "isThrough", desc := "(IIII)Z" } : Jvm.MethodName) prog_14_method_108_code (8 : Nat) (Option.some Jvm.ClassFile.FieldType.boolean)) ∈ lw_all := lw_g (lw_at lw_m11 35 rfl) rfl
theorem q2517 : (Jvm.Cond.instanceMethod ({ cls := "PermissionDeskModel", name := "isNeedless", desc := "(II)Z" } : Jvm.MethodName)) ∈ lw_all := lw_g (lw_at lw_m11 37 rfl) rfl
theorem q2518 : (Jvm.Cond.selects "PermissionDeskModel" ({ cls := "PermissionDeskModel", name := "isNeedless", desc := "(II)Z" } : Jvm.MethodName) ({ cls := "PermissionDeskModel", name := "isNeedless", desc := "(II)Z" } : Jvm.MethodName)) ∈ lw_all := lw_g (lw_at lw_m11 38 rfl) rfl
theorem q2519 : (Jvm.Cond.code ({ cls := "PermissionDeskModel", name := "isNeedless", desc := "(II)Z" } : Jvm.MethodName) prog_14_method_110_code (4 : Nat) (Option.some Jvm.ClassFile.FieldType.boolean)) ∈ lw_all := lw_g (lw_at lw_m11 39 rfl) rfl
theorem q2521 : (Jvm.Cond.instanceMethod ({ cls := "PermissionDeskModel", name := "allRights", desc := "()I" } : Jvm.MethodName)) ∈ lw_all := lw_g (lw_at lw_m11 41 rfl) rfl
theorem q2522 : (Jvm.Cond.selects "PermissionDeskModel" ({ cls := "PermissionDeskModel", name := "allRights", desc := "()I" } : Jvm.MethodName) ({ cls := "PermissionDeskModel", name := "allRights", desc := "()I" } : Jvm.MethodName)) ∈ lw_all := lw_g (lw_at lw_m11 42 rfl) rfl
theorem q2523 : (Jvm.Cond.code ({ cls := "PermissionDeskModel", name := "allRights", desc := "()I" } : Jvm.MethodName) prog_14_method_111_code (1 : Nat) (Option.some Jvm.ClassFile.FieldType.int)) ∈ lw_all := lw_g (lw_at lw_m11 43 rfl) rfl
theorem q2524 : (Jvm.Cond.methodLink "PermissionDeskModel" (227 : Nat) ({ cls := "PermissionDeskModel", name := "everything", desc := "()I" } : Jvm.MethodName)) ∈ lw_all := lw_g (lw_at lw_m11 44 rfl) rfl
theorem q2525 : (Jvm.Cond.privateMethod ({ cls := "PermissionDeskModel", name := "everything", desc := "()I" } : Jvm.MethodName)) ∈ lw_tbl := lw_at lw_m11 45 rfl
theorem q2526 : (Jvm.Cond.instanceMethod ({ cls := "PermissionDeskModel", name := "everything", desc := "()I" } : Jvm.MethodName)) ∈ lw_all := lw_g (lw_at lw_m11 46 rfl) rfl
theorem q2527 : (Jvm.Cond.code ({ cls := "PermissionDeskModel", name := "everything", desc := "()I" } : Jvm.MethodName) prog_14_method_56_code (4 : Nat) (Option.some Jvm.ClassFile.FieldType.int)) ∈ lw_all := lw_g (lw_at lw_m11 47 rfl) rfl
theorem q2528 : (Jvm.Cond.methodLink "PermissionDeskModel" (153 : Nat) ({ cls := "PermissionDeskModel", name := "size", desc := "(I)I" } : Jvm.MethodName)) ∈ lw_all := lw_g (lw_at lw_m11 48 rfl) rfl
theorem q2529 : (Jvm.Cond.static ({ cls := "PermissionDeskModel", name := "size", desc := "(I)I" } : Jvm.MethodName)) ∈ lw_all := lw_g (lw_at lw_m11 49 rfl) rfl
theorem q2530 : (Jvm.Cond.code ({ cls := "PermissionDeskModel", name := "size", desc := "(I)I" } : Jvm.MethodName) prog_14_method_17_code (3 : Nat) (Option.some Jvm.ClassFile.FieldType.int)) ∈ lw_all := lw_g (lw_at lw_m11 50 rfl) rfl
theorem q2532 : (Jvm.Cond.instanceMethod ({ cls := "PermissionDeskModel", name := "openness", desc := "()D" } : Jvm.MethodName)) ∈ lw_all := lw_g (lw_at lw_m11 52 rfl) rfl
theorem q2533 : (Jvm.Cond.selects "PermissionDeskModel" ({ cls := "PermissionDeskModel", name := "openness", desc := "()D" } : Jvm.MethodName) ({ cls := "PermissionDeskModel", name := "openness", desc := "()D" } : Jvm.MethodName)) ∈ lw_all := lw_g (lw_at lw_m11 53 rfl) rfl
theorem q2534 : (Jvm.Cond.code ({ cls := "PermissionDeskModel", name := "openness", desc := "()D" } : Jvm.MethodName) prog_14_method_112_code (3 : Nat) (Option.some Jvm.ClassFile.FieldType.double)) ∈ lw_all := lw_g (lw_at lw_m11 54 rfl) rfl
theorem q2536 : (Jvm.Cond.instanceMethod ({ cls := "PermissionDeskModel", name := "requests", desc := "()I" } : Jvm.MethodName)) ∈ lw_all := lw_g (lw_at lw_m11 56 rfl) rfl
theorem q2537 : (Jvm.Cond.selects "PermissionDeskModel" ({ cls := "PermissionDeskModel", name := "requests", desc := "()I" } : Jvm.MethodName) ({ cls := "PermissionDeskModel", name := "requests", desc := "()I" } : Jvm.MethodName)) ∈ lw_all := lw_g (lw_at lw_m11 57 rfl) rfl
theorem q2538 : (Jvm.Cond.code ({ cls := "PermissionDeskModel", name := "requests", desc := "()I" } : Jvm.MethodName) prog_14_method_113_code (1 : Nat) (Option.some Jvm.ClassFile.FieldType.int)) ∈ lw_all := lw_g (lw_at lw_m11 58 rfl) rfl
theorem q2540 : (Jvm.Cond.instanceMethod ({ cls := "PermissionDeskModel", name := "refusals", desc := "()I" } : Jvm.MethodName)) ∈ lw_all := lw_g (lw_at lw_m11 60 rfl) rfl
theorem q2541 : (Jvm.Cond.selects "PermissionDeskModel" ({ cls := "PermissionDeskModel", name := "refusals", desc := "()I" } : Jvm.MethodName) ({ cls := "PermissionDeskModel", name := "refusals", desc := "()I" } : Jvm.MethodName)) ∈ lw_all := lw_g (lw_at lw_m11 61 rfl) rfl
theorem q2542 : (Jvm.Cond.code ({ cls := "PermissionDeskModel", name := "refusals", desc := "()I" } : Jvm.MethodName) prog_14_method_114_code (1 : Nat) (Option.some Jvm.ClassFile.FieldType.int)) ∈ lw_all := lw_g (lw_at lw_m11 62 rfl) rfl
theorem q2544 : (Jvm.Cond.instanceMethod ({ cls := "PermissionDeskModel", name := "userOfRequest", desc := "(I)I" } : Jvm.MethodName)) ∈ lw_all := lw_g (lw_at lw_m11 64 rfl) rfl
theorem q2545 : (Jvm.Cond.selects "PermissionDeskModel" ({ cls := "PermissionDeskModel", name := "userOfRequest", desc := "(I)I" } : Jvm.MethodName) ({ cls := "PermissionDeskModel", name := "userOfRequest", desc := "(I)I" } : Jvm.MethodName)) ∈ lw_all := lw_g (lw_at lw_m11 65 rfl) rfl
theorem q2546 : (Jvm.Cond.code ({ cls := "PermissionDeskModel", name := "userOfRequest", desc := "(I)I" } : Jvm.MethodName) prog_14_method_116_code (2 : Nat) (Option.some Jvm.ClassFile.FieldType.int)) ∈ lw_all := lw_g (lw_at lw_m11 66 rfl) rfl
theorem q2547 : (Jvm.Cond.methodLink "PermissionDeskModel" (230 : Nat) ({ cls := "PermissionDeskModel", name := "logged", desc := "(II)I" } : Jvm.MethodName)) ∈ lw_all := lw_g (lw_at lw_m11 67 rfl) rfl
theorem q2548 : (Jvm.Cond.privateMethod ({ cls := "PermissionDeskModel", name := "logged", desc := "(II)I" } : Jvm.MethodName)) ∈ lw_tbl := lw_at lw_m11 68 rfl
theorem q2549 : (Jvm.Cond.instanceMethod ({ cls := "PermissionDeskModel", name := "logged", desc := "(II)I" } : Jvm.MethodName)) ∈ lw_all := lw_g (lw_at lw_m11 69 rfl) rfl
theorem q2550 : (Jvm.Cond.code ({ cls := "PermissionDeskModel", name := "logged", desc := "(II)I" } : Jvm.MethodName) prog_14_method_115_code (3 : Nat) (Option.some Jvm.ClassFile.FieldType.int)) ∈ lw_all := lw_g (lw_at lw_m11 70 rfl) rfl
theorem q2552 : (Jvm.Cond.instanceMethod ({ cls := "PermissionDeskModel", name := "objectOfRequest", desc := "(I)I" } : Jvm.MethodName)) ∈ lw_all := lw_g (lw_at lw_m11 72 rfl) rfl
theorem q2553 : (Jvm.Cond.selects "PermissionDeskModel" ({ cls := "PermissionDeskModel", name := "objectOfRequest", desc := "(I)I" } : Jvm.MethodName) ({ cls := "PermissionDeskModel", name := "objectOfRequest", desc := "(I)I" } : Jvm.MethodName)) ∈ lw_all := lw_g (lw_at lw_m11 73 rfl) rfl
theorem q2554 : (Jvm.Cond.code ({ cls := "PermissionDeskModel", name := "objectOfRequest", desc := "(I)I" } : Jvm.MethodName) prog_14_method_117_code (2 : Nat) (Option.some Jvm.ClassFile.FieldType.int)) ∈ lw_all := lw_g (lw_at lw_m11 74 rfl) rfl
theorem q2556 : (Jvm.Cond.instanceMethod ({ cls := "PermissionDeskModel", name := "wasAllowed", desc := "(I)Z" } : Jvm.MethodName)) ∈ lw_all := lw_g (lw_at lw_m11 76 rfl) rfl
theorem q2557 : (Jvm.Cond.selects "PermissionDeskModel" ({ cls := "PermissionDeskModel", name := "wasAllowed", desc := "(I)Z" } : Jvm.MethodName) ({ cls := "PermissionDeskModel", name := "wasAllowed", desc := "(I)Z" } : Jvm.MethodName)) ∈ lw_all := lw_g (lw_at lw_m11 77 rfl) rfl
theorem q2558 : (Jvm.Cond.code ({ cls := "PermissionDeskModel", name := "wasAllowed", desc := "(I)Z" } : Jvm.MethodName) prog_14_method_118_code (2 : Nat) (Option.some Jvm.ClassFile.FieldType.boolean)) ∈ lw_all := lw_g (lw_at lw_m11 78 rfl) rfl
theorem q2560 : (Jvm.Cond.instanceMethod ({ cls := "PermissionDeskModel", name := "undo", desc := "()I" } : Jvm.MethodName)) ∈ lw_all := lw_g (lw_at lw_m11 80 rfl) rfl
theorem q2561 : (Jvm.Cond.selects "PermissionDeskModel" ({ cls := "PermissionDeskModel", name := "undo", desc := "()I" } : Jvm.MethodName) ({ cls := "PermissionDeskModel", name := "undo", desc := "()I" } : Jvm.MethodName)) ∈ lw_all := lw_g (lw_at lw_m11 81 rfl) rfl
theorem q2562 : (Jvm.Cond.code ({ cls := "PermissionDeskModel", name := "undo", desc := "()I" } : Jvm.MethodName) prog_14_method_119_code (2 : Nat) (Option.some Jvm.ClassFile.FieldType.int)) ∈ lw_all := lw_g (lw_at lw_m11 82 rfl) rfl
theorem q2564 : (Jvm.Cond.instanceMethod ({ cls := "PermissionDeskModel", name := "save", desc := "(I)I" } : Jvm.MethodName)) ∈ lw_all := lw_g (lw_at lw_m11 84 rfl) rfl
theorem q2565 : (Jvm.Cond.selects "PermissionDeskModel" ({ cls := "PermissionDeskModel", name := "save", desc := "(I)I" } : Jvm.MethodName) ({ cls := "PermissionDeskModel", name := "save", desc := "(I)I" } : Jvm.MethodName)) ∈ lw_all := lw_g (lw_at lw_m11 85 rfl) rfl
theorem q2566 : (Jvm.Cond.code ({ cls := "PermissionDeskModel", name := "save", desc := "(I)I" } : Jvm.MethodName) prog_14_method_120_code (3 : Nat) (Option.some Jvm.ClassFile.FieldType.int)) ∈ lw_all := lw_g (lw_at lw_m11 86 rfl) rfl
theorem q2568 : (Jvm.Cond.instanceMethod ({ cls := "PermissionDeskModel", name := "restore", desc := "(I)I" } : Jvm.MethodName)) ∈ lw_all := lw_g (lw_at lw_m11 88 rfl) rfl
theorem q2569 : (Jvm.Cond.selects "PermissionDeskModel" ({ cls := "PermissionDeskModel", name := "restore", desc := "(I)I" } : Jvm.MethodName) ({ cls := "PermissionDeskModel", name := "restore", desc := "(I)I" } : Jvm.MethodName)) ∈ lw_all := lw_g (lw_at lw_m11 89 rfl) rfl
theorem q2570 : (Jvm.Cond.code ({ cls := "PermissionDeskModel", name := "restore", desc := "(I)I" } : Jvm.MethodName) prog_14_method_121_code (3 : Nat) (Option.some Jvm.ClassFile.FieldType.int)) ∈ lw_all := lw_g (lw_at lw_m11 90 rfl) rfl
theorem q2596 : (Jvm.Cond.castable "PermissionDeskModel" "java/lang/Object") ∈ lw_tbl := lw_at lw_m11 116 rfl
theorem in_X4 : ∀ w ∈ wsX40, w ∈ lw_all := lw_in wsX40 [2074, 2076, 2078, 2080, 2082, 2084, 2086, 2088, 2090, 2092, 2094, 2096, 2098, 2100, 2102] (by decide +kernel) (by decide +kernel)
