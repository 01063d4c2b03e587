/-! PermissionDesk -/
set_option maxRecDepth 100000
def RX1 : String := "PermissionDesk"
def TX1 : u_T := fun k => match k with
  | 0 => ("PermissionDesk", "now", "LPermissionDesk$Land;", false)
  | 1 => ("PermissionDesk", "history", "Ljava/util/LinkedList;", true)
  | 2 => ("PermissionDesk", "slots", "[LPermissionDesk$Land;", true)
  | _ => ("PermissionDesk", "pad", "Ljava/lang/StringBuilder;", true)
def tyX1 : Nat → FieldType := fun k => match k with
  | 0 => .object "PermissionDesk$Land"
  | 1 => .object "java/util/LinkedList"
  | 2 => .array (.object "PermissionDesk$Land")
  | _ => .object "java/lang/StringBuilder"
abbrev wsX10 : List Cond := u_ws RX1 TX1 4
theorem nmX1 : ∀ a, a < 4 → ∀ b, b < 4 → a ≠ b → (TX1 a).2.1 ≠ (TX1 b).2.1 := by decide +kernel
theorem tyX1_ok : ∀ k, k < 4 → parseFieldDescriptor (TX1 k).2.2.1 = some (tyX1 k) := by decide +kernel
abbrev cX1_init : ByteArray := prog_1_method_11_code
def yX1_init : MethodName := ⟨RX1, "<init>", "()V"⟩
def dkwX1_init_1 : List UInt8 := [189, 0, 31, 181, 0, 47, 42, 187, 0, 51, 89, 183, 0, 53, 181, 0, 54, 177]
abbrev dktX1_init_1 : List UInt8 := dkwX1_init_1 ++ []
def dkwX1_init_0 : List UInt8 := [42, 183, 0, 27, 42, 184, 0, 30, 181, 0, 36, 42, 187, 0, 40, 89, 183, 0, 42, 181, 0, 43, 42, 5]
abbrev dktX1_init_0 : List UInt8 := dkwX1_init_0 ++ dktX1_init_1
theorem dksX1_init_0 : cX1_init.data.toList.drop 0 = dktX1_init_0 := by decide +kernel
theorem dksX1_init_1 : cX1_init.data.toList.drop 24 = dktX1_init_1 := dk_seg dksX1_init_0 24 rfl rfl
theorem dX1_init_0 : decode cX1_init 0 = .ok (.aload_n 0, 1) := dk_42 (dk_at dksX1_init_0 0 rfl rfl)
theorem dX1_init_1 : decode cX1_init 1 = .ok (.invokespecial 27, 3) := dk_183 0 27 (dk_at dksX1_init_0 1 rfl rfl)
theorem dX1_init_4 : decode cX1_init 4 = .ok (.aload_n 0, 1) := dk_42 (dk_at dksX1_init_0 4 rfl rfl)
theorem dX1_init_5 : decode cX1_init 5 = .ok (.invokestatic 30, 3) := dk_184 0 30 (dk_at dksX1_init_0 5 rfl rfl)
theorem dX1_init_8 : decode cX1_init 8 = .ok (.putfield 36, 3) := dk_181 0 36 (dk_at dksX1_init_0 8 rfl rfl)
theorem dX1_init_11 : decode cX1_init 11 = .ok (.aload_n 0, 1) := dk_42 (dk_at dksX1_init_0 11 rfl rfl)
theorem dX1_init_12 : decode cX1_init 12 = .ok (.new 40, 3) := dk_187 0 40 (dk_at dksX1_init_0 12 rfl rfl)
theorem dX1_init_15 : decode cX1_init 15 = .ok (.dup, 1) := dk_89 (dk_at dksX1_init_0 15 rfl rfl)
theorem dX1_init_16 : decode cX1_init 16 = .ok (.invokespecial 42, 3) := dk_183 0 42 (dk_at dksX1_init_0 16 rfl rfl)
theorem dX1_init_19 : decode cX1_init 19 = .ok (.putfield 43, 3) := dk_181 0 43 (dk_at dksX1_init_0 19 rfl rfl)
theorem dX1_init_22 : decode cX1_init 22 = .ok (.aload_n 0, 1) := dk_42 (dk_at dksX1_init_0 22 rfl rfl)
theorem dX1_init_23 : decode cX1_init 23 = .ok (.iconst 2, 1) := dk_5 (dk_at dksX1_init_0 23 rfl rfl)
theorem dX1_init_24 : decode cX1_init 24 = .ok (.anewarray 31, 3) := dk_189 0 31 (dk_at dksX1_init_1 0 rfl rfl)
theorem dX1_init_27 : decode cX1_init 27 = .ok (.putfield 47, 3) := dk_181 0 47 (dk_at dksX1_init_1 3 rfl rfl)
theorem dX1_init_30 : decode cX1_init 30 = .ok (.aload_n 0, 1) := dk_42 (dk_at dksX1_init_1 6 rfl rfl)
theorem dX1_init_31 : decode cX1_init 31 = .ok (.new 51, 3) := dk_187 0 51 (dk_at dksX1_init_1 7 rfl rfl)
theorem dX1_init_34 : decode cX1_init 34 = .ok (.dup, 1) := dk_89 (dk_at dksX1_init_1 10 rfl rfl)
theorem dX1_init_35 : decode cX1_init 35 = .ok (.invokespecial 53, 3) := dk_183 0 53 (dk_at dksX1_init_1 11 rfl rfl)
theorem dX1_init_38 : decode cX1_init 38 = .ok (.putfield 54, 3) := dk_181 0 54 (dk_at dksX1_init_1 14 rfl rfl)
theorem dX1_init_41 : decode cX1_init 41 = .ok (.return_, 1) := dk_177 (dk_at dksX1_init_1 17 rfl rfl)
abbrev cX1_setOf : ByteArray := prog_1_method_8_code
def yX1_setOf : MethodName := ⟨RX1, "setOf", "([I)I"⟩
def dkwX1_setOf_1 : List UInt8 := [21, 5, 120, 128, 60, 132, 4, 1, 167, 255, 234, 27, 172]
abbrev dktX1_setOf_1 : List UInt8 := dkwX1_setOf_1 ++ []
def dkwX1_setOf_0 : List UInt8 := [3, 60, 42, 77, 44, 190, 62, 3, 54, 4, 21, 4, 29, 162, 0, 22, 44, 21, 4, 46, 54, 5, 27, 4]
abbrev dktX1_setOf_0 : List UInt8 := dkwX1_setOf_0 ++ dktX1_setOf_1
theorem dksX1_setOf_0 : cX1_setOf.data.toList.drop 0 = dktX1_setOf_0 := by decide +kernel
theorem dksX1_setOf_1 : cX1_setOf.data.toList.drop 24 = dktX1_setOf_1 := dk_seg dksX1_setOf_0 24 rfl rfl
theorem dX1_setOf_0 : decode cX1_setOf 0 = .ok (.iconst 0, 1) := dk_3 (dk_at dksX1_setOf_0 0 rfl rfl)
theorem dX1_setOf_1 : decode cX1_setOf 1 = .ok (.istore_n 1, 1) := dk_60 (dk_at dksX1_setOf_0 1 rfl rfl)
theorem dX1_setOf_2 : decode cX1_setOf 2 = .ok (.aload_n 0, 1) := dk_42 (dk_at dksX1_setOf_0 2 rfl rfl)
theorem dX1_setOf_3 : decode cX1_setOf 3 = .ok (.astore_n 2, 1) := dk_77 (dk_at dksX1_setOf_0 3 rfl rfl)
theorem dX1_setOf_4 : decode cX1_setOf 4 = .ok (.aload_n 2, 1) := dk_44 (dk_at dksX1_setOf_0 4 rfl rfl)
theorem dX1_setOf_5 : decode cX1_setOf 5 = .ok (.arraylength, 1) := dk_190 (dk_at dksX1_setOf_0 5 rfl rfl)
theorem dX1_setOf_6 : decode cX1_setOf 6 = .ok (.istore_n 3, 1) := dk_62 (dk_at dksX1_setOf_0 6 rfl rfl)
theorem dX1_setOf_7 : decode cX1_setOf 7 = .ok (.iconst 0, 1) := dk_3 (dk_at dksX1_setOf_0 7 rfl rfl)
theorem dX1_setOf_8 : decode cX1_setOf 8 = .ok (.istore 4, 2) := dk_54 4 (dk_at dksX1_setOf_0 8 rfl rfl)
theorem dX1_setOf_10 : decode cX1_setOf 10 = .ok (.iload 4, 2) := dk_21 4 (dk_at dksX1_setOf_0 10 rfl rfl)
theorem dX1_setOf_12 : decode cX1_setOf 12 = .ok (.iload_n 3, 1) := dk_29 (dk_at dksX1_setOf_0 12 rfl rfl)
theorem dX1_setOf_13 : decode cX1_setOf 13 = .ok (.if_icmp .ge 22, 3) := dk_162 0 22 (dk_at dksX1_setOf_0 13 rfl rfl)
theorem dX1_setOf_16 : decode cX1_setOf 16 = .ok (.aload_n 2, 1) := dk_44 (dk_at dksX1_setOf_0 16 rfl rfl)
theorem dX1_setOf_17 : decode cX1_setOf 17 = .ok (.iload 4, 2) := dk_21 4 (dk_at dksX1_setOf_0 17 rfl rfl)
theorem dX1_setOf_19 : decode cX1_setOf 19 = .ok (.iaload, 1) := dk_46 (dk_at dksX1_setOf_0 19 rfl rfl)
theorem dX1_setOf_20 : decode cX1_setOf 20 = .ok (.istore 5, 2) := dk_54 5 (dk_at dksX1_setOf_0 20 rfl rfl)
theorem dX1_setOf_22 : decode cX1_setOf 22 = .ok (.iload_n 1, 1) := dk_27 (dk_at dksX1_setOf_0 22 rfl rfl)
theorem dX1_setOf_23 : decode cX1_setOf 23 = .ok (.iconst 1, 1) := dk_4 (dk_at dksX1_setOf_0 23 rfl rfl)
theorem dX1_setOf_24 : decode cX1_setOf 24 = .ok (.iload 5, 2) := dk_21 5 (dk_at dksX1_setOf_1 0 rfl rfl)
theorem dX1_setOf_26 : decode cX1_setOf 26 = .ok (.ishl, 1) := dk_120 (dk_at dksX1_setOf_1 2 rfl rfl)
theorem dX1_setOf_27 : decode cX1_setOf 27 = .ok (.ior, 1) := dk_128 (dk_at dksX1_setOf_1 3 rfl rfl)
theorem dX1_setOf_28 : decode cX1_setOf 28 = .ok (.istore_n 1, 1) := dk_60 (dk_at dksX1_setOf_1 4 rfl rfl)
theorem dX1_setOf_29 : decode cX1_setOf 29 = .ok (.iinc 4 1, 3) := dk_132 4 1 (dk_at dksX1_setOf_1 5 rfl rfl)
theorem dX1_setOf_32 : decode cX1_setOf 32 = .ok (.goto (-22), 3) := dk_167 255 234 (dk_at dksX1_setOf_1 8 rfl rfl)
theorem dX1_setOf_35 : decode cX1_setOf 35 = .ok (.iload_n 1, 1) := dk_27 (dk_at dksX1_setOf_1 11 rfl rfl)
theorem dX1_setOf_36 : decode cX1_setOf 36 = .ok (.ireturn, 1) := dk_172 (dk_at dksX1_setOf_1 12 rfl rfl)
abbrev cX1_clear : ByteArray := prog_1_method_36_code
def yX1_clear : MethodName := ⟨RX1, "clear", "()I"⟩
def dkwX1_clear_0 : List UInt8 := [42, 180, 0, 54, 182, 0, 196, 60, 42, 180, 0, 54, 3, 182, 0, 203, 27, 172]
abbrev dktX1_clear_0 : List UInt8 := dkwX1_clear_0 ++ []
theorem dksX1_clear_0 : cX1_clear.data.toList.drop 0 = dktX1_clear_0 := by decide +kernel
theorem dX1_clear_0 : decode cX1_clear 0 = .ok (.aload_n 0, 1) := dk_42 (dk_at dksX1_clear_0 0 rfl rfl)
theorem dX1_clear_1 : decode cX1_clear 1 = .ok (.getfield 54, 3) := dk_180 0 54 (dk_at dksX1_clear_0 1 rfl rfl)
theorem dX1_clear_4 : decode cX1_clear 4 = .ok (.invokevirtual 196, 3) := dk_182 0 196 (dk_at dksX1_clear_0 4 rfl rfl)
theorem dX1_clear_7 : decode cX1_clear 7 = .ok (.istore_n 1, 1) := dk_60 (dk_at dksX1_clear_0 7 rfl rfl)
theorem dX1_clear_8 : decode cX1_clear 8 = .ok (.aload_n 0, 1) := dk_42 (dk_at dksX1_clear_0 8 rfl rfl)
theorem dX1_clear_9 : decode cX1_clear 9 = .ok (.getfield 54, 3) := dk_180 0 54 (dk_at dksX1_clear_0 9 rfl rfl)
theorem dX1_clear_12 : decode cX1_clear 12 = .ok (.iconst 0, 1) := dk_3 (dk_at dksX1_clear_0 12 rfl rfl)
theorem dX1_clear_13 : decode cX1_clear 13 = .ok (.invokevirtual 203, 3) := dk_182 0 203 (dk_at dksX1_clear_0 13 rfl rfl)
theorem dX1_clear_16 : decode cX1_clear 16 = .ok (.iload_n 1, 1) := dk_27 (dk_at dksX1_clear_0 16 rfl rfl)
theorem dX1_clear_17 : decode cX1_clear 17 = .ok (.ireturn, 1) := dk_172 (dk_at dksX1_clear_0 17 rfl rfl)
abbrev cX1_fault : ByteArray := prog_1_method_37_code
def yX1_fault : MethodName := ⟨RX1, "fault", "()I"⟩
def dkwX1_fault_0 : List UInt8 := [187, 0, 206, 89, 42, 180, 0, 54, 183, 0, 208, 182, 0, 211, 87, 2, 172, 76, 43, 180, 0, 217, 172]
abbrev dktX1_fault_0 : List UInt8 := dkwX1_fault_0 ++ []
theorem dksX1_fault_0 : cX1_fault.data.toList.drop 0 = dktX1_fault_0 := by decide +kernel
theorem dX1_fault_0 : decode cX1_fault 0 = .ok (.new 206, 3) := dk_187 0 206 (dk_at dksX1_fault_0 0 rfl rfl)
theorem dX1_fault_3 : decode cX1_fault 3 = .ok (.dup, 1) := dk_89 (dk_at dksX1_fault_0 3 rfl rfl)
theorem dX1_fault_4 : decode cX1_fault 4 = .ok (.aload_n 0, 1) := dk_42 (dk_at dksX1_fault_0 4 rfl rfl)
theorem dX1_fault_5 : decode cX1_fault 5 = .ok (.getfield 54, 3) := dk_180 0 54 (dk_at dksX1_fault_0 5 rfl rfl)
theorem dX1_fault_8 : decode cX1_fault 8 = .ok (.invokespecial 208, 3) := dk_183 0 208 (dk_at dksX1_fault_0 8 rfl rfl)
theorem dX1_fault_11 : decode cX1_fault 11 = .ok (.invokevirtual 211, 3) := dk_182 0 211 (dk_at dksX1_fault_0 11 rfl rfl)
theorem dX1_fault_14 : decode cX1_fault 14 = .ok (.pop, 1) := dk_87 (dk_at dksX1_fault_0 14 rfl rfl)
theorem dX1_fault_15 : decode cX1_fault 15 = .ok (.iconst (-1), 1) := dk_2 (dk_at dksX1_fault_0 15 rfl rfl)
theorem dX1_fault_16 : decode cX1_fault 16 = .ok (.ireturn, 1) := dk_172 (dk_at dksX1_fault_0 16 rfl rfl)
theorem dX1_fault_17 : decode cX1_fault 17 = .ok (.astore_n 1, 1) := dk_76 (dk_at dksX1_fault_0 17 rfl rfl)
theorem dX1_fault_18 : decode cX1_fault 18 = .ok (.aload_n 1, 1) := dk_43 (dk_at dksX1_fault_0 18 rfl rfl)
theorem dX1_fault_19 : decode cX1_fault 19 = .ok (.getfield 217, 3) := dk_180 0 217 (dk_at dksX1_fault_0 19 rfl rfl)
theorem dX1_fault_22 : decode cX1_fault 22 = .ok (.ireturn, 1) := dk_172 (dk_at dksX1_fault_0 22 rfl rfl)
abbrev cX1_inRange : ByteArray := prog_1_method_2_code
def yX1_inRange : MethodName := ⟨RX1, "inRange", "(III)Z"⟩
def dkwX1_inRange_0 : List UInt8 := [26, 27, 161, 0, 12, 26, 28, 163, 0, 7, 4, 167, 0, 4, 3, 172]
abbrev dktX1_inRange_0 : List UInt8 := dkwX1_inRange_0 ++ []
theorem dksX1_inRange_0 : cX1_inRange.data.toList.drop 0 = dktX1_inRange_0 := by decide +kernel
theorem dX1_inRange_0 : decode cX1_inRange 0 = .ok (.iload_n 0, 1) := dk_26 (dk_at dksX1_inRange_0 0 rfl rfl)
theorem dX1_inRange_1 : decode cX1_inRange 1 = .ok (.iload_n 1, 1) := dk_27 (dk_at dksX1_inRange_0 1 rfl rfl)
theorem dX1_inRange_2 : decode cX1_inRange 2 = .ok (.if_icmp .lt 12, 3) := dk_161 0 12 (dk_at dksX1_inRange_0 2 rfl rfl)
theorem dX1_inRange_5 : decode cX1_inRange 5 = .ok (.iload_n 0, 1) := dk_26 (dk_at dksX1_inRange_0 5 rfl rfl)
theorem dX1_inRange_6 : decode cX1_inRange 6 = .ok (.iload_n 2, 1) := dk_28 (dk_at dksX1_inRange_0 6 rfl rfl)
theorem dX1_inRange_7 : decode cX1_inRange 7 = .ok (.if_icmp .gt 7, 3) := dk_163 0 7 (dk_at dksX1_inRange_0 7 rfl rfl)
theorem dX1_inRange_10 : decode cX1_inRange 10 = .ok (.iconst 1, 1) := dk_4 (dk_at dksX1_inRange_0 10 rfl rfl)
theorem dX1_inRange_11 : decode cX1_inRange 11 = .ok (.goto 4, 3) := dk_167 0 4 (dk_at dksX1_inRange_0 11 rfl rfl)
theorem dX1_inRange_14 : decode cX1_inRange 14 = .ok (.iconst 0, 1) := dk_3 (dk_at dksX1_inRange_0 14 rfl rfl)
theorem dX1_inRange_15 : decode cX1_inRange 15 = .ok (.ireturn, 1) := dk_172 (dk_at dksX1_inRange_0 15 rfl rfl)
abbrev cX1_isIn : ByteArray := prog_1_method_9_code
def yX1_isIn : MethodName := ⟨RX1, "isIn", "(II)Z"⟩
def dkwX1_isIn_0 : List UInt8 := [26, 27, 122, 4, 126, 4, 160, 0, 7, 4, 167, 0, 4, 3, 172]
abbrev dktX1_isIn_0 : List UInt8 := dkwX1_isIn_0 ++ []
theorem dksX1_isIn_0 : cX1_isIn.data.toList.drop 0 = dktX1_isIn_0 := by decide +kernel
theorem dX1_isIn_0 : decode cX1_isIn 0 = .ok (.iload_n 0, 1) := dk_26 (dk_at dksX1_isIn_0 0 rfl rfl)
theorem dX1_isIn_1 : decode cX1_isIn 1 = .ok (.iload_n 1, 1) := dk_27 (dk_at dksX1_isIn_0 1 rfl rfl)
theorem dX1_isIn_2 : decode cX1_isIn 2 = .ok (.ishr, 1) := dk_122 (dk_at dksX1_isIn_0 2 rfl rfl)
theorem dX1_isIn_3 : decode cX1_isIn 3 = .ok (.iconst 1, 1) := dk_4 (dk_at dksX1_isIn_0 3 rfl rfl)
theorem dX1_isIn_4 : decode cX1_isIn 4 = .ok (.iand, 1) := dk_126 (dk_at dksX1_isIn_0 4 rfl rfl)
theorem dX1_isIn_5 : decode cX1_isIn 5 = .ok (.iconst 1, 1) := dk_4 (dk_at dksX1_isIn_0 5 rfl rfl)
theorem dX1_isIn_6 : decode cX1_isIn 6 = .ok (.if_icmp .ne 7, 3) := dk_160 0 7 (dk_at dksX1_isIn_0 6 rfl rfl)
theorem dX1_isIn_9 : decode cX1_isIn 9 = .ok (.iconst 1, 1) := dk_4 (dk_at dksX1_isIn_0 9 rfl rfl)
theorem dX1_isIn_10 : decode cX1_isIn 10 = .ok (.goto 4, 3) := dk_167 0 4 (dk_at dksX1_isIn_0 10 rfl rfl)
theorem dX1_isIn_13 : decode cX1_isIn 13 = .ok (.iconst 0, 1) := dk_3 (dk_at dksX1_isIn_0 13 rfl rfl)
theorem dX1_isIn_14 : decode cX1_isIn 14 = .ok (.ireturn, 1) := dk_172 (dk_at dksX1_isIn_0 14 rfl rfl)
abbrev cX1_users : ByteArray := prog_1_method_42_code
def yX1_users : MethodName := ⟨RX1, "users", "()I"⟩
def dkwX1_users_0 : List UInt8 := [42, 180, 0, 36, 180, 0, 70, 172]
abbrev dktX1_users_0 : List UInt8 := dkwX1_users_0 ++ []
theorem dksX1_users_0 : cX1_users.data.toList.drop 0 = dktX1_users_0 := by decide +kernel
theorem dX1_users_0 : decode cX1_users 0 = .ok (.aload_n 0, 1) := dk_42 (dk_at dksX1_users_0 0 rfl rfl)
theorem dX1_users_1 : decode cX1_users 1 = .ok (.getfield 36, 3) := dk_180 0 36 (dk_at dksX1_users_0 1 rfl rfl)
theorem dX1_users_4 : decode cX1_users 4 = .ok (.getfield 70, 3) := dk_180 0 70 (dk_at dksX1_users_0 4 rfl rfl)
theorem dX1_users_7 : decode cX1_users 7 = .ok (.ireturn, 1) := dk_172 (dk_at dksX1_users_0 7 rfl rfl)
abbrev cX1_groups : ByteArray := prog_1_method_43_code
def yX1_groups : MethodName := ⟨RX1, "groups", "()I"⟩
def dkwX1_groups_0 : List UInt8 := [42, 180, 0, 36, 180, 0, 84, 182, 0, 88, 172]
abbrev dktX1_groups_0 : List UInt8 := dkwX1_groups_0 ++ []
theorem dksX1_groups_0 : cX1_groups.data.toList.drop 0 = dktX1_groups_0 := by decide +kernel
theorem dX1_groups_0 : decode cX1_groups 0 = .ok (.aload_n 0, 1) := dk_42 (dk_at dksX1_groups_0 0 rfl rfl)
theorem dX1_groups_1 : decode cX1_groups 1 = .ok (.getfield 36, 3) := dk_180 0 36 (dk_at dksX1_groups_0 1 rfl rfl)
theorem dX1_groups_4 : decode cX1_groups 4 = .ok (.getfield 84, 3) := dk_180 0 84 (dk_at dksX1_groups_0 4 rfl rfl)
theorem dX1_groups_7 : decode cX1_groups 7 = .ok (.invokevirtual 88, 3) := dk_182 0 88 (dk_at dksX1_groups_0 7 rfl rfl)
theorem dX1_groups_10 : decode cX1_groups 10 = .ok (.ireturn, 1) := dk_172 (dk_at dksX1_groups_0 10 rfl rfl)
abbrev cX1_objects : ByteArray := prog_1_method_48_code
def yX1_objects : MethodName := ⟨RX1, "objects", "()I"⟩
def dkwX1_objects_0 : List UInt8 := [42, 180, 0, 36, 182, 1, 18, 172]
abbrev dktX1_objects_0 : List UInt8 := dkwX1_objects_0 ++ []
theorem dksX1_objects_0 : cX1_objects.data.toList.drop 0 = dktX1_objects_0 := by decide +kernel
theorem dX1_objects_0 : decode cX1_objects 0 = .ok (.aload_n 0, 1) := dk_42 (dk_at dksX1_objects_0 0 rfl rfl)
theorem dX1_objects_1 : decode cX1_objects 1 = .ok (.getfield 36, 3) := dk_180 0 36 (dk_at dksX1_objects_0 1 rfl rfl)
theorem dX1_objects_4 : decode cX1_objects 4 = .ok (.invokevirtual 274, 3) := dk_182 1 18 (dk_at dksX1_objects_0 4 rfl rfl)
theorem dX1_objects_7 : decode cX1_objects 7 = .ok (.ireturn, 1) := dk_172 (dk_at dksX1_objects_0 7 rfl rfl)
abbrev cX1_isThere : ByteArray := prog_1_method_49_code
def yX1_isThere : MethodName := ⟨RX1, "isThere", "(I)Z"⟩
def dkwX1_isThere_0 : List UInt8 := [42, 180, 0, 36, 27, 182, 0, 122, 172]
abbrev dktX1_isThere_0 : List UInt8 := dkwX1_isThere_0 ++ []
theorem dksX1_isThere_0 : cX1_isThere.data.toList.drop 0 = dktX1_isThere_0 := by decide +kernel
theorem dX1_isThere_0 : decode cX1_isThere 0 = .ok (.aload_n 0, 1) := dk_42 (dk_at dksX1_isThere_0 0 rfl rfl)
theorem dX1_isThere_1 : decode cX1_isThere 1 = .ok (.getfield 36, 3) := dk_180 0 36 (dk_at dksX1_isThere_0 1 rfl rfl)
theorem dX1_isThere_4 : decode cX1_isThere 4 = .ok (.iload_n 1, 1) := dk_27 (dk_at dksX1_isThere_0 4 rfl rfl)
theorem dX1_isThere_5 : decode cX1_isThere 5 = .ok (.invokevirtual 122, 3) := dk_182 0 122 (dk_at dksX1_isThere_0 5 rfl rfl)
theorem dX1_isThere_8 : decode cX1_isThere 8 = .ok (.ireturn, 1) := dk_172 (dk_at dksX1_isThere_0 8 rfl rfl)
abbrev cX1_allRights : ByteArray := prog_1_method_74_code
def yX1_allRights : MethodName := ⟨RX1, "allRights", "()I"⟩
def dkwX1_allRights_0 : List UInt8 := [42, 180, 0, 36, 182, 1, 73, 172]
abbrev dktX1_allRights_0 : List UInt8 := dkwX1_allRights_0 ++ []
theorem dksX1_allRights_0 : cX1_allRights.data.toList.drop 0 = dktX1_allRights_0 := by decide +kernel
theorem dX1_allRights_0 : decode cX1_allRights 0 = .ok (.aload_n 0, 1) := dk_42 (dk_at dksX1_allRights_0 0 rfl rfl)
theorem dX1_allRights_1 : decode cX1_allRights 1 = .ok (.getfield 36, 3) := dk_180 0 36 (dk_at dksX1_allRights_0 1 rfl rfl)
theorem dX1_allRights_4 : decode cX1_allRights 4 = .ok (.invokevirtual 329, 3) := dk_182 1 73 (dk_at dksX1_allRights_0 4 rfl rfl)
theorem dX1_allRights_7 : decode cX1_allRights 7 = .ok (.ireturn, 1) := dk_172 (dk_at dksX1_allRights_0 7 rfl rfl)
abbrev cX1_many : ByteArray := prog_1_method_10_code
def yX1_many : MethodName := ⟨RX1, "many", "(I)I"⟩
def dkwX1_many_0 : List UInt8 := [3, 60, 26, 61, 28, 158, 0, 16, 27, 28, 4, 126, 96, 60, 28, 4, 122, 61, 167, 255, 242, 27, 172]
abbrev dktX1_many_0 : List UInt8 := dkwX1_many_0 ++ []
theorem dksX1_many_0 : cX1_many.data.toList.drop 0 = dktX1_many_0 := by decide +kernel
theorem dX1_many_0 : decode cX1_many 0 = .ok (.iconst 0, 1) := dk_3 (dk_at dksX1_many_0 0 rfl rfl)
theorem dX1_many_1 : decode cX1_many 1 = .ok (.istore_n 1, 1) := dk_60 (dk_at dksX1_many_0 1 rfl rfl)
theorem dX1_many_2 : decode cX1_many 2 = .ok (.iload_n 0, 1) := dk_26 (dk_at dksX1_many_0 2 rfl rfl)
theorem dX1_many_3 : decode cX1_many 3 = .ok (.istore_n 2, 1) := dk_61 (dk_at dksX1_many_0 3 rfl rfl)
theorem dX1_many_4 : decode cX1_many 4 = .ok (.iload_n 2, 1) := dk_28 (dk_at dksX1_many_0 4 rfl rfl)
theorem dX1_many_5 : decode cX1_many 5 = .ok (.ifCond .le 16, 3) := dk_158 0 16 (dk_at dksX1_many_0 5 rfl rfl)
theorem dX1_many_8 : decode cX1_many 8 = .ok (.iload_n 1, 1) := dk_27 (dk_at dksX1_many_0 8 rfl rfl)
theorem dX1_many_9 : decode cX1_many 9 = .ok (.iload_n 2, 1) := dk_28 (dk_at dksX1_many_0 9 rfl rfl)
theorem dX1_many_10 : decode cX1_many 10 = .ok (.iconst 1, 1) := dk_4 (dk_at dksX1_many_0 10 rfl rfl)
theorem dX1_many_11 : decode cX1_many 11 = .ok (.iand, 1) := dk_126 (dk_at dksX1_many_0 11 rfl rfl)
theorem dX1_many_12 : decode cX1_many 12 = .ok (.iadd, 1) := dk_96 (dk_at dksX1_many_0 12 rfl rfl)
theorem dX1_many_13 : decode cX1_many 13 = .ok (.istore_n 1, 1) := dk_60 (dk_at dksX1_many_0 13 rfl rfl)
theorem dX1_many_14 : decode cX1_many 14 = .ok (.iload_n 2, 1) := dk_28 (dk_at dksX1_many_0 14 rfl rfl)
theorem dX1_many_15 : decode cX1_many 15 = .ok (.iconst 1, 1) := dk_4 (dk_at dksX1_many_0 15 rfl rfl)
theorem dX1_many_16 : decode cX1_many 16 = .ok (.ishr, 1) := dk_122 (dk_at dksX1_many_0 16 rfl rfl)
theorem dX1_many_17 : decode cX1_many 17 = .ok (.istore_n 2, 1) := dk_61 (dk_at dksX1_many_0 17 rfl rfl)
theorem dX1_many_18 : decode cX1_many 18 = .ok (.goto (-14), 3) := dk_167 255 242 (dk_at dksX1_many_0 18 rfl rfl)
theorem dX1_many_21 : decode cX1_many 21 = .ok (.iload_n 1, 1) := dk_27 (dk_at dksX1_many_0 21 rfl rfl)
theorem dX1_many_22 : decode cX1_many 22 = .ok (.ireturn, 1) := dk_172 (dk_at dksX1_many_0 22 rfl rfl)
abbrev cX1_openness : ByteArray := prog_1_method_75_code
def yX1_openness : MethodName := ⟨RX1, "openness", "()D"⟩
def dkwX1_openness_1 : List UInt8 := [104, 135, 111, 175]
abbrev dktX1_openness_1 : List UInt8 := dkwX1_openness_1 ++ []
def dkwX1_openness_0 : List UInt8 := [42, 180, 0, 36, 182, 1, 73, 135, 7, 42, 180, 0, 36, 180, 0, 70, 104, 42, 180, 0, 36, 182, 1, 18]
abbrev dktX1_openness_0 : List UInt8 := dkwX1_openness_0 ++ dktX1_openness_1
theorem dksX1_openness_0 : cX1_openness.data.toList.drop 0 = dktX1_openness_0 := by decide +kernel
theorem dksX1_openness_1 : cX1_openness.data.toList.drop 24 = dktX1_openness_1 := dk_seg dksX1_openness_0 24 rfl rfl
theorem dX1_openness_0 : decode cX1_openness 0 = .ok (.aload_n 0, 1) := dk_42 (dk_at dksX1_openness_0 0 rfl rfl)
theorem dX1_openness_1 : decode cX1_openness 1 = .ok (.getfield 36, 3) := dk_180 0 36 (dk_at dksX1_openness_0 1 rfl rfl)
theorem dX1_openness_4 : decode cX1_openness 4 = .ok (.invokevirtual 329, 3) := dk_182 1 73 (dk_at dksX1_openness_0 4 rfl rfl)
theorem dX1_openness_7 : decode cX1_openness 7 = .ok (.i2d, 1) := dk_135 (dk_at dksX1_openness_0 7 rfl rfl)
theorem dX1_openness_8 : decode cX1_openness 8 = .ok (.iconst 4, 1) := dk_7 (dk_at dksX1_openness_0 8 rfl rfl)
theorem dX1_openness_9 : decode cX1_openness 9 = .ok (.aload_n 0, 1) := dk_42 (dk_at dksX1_openness_0 9 rfl rfl)
theorem dX1_openness_10 : decode cX1_openness 10 = .ok (.getfield 36, 3) := dk_180 0 36 (dk_at dksX1_openness_0 10 rfl rfl)
theorem dX1_openness_13 : decode cX1_openness 13 = .ok (.getfield 70, 3) := dk_180 0 70 (dk_at dksX1_openness_0 13 rfl rfl)
theorem dX1_openness_16 : decode cX1_openness 16 = .ok (.imul, 1) := dk_104 (dk_at dksX1_openness_0 16 rfl rfl)
theorem dX1_openness_17 : decode cX1_openness 17 = .ok (.aload_n 0, 1) := dk_42 (dk_at dksX1_openness_0 17 rfl rfl)
theorem dX1_openness_18 : decode cX1_openness 18 = .ok (.getfield 36, 3) := dk_180 0 36 (dk_at dksX1_openness_0 18 rfl rfl)
theorem dX1_openness_21 : decode cX1_openness 21 = .ok (.invokevirtual 274, 3) := dk_182 1 18 (dk_at dksX1_openness_0 21 rfl rfl)
theorem dX1_openness_24 : decode cX1_openness 24 = .ok (.imul, 1) := dk_104 (dk_at dksX1_openness_1 0 rfl rfl)
theorem dX1_openness_25 : decode cX1_openness 25 = .ok (.i2d, 1) := dk_135 (dk_at dksX1_openness_1 1 rfl rfl)
theorem dX1_openness_26 : decode cX1_openness 26 = .ok (.ddiv, 1) := dk_111 (dk_at dksX1_openness_1 2 rfl rfl)
theorem dX1_openness_27 : decode cX1_openness 27 = .ok (.dreturn, 1) := dk_175 (dk_at dksX1_openness_1 3 rfl rfl)
abbrev cX1_requests : ByteArray := prog_1_method_77_code
def yX1_requests : MethodName := ⟨RX1, "requests", "()I"⟩
def dkwX1_requests_0 : List UInt8 := [42, 180, 0, 36, 180, 1, 85, 172]
abbrev dktX1_requests_0 : List UInt8 := dkwX1_requests_0 ++ []
theorem dksX1_requests_0 : cX1_requests.data.toList.drop 0 = dktX1_requests_0 := by decide +kernel
theorem dX1_requests_0 : decode cX1_requests 0 = .ok (.aload_n 0, 1) := dk_42 (dk_at dksX1_requests_0 0 rfl rfl)
theorem dX1_requests_1 : decode cX1_requests 1 = .ok (.getfield 36, 3) := dk_180 0 36 (dk_at dksX1_requests_0 1 rfl rfl)
theorem dX1_requests_4 : decode cX1_requests 4 = .ok (.getfield 341, 3) := dk_180 1 85 (dk_at dksX1_requests_0 4 rfl rfl)
theorem dX1_requests_7 : decode cX1_requests 7 = .ok (.ireturn, 1) := dk_172 (dk_at dksX1_requests_0 7 rfl rfl)
abbrev cX1_refusals : ByteArray := prog_1_method_78_code
def yX1_refusals : MethodName := ⟨RX1, "refusals", "()I"⟩
def dkwX1_refusals_0 : List UInt8 := [42, 180, 0, 36, 180, 1, 88, 172]
abbrev dktX1_refusals_0 : List UInt8 := dkwX1_refusals_0 ++ []
theorem dksX1_refusals_0 : cX1_refusals.data.toList.drop 0 = dktX1_refusals_0 := by decide +kernel
theorem dX1_refusals_0 : decode cX1_refusals 0 = .ok (.aload_n 0, 1) := dk_42 (dk_at dksX1_refusals_0 0 rfl rfl)
theorem dX1_refusals_1 : decode cX1_refusals 1 = .ok (.getfield 36, 3) := dk_180 0 36 (dk_at dksX1_refusals_0 1 rfl rfl)
theorem dX1_refusals_4 : decode cX1_refusals 4 = .ok (.getfield 344, 3) := dk_180 1 88 (dk_at dksX1_refusals_0 4 rfl rfl)
theorem dX1_refusals_7 : decode cX1_refusals 7 = .ok (.ireturn, 1) := dk_172 (dk_at dksX1_refusals_0 7 rfl rfl)
abbrev cX1_addUser : ByteArray := prog_1_method_13_code
def yX1_addUser : MethodName := ⟨RX1, "addUser", "()I"⟩
def dkwX1_addUser_2 : List UInt8 := [180, 0, 36, 180, 0, 70, 4, 100, 172]
abbrev dktX1_addUser_2 : List UInt8 := dkwX1_addUser_2 ++ []
def dkwX1_addUser_1 : List UInt8 := [180, 0, 36, 182, 0, 77, 182, 0, 80, 42, 180, 0, 36, 89, 180, 0, 70, 4, 96, 181, 0, 70, 42]
abbrev dktX1_addUser_1 : List UInt8 := dkwX1_addUser_1 ++ dktX1_addUser_2
def dkwX1_addUser_0 : List UInt8 := [42, 180, 0, 36, 180, 0, 70, 16, 12, 162, 0, 7, 4, 167, 0, 4, 3, 184, 0, 74, 42, 42]
abbrev dktX1_addUser_0 : List UInt8 := dkwX1_addUser_0 ++ dktX1_addUser_1
theorem dksX1_addUser_0 : cX1_addUser.data.toList.drop 0 = dktX1_addUser_0 := by decide +kernel
theorem dksX1_addUser_1 : cX1_addUser.data.toList.drop 22 = dktX1_addUser_1 := dk_seg dksX1_addUser_0 22 rfl rfl
theorem dksX1_addUser_2 : cX1_addUser.data.toList.drop 45 = dktX1_addUser_2 := dk_seg dksX1_addUser_1 23 rfl rfl
theorem dX1_addUser_0 : decode cX1_addUser 0 = .ok (.aload_n 0, 1) := dk_42 (dk_at dksX1_addUser_0 0 rfl rfl)
theorem dX1_addUser_1 : decode cX1_addUser 1 = .ok (.getfield 36, 3) := dk_180 0 36 (dk_at dksX1_addUser_0 1 rfl rfl)
theorem dX1_addUser_4 : decode cX1_addUser 4 = .ok (.getfield 70, 3) := dk_180 0 70 (dk_at dksX1_addUser_0 4 rfl rfl)
theorem dX1_addUser_7 : decode cX1_addUser 7 = .ok (.bipush 12, 2) := dk_16 12 (dk_at dksX1_addUser_0 7 rfl rfl)
theorem dX1_addUser_9 : decode cX1_addUser 9 = .ok (.if_icmp .ge 7, 3) := dk_162 0 7 (dk_at dksX1_addUser_0 9 rfl rfl)
theorem dX1_addUser_12 : decode cX1_addUser 12 = .ok (.iconst 1, 1) := dk_4 (dk_at dksX1_addUser_0 12 rfl rfl)
theorem dX1_addUser_13 : decode cX1_addUser 13 = .ok (.goto 4, 3) := dk_167 0 4 (dk_at dksX1_addUser_0 13 rfl rfl)
theorem dX1_addUser_16 : decode cX1_addUser 16 = .ok (.iconst 0, 1) := dk_3 (dk_at dksX1_addUser_0 16 rfl rfl)
theorem dX1_addUser_17 : decode cX1_addUser 17 = .ok (.invokestatic 74, 3) := dk_184 0 74 (dk_at dksX1_addUser_0 17 rfl rfl)
theorem dX1_addUser_20 : decode cX1_addUser 20 = .ok (.aload_n 0, 1) := dk_42 (dk_at dksX1_addUser_0 20 rfl rfl)
theorem dX1_addUser_21 : decode cX1_addUser 21 = .ok (.aload_n 0, 1) := dk_42 (dk_at dksX1_addUser_0 21 rfl rfl)
theorem dX1_addUser_22 : decode cX1_addUser 22 = .ok (.getfield 36, 3) := dk_180 0 36 (dk_at dksX1_addUser_1 0 rfl rfl)
theorem dX1_addUser_25 : decode cX1_addUser 25 = .ok (.invokevirtual 77, 3) := dk_182 0 77 (dk_at dksX1_addUser_1 3 rfl rfl)
theorem dX1_addUser_28 : decode cX1_addUser 28 = .ok (.invokevirtual 80, 3) := dk_182 0 80 (dk_at dksX1_addUser_1 6 rfl rfl)
theorem dX1_addUser_31 : decode cX1_addUser 31 = .ok (.aload_n 0, 1) := dk_42 (dk_at dksX1_addUser_1 9 rfl rfl)
theorem dX1_addUser_32 : decode cX1_addUser 32 = .ok (.getfield 36, 3) := dk_180 0 36 (dk_at dksX1_addUser_1 10 rfl rfl)
theorem dX1_addUser_35 : decode cX1_addUser 35 = .ok (.dup, 1) := dk_89 (dk_at dksX1_addUser_1 13 rfl rfl)
theorem dX1_addUser_36 : decode cX1_addUser 36 = .ok (.getfield 70, 3) := dk_180 0 70 (dk_at dksX1_addUser_1 14 rfl rfl)
theorem dX1_addUser_39 : decode cX1_addUser 39 = .ok (.iconst 1, 1) := dk_4 (dk_at dksX1_addUser_1 17 rfl rfl)
theorem dX1_addUser_40 : decode cX1_addUser 40 = .ok (.iadd, 1) := dk_96 (dk_at dksX1_addUser_1 18 rfl rfl)
theorem dX1_addUser_41 : decode cX1_addUser 41 = .ok (.putfield 70, 3) := dk_181 0 70 (dk_at dksX1_addUser_1 19 rfl rfl)
theorem dX1_addUser_44 : decode cX1_addUser 44 = .ok (.aload_n 0, 1) := dk_42 (dk_at dksX1_addUser_1 22 rfl rfl)
theorem dX1_addUser_45 : decode cX1_addUser 45 = .ok (.getfield 36, 3) := dk_180 0 36 (dk_at dksX1_addUser_2 0 rfl rfl)
theorem dX1_addUser_48 : decode cX1_addUser 48 = .ok (.getfield 70, 3) := dk_180 0 70 (dk_at dksX1_addUser_2 3 rfl rfl)
theorem dX1_addUser_51 : decode cX1_addUser 51 = .ok (.iconst 1, 1) := dk_4 (dk_at dksX1_addUser_2 6 rfl rfl)
theorem dX1_addUser_52 : decode cX1_addUser 52 = .ok (.isub, 1) := dk_100 (dk_at dksX1_addUser_2 7 rfl rfl)
theorem dX1_addUser_53 : decode cX1_addUser 53 = .ok (.ireturn, 1) := dk_172 (dk_at dksX1_addUser_2 8 rfl rfl)
abbrev cX1_demand : ByteArray := prog_1_method_5_code
def yX1_demand : MethodName := ⟨RX1, "demand", "(Z)V"⟩
def dkwX1_demand_0 : List UInt8 := [26, 154, 0, 11, 187, 0, 10, 89, 183, 0, 12, 191, 177]
abbrev dktX1_demand_0 : List UInt8 := dkwX1_demand_0 ++ []
theorem dksX1_demand_0 : cX1_demand.data.toList.drop 0 = dktX1_demand_0 := by decide +kernel
theorem dX1_demand_0 : decode cX1_demand 0 = .ok (.iload_n 0, 1) := dk_26 (dk_at dksX1_demand_0 0 rfl rfl)
theorem dX1_demand_1 : decode cX1_demand 1 = .ok (.ifCond .ne 11, 3) := dk_154 0 11 (dk_at dksX1_demand_0 1 rfl rfl)
theorem dX1_demand_4 : decode cX1_demand 4 = .ok (.new 10, 3) := dk_187 0 10 (dk_at dksX1_demand_0 4 rfl rfl)
theorem dX1_demand_7 : decode cX1_demand 7 = .ok (.dup, 1) := dk_89 (dk_at dksX1_demand_0 7 rfl rfl)
theorem dX1_demand_8 : decode cX1_demand 8 = .ok (.invokespecial 12, 3) := dk_183 0 12 (dk_at dksX1_demand_0 8 rfl rfl)
theorem dX1_demand_11 : decode cX1_demand 11 = .ok (.athrow, 1) := dk_191 (dk_at dksX1_demand_0 11 rfl rfl)
theorem dX1_demand_12 : decode cX1_demand 12 = .ok (.return_, 1) := dk_177 (dk_at dksX1_demand_0 12 rfl rfl)
abbrev cX1_records : ByteArray := prog_1_method_12_code
def yX1_records : MethodName := ⟨RX1, "records", "(LPermissionDesk$Land;)V"⟩
def dkwX1_records_1 : List UInt8 := [182, 0, 66, 177]
abbrev dktX1_records_1 : List UInt8 := dkwX1_records_1 ++ []
def dkwX1_records_0 : List UInt8 := [42, 180, 0, 43, 182, 0, 58, 8, 160, 0, 11, 42, 180, 0, 43, 182, 0, 62, 87, 42, 180, 0, 43, 43]
abbrev dktX1_records_0 : List UInt8 := dkwX1_records_0 ++ dktX1_records_1
theorem dksX1_records_0 : cX1_records.data.toList.drop 0 = dktX1_records_0 := by decide +kernel
theorem dksX1_records_1 : cX1_records.data.toList.drop 24 = dktX1_records_1 := dk_seg dksX1_records_0 24 rfl rfl
theorem dX1_records_0 : decode cX1_records 0 = .ok (.aload_n 0, 1) := dk_42 (dk_at dksX1_records_0 0 rfl rfl)
theorem dX1_records_1 : decode cX1_records 1 = .ok (.getfield 43, 3) := dk_180 0 43 (dk_at dksX1_records_0 1 rfl rfl)
theorem dX1_records_4 : decode cX1_records 4 = .ok (.invokevirtual 58, 3) := dk_182 0 58 (dk_at dksX1_records_0 4 rfl rfl)
theorem dX1_records_7 : decode cX1_records 7 = .ok (.iconst 5, 1) := dk_8 (dk_at dksX1_records_0 7 rfl rfl)
theorem dX1_records_8 : decode cX1_records 8 = .ok (.if_icmp .ne 11, 3) := dk_160 0 11 (dk_at dksX1_records_0 8 rfl rfl)
theorem dX1_records_11 : decode cX1_records 11 = .ok (.aload_n 0, 1) := dk_42 (dk_at dksX1_records_0 11 rfl rfl)
theorem dX1_records_12 : decode cX1_records 12 = .ok (.getfield 43, 3) := dk_180 0 43 (dk_at dksX1_records_0 12 rfl rfl)
theorem dX1_records_15 : decode cX1_records 15 = .ok (.invokevirtual 62, 3) := dk_182 0 62 (dk_at dksX1_records_0 15 rfl rfl)
theorem dX1_records_18 : decode cX1_records 18 = .ok (.pop, 1) := dk_87 (dk_at dksX1_records_0 18 rfl rfl)
theorem dX1_records_19 : decode cX1_records 19 = .ok (.aload_n 0, 1) := dk_42 (dk_at dksX1_records_0 19 rfl rfl)
theorem dX1_records_20 : decode cX1_records 20 = .ok (.getfield 43, 3) := dk_180 0 43 (dk_at dksX1_records_0 20 rfl rfl)
theorem dX1_records_23 : decode cX1_records 23 = .ok (.aload_n 1, 1) := dk_43 (dk_at dksX1_records_0 23 rfl rfl)
theorem dX1_records_24 : decode cX1_records 24 = .ok (.invokevirtual 66, 3) := dk_182 0 66 (dk_at dksX1_records_1 0 rfl rfl)
theorem dX1_records_27 : decode cX1_records 27 = .ok (.return_, 1) := dk_177 (dk_at dksX1_records_1 3 rfl rfl)
abbrev cX1_addGroup : ByteArray := prog_1_method_14_code
def yX1_addGroup : MethodName := ⟨RX1, "addGroup", "()I"⟩
def dkwX1_addGroup_2 : List UInt8 := [182, 0, 94, 87, 42, 180, 0, 36, 180, 0, 84, 182, 0, 88, 4, 100, 172]
abbrev dktX1_addGroup_2 : List UInt8 := dkwX1_addGroup_2 ++ []
def dkwX1_addGroup_1 : List UInt8 := [42, 180, 0, 36, 182, 0, 77, 182, 0, 80, 42, 180, 0, 36, 180, 0, 84, 187, 0, 91, 89, 183, 0, 93]
abbrev dktX1_addGroup_1 : List UInt8 := dkwX1_addGroup_1 ++ dktX1_addGroup_2
def dkwX1_addGroup_0 : List UInt8 := [42, 180, 0, 36, 180, 0, 84, 182, 0, 88, 16, 8, 162, 0, 7, 4, 167, 0, 4, 3, 184, 0, 74, 42]
abbrev dktX1_addGroup_0 : List UInt8 := dkwX1_addGroup_0 ++ dktX1_addGroup_1
theorem dksX1_addGroup_0 : cX1_addGroup.data.toList.drop 0 = dktX1_addGroup_0 := by decide +kernel
theorem dksX1_addGroup_1 : cX1_addGroup.data.toList.drop 24 = dktX1_addGroup_1 := dk_seg dksX1_addGroup_0 24 rfl rfl
theorem dksX1_addGroup_2 : cX1_addGroup.data.toList.drop 48 = dktX1_addGroup_2 := dk_seg dksX1_addGroup_1 24 rfl rfl
theorem dX1_addGroup_0 : decode cX1_addGroup 0 = .ok (.aload_n 0, 1) := dk_42 (dk_at dksX1_addGroup_0 0 rfl rfl)
theorem dX1_addGroup_1 : decode cX1_addGroup 1 = .ok (.getfield 36, 3) := dk_180 0 36 (dk_at dksX1_addGroup_0 1 rfl rfl)
theorem dX1_addGroup_4 : decode cX1_addGroup 4 = .ok (.getfield 84, 3) := dk_180 0 84 (dk_at dksX1_addGroup_0 4 rfl rfl)
theorem dX1_addGroup_7 : decode cX1_addGroup 7 = .ok (.invokevirtual 88, 3) := dk_182 0 88 (dk_at dksX1_addGroup_0 7 rfl rfl)
theorem dX1_addGroup_10 : decode cX1_addGroup 10 = .ok (.bipush 8, 2) := dk_16 8 (dk_at dksX1_addGroup_0 10 rfl rfl)
theorem dX1_addGroup_12 : decode cX1_addGroup 12 = .ok (.if_icmp .ge 7, 3) := dk_162 0 7 (dk_at dksX1_addGroup_0 12 rfl rfl)
theorem dX1_addGroup_15 : decode cX1_addGroup 15 = .ok (.iconst 1, 1) := dk_4 (dk_at dksX1_addGroup_0 15 rfl rfl)
theorem dX1_addGroup_16 : decode cX1_addGroup 16 = .ok (.goto 4, 3) := dk_167 0 4 (dk_at dksX1_addGroup_0 16 rfl rfl)
theorem dX1_addGroup_19 : decode cX1_addGroup 19 = .ok (.iconst 0, 1) := dk_3 (dk_at dksX1_addGroup_0 19 rfl rfl)
theorem dX1_addGroup_20 : decode cX1_addGroup 20 = .ok (.invokestatic 74, 3) := dk_184 0 74 (dk_at dksX1_addGroup_0 20 rfl rfl)
theorem dX1_addGroup_23 : decode cX1_addGroup 23 = .ok (.aload_n 0, 1) := dk_42 (dk_at dksX1_addGroup_0 23 rfl rfl)
theorem dX1_addGroup_24 : decode cX1_addGroup 24 = .ok (.aload_n 0, 1) := dk_42 (dk_at dksX1_addGroup_1 0 rfl rfl)
theorem dX1_addGroup_25 : decode cX1_addGroup 25 = .ok (.getfield 36, 3) := dk_180 0 36 (dk_at dksX1_addGroup_1 1 rfl rfl)
theorem dX1_addGroup_28 : decode cX1_addGroup 28 = .ok (.invokevirtual 77, 3) := dk_182 0 77 (dk_at dksX1_addGroup_1 4 rfl rfl)
theorem dX1_addGroup_31 : decode cX1_addGroup 31 = .ok (.invokevirtual 80, 3) := dk_182 0 80 (dk_at dksX1_addGroup_1 7 rfl rfl)
theorem dX1_addGroup_34 : decode cX1_addGroup 34 = .ok (.aload_n 0, 1) := dk_42 (dk_at dksX1_addGroup_1 10 rfl rfl)
theorem dX1_addGroup_35 : decode cX1_addGroup 35 = .ok (.getfield 36, 3) := dk_180 0 36 (dk_at dksX1_addGroup_1 11 rfl rfl)
theorem dX1_addGroup_38 : decode cX1_addGroup 38 = .ok (.getfield 84, 3) := dk_180 0 84 (dk_at dksX1_addGroup_1 14 rfl rfl)
theorem dX1_addGroup_41 : decode cX1_addGroup 41 = .ok (.new 91, 3) := dk_187 0 91 (dk_at dksX1_addGroup_1 17 rfl rfl)
theorem dX1_addGroup_44 : decode cX1_addGroup 44 = .ok (.dup, 1) := dk_89 (dk_at dksX1_addGroup_1 20 rfl rfl)
theorem dX1_addGroup_45 : decode cX1_addGroup 45 = .ok (.invokespecial 93, 3) := dk_183 0 93 (dk_at dksX1_addGroup_1 21 rfl rfl)
theorem dX1_addGroup_48 : decode cX1_addGroup 48 = .ok (.invokevirtual 94, 3) := dk_182 0 94 (dk_at dksX1_addGroup_2 0 rfl rfl)
theorem dX1_addGroup_51 : decode cX1_addGroup 51 = .ok (.pop, 1) := dk_87 (dk_at dksX1_addGroup_2 3 rfl rfl)
theorem dX1_addGroup_52 : decode cX1_addGroup 52 = .ok (.aload_n 0, 1) := dk_42 (dk_at dksX1_addGroup_2 4 rfl rfl)
theorem dX1_addGroup_53 : decode cX1_addGroup 53 = .ok (.getfield 36, 3) := dk_180 0 36 (dk_at dksX1_addGroup_2 5 rfl rfl)
theorem dX1_addGroup_56 : decode cX1_addGroup 56 = .ok (.getfield 84, 3) := dk_180 0 84 (dk_at dksX1_addGroup_2 8 rfl rfl)
theorem dX1_addGroup_59 : decode cX1_addGroup 59 = .ok (.invokevirtual 88, 3) := dk_182 0 88 (dk_at dksX1_addGroup_2 11 rfl rfl)
theorem dX1_addGroup_62 : decode cX1_addGroup 62 = .ok (.iconst 1, 1) := dk_4 (dk_at dksX1_addGroup_2 14 rfl rfl)
theorem dX1_addGroup_63 : decode cX1_addGroup 63 = .ok (.isub, 1) := dk_100 (dk_at dksX1_addGroup_2 15 rfl rfl)
theorem dX1_addGroup_64 : decode cX1_addGroup 64 = .ok (.ireturn, 1) := dk_172 (dk_at dksX1_addGroup_2 16 rfl rfl)
abbrev cX1_join : ByteArray := prog_1_method_15_code
def yX1_join : MethodName := ⟨RX1, "join", "(II)I"⟩
def dkwX1_join_2 : List UInt8 := [45, 182, 0, 80, 21, 4, 172]
abbrev dktX1_join_2 : List UInt8 := dkwX1_join_2 ++ []
def dkwX1_join_1 : List UInt8 := [84, 184, 0, 105, 42, 180, 0, 36, 182, 0, 77, 78, 42, 180, 0, 36, 27, 28, 182, 0, 109, 54, 4, 42]
abbrev dktX1_join_1 : List UInt8 := dkwX1_join_1 ++ dktX1_join_2
def dkwX1_join_0 : List UInt8 := [5, 188, 4, 89, 3, 42, 180, 0, 36, 27, 182, 0, 98, 84, 89, 4, 42, 180, 0, 36, 28, 182, 0, 102]
abbrev dktX1_join_0 : List UInt8 := dkwX1_join_0 ++ dktX1_join_1
theorem dksX1_join_0 : cX1_join.data.toList.drop 0 = dktX1_join_0 := by decide +kernel
theorem dksX1_join_1 : cX1_join.data.toList.drop 24 = dktX1_join_1 := dk_seg dksX1_join_0 24 rfl rfl
theorem dksX1_join_2 : cX1_join.data.toList.drop 48 = dktX1_join_2 := dk_seg dksX1_join_1 24 rfl rfl
theorem dX1_join_0 : decode cX1_join 0 = .ok (.iconst 2, 1) := dk_5 (dk_at dksX1_join_0 0 rfl rfl)
theorem dX1_join_1 : decode cX1_join 1 = .ok (.newarray .boolean, 2) := dk_188_4 (dk_at dksX1_join_0 1 rfl rfl)
theorem dX1_join_3 : decode cX1_join 3 = .ok (.dup, 1) := dk_89 (dk_at dksX1_join_0 3 rfl rfl)
theorem dX1_join_4 : decode cX1_join 4 = .ok (.iconst 0, 1) := dk_3 (dk_at dksX1_join_0 4 rfl rfl)
theorem dX1_join_5 : decode cX1_join 5 = .ok (.aload_n 0, 1) := dk_42 (dk_at dksX1_join_0 5 rfl rfl)
theorem dX1_join_6 : decode cX1_join 6 = .ok (.getfield 36, 3) := dk_180 0 36 (dk_at dksX1_join_0 6 rfl rfl)
theorem dX1_join_9 : decode cX1_join 9 = .ok (.iload_n 1, 1) := dk_27 (dk_at dksX1_join_0 9 rfl rfl)
theorem dX1_join_10 : decode cX1_join 10 = .ok (.invokevirtual 98, 3) := dk_182 0 98 (dk_at dksX1_join_0 10 rfl rfl)
theorem dX1_join_13 : decode cX1_join 13 = .ok (.bastore, 1) := dk_84 (dk_at dksX1_join_0 13 rfl rfl)
theorem dX1_join_14 : decode cX1_join 14 = .ok (.dup, 1) := dk_89 (dk_at dksX1_join_0 14 rfl rfl)
theorem dX1_join_15 : decode cX1_join 15 = .ok (.iconst 1, 1) := dk_4 (dk_at dksX1_join_0 15 rfl rfl)
theorem dX1_join_16 : decode cX1_join 16 = .ok (.aload_n 0, 1) := dk_42 (dk_at dksX1_join_0 16 rfl rfl)
theorem dX1_join_17 : decode cX1_join 17 = .ok (.getfield 36, 3) := dk_180 0 36 (dk_at dksX1_join_0 17 rfl rfl)
theorem dX1_join_20 : decode cX1_join 20 = .ok (.iload_n 2, 1) := dk_28 (dk_at dksX1_join_0 20 rfl rfl)
theorem dX1_join_21 : decode cX1_join 21 = .ok (.invokevirtual 102, 3) := dk_182 0 102 (dk_at dksX1_join_0 21 rfl rfl)
theorem dX1_join_24 : decode cX1_join 24 = .ok (.bastore, 1) := dk_84 (dk_at dksX1_join_1 0 rfl rfl)
theorem dX1_join_25 : decode cX1_join 25 = .ok (.invokestatic 105, 3) := dk_184 0 105 (dk_at dksX1_join_1 1 rfl rfl)
theorem dX1_join_28 : decode cX1_join 28 = .ok (.aload_n 0, 1) := dk_42 (dk_at dksX1_join_1 4 rfl rfl)
theorem dX1_join_29 : decode cX1_join 29 = .ok (.getfield 36, 3) := dk_180 0 36 (dk_at dksX1_join_1 5 rfl rfl)
theorem dX1_join_32 : decode cX1_join 32 = .ok (.invokevirtual 77, 3) := dk_182 0 77 (dk_at dksX1_join_1 8 rfl rfl)
theorem dX1_join_35 : decode cX1_join 35 = .ok (.astore_n 3, 1) := dk_78 (dk_at dksX1_join_1 11 rfl rfl)
theorem dX1_join_36 : decode cX1_join 36 = .ok (.aload_n 0, 1) := dk_42 (dk_at dksX1_join_1 12 rfl rfl)
theorem dX1_join_37 : decode cX1_join 37 = .ok (.getfield 36, 3) := dk_180 0 36 (dk_at dksX1_join_1 13 rfl rfl)
theorem dX1_join_40 : decode cX1_join 40 = .ok (.iload_n 1, 1) := dk_27 (dk_at dksX1_join_1 16 rfl rfl)
theorem dX1_join_41 : decode cX1_join 41 = .ok (.iload_n 2, 1) := dk_28 (dk_at dksX1_join_1 17 rfl rfl)
theorem dX1_join_42 : decode cX1_join 42 = .ok (.invokevirtual 109, 3) := dk_182 0 109 (dk_at dksX1_join_1 18 rfl rfl)
theorem dX1_join_45 : decode cX1_join 45 = .ok (.istore 4, 2) := dk_54 4 (dk_at dksX1_join_1 21 rfl rfl)
theorem dX1_join_47 : decode cX1_join 47 = .ok (.aload_n 0, 1) := dk_42 (dk_at dksX1_join_1 23 rfl rfl)
theorem dX1_join_48 : decode cX1_join 48 = .ok (.aload_n 3, 1) := dk_45 (dk_at dksX1_join_2 0 rfl rfl)
theorem dX1_join_49 : decode cX1_join 49 = .ok (.invokevirtual 80, 3) := dk_182 0 80 (dk_at dksX1_join_2 1 rfl rfl)
theorem dX1_join_52 : decode cX1_join 52 = .ok (.iload 4, 2) := dk_21 4 (dk_at dksX1_join_2 4 rfl rfl)
theorem dX1_join_54 : decode cX1_join 54 = .ok (.ireturn, 1) := dk_172 (dk_at dksX1_join_2 6 rfl rfl)
abbrev cX1_known : ByteArray := prog_1_method_3_code
def yX1_known : MethodName := ⟨RX1, "known", "([Z)V"⟩
def dkwX1_known_1 : List UInt8 := [187, 0, 1, 89, 183, 0, 3, 191, 132, 3, 1, 167, 255, 230, 177]
abbrev dktX1_known_1 : List UInt8 := dkwX1_known_1 ++ []
def dkwX1_known_0 : List UInt8 := [42, 76, 43, 190, 61, 3, 62, 29, 28, 162, 0, 27, 43, 29, 51, 54, 4, 21, 4, 154, 0, 11]
abbrev dktX1_known_0 : List UInt8 := dkwX1_known_0 ++ dktX1_known_1
theorem dksX1_known_0 : cX1_known.data.toList.drop 0 = dktX1_known_0 := by decide +kernel
theorem dksX1_known_1 : cX1_known.data.toList.drop 22 = dktX1_known_1 := dk_seg dksX1_known_0 22 rfl rfl
theorem dX1_known_0 : decode cX1_known 0 = .ok (.aload_n 0, 1) := dk_42 (dk_at dksX1_known_0 0 rfl rfl)
theorem dX1_known_1 : decode cX1_known 1 = .ok (.astore_n 1, 1) := dk_76 (dk_at dksX1_known_0 1 rfl rfl)
theorem dX1_known_2 : decode cX1_known 2 = .ok (.aload_n 1, 1) := dk_43 (dk_at dksX1_known_0 2 rfl rfl)
theorem dX1_known_3 : decode cX1_known 3 = .ok (.arraylength, 1) := dk_190 (dk_at dksX1_known_0 3 rfl rfl)
theorem dX1_known_4 : decode cX1_known 4 = .ok (.istore_n 2, 1) := dk_61 (dk_at dksX1_known_0 4 rfl rfl)
theorem dX1_known_5 : decode cX1_known 5 = .ok (.iconst 0, 1) := dk_3 (dk_at dksX1_known_0 5 rfl rfl)
theorem dX1_known_6 : decode cX1_known 6 = .ok (.istore_n 3, 1) := dk_62 (dk_at dksX1_known_0 6 rfl rfl)
theorem dX1_known_7 : decode cX1_known 7 = .ok (.iload_n 3, 1) := dk_29 (dk_at dksX1_known_0 7 rfl rfl)
theorem dX1_known_8 : decode cX1_known 8 = .ok (.iload_n 2, 1) := dk_28 (dk_at dksX1_known_0 8 rfl rfl)
theorem dX1_known_9 : decode cX1_known 9 = .ok (.if_icmp .ge 27, 3) := dk_162 0 27 (dk_at dksX1_known_0 9 rfl rfl)
theorem dX1_known_12 : decode cX1_known 12 = .ok (.aload_n 1, 1) := dk_43 (dk_at dksX1_known_0 12 rfl rfl)
theorem dX1_known_13 : decode cX1_known 13 = .ok (.iload_n 3, 1) := dk_29 (dk_at dksX1_known_0 13 rfl rfl)
theorem dX1_known_14 : decode cX1_known 14 = .ok (.baload, 1) := dk_51 (dk_at dksX1_known_0 14 rfl rfl)
theorem dX1_known_15 : decode cX1_known 15 = .ok (.istore 4, 2) := dk_54 4 (dk_at dksX1_known_0 15 rfl rfl)
theorem dX1_known_17 : decode cX1_known 17 = .ok (.iload 4, 2) := dk_21 4 (dk_at dksX1_known_0 17 rfl rfl)
theorem dX1_known_19 : decode cX1_known 19 = .ok (.ifCond .ne 11, 3) := dk_154 0 11 (dk_at dksX1_known_0 19 rfl rfl)
theorem dX1_known_22 : decode cX1_known 22 = .ok (.new 1, 3) := dk_187 0 1 (dk_at dksX1_known_1 0 rfl rfl)
theorem dX1_known_25 : decode cX1_known 25 = .ok (.dup, 1) := dk_89 (dk_at dksX1_known_1 3 rfl rfl)
theorem dX1_known_26 : decode cX1_known 26 = .ok (.invokespecial 3, 3) := dk_183 0 3 (dk_at dksX1_known_1 4 rfl rfl)
theorem dX1_known_29 : decode cX1_known 29 = .ok (.athrow, 1) := dk_191 (dk_at dksX1_known_1 7 rfl rfl)
theorem dX1_known_30 : decode cX1_known 30 = .ok (.iinc 3 1, 3) := dk_132 3 1 (dk_at dksX1_known_1 8 rfl rfl)
theorem dX1_known_33 : decode cX1_known 33 = .ok (.goto (-26), 3) := dk_167 255 230 (dk_at dksX1_known_1 11 rfl rfl)
theorem dX1_known_36 : decode cX1_known 36 = .ok (.return_, 1) := dk_177 (dk_at dksX1_known_1 14 rfl rfl)
abbrev cX1_leave : ByteArray := prog_1_method_16_code
def yX1_leave : MethodName := ⟨RX1, "leave", "(II)I"⟩
def dkwX1_leave_2 : List UInt8 := [45, 182, 0, 80, 21, 4, 172]
abbrev dktX1_leave_2 : List UInt8 := dkwX1_leave_2 ++ []
def dkwX1_leave_1 : List UInt8 := [84, 184, 0, 105, 42, 180, 0, 36, 182, 0, 77, 78, 42, 180, 0, 36, 27, 28, 182, 0, 113, 54, 4, 42]
abbrev dktX1_leave_1 : List UInt8 := dkwX1_leave_1 ++ dktX1_leave_2
def dkwX1_leave_0 : List UInt8 := [5, 188, 4, 89, 3, 42, 180, 0, 36, 27, 182, 0, 98, 84, 89, 4, 42, 180, 0, 36, 28, 182, 0, 102]
abbrev dktX1_leave_0 : List UInt8 := dkwX1_leave_0 ++ dktX1_leave_1
theorem dksX1_leave_0 : cX1_leave.data.toList.drop 0 = dktX1_leave_0 := by decide +kernel
theorem dksX1_leave_1 : cX1_leave.data.toList.drop 24 = dktX1_leave_1 := dk_seg dksX1_leave_0 24 rfl rfl
theorem dksX1_leave_2 : cX1_leave.data.toList.drop 48 = dktX1_leave_2 := dk_seg dksX1_leave_1 24 rfl rfl
theorem dX1_leave_0 : decode cX1_leave 0 = .ok (.iconst 2, 1) := dk_5 (dk_at dksX1_leave_0 0 rfl rfl)
theorem dX1_leave_1 : decode cX1_leave 1 = .ok (.newarray .boolean, 2) := dk_188_4 (dk_at dksX1_leave_0 1 rfl rfl)
theorem dX1_leave_3 : decode cX1_leave 3 = .ok (.dup, 1) := dk_89 (dk_at dksX1_leave_0 3 rfl rfl)
theorem dX1_leave_4 : decode cX1_leave 4 = .ok (.iconst 0, 1) := dk_3 (dk_at dksX1_leave_0 4 rfl rfl)
theorem dX1_leave_5 : decode cX1_leave 5 = .ok (.aload_n 0, 1) := dk_42 (dk_at dksX1_leave_0 5 rfl rfl)
theorem dX1_leave_6 : decode cX1_leave 6 = .ok (.getfield 36, 3) := dk_180 0 36 (dk_at dksX1_leave_0 6 rfl rfl)
theorem dX1_leave_9 : decode cX1_leave 9 = .ok (.iload_n 1, 1) := dk_27 (dk_at dksX1_leave_0 9 rfl rfl)
theorem dX1_leave_10 : decode cX1_leave 10 = .ok (.invokevirtual 98, 3) := dk_182 0 98 (dk_at dksX1_leave_0 10 rfl rfl)
theorem dX1_leave_13 : decode cX1_leave 13 = .ok (.bastore, 1) := dk_84 (dk_at dksX1_leave_0 13 rfl rfl)
theorem dX1_leave_14 : decode cX1_leave 14 = .ok (.dup, 1) := dk_89 (dk_at dksX1_leave_0 14 rfl rfl)
theorem dX1_leave_15 : decode cX1_leave 15 = .ok (.iconst 1, 1) := dk_4 (dk_at dksX1_leave_0 15 rfl rfl)
theorem dX1_leave_16 : decode cX1_leave 16 = .ok (.aload_n 0, 1) := dk_42 (dk_at dksX1_leave_0 16 rfl rfl)
theorem dX1_leave_17 : decode cX1_leave 17 = .ok (.getfield 36, 3) := dk_180 0 36 (dk_at dksX1_leave_0 17 rfl rfl)
theorem dX1_leave_20 : decode cX1_leave 20 = .ok (.iload_n 2, 1) := dk_28 (dk_at dksX1_leave_0 20 rfl rfl)
theorem dX1_leave_21 : decode cX1_leave 21 = .ok (.invokevirtual 102, 3) := dk_182 0 102 (dk_at dksX1_leave_0 21 rfl rfl)
theorem dX1_leave_24 : decode cX1_leave 24 = .ok (.bastore, 1) := dk_84 (dk_at dksX1_leave_1 0 rfl rfl)
theorem dX1_leave_25 : decode cX1_leave 25 = .ok (.invokestatic 105, 3) := dk_184 0 105 (dk_at dksX1_leave_1 1 rfl rfl)
theorem dX1_leave_28 : decode cX1_leave 28 = .ok (.aload_n 0, 1) := dk_42 (dk_at dksX1_leave_1 4 rfl rfl)
theorem dX1_leave_29 : decode cX1_leave 29 = .ok (.getfield 36, 3) := dk_180 0 36 (dk_at dksX1_leave_1 5 rfl rfl)
theorem dX1_leave_32 : decode cX1_leave 32 = .ok (.invokevirtual 77, 3) := dk_182 0 77 (dk_at dksX1_leave_1 8 rfl rfl)
theorem dX1_leave_35 : decode cX1_leave 35 = .ok (.astore_n 3, 1) := dk_78 (dk_at dksX1_leave_1 11 rfl rfl)
theorem dX1_leave_36 : decode cX1_leave 36 = .ok (.aload_n 0, 1) := dk_42 (dk_at dksX1_leave_1 12 rfl rfl)
theorem dX1_leave_37 : decode cX1_leave 37 = .ok (.getfield 36, 3) := dk_180 0 36 (dk_at dksX1_leave_1 13 rfl rfl)
theorem dX1_leave_40 : decode cX1_leave 40 = .ok (.iload_n 1, 1) := dk_27 (dk_at dksX1_leave_1 16 rfl rfl)
theorem dX1_leave_41 : decode cX1_leave 41 = .ok (.iload_n 2, 1) := dk_28 (dk_at dksX1_leave_1 17 rfl rfl)
theorem dX1_leave_42 : decode cX1_leave 42 = .ok (.invokevirtual 113, 3) := dk_182 0 113 (dk_at dksX1_leave_1 18 rfl rfl)
theorem dX1_leave_45 : decode cX1_leave 45 = .ok (.istore 4, 2) := dk_54 4 (dk_at dksX1_leave_1 21 rfl rfl)
theorem dX1_leave_47 : decode cX1_leave 47 = .ok (.aload_n 0, 1) := dk_42 (dk_at dksX1_leave_1 23 rfl rfl)
theorem dX1_leave_48 : decode cX1_leave 48 = .ok (.aload_n 3, 1) := dk_45 (dk_at dksX1_leave_2 0 rfl rfl)
theorem dX1_leave_49 : decode cX1_leave 49 = .ok (.invokevirtual 80, 3) := dk_182 0 80 (dk_at dksX1_leave_2 1 rfl rfl)
theorem dX1_leave_52 : decode cX1_leave 52 = .ok (.iload 4, 2) := dk_21 4 (dk_at dksX1_leave_2 4 rfl rfl)
theorem dX1_leave_54 : decode cX1_leave 54 = .ok (.ireturn, 1) := dk_172 (dk_at dksX1_leave_2 6 rfl rfl)
abbrev cX1_nest : ByteArray := prog_1_method_17_code
def yX1_nest : MethodName := ⟨RX1, "nest", "(II)I"⟩
def dkwX1_nest_2 : List UInt8 := [45, 182, 0, 80, 21, 4, 172]
abbrev dktX1_nest_2 : List UInt8 := dkwX1_nest_2 ++ []
def dkwX1_nest_1 : List UInt8 := [84, 184, 0, 105, 42, 180, 0, 36, 182, 0, 77, 78, 42, 180, 0, 36, 27, 28, 182, 0, 116, 54, 4, 42]
abbrev dktX1_nest_1 : List UInt8 := dkwX1_nest_1 ++ dktX1_nest_2
def dkwX1_nest_0 : List UInt8 := [5, 188, 4, 89, 3, 42, 180, 0, 36, 27, 182, 0, 102, 84, 89, 4, 42, 180, 0, 36, 28, 182, 0, 102]
abbrev dktX1_nest_0 : List UInt8 := dkwX1_nest_0 ++ dktX1_nest_1
theorem dksX1_nest_0 : cX1_nest.data.toList.drop 0 = dktX1_nest_0 := by decide +kernel
theorem dksX1_nest_1 : cX1_nest.data.toList.drop 24 = dktX1_nest_1 := dk_seg dksX1_nest_0 24 rfl rfl
theorem dksX1_nest_2 : cX1_nest.data.toList.drop 48 = dktX1_nest_2 := dk_seg dksX1_nest_1 24 rfl rfl
theorem dX1_nest_0 : decode cX1_nest 0 = .ok (.iconst 2, 1) := dk_5 (dk_at dksX1_nest_0 0 rfl rfl)
theorem dX1_nest_1 : decode cX1_nest 1 = .ok (.newarray .boolean, 2) := dk_188_4 (dk_at dksX1_nest_0 1 rfl rfl)
theorem dX1_nest_3 : decode cX1_nest 3 = .ok (.dup, 1) := dk_89 (dk_at dksX1_nest_0 3 rfl rfl)
theorem dX1_nest_4 : decode cX1_nest 4 = .ok (.iconst 0, 1) := dk_3 (dk_at dksX1_nest_0 4 rfl rfl)
theorem dX1_nest_5 : decode cX1_nest 5 = .ok (.aload_n 0, 1) := dk_42 (dk_at dksX1_nest_0 5 rfl rfl)
theorem dX1_nest_6 : decode cX1_nest 6 = .ok (.getfield 36, 3) := dk_180 0 36 (dk_at dksX1_nest_0 6 rfl rfl)
theorem dX1_nest_9 : decode cX1_nest 9 = .ok (.iload_n 1, 1) := dk_27 (dk_at dksX1_nest_0 9 rfl rfl)
theorem dX1_nest_10 : decode cX1_nest 10 = .ok (.invokevirtual 102, 3) := dk_182 0 102 (dk_at dksX1_nest_0 10 rfl rfl)
theorem dX1_nest_13 : decode cX1_nest 13 = .ok (.bastore, 1) := dk_84 (dk_at dksX1_nest_0 13 rfl rfl)
theorem dX1_nest_14 : decode cX1_nest 14 = .ok (.dup, 1) := dk_89 (dk_at dksX1_nest_0 14 rfl rfl)
theorem dX1_nest_15 : decode cX1_nest 15 = .ok (.iconst 1, 1) := dk_4 (dk_at dksX1_nest_0 15 rfl rfl)
theorem dX1_nest_16 : decode cX1_nest 16 = .ok (.aload_n 0, 1) := dk_42 (dk_at dksX1_nest_0 16 rfl rfl)
theorem dX1_nest_17 : decode cX1_nest 17 = .ok (.getfield 36, 3) := dk_180 0 36 (dk_at dksX1_nest_0 17 rfl rfl)
theorem dX1_nest_20 : decode cX1_nest 20 = .ok (.iload_n 2, 1) := dk_28 (dk_at dksX1_nest_0 20 rfl rfl)
theorem dX1_nest_21 : decode cX1_nest 21 = .ok (.invokevirtual 102, 3) := dk_182 0 102 (dk_at dksX1_nest_0 21 rfl rfl)
theorem dX1_nest_24 : decode cX1_nest 24 = .ok (.bastore, 1) := dk_84 (dk_at dksX1_nest_1 0 rfl rfl)
theorem dX1_nest_25 : decode cX1_nest 25 = .ok (.invokestatic 105, 3) := dk_184 0 105 (dk_at dksX1_nest_1 1 rfl rfl)
theorem dX1_nest_28 : decode cX1_nest 28 = .ok (.aload_n 0, 1) := dk_42 (dk_at dksX1_nest_1 4 rfl rfl)
theorem dX1_nest_29 : decode cX1_nest 29 = .ok (.getfield 36, 3) := dk_180 0 36 (dk_at dksX1_nest_1 5 rfl rfl)
theorem dX1_nest_32 : decode cX1_nest 32 = .ok (.invokevirtual 77, 3) := dk_182 0 77 (dk_at dksX1_nest_1 8 rfl rfl)
theorem dX1_nest_35 : decode cX1_nest 35 = .ok (.astore_n 3, 1) := dk_78 (dk_at dksX1_nest_1 11 rfl rfl)
theorem dX1_nest_36 : decode cX1_nest 36 = .ok (.aload_n 0, 1) := dk_42 (dk_at dksX1_nest_1 12 rfl rfl)
theorem dX1_nest_37 : decode cX1_nest 37 = .ok (.getfield 36, 3) := dk_180 0 36 (dk_at dksX1_nest_1 13 rfl rfl)
theorem dX1_nest_40 : decode cX1_nest 40 = .ok (.iload_n 1, 1) := dk_27 (dk_at dksX1_nest_1 16 rfl rfl)
theorem dX1_nest_41 : decode cX1_nest 41 = .ok (.iload_n 2, 1) := dk_28 (dk_at dksX1_nest_1 17 rfl rfl)
theorem dX1_nest_42 : decode cX1_nest 42 = .ok (.invokevirtual 116, 3) := dk_182 0 116 (dk_at dksX1_nest_1 18 rfl rfl)
theorem dX1_nest_45 : decode cX1_nest 45 = .ok (.istore 4, 2) := dk_54 4 (dk_at dksX1_nest_1 21 rfl rfl)
theorem dX1_nest_47 : decode cX1_nest 47 = .ok (.aload_n 0, 1) := dk_42 (dk_at dksX1_nest_1 23 rfl rfl)
theorem dX1_nest_48 : decode cX1_nest 48 = .ok (.aload_n 3, 1) := dk_45 (dk_at dksX1_nest_2 0 rfl rfl)
theorem dX1_nest_49 : decode cX1_nest 49 = .ok (.invokevirtual 80, 3) := dk_182 0 80 (dk_at dksX1_nest_2 1 rfl rfl)
theorem dX1_nest_52 : decode cX1_nest 52 = .ok (.iload 4, 2) := dk_21 4 (dk_at dksX1_nest_2 4 rfl rfl)
theorem dX1_nest_54 : decode cX1_nest 54 = .ok (.ireturn, 1) := dk_172 (dk_at dksX1_nest_2 6 rfl rfl)
abbrev cX1_unnest : ByteArray := prog_1_method_18_code
def yX1_unnest : MethodName := ⟨RX1, "unnest", "(II)I"⟩
def dkwX1_unnest_2 : List UInt8 := [45, 182, 0, 80, 21, 4, 172]
abbrev dktX1_unnest_2 : List UInt8 := dkwX1_unnest_2 ++ []
def dkwX1_unnest_1 : List UInt8 := [84, 184, 0, 105, 42, 180, 0, 36, 182, 0, 77, 78, 42, 180, 0, 36, 27, 28, 182, 0, 119, 54, 4, 42]
abbrev dktX1_unnest_1 : List UInt8 := dkwX1_unnest_1 ++ dktX1_unnest_2
def dkwX1_unnest_0 : List UInt8 := [5, 188, 4, 89, 3, 42, 180, 0, 36, 27, 182, 0, 102, 84, 89, 4, 42, 180, 0, 36, 28, 182, 0, 102]
abbrev dktX1_unnest_0 : List UInt8 := dkwX1_unnest_0 ++ dktX1_unnest_1
theorem dksX1_unnest_0 : cX1_unnest.data.toList.drop 0 = dktX1_unnest_0 := by decide +kernel
theorem dksX1_unnest_1 : cX1_unnest.data.toList.drop 24 = dktX1_unnest_1 := dk_seg dksX1_unnest_0 24 rfl rfl
theorem dksX1_unnest_2 : cX1_unnest.data.toList.drop 48 = dktX1_unnest_2 := dk_seg dksX1_unnest_1 24 rfl rfl
theorem dX1_unnest_0 : decode cX1_unnest 0 = .ok (.iconst 2, 1) := dk_5 (dk_at dksX1_unnest_0 0 rfl rfl)
theorem dX1_unnest_1 : decode cX1_unnest 1 = .ok (.newarray .boolean, 2) := dk_188_4 (dk_at dksX1_unnest_0 1 rfl rfl)
theorem dX1_unnest_3 : decode cX1_unnest 3 = .ok (.dup, 1) := dk_89 (dk_at dksX1_unnest_0 3 rfl rfl)
theorem dX1_unnest_4 : decode cX1_unnest 4 = .ok (.iconst 0, 1) := dk_3 (dk_at dksX1_unnest_0 4 rfl rfl)
theorem dX1_unnest_5 : decode cX1_unnest 5 = .ok (.aload_n 0, 1) := dk_42 (dk_at dksX1_unnest_0 5 rfl rfl)
theorem dX1_unnest_6 : decode cX1_unnest 6 = .ok (.getfield 36, 3) := dk_180 0 36 (dk_at dksX1_unnest_0 6 rfl rfl)
theorem dX1_unnest_9 : decode cX1_unnest 9 = .ok (.iload_n 1, 1) := dk_27 (dk_at dksX1_unnest_0 9 rfl rfl)
theorem dX1_unnest_10 : decode cX1_unnest 10 = .ok (.invokevirtual 102, 3) := dk_182 0 102 (dk_at dksX1_unnest_0 10 rfl rfl)
theorem dX1_unnest_13 : decode cX1_unnest 13 = .ok (.bastore, 1) := dk_84 (dk_at dksX1_unnest_0 13 rfl rfl)
theorem dX1_unnest_14 : decode cX1_unnest 14 = .ok (.dup, 1) := dk_89 (dk_at dksX1_unnest_0 14 rfl rfl)
theorem dX1_unnest_15 : decode cX1_unnest 15 = .ok (.iconst 1, 1) := dk_4 (dk_at dksX1_unnest_0 15 rfl rfl)
theorem dX1_unnest_16 : decode cX1_unnest 16 = .ok (.aload_n 0, 1) := dk_42 (dk_at dksX1_unnest_0 16 rfl rfl)
theorem dX1_unnest_17 : decode cX1_unnest 17 = .ok (.getfield 36, 3) := dk_180 0 36 (dk_at dksX1_unnest_0 17 rfl rfl)
theorem dX1_unnest_20 : decode cX1_unnest 20 = .ok (.iload_n 2, 1) := dk_28 (dk_at dksX1_unnest_0 20 rfl rfl)
theorem dX1_unnest_21 : decode cX1_unnest 21 = .ok (.invokevirtual 102, 3) := dk_182 0 102 (dk_at dksX1_unnest_0 21 rfl rfl)
theorem dX1_unnest_24 : decode cX1_unnest 24 = .ok (.bastore, 1) := dk_84 (dk_at dksX1_unnest_1 0 rfl rfl)
theorem dX1_unnest_25 : decode cX1_unnest 25 = .ok (.invokestatic 105, 3) := dk_184 0 105 (dk_at dksX1_unnest_1 1 rfl rfl)
theorem dX1_unnest_28 : decode cX1_unnest 28 = .ok (.aload_n 0, 1) := dk_42 (dk_at dksX1_unnest_1 4 rfl rfl)
theorem dX1_unnest_29 : decode cX1_unnest 29 = .ok (.getfield 36, 3) := dk_180 0 36 (dk_at dksX1_unnest_1 5 rfl rfl)
theorem dX1_unnest_32 : decode cX1_unnest 32 = .ok (.invokevirtual 77, 3) := dk_182 0 77 (dk_at dksX1_unnest_1 8 rfl rfl)
theorem dX1_unnest_35 : decode cX1_unnest 35 = .ok (.astore_n 3, 1) := dk_78 (dk_at dksX1_unnest_1 11 rfl rfl)
theorem dX1_unnest_36 : decode cX1_unnest 36 = .ok (.aload_n 0, 1) := dk_42 (dk_at dksX1_unnest_1 12 rfl rfl)
theorem dX1_unnest_37 : decode cX1_unnest 37 = .ok (.getfield 36, 3) := dk_180 0 36 (dk_at dksX1_unnest_1 13 rfl rfl)
theorem dX1_unnest_40 : decode cX1_unnest 40 = .ok (.iload_n 1, 1) := dk_27 (dk_at dksX1_unnest_1 16 rfl rfl)
theorem dX1_unnest_41 : decode cX1_unnest 41 = .ok (.iload_n 2, 1) := dk_28 (dk_at dksX1_unnest_1 17 rfl rfl)
theorem dX1_unnest_42 : decode cX1_unnest 42 = .ok (.invokevirtual 119, 3) := dk_182 0 119 (dk_at dksX1_unnest_1 18 rfl rfl)
theorem dX1_unnest_45 : decode cX1_unnest 45 = .ok (.istore 4, 2) := dk_54 4 (dk_at dksX1_unnest_1 21 rfl rfl)
theorem dX1_unnest_47 : decode cX1_unnest 47 = .ok (.aload_n 0, 1) := dk_42 (dk_at dksX1_unnest_1 23 rfl rfl)
theorem dX1_unnest_48 : decode cX1_unnest 48 = .ok (.aload_n 3, 1) := dk_45 (dk_at dksX1_unnest_2 0 rfl rfl)
theorem dX1_unnest_49 : decode cX1_unnest 49 = .ok (.invokevirtual 80, 3) := dk_182 0 80 (dk_at dksX1_unnest_2 1 rfl rfl)
theorem dX1_unnest_52 : decode cX1_unnest 52 = .ok (.iload 4, 2) := dk_21 4 (dk_at dksX1_unnest_2 4 rfl rfl)
theorem dX1_unnest_54 : decode cX1_unnest 54 = .ok (.ireturn, 1) := dk_172 (dk_at dksX1_unnest_2 6 rfl rfl)
abbrev cX1_make : ByteArray := prog_1_method_19_code
def yX1_make : MethodName := ⟨RX1, "make", "(II)I"⟩
def dkwX1_make_2 : List UInt8 := [45, 182, 0, 80, 21, 4, 172]
abbrev dktX1_make_2 : List UInt8 := dkwX1_make_2 ++ []
def dkwX1_make_1 : List UInt8 := [84, 184, 0, 105, 42, 180, 0, 36, 182, 0, 77, 78, 42, 180, 0, 36, 27, 28, 182, 0, 125, 54, 4, 42]
abbrev dktX1_make_1 : List UInt8 := dkwX1_make_1 ++ dktX1_make_2
def dkwX1_make_0 : List UInt8 := [5, 188, 4, 89, 3, 42, 180, 0, 36, 27, 182, 0, 122, 84, 89, 4, 42, 180, 0, 36, 28, 182, 0, 98]
abbrev dktX1_make_0 : List UInt8 := dkwX1_make_0 ++ dktX1_make_1
theorem dksX1_make_0 : cX1_make.data.toList.drop 0 = dktX1_make_0 := by decide +kernel
theorem dksX1_make_1 : cX1_make.data.toList.drop 24 = dktX1_make_1 := dk_seg dksX1_make_0 24 rfl rfl
theorem dksX1_make_2 : cX1_make.data.toList.drop 48 = dktX1_make_2 := dk_seg dksX1_make_1 24 rfl rfl
theorem dX1_make_0 : decode cX1_make 0 = .ok (.iconst 2, 1) := dk_5 (dk_at dksX1_make_0 0 rfl rfl)
theorem dX1_make_1 : decode cX1_make 1 = .ok (.newarray .boolean, 2) := dk_188_4 (dk_at dksX1_make_0 1 rfl rfl)
theorem dX1_make_3 : decode cX1_make 3 = .ok (.dup, 1) := dk_89 (dk_at dksX1_make_0 3 rfl rfl)
theorem dX1_make_4 : decode cX1_make 4 = .ok (.iconst 0, 1) := dk_3 (dk_at dksX1_make_0 4 rfl rfl)
theorem dX1_make_5 : decode cX1_make 5 = .ok (.aload_n 0, 1) := dk_42 (dk_at dksX1_make_0 5 rfl rfl)
theorem dX1_make_6 : decode cX1_make 6 = .ok (.getfield 36, 3) := dk_180 0 36 (dk_at dksX1_make_0 6 rfl rfl)
theorem dX1_make_9 : decode cX1_make 9 = .ok (.iload_n 1, 1) := dk_27 (dk_at dksX1_make_0 9 rfl rfl)
theorem dX1_make_10 : decode cX1_make 10 = .ok (.invokevirtual 122, 3) := dk_182 0 122 (dk_at dksX1_make_0 10 rfl rfl)
theorem dX1_make_13 : decode cX1_make 13 = .ok (.bastore, 1) := dk_84 (dk_at dksX1_make_0 13 rfl rfl)
theorem dX1_make_14 : decode cX1_make 14 = .ok (.dup, 1) := dk_89 (dk_at dksX1_make_0 14 rfl rfl)
theorem dX1_make_15 : decode cX1_make 15 = .ok (.iconst 1, 1) := dk_4 (dk_at dksX1_make_0 15 rfl rfl)
theorem dX1_make_16 : decode cX1_make 16 = .ok (.aload_n 0, 1) := dk_42 (dk_at dksX1_make_0 16 rfl rfl)
theorem dX1_make_17 : decode cX1_make 17 = .ok (.getfield 36, 3) := dk_180 0 36 (dk_at dksX1_make_0 17 rfl rfl)
theorem dX1_make_20 : decode cX1_make 20 = .ok (.iload_n 2, 1) := dk_28 (dk_at dksX1_make_0 20 rfl rfl)
theorem dX1_make_21 : decode cX1_make 21 = .ok (.invokevirtual 98, 3) := dk_182 0 98 (dk_at dksX1_make_0 21 rfl rfl)
theorem dX1_make_24 : decode cX1_make 24 = .ok (.bastore, 1) := dk_84 (dk_at dksX1_make_1 0 rfl rfl)
theorem dX1_make_25 : decode cX1_make 25 = .ok (.invokestatic 105, 3) := dk_184 0 105 (dk_at dksX1_make_1 1 rfl rfl)
theorem dX1_make_28 : decode cX1_make 28 = .ok (.aload_n 0, 1) := dk_42 (dk_at dksX1_make_1 4 rfl rfl)
theorem dX1_make_29 : decode cX1_make 29 = .ok (.getfield 36, 3) := dk_180 0 36 (dk_at dksX1_make_1 5 rfl rfl)
theorem dX1_make_32 : decode cX1_make 32 = .ok (.invokevirtual 77, 3) := dk_182 0 77 (dk_at dksX1_make_1 8 rfl rfl)
theorem dX1_make_35 : decode cX1_make 35 = .ok (.astore_n 3, 1) := dk_78 (dk_at dksX1_make_1 11 rfl rfl)
theorem dX1_make_36 : decode cX1_make 36 = .ok (.aload_n 0, 1) := dk_42 (dk_at dksX1_make_1 12 rfl rfl)
theorem dX1_make_37 : decode cX1_make 37 = .ok (.getfield 36, 3) := dk_180 0 36 (dk_at dksX1_make_1 13 rfl rfl)
theorem dX1_make_40 : decode cX1_make 40 = .ok (.iload_n 1, 1) := dk_27 (dk_at dksX1_make_1 16 rfl rfl)
theorem dX1_make_41 : decode cX1_make 41 = .ok (.iload_n 2, 1) := dk_28 (dk_at dksX1_make_1 17 rfl rfl)
theorem dX1_make_42 : decode cX1_make 42 = .ok (.invokevirtual 125, 3) := dk_182 0 125 (dk_at dksX1_make_1 18 rfl rfl)
theorem dX1_make_45 : decode cX1_make 45 = .ok (.istore 4, 2) := dk_54 4 (dk_at dksX1_make_1 21 rfl rfl)
theorem dX1_make_47 : decode cX1_make 47 = .ok (.aload_n 0, 1) := dk_42 (dk_at dksX1_make_1 23 rfl rfl)
theorem dX1_make_48 : decode cX1_make 48 = .ok (.aload_n 3, 1) := dk_45 (dk_at dksX1_make_2 0 rfl rfl)
theorem dX1_make_49 : decode cX1_make 49 = .ok (.invokevirtual 80, 3) := dk_182 0 80 (dk_at dksX1_make_2 1 rfl rfl)
theorem dX1_make_52 : decode cX1_make 52 = .ok (.iload 4, 2) := dk_21 4 (dk_at dksX1_make_2 4 rfl rfl)
theorem dX1_make_54 : decode cX1_make 54 = .ok (.ireturn, 1) := dk_172 (dk_at dksX1_make_2 6 rfl rfl)
abbrev cX1_remove : ByteArray := prog_1_method_20_code
def yX1_remove : MethodName := ⟨RX1, "remove", "(I)I"⟩
def dkwX1_remove_1 : List UInt8 := [77, 42, 180, 0, 36, 27, 182, 0, 128, 62, 42, 44, 182, 0, 80, 29, 172]
abbrev dktX1_remove_1 : List UInt8 := dkwX1_remove_1 ++ []
def dkwX1_remove_0 : List UInt8 := [4, 188, 4, 89, 3, 42, 180, 0, 36, 27, 182, 0, 122, 84, 184, 0, 105, 42, 180, 0, 36, 182, 0, 77]
abbrev dktX1_remove_0 : List UInt8 := dkwX1_remove_0 ++ dktX1_remove_1
theorem dksX1_remove_0 : cX1_remove.data.toList.drop 0 = dktX1_remove_0 := by decide +kernel
theorem dksX1_remove_1 : cX1_remove.data.toList.drop 24 = dktX1_remove_1 := dk_seg dksX1_remove_0 24 rfl rfl
theorem dX1_remove_0 : decode cX1_remove 0 = .ok (.iconst 1, 1) := dk_4 (dk_at dksX1_remove_0 0 rfl rfl)
theorem dX1_remove_1 : decode cX1_remove 1 = .ok (.newarray .boolean, 2) := dk_188_4 (dk_at dksX1_remove_0 1 rfl rfl)
theorem dX1_remove_3 : decode cX1_remove 3 = .ok (.dup, 1) := dk_89 (dk_at dksX1_remove_0 3 rfl rfl)
theorem dX1_remove_4 : decode cX1_remove 4 = .ok (.iconst 0, 1) := dk_3 (dk_at dksX1_remove_0 4 rfl rfl)
theorem dX1_remove_5 : decode cX1_remove 5 = .ok (.aload_n 0, 1) := dk_42 (dk_at dksX1_remove_0 5 rfl rfl)
theorem dX1_remove_6 : decode cX1_remove 6 = .ok (.getfield 36, 3) := dk_180 0 36 (dk_at dksX1_remove_0 6 rfl rfl)
theorem dX1_remove_9 : decode cX1_remove 9 = .ok (.iload_n 1, 1) := dk_27 (dk_at dksX1_remove_0 9 rfl rfl)
theorem dX1_remove_10 : decode cX1_remove 10 = .ok (.invokevirtual 122, 3) := dk_182 0 122 (dk_at dksX1_remove_0 10 rfl rfl)
theorem dX1_remove_13 : decode cX1_remove 13 = .ok (.bastore, 1) := dk_84 (dk_at dksX1_remove_0 13 rfl rfl)
theorem dX1_remove_14 : decode cX1_remove 14 = .ok (.invokestatic 105, 3) := dk_184 0 105 (dk_at dksX1_remove_0 14 rfl rfl)
theorem dX1_remove_17 : decode cX1_remove 17 = .ok (.aload_n 0, 1) := dk_42 (dk_at dksX1_remove_0 17 rfl rfl)
theorem dX1_remove_18 : decode cX1_remove 18 = .ok (.getfield 36, 3) := dk_180 0 36 (dk_at dksX1_remove_0 18 rfl rfl)
theorem dX1_remove_21 : decode cX1_remove 21 = .ok (.invokevirtual 77, 3) := dk_182 0 77 (dk_at dksX1_remove_0 21 rfl rfl)
theorem dX1_remove_24 : decode cX1_remove 24 = .ok (.astore_n 2, 1) := dk_77 (dk_at dksX1_remove_1 0 rfl rfl)
theorem dX1_remove_25 : decode cX1_remove 25 = .ok (.aload_n 0, 1) := dk_42 (dk_at dksX1_remove_1 1 rfl rfl)
theorem dX1_remove_26 : decode cX1_remove 26 = .ok (.getfield 36, 3) := dk_180 0 36 (dk_at dksX1_remove_1 2 rfl rfl)
theorem dX1_remove_29 : decode cX1_remove 29 = .ok (.iload_n 1, 1) := dk_27 (dk_at dksX1_remove_1 5 rfl rfl)
theorem dX1_remove_30 : decode cX1_remove 30 = .ok (.invokevirtual 128, 3) := dk_182 0 128 (dk_at dksX1_remove_1 6 rfl rfl)
theorem dX1_remove_33 : decode cX1_remove 33 = .ok (.istore_n 3, 1) := dk_62 (dk_at dksX1_remove_1 9 rfl rfl)
theorem dX1_remove_34 : decode cX1_remove 34 = .ok (.aload_n 0, 1) := dk_42 (dk_at dksX1_remove_1 10 rfl rfl)
theorem dX1_remove_35 : decode cX1_remove 35 = .ok (.aload_n 2, 1) := dk_44 (dk_at dksX1_remove_1 11 rfl rfl)
theorem dX1_remove_36 : decode cX1_remove 36 = .ok (.invokevirtual 80, 3) := dk_182 0 80 (dk_at dksX1_remove_1 12 rfl rfl)
theorem dX1_remove_39 : decode cX1_remove 39 = .ok (.iload_n 3, 1) := dk_29 (dk_at dksX1_remove_1 15 rfl rfl)
theorem dX1_remove_40 : decode cX1_remove 40 = .ok (.ireturn, 1) := dk_172 (dk_at dksX1_remove_1 16 rfl rfl)
abbrev cX1_move : ByteArray := prog_1_method_21_code
def yX1_move : MethodName := ⟨RX1, "move", "(II)I"⟩
def dkwX1_move_2 : List UInt8 := [45, 182, 0, 80, 21, 4, 172]
abbrev dktX1_move_2 : List UInt8 := dkwX1_move_2 ++ []
def dkwX1_move_1 : List UInt8 := [84, 184, 0, 105, 42, 180, 0, 36, 182, 0, 77, 78, 42, 180, 0, 36, 27, 28, 182, 0, 132, 54, 4, 42]
abbrev dktX1_move_1 : List UInt8 := dkwX1_move_1 ++ dktX1_move_2
def dkwX1_move_0 : List UInt8 := [5, 188, 4, 89, 3, 42, 180, 0, 36, 27, 182, 0, 122, 84, 89, 4, 42, 180, 0, 36, 28, 182, 0, 122]
abbrev dktX1_move_0 : List UInt8 := dkwX1_move_0 ++ dktX1_move_1
theorem dksX1_move_0 : cX1_move.data.toList.drop 0 = dktX1_move_0 := by decide +kernel
theorem dksX1_move_1 : cX1_move.data.toList.drop 24 = dktX1_move_1 := dk_seg dksX1_move_0 24 rfl rfl
theorem dksX1_move_2 : cX1_move.data.toList.drop 48 = dktX1_move_2 := dk_seg dksX1_move_1 24 rfl rfl
theorem dX1_move_0 : decode cX1_move 0 = .ok (.iconst 2, 1) := dk_5 (dk_at dksX1_move_0 0 rfl rfl)
theorem dX1_move_1 : decode cX1_move 1 = .ok (.newarray .boolean, 2) := dk_188_4 (dk_at dksX1_move_0 1 rfl rfl)
theorem dX1_move_3 : decode cX1_move 3 = .ok (.dup, 1) := dk_89 (dk_at dksX1_move_0 3 rfl rfl)
theorem dX1_move_4 : decode cX1_move 4 = .ok (.iconst 0, 1) := dk_3 (dk_at dksX1_move_0 4 rfl rfl)
theorem dX1_move_5 : decode cX1_move 5 = .ok (.aload_n 0, 1) := dk_42 (dk_at dksX1_move_0 5 rfl rfl)
theorem dX1_move_6 : decode cX1_move 6 = .ok (.getfield 36, 3) := dk_180 0 36 (dk_at dksX1_move_0 6 rfl rfl)
theorem dX1_move_9 : decode cX1_move 9 = .ok (.iload_n 1, 1) := dk_27 (dk_at dksX1_move_0 9 rfl rfl)
theorem dX1_move_10 : decode cX1_move 10 = .ok (.invokevirtual 122, 3) := dk_182 0 122 (dk_at dksX1_move_0 10 rfl rfl)
theorem dX1_move_13 : decode cX1_move 13 = .ok (.bastore, 1) := dk_84 (dk_at dksX1_move_0 13 rfl rfl)
theorem dX1_move_14 : decode cX1_move 14 = .ok (.dup, 1) := dk_89 (dk_at dksX1_move_0 14 rfl rfl)
theorem dX1_move_15 : decode cX1_move 15 = .ok (.iconst 1, 1) := dk_4 (dk_at dksX1_move_0 15 rfl rfl)
theorem dX1_move_16 : decode cX1_move 16 = .ok (.aload_n 0, 1) := dk_42 (dk_at dksX1_move_0 16 rfl rfl)
theorem dX1_move_17 : decode cX1_move 17 = .ok (.getfield 36, 3) := dk_180 0 36 (dk_at dksX1_move_0 17 rfl rfl)
theorem dX1_move_20 : decode cX1_move 20 = .ok (.iload_n 2, 1) := dk_28 (dk_at dksX1_move_0 20 rfl rfl)
theorem dX1_move_21 : decode cX1_move 21 = .ok (.invokevirtual 122, 3) := dk_182 0 122 (dk_at dksX1_move_0 21 rfl rfl)
theorem dX1_move_24 : decode cX1_move 24 = .ok (.bastore, 1) := dk_84 (dk_at dksX1_move_1 0 rfl rfl)
theorem dX1_move_25 : decode cX1_move 25 = .ok (.invokestatic 105, 3) := dk_184 0 105 (dk_at dksX1_move_1 1 rfl rfl)
theorem dX1_move_28 : decode cX1_move 28 = .ok (.aload_n 0, 1) := dk_42 (dk_at dksX1_move_1 4 rfl rfl)
theorem dX1_move_29 : decode cX1_move 29 = .ok (.getfield 36, 3) := dk_180 0 36 (dk_at dksX1_move_1 5 rfl rfl)
theorem dX1_move_32 : decode cX1_move 32 = .ok (.invokevirtual 77, 3) := dk_182 0 77 (dk_at dksX1_move_1 8 rfl rfl)
theorem dX1_move_35 : decode cX1_move 35 = .ok (.astore_n 3, 1) := dk_78 (dk_at dksX1_move_1 11 rfl rfl)
theorem dX1_move_36 : decode cX1_move 36 = .ok (.aload_n 0, 1) := dk_42 (dk_at dksX1_move_1 12 rfl rfl)
theorem dX1_move_37 : decode cX1_move 37 = .ok (.getfield 36, 3) := dk_180 0 36 (dk_at dksX1_move_1 13 rfl rfl)
theorem dX1_move_40 : decode cX1_move 40 = .ok (.iload_n 1, 1) := dk_27 (dk_at dksX1_move_1 16 rfl rfl)
theorem dX1_move_41 : decode cX1_move 41 = .ok (.iload_n 2, 1) := dk_28 (dk_at dksX1_move_1 17 rfl rfl)
theorem dX1_move_42 : decode cX1_move 42 = .ok (.invokevirtual 132, 3) := dk_182 0 132 (dk_at dksX1_move_1 18 rfl rfl)
theorem dX1_move_45 : decode cX1_move 45 = .ok (.istore 4, 2) := dk_54 4 (dk_at dksX1_move_1 21 rfl rfl)
theorem dX1_move_47 : decode cX1_move 47 = .ok (.aload_n 0, 1) := dk_42 (dk_at dksX1_move_1 23 rfl rfl)
theorem dX1_move_48 : decode cX1_move 48 = .ok (.aload_n 3, 1) := dk_45 (dk_at dksX1_move_2 0 rfl rfl)
theorem dX1_move_49 : decode cX1_move 49 = .ok (.invokevirtual 80, 3) := dk_182 0 80 (dk_at dksX1_move_2 1 rfl rfl)
theorem dX1_move_52 : decode cX1_move 52 = .ok (.iload 4, 2) := dk_21 4 (dk_at dksX1_move_2 4 rfl rfl)
theorem dX1_move_54 : decode cX1_move 54 = .ok (.ireturn, 1) := dk_172 (dk_at dksX1_move_2 6 rfl rfl)
abbrev cX1_giveTo : ByteArray := prog_1_method_22_code
def yX1_giveTo : MethodName := ⟨RX1, "giveTo", "(II)I"⟩
def dkwX1_giveTo_2 : List UInt8 := [180, 0, 139, 62, 42, 180, 0, 36, 180, 0, 135, 27, 50, 28, 181, 0, 139, 29, 172]
abbrev dktX1_giveTo_2 : List UInt8 := dkwX1_giveTo_2 ++ []
def dkwX1_giveTo_1 : List UInt8 := [84, 184, 0, 105, 42, 42, 180, 0, 36, 182, 0, 77, 182, 0, 80, 42, 180, 0, 36, 180, 0, 135, 27, 50]
abbrev dktX1_giveTo_1 : List UInt8 := dkwX1_giveTo_1 ++ dktX1_giveTo_2
def dkwX1_giveTo_0 : List UInt8 := [5, 188, 4, 89, 3, 42, 180, 0, 36, 27, 182, 0, 122, 84, 89, 4, 42, 180, 0, 36, 28, 182, 0, 98]
abbrev dktX1_giveTo_0 : List UInt8 := dkwX1_giveTo_0 ++ dktX1_giveTo_1
theorem dksX1_giveTo_0 : cX1_giveTo.data.toList.drop 0 = dktX1_giveTo_0 := by decide +kernel
theorem dksX1_giveTo_1 : cX1_giveTo.data.toList.drop 24 = dktX1_giveTo_1 := dk_seg dksX1_giveTo_0 24 rfl rfl
theorem dksX1_giveTo_2 : cX1_giveTo.data.toList.drop 48 = dktX1_giveTo_2 := dk_seg dksX1_giveTo_1 24 rfl rfl
theorem dX1_giveTo_0 : decode cX1_giveTo 0 = .ok (.iconst 2, 1) := dk_5 (dk_at dksX1_giveTo_0 0 rfl rfl)
theorem dX1_giveTo_1 : decode cX1_giveTo 1 = .ok (.newarray .boolean, 2) := dk_188_4 (dk_at dksX1_giveTo_0 1 rfl rfl)
theorem dX1_giveTo_3 : decode cX1_giveTo 3 = .ok (.dup, 1) := dk_89 (dk_at dksX1_giveTo_0 3 rfl rfl)
theorem dX1_giveTo_4 : decode cX1_giveTo 4 = .ok (.iconst 0, 1) := dk_3 (dk_at dksX1_giveTo_0 4 rfl rfl)
theorem dX1_giveTo_5 : decode cX1_giveTo 5 = .ok (.aload_n 0, 1) := dk_42 (dk_at dksX1_giveTo_0 5 rfl rfl)
theorem dX1_giveTo_6 : decode cX1_giveTo 6 = .ok (.getfield 36, 3) := dk_180 0 36 (dk_at dksX1_giveTo_0 6 rfl rfl)
theorem dX1_giveTo_9 : decode cX1_giveTo 9 = .ok (.iload_n 1, 1) := dk_27 (dk_at dksX1_giveTo_0 9 rfl rfl)
theorem dX1_giveTo_10 : decode cX1_giveTo 10 = .ok (.invokevirtual 122, 3) := dk_182 0 122 (dk_at dksX1_giveTo_0 10 rfl rfl)
theorem dX1_giveTo_13 : decode cX1_giveTo 13 = .ok (.bastore, 1) := dk_84 (dk_at dksX1_giveTo_0 13 rfl rfl)
theorem dX1_giveTo_14 : decode cX1_giveTo 14 = .ok (.dup, 1) := dk_89 (dk_at dksX1_giveTo_0 14 rfl rfl)
theorem dX1_giveTo_15 : decode cX1_giveTo 15 = .ok (.iconst 1, 1) := dk_4 (dk_at dksX1_giveTo_0 15 rfl rfl)
theorem dX1_giveTo_16 : decode cX1_giveTo 16 = .ok (.aload_n 0, 1) := dk_42 (dk_at dksX1_giveTo_0 16 rfl rfl)
theorem dX1_giveTo_17 : decode cX1_giveTo 17 = .ok (.getfield 36, 3) := dk_180 0 36 (dk_at dksX1_giveTo_0 17 rfl rfl)
theorem dX1_giveTo_20 : decode cX1_giveTo 20 = .ok (.iload_n 2, 1) := dk_28 (dk_at dksX1_giveTo_0 20 rfl rfl)
theorem dX1_giveTo_21 : decode cX1_giveTo 21 = .ok (.invokevirtual 98, 3) := dk_182 0 98 (dk_at dksX1_giveTo_0 21 rfl rfl)
theorem dX1_giveTo_24 : decode cX1_giveTo 24 = .ok (.bastore, 1) := dk_84 (dk_at dksX1_giveTo_1 0 rfl rfl)
theorem dX1_giveTo_25 : decode cX1_giveTo 25 = .ok (.invokestatic 105, 3) := dk_184 0 105 (dk_at dksX1_giveTo_1 1 rfl rfl)
theorem dX1_giveTo_28 : decode cX1_giveTo 28 = .ok (.aload_n 0, 1) := dk_42 (dk_at dksX1_giveTo_1 4 rfl rfl)
theorem dX1_giveTo_29 : decode cX1_giveTo 29 = .ok (.aload_n 0, 1) := dk_42 (dk_at dksX1_giveTo_1 5 rfl rfl)
theorem dX1_giveTo_30 : decode cX1_giveTo 30 = .ok (.getfield 36, 3) := dk_180 0 36 (dk_at dksX1_giveTo_1 6 rfl rfl)
theorem dX1_giveTo_33 : decode cX1_giveTo 33 = .ok (.invokevirtual 77, 3) := dk_182 0 77 (dk_at dksX1_giveTo_1 9 rfl rfl)
theorem dX1_giveTo_36 : decode cX1_giveTo 36 = .ok (.invokevirtual 80, 3) := dk_182 0 80 (dk_at dksX1_giveTo_1 12 rfl rfl)
theorem dX1_giveTo_39 : decode cX1_giveTo 39 = .ok (.aload_n 0, 1) := dk_42 (dk_at dksX1_giveTo_1 15 rfl rfl)
theorem dX1_giveTo_40 : decode cX1_giveTo 40 = .ok (.getfield 36, 3) := dk_180 0 36 (dk_at dksX1_giveTo_1 16 rfl rfl)
theorem dX1_giveTo_43 : decode cX1_giveTo 43 = .ok (.getfield 135, 3) := dk_180 0 135 (dk_at dksX1_giveTo_1 19 rfl rfl)
theorem dX1_giveTo_46 : decode cX1_giveTo 46 = .ok (.iload_n 1, 1) := dk_27 (dk_at dksX1_giveTo_1 22 rfl rfl)
theorem dX1_giveTo_47 : decode cX1_giveTo 47 = .ok (.aaload, 1) := dk_50 (dk_at dksX1_giveTo_1 23 rfl rfl)
theorem dX1_giveTo_48 : decode cX1_giveTo 48 = .ok (.getfield 139, 3) := dk_180 0 139 (dk_at dksX1_giveTo_2 0 rfl rfl)
theorem dX1_giveTo_51 : decode cX1_giveTo 51 = .ok (.istore_n 3, 1) := dk_62 (dk_at dksX1_giveTo_2 3 rfl rfl)
theorem dX1_giveTo_52 : decode cX1_giveTo 52 = .ok (.aload_n 0, 1) := dk_42 (dk_at dksX1_giveTo_2 4 rfl rfl)
theorem dX1_giveTo_53 : decode cX1_giveTo 53 = .ok (.getfield 36, 3) := dk_180 0 36 (dk_at dksX1_giveTo_2 5 rfl rfl)
theorem dX1_giveTo_56 : decode cX1_giveTo 56 = .ok (.getfield 135, 3) := dk_180 0 135 (dk_at dksX1_giveTo_2 8 rfl rfl)
theorem dX1_giveTo_59 : decode cX1_giveTo 59 = .ok (.iload_n 1, 1) := dk_27 (dk_at dksX1_giveTo_2 11 rfl rfl)
theorem dX1_giveTo_60 : decode cX1_giveTo 60 = .ok (.aaload, 1) := dk_50 (dk_at dksX1_giveTo_2 12 rfl rfl)
theorem dX1_giveTo_61 : decode cX1_giveTo 61 = .ok (.iload_n 2, 1) := dk_28 (dk_at dksX1_giveTo_2 13 rfl rfl)
theorem dX1_giveTo_62 : decode cX1_giveTo 62 = .ok (.putfield 139, 3) := dk_181 0 139 (dk_at dksX1_giveTo_2 14 rfl rfl)
theorem dX1_giveTo_65 : decode cX1_giveTo 65 = .ok (.iload_n 3, 1) := dk_29 (dk_at dksX1_giveTo_2 17 rfl rfl)
theorem dX1_giveTo_66 : decode cX1_giveTo 66 = .ok (.ireturn, 1) := dk_172 (dk_at dksX1_giveTo_2 18 rfl rfl)
abbrev cX1_setMask : ByteArray := prog_1_method_23_code
def yX1_setMask : MethodName := ⟨RX1, "setMask", "(II)I"⟩
def dkwX1_setMask_2 : List UInt8 := [180, 0, 36, 180, 0, 135, 27, 50, 28, 181, 0, 148, 29, 172]
abbrev dktX1_setMask_2 : List UInt8 := dkwX1_setMask_2 ++ []
def dkwX1_setMask_1 : List UInt8 := [180, 0, 36, 182, 0, 77, 182, 0, 80, 42, 180, 0, 36, 180, 0, 135, 27, 50, 180, 0, 148, 62, 42]
abbrev dktX1_setMask_1 : List UInt8 := dkwX1_setMask_1 ++ dktX1_setMask_2
def dkwX1_setMask_0 : List UInt8 := [4, 188, 4, 89, 3, 42, 180, 0, 36, 27, 182, 0, 122, 84, 184, 0, 105, 28, 3, 184, 0, 144, 42, 42]
abbrev dktX1_setMask_0 : List UInt8 := dkwX1_setMask_0 ++ dktX1_setMask_1
theorem dksX1_setMask_0 : cX1_setMask.data.toList.drop 0 = dktX1_setMask_0 := by decide +kernel
theorem dksX1_setMask_1 : cX1_setMask.data.toList.drop 24 = dktX1_setMask_1 := dk_seg dksX1_setMask_0 24 rfl rfl
theorem dksX1_setMask_2 : cX1_setMask.data.toList.drop 47 = dktX1_setMask_2 := dk_seg dksX1_setMask_1 23 rfl rfl
theorem dX1_setMask_0 : decode cX1_setMask 0 = .ok (.iconst 1, 1) := dk_4 (dk_at dksX1_setMask_0 0 rfl rfl)
theorem dX1_setMask_1 : decode cX1_setMask 1 = .ok (.newarray .boolean, 2) := dk_188_4 (dk_at dksX1_setMask_0 1 rfl rfl)
theorem dX1_setMask_3 : decode cX1_setMask 3 = .ok (.dup, 1) := dk_89 (dk_at dksX1_setMask_0 3 rfl rfl)
theorem dX1_setMask_4 : decode cX1_setMask 4 = .ok (.iconst 0, 1) := dk_3 (dk_at dksX1_setMask_0 4 rfl rfl)
theorem dX1_setMask_5 : decode cX1_setMask 5 = .ok (.aload_n 0, 1) := dk_42 (dk_at dksX1_setMask_0 5 rfl rfl)
theorem dX1_setMask_6 : decode cX1_setMask 6 = .ok (.getfield 36, 3) := dk_180 0 36 (dk_at dksX1_setMask_0 6 rfl rfl)
theorem dX1_setMask_9 : decode cX1_setMask 9 = .ok (.iload_n 1, 1) := dk_27 (dk_at dksX1_setMask_0 9 rfl rfl)
theorem dX1_setMask_10 : decode cX1_setMask 10 = .ok (.invokevirtual 122, 3) := dk_182 0 122 (dk_at dksX1_setMask_0 10 rfl rfl)
theorem dX1_setMask_13 : decode cX1_setMask 13 = .ok (.bastore, 1) := dk_84 (dk_at dksX1_setMask_0 13 rfl rfl)
theorem dX1_setMask_14 : decode cX1_setMask 14 = .ok (.invokestatic 105, 3) := dk_184 0 105 (dk_at dksX1_setMask_0 14 rfl rfl)
theorem dX1_setMask_17 : decode cX1_setMask 17 = .ok (.iload_n 2, 1) := dk_28 (dk_at dksX1_setMask_0 17 rfl rfl)
theorem dX1_setMask_18 : decode cX1_setMask 18 = .ok (.iconst 0, 1) := dk_3 (dk_at dksX1_setMask_0 18 rfl rfl)
theorem dX1_setMask_19 : decode cX1_setMask 19 = .ok (.invokestatic 144, 3) := dk_184 0 144 (dk_at dksX1_setMask_0 19 rfl rfl)
theorem dX1_setMask_22 : decode cX1_setMask 22 = .ok (.aload_n 0, 1) := dk_42 (dk_at dksX1_setMask_0 22 rfl rfl)
theorem dX1_setMask_23 : decode cX1_setMask 23 = .ok (.aload_n 0, 1) := dk_42 (dk_at dksX1_setMask_0 23 rfl rfl)
theorem dX1_setMask_24 : decode cX1_setMask 24 = .ok (.getfield 36, 3) := dk_180 0 36 (dk_at dksX1_setMask_1 0 rfl rfl)
theorem dX1_setMask_27 : decode cX1_setMask 27 = .ok (.invokevirtual 77, 3) := dk_182 0 77 (dk_at dksX1_setMask_1 3 rfl rfl)
theorem dX1_setMask_30 : decode cX1_setMask 30 = .ok (.invokevirtual 80, 3) := dk_182 0 80 (dk_at dksX1_setMask_1 6 rfl rfl)
theorem dX1_setMask_33 : decode cX1_setMask 33 = .ok (.aload_n 0, 1) := dk_42 (dk_at dksX1_setMask_1 9 rfl rfl)
theorem dX1_setMask_34 : decode cX1_setMask 34 = .ok (.getfield 36, 3) := dk_180 0 36 (dk_at dksX1_setMask_1 10 rfl rfl)
theorem dX1_setMask_37 : decode cX1_setMask 37 = .ok (.getfield 135, 3) := dk_180 0 135 (dk_at dksX1_setMask_1 13 rfl rfl)
theorem dX1_setMask_40 : decode cX1_setMask 40 = .ok (.iload_n 1, 1) := dk_27 (dk_at dksX1_setMask_1 16 rfl rfl)
theorem dX1_setMask_41 : decode cX1_setMask 41 = .ok (.aaload, 1) := dk_50 (dk_at dksX1_setMask_1 17 rfl rfl)
theorem dX1_setMask_42 : decode cX1_setMask 42 = .ok (.getfield 148, 3) := dk_180 0 148 (dk_at dksX1_setMask_1 18 rfl rfl)
theorem dX1_setMask_45 : decode cX1_setMask 45 = .ok (.istore_n 3, 1) := dk_62 (dk_at dksX1_setMask_1 21 rfl rfl)
theorem dX1_setMask_46 : decode cX1_setMask 46 = .ok (.aload_n 0, 1) := dk_42 (dk_at dksX1_setMask_1 22 rfl rfl)
theorem dX1_setMask_47 : decode cX1_setMask 47 = .ok (.getfield 36, 3) := dk_180 0 36 (dk_at dksX1_setMask_2 0 rfl rfl)
theorem dX1_setMask_50 : decode cX1_setMask 50 = .ok (.getfield 135, 3) := dk_180 0 135 (dk_at dksX1_setMask_2 3 rfl rfl)
theorem dX1_setMask_53 : decode cX1_setMask 53 = .ok (.iload_n 1, 1) := dk_27 (dk_at dksX1_setMask_2 6 rfl rfl)
theorem dX1_setMask_54 : decode cX1_setMask 54 = .ok (.aaload, 1) := dk_50 (dk_at dksX1_setMask_2 7 rfl rfl)
theorem dX1_setMask_55 : decode cX1_setMask 55 = .ok (.iload_n 2, 1) := dk_28 (dk_at dksX1_setMask_2 8 rfl rfl)
theorem dX1_setMask_56 : decode cX1_setMask 56 = .ok (.putfield 148, 3) := dk_181 0 148 (dk_at dksX1_setMask_2 9 rfl rfl)
theorem dX1_setMask_59 : decode cX1_setMask 59 = .ok (.iload_n 3, 1) := dk_29 (dk_at dksX1_setMask_2 12 rfl rfl)
theorem dX1_setMask_60 : decode cX1_setMask 60 = .ok (.ireturn, 1) := dk_172 (dk_at dksX1_setMask_2 13 rfl rfl)
abbrev cX1_checkRights : ByteArray := prog_1_method_7_code
def yX1_checkRights : MethodName := ⟨RX1, "checkRights", "(II)V"⟩
def dkwX1_checkRights_1 : List UInt8 := [184, 0, 15, 184, 0, 19, 177]
abbrev dktX1_checkRights_1 : List UInt8 := dkwX1_checkRights_1 ++ []
def dkwX1_checkRights_0 : List UInt8 := [26, 27, 7, 188, 10, 89, 3, 3, 79, 89, 4, 4, 79, 89, 5, 5, 79, 89, 6, 6, 79, 184, 0, 23]
abbrev dktX1_checkRights_0 : List UInt8 := dkwX1_checkRights_0 ++ dktX1_checkRights_1
theorem dksX1_checkRights_0 : cX1_checkRights.data.toList.drop 0 = dktX1_checkRights_0 := by decide +kernel
theorem dksX1_checkRights_1 : cX1_checkRights.data.toList.drop 24 = dktX1_checkRights_1 := dk_seg dksX1_checkRights_0 24 rfl rfl
theorem dX1_checkRights_0 : decode cX1_checkRights 0 = .ok (.iload_n 0, 1) := dk_26 (dk_at dksX1_checkRights_0 0 rfl rfl)
theorem dX1_checkRights_1 : decode cX1_checkRights 1 = .ok (.iload_n 1, 1) := dk_27 (dk_at dksX1_checkRights_0 1 rfl rfl)
theorem dX1_checkRights_2 : decode cX1_checkRights 2 = .ok (.iconst 4, 1) := dk_7 (dk_at dksX1_checkRights_0 2 rfl rfl)
theorem dX1_checkRights_3 : decode cX1_checkRights 3 = .ok (.newarray .int, 2) := dk_188_10 (dk_at dksX1_checkRights_0 3 rfl rfl)
theorem dX1_checkRights_5 : decode cX1_checkRights 5 = .ok (.dup, 1) := dk_89 (dk_at dksX1_checkRights_0 5 rfl rfl)
theorem dX1_checkRights_6 : decode cX1_checkRights 6 = .ok (.iconst 0, 1) := dk_3 (dk_at dksX1_checkRights_0 6 rfl rfl)
theorem dX1_checkRights_7 : decode cX1_checkRights 7 = .ok (.iconst 0, 1) := dk_3 (dk_at dksX1_checkRights_0 7 rfl rfl)
theorem dX1_checkRights_8 : decode cX1_checkRights 8 = .ok (.iastore, 1) := dk_79 (dk_at dksX1_checkRights_0 8 rfl rfl)
theorem dX1_checkRights_9 : decode cX1_checkRights 9 = .ok (.dup, 1) := dk_89 (dk_at dksX1_checkRights_0 9 rfl rfl)
theorem dX1_checkRights_10 : decode cX1_checkRights 10 = .ok (.iconst 1, 1) := dk_4 (dk_at dksX1_checkRights_0 10 rfl rfl)
theorem dX1_checkRights_11 : decode cX1_checkRights 11 = .ok (.iconst 1, 1) := dk_4 (dk_at dksX1_checkRights_0 11 rfl rfl)
theorem dX1_checkRights_12 : decode cX1_checkRights 12 = .ok (.iastore, 1) := dk_79 (dk_at dksX1_checkRights_0 12 rfl rfl)
theorem dX1_checkRights_13 : decode cX1_checkRights 13 = .ok (.dup, 1) := dk_89 (dk_at dksX1_checkRights_0 13 rfl rfl)
theorem dX1_checkRights_14 : decode cX1_checkRights 14 = .ok (.iconst 2, 1) := dk_5 (dk_at dksX1_checkRights_0 14 rfl rfl)
theorem dX1_checkRights_15 : decode cX1_checkRights 15 = .ok (.iconst 2, 1) := dk_5 (dk_at dksX1_checkRights_0 15 rfl rfl)
theorem dX1_checkRights_16 : decode cX1_checkRights 16 = .ok (.iastore, 1) := dk_79 (dk_at dksX1_checkRights_0 16 rfl rfl)
theorem dX1_checkRights_17 : decode cX1_checkRights 17 = .ok (.dup, 1) := dk_89 (dk_at dksX1_checkRights_0 17 rfl rfl)
theorem dX1_checkRights_18 : decode cX1_checkRights 18 = .ok (.iconst 3, 1) := dk_6 (dk_at dksX1_checkRights_0 18 rfl rfl)
theorem dX1_checkRights_19 : decode cX1_checkRights 19 = .ok (.iconst 3, 1) := dk_6 (dk_at dksX1_checkRights_0 19 rfl rfl)
theorem dX1_checkRights_20 : decode cX1_checkRights 20 = .ok (.iastore, 1) := dk_79 (dk_at dksX1_checkRights_0 20 rfl rfl)
theorem dX1_checkRights_21 : decode cX1_checkRights 21 = .ok (.invokestatic 23, 3) := dk_184 0 23 (dk_at dksX1_checkRights_0 21 rfl rfl)
theorem dX1_checkRights_24 : decode cX1_checkRights 24 = .ok (.invokestatic 15, 3) := dk_184 0 15 (dk_at dksX1_checkRights_1 0 rfl rfl)
theorem dX1_checkRights_27 : decode cX1_checkRights 27 = .ok (.invokestatic 19, 3) := dk_184 0 19 (dk_at dksX1_checkRights_1 3 rfl rfl)
theorem dX1_checkRights_30 : decode cX1_checkRights 30 = .ok (.return_, 1) := dk_177 (dk_at dksX1_checkRights_1 6 rfl rfl)
abbrev cX1_check : ByteArray := prog_1_method_4_code
def yX1_check : MethodName := ⟨RX1, "check", "(Z)V"⟩
def dkwX1_check_0 : List UInt8 := [26, 154, 0, 11, 187, 0, 7, 89, 183, 0, 9, 191, 177]
abbrev dktX1_check_0 : List UInt8 := dkwX1_check_0 ++ []
theorem dksX1_check_0 : cX1_check.data.toList.drop 0 = dktX1_check_0 := by decide +kernel
theorem dX1_check_0 : decode cX1_check 0 = .ok (.iload_n 0, 1) := dk_26 (dk_at dksX1_check_0 0 rfl rfl)
theorem dX1_check_1 : decode cX1_check 1 = .ok (.ifCond .ne 11, 3) := dk_154 0 11 (dk_at dksX1_check_0 1 rfl rfl)
theorem dX1_check_4 : decode cX1_check 4 = .ok (.new 7, 3) := dk_187 0 7 (dk_at dksX1_check_0 4 rfl rfl)
theorem dX1_check_7 : decode cX1_check 7 = .ok (.dup, 1) := dk_89 (dk_at dksX1_check_0 7 rfl rfl)
theorem dX1_check_8 : decode cX1_check 8 = .ok (.invokespecial 9, 3) := dk_183 0 9 (dk_at dksX1_check_0 8 rfl rfl)
theorem dX1_check_11 : decode cX1_check 11 = .ok (.athrow, 1) := dk_191 (dk_at dksX1_check_0 11 rfl rfl)
theorem dX1_check_12 : decode cX1_check 12 = .ok (.return_, 1) := dk_177 (dk_at dksX1_check_0 12 rfl rfl)
abbrev cX1_setInheriting : ByteArray := prog_1_method_24_code
def yX1_setInheriting : MethodName := ⟨RX1, "setInheriting", "(IZ)Z"⟩
def dkwX1_setInheriting_2 : List UInt8 := [180, 0, 135, 27, 50, 28, 181, 0, 151, 29, 172]
abbrev dktX1_setInheriting_2 : List UInt8 := dkwX1_setInheriting_2 ++ []
def dkwX1_setInheriting_1 : List UInt8 := [182, 0, 77, 182, 0, 80, 42, 180, 0, 36, 180, 0, 135, 27, 50, 180, 0, 151, 62, 42, 180, 0, 36]
abbrev dktX1_setInheriting_1 : List UInt8 := dkwX1_setInheriting_1 ++ dktX1_setInheriting_2
def dkwX1_setInheriting_0 : List UInt8 := [4, 188, 4, 89, 3, 42, 180, 0, 36, 27, 182, 0, 122, 84, 184, 0, 105, 42, 42, 180, 0, 36]
abbrev dktX1_setInheriting_0 : List UInt8 := dkwX1_setInheriting_0 ++ dktX1_setInheriting_1
theorem dksX1_setInheriting_0 : cX1_setInheriting.data.toList.drop 0 = dktX1_setInheriting_0 := by decide +kernel
theorem dksX1_setInheriting_1 : cX1_setInheriting.data.toList.drop 22 = dktX1_setInheriting_1 := dk_seg dksX1_setInheriting_0 22 rfl rfl
theorem dksX1_setInheriting_2 : cX1_setInheriting.data.toList.drop 45 = dktX1_setInheriting_2 := dk_seg dksX1_setInheriting_1 23 rfl rfl
theorem dX1_setInheriting_0 : decode cX1_setInheriting 0 = .ok (.iconst 1, 1) := dk_4 (dk_at dksX1_setInheriting_0 0 rfl rfl)
theorem dX1_setInheriting_1 : decode cX1_setInheriting 1 = .ok (.newarray .boolean, 2) := dk_188_4 (dk_at dksX1_setInheriting_0 1 rfl rfl)
theorem dX1_setInheriting_3 : decode cX1_setInheriting 3 = .ok (.dup, 1) := dk_89 (dk_at dksX1_setInheriting_0 3 rfl rfl)
theorem dX1_setInheriting_4 : decode cX1_setInheriting 4 = .ok (.iconst 0, 1) := dk_3 (dk_at dksX1_setInheriting_0 4 rfl rfl)
theorem dX1_setInheriting_5 : decode cX1_setInheriting 5 = .ok (.aload_n 0, 1) := dk_42 (dk_at dksX1_setInheriting_0 5 rfl rfl)
theorem dX1_setInheriting_6 : decode cX1_setInheriting 6 = .ok (.getfield 36, 3) := dk_180 0 36 (dk_at dksX1_setInheriting_0 6 rfl rfl)
theorem dX1_setInheriting_9 : decode cX1_setInheriting 9 = .ok (.iload_n 1, 1) := dk_27 (dk_at dksX1_setInheriting_0 9 rfl rfl)
theorem dX1_setInheriting_10 : decode cX1_setInheriting 10 = .ok (.invokevirtual 122, 3) := dk_182 0 122 (dk_at dksX1_setInheriting_0 10 rfl rfl)
theorem dX1_setInheriting_13 : decode cX1_setInheriting 13 = .ok (.bastore, 1) := dk_84 (dk_at dksX1_setInheriting_0 13 rfl rfl)
theorem dX1_setInheriting_14 : decode cX1_setInheriting 14 = .ok (.invokestatic 105, 3) := dk_184 0 105 (dk_at dksX1_setInheriting_0 14 rfl rfl)
theorem dX1_setInheriting_17 : decode cX1_setInheriting 17 = .ok (.aload_n 0, 1) := dk_42 (dk_at dksX1_setInheriting_0 17 rfl rfl)
theorem dX1_setInheriting_18 : decode cX1_setInheriting 18 = .ok (.aload_n 0, 1) := dk_42 (dk_at dksX1_setInheriting_0 18 rfl rfl)
theorem dX1_setInheriting_19 : decode cX1_setInheriting 19 = .ok (.getfield 36, 3) := dk_180 0 36 (dk_at dksX1_setInheriting_0 19 rfl rfl)
theorem dX1_setInheriting_22 : decode cX1_setInheriting 22 = .ok (.invokevirtual 77, 3) := dk_182 0 77 (dk_at dksX1_setInheriting_1 0 rfl rfl)
theorem dX1_setInheriting_25 : decode cX1_setInheriting 25 = .ok (.invokevirtual 80, 3) := dk_182 0 80 (dk_at dksX1_setInheriting_1 3 rfl rfl)
theorem dX1_setInheriting_28 : decode cX1_setInheriting 28 = .ok (.aload_n 0, 1) := dk_42 (dk_at dksX1_setInheriting_1 6 rfl rfl)
theorem dX1_setInheriting_29 : decode cX1_setInheriting 29 = .ok (.getfield 36, 3) := dk_180 0 36 (dk_at dksX1_setInheriting_1 7 rfl rfl)
theorem dX1_setInheriting_32 : decode cX1_setInheriting 32 = .ok (.getfield 135, 3) := dk_180 0 135 (dk_at dksX1_setInheriting_1 10 rfl rfl)
theorem dX1_setInheriting_35 : decode cX1_setInheriting 35 = .ok (.iload_n 1, 1) := dk_27 (dk_at dksX1_setInheriting_1 13 rfl rfl)
theorem dX1_setInheriting_36 : decode cX1_setInheriting 36 = .ok (.aaload, 1) := dk_50 (dk_at dksX1_setInheriting_1 14 rfl rfl)
theorem dX1_setInheriting_37 : decode cX1_setInheriting 37 = .ok (.getfield 151, 3) := dk_180 0 151 (dk_at dksX1_setInheriting_1 15 rfl rfl)
theorem dX1_setInheriting_40 : decode cX1_setInheriting 40 = .ok (.istore_n 3, 1) := dk_62 (dk_at dksX1_setInheriting_1 18 rfl rfl)
theorem dX1_setInheriting_41 : decode cX1_setInheriting 41 = .ok (.aload_n 0, 1) := dk_42 (dk_at dksX1_setInheriting_1 19 rfl rfl)
theorem dX1_setInheriting_42 : decode cX1_setInheriting 42 = .ok (.getfield 36, 3) := dk_180 0 36 (dk_at dksX1_setInheriting_1 20 rfl rfl)
theorem dX1_setInheriting_45 : decode cX1_setInheriting 45 = .ok (.getfield 135, 3) := dk_180 0 135 (dk_at dksX1_setInheriting_2 0 rfl rfl)
theorem dX1_setInheriting_48 : decode cX1_setInheriting 48 = .ok (.iload_n 1, 1) := dk_27 (dk_at dksX1_setInheriting_2 3 rfl rfl)
theorem dX1_setInheriting_49 : decode cX1_setInheriting 49 = .ok (.aaload, 1) := dk_50 (dk_at dksX1_setInheriting_2 4 rfl rfl)
theorem dX1_setInheriting_50 : decode cX1_setInheriting 50 = .ok (.iload_n 2, 1) := dk_28 (dk_at dksX1_setInheriting_2 5 rfl rfl)
theorem dX1_setInheriting_51 : decode cX1_setInheriting 51 = .ok (.putfield 151, 3) := dk_181 0 151 (dk_at dksX1_setInheriting_2 6 rfl rfl)
theorem dX1_setInheriting_54 : decode cX1_setInheriting 54 = .ok (.iload_n 3, 1) := dk_29 (dk_at dksX1_setInheriting_2 9 rfl rfl)
theorem dX1_setInheriting_55 : decode cX1_setInheriting 55 = .ok (.ireturn, 1) := dk_172 (dk_at dksX1_setInheriting_2 10 rfl rfl)
abbrev cX1_addForUser : ByteArray := prog_1_method_26_code
def yX1_addForUser : MethodName := ⟨RX1, "addForUser", "(IIIZZ)I"⟩
def dkwX1_addForUser_2 : List UInt8 := [183, 0, 164, 182, 0, 167, 172]
abbrev dktX1_addForUser_2 : List UInt8 := dkwX1_addForUser_2 ++ []
def dkwX1_addForUser_1 : List UInt8 := [84, 184, 0, 105, 29, 4, 184, 0, 144, 42, 27, 187, 0, 162, 89, 3, 28, 29, 21, 4, 21, 5]
abbrev dktX1_addForUser_1 : List UInt8 := dkwX1_addForUser_1 ++ dktX1_addForUser_2
def dkwX1_addForUser_0 : List UInt8 := [5, 188, 4, 89, 3, 42, 180, 0, 36, 27, 182, 0, 122, 84, 89, 4, 42, 180, 0, 36, 28, 182, 0, 98]
abbrev dktX1_addForUser_0 : List UInt8 := dkwX1_addForUser_0 ++ dktX1_addForUser_1
theorem dksX1_addForUser_0 : cX1_addForUser.data.toList.drop 0 = dktX1_addForUser_0 := by decide +kernel
theorem dksX1_addForUser_1 : cX1_addForUser.data.toList.drop 24 = dktX1_addForUser_1 := dk_seg dksX1_addForUser_0 24 rfl rfl
theorem dksX1_addForUser_2 : cX1_addForUser.data.toList.drop 46 = dktX1_addForUser_2 := dk_seg dksX1_addForUser_1 22 rfl rfl
theorem dX1_addForUser_0 : decode cX1_addForUser 0 = .ok (.iconst 2, 1) := dk_5 (dk_at dksX1_addForUser_0 0 rfl rfl)
theorem dX1_addForUser_1 : decode cX1_addForUser 1 = .ok (.newarray .boolean, 2) := dk_188_4 (dk_at dksX1_addForUser_0 1 rfl rfl)
theorem dX1_addForUser_3 : decode cX1_addForUser 3 = .ok (.dup, 1) := dk_89 (dk_at dksX1_addForUser_0 3 rfl rfl)
theorem dX1_addForUser_4 : decode cX1_addForUser 4 = .ok (.iconst 0, 1) := dk_3 (dk_at dksX1_addForUser_0 4 rfl rfl)
theorem dX1_addForUser_5 : decode cX1_addForUser 5 = .ok (.aload_n 0, 1) := dk_42 (dk_at dksX1_addForUser_0 5 rfl rfl)
theorem dX1_addForUser_6 : decode cX1_addForUser 6 = .ok (.getfield 36, 3) := dk_180 0 36 (dk_at dksX1_addForUser_0 6 rfl rfl)
theorem dX1_addForUser_9 : decode cX1_addForUser 9 = .ok (.iload_n 1, 1) := dk_27 (dk_at dksX1_addForUser_0 9 rfl rfl)
theorem dX1_addForUser_10 : decode cX1_addForUser 10 = .ok (.invokevirtual 122, 3) := dk_182 0 122 (dk_at dksX1_addForUser_0 10 rfl rfl)
theorem dX1_addForUser_13 : decode cX1_addForUser 13 = .ok (.bastore, 1) := dk_84 (dk_at dksX1_addForUser_0 13 rfl rfl)
theorem dX1_addForUser_14 : decode cX1_addForUser 14 = .ok (.dup, 1) := dk_89 (dk_at dksX1_addForUser_0 14 rfl rfl)
theorem dX1_addForUser_15 : decode cX1_addForUser 15 = .ok (.iconst 1, 1) := dk_4 (dk_at dksX1_addForUser_0 15 rfl rfl)
theorem dX1_addForUser_16 : decode cX1_addForUser 16 = .ok (.aload_n 0, 1) := dk_42 (dk_at dksX1_addForUser_0 16 rfl rfl)
theorem dX1_addForUser_17 : decode cX1_addForUser 17 = .ok (.getfield 36, 3) := dk_180 0 36 (dk_at dksX1_addForUser_0 17 rfl rfl)
theorem dX1_addForUser_20 : decode cX1_addForUser 20 = .ok (.iload_n 2, 1) := dk_28 (dk_at dksX1_addForUser_0 20 rfl rfl)
theorem dX1_addForUser_21 : decode cX1_addForUser 21 = .ok (.invokevirtual 98, 3) := dk_182 0 98 (dk_at dksX1_addForUser_0 21 rfl rfl)
theorem dX1_addForUser_24 : decode cX1_addForUser 24 = .ok (.bastore, 1) := dk_84 (dk_at dksX1_addForUser_1 0 rfl rfl)
theorem dX1_addForUser_25 : decode cX1_addForUser 25 = .ok (.invokestatic 105, 3) := dk_184 0 105 (dk_at dksX1_addForUser_1 1 rfl rfl)
theorem dX1_addForUser_28 : decode cX1_addForUser 28 = .ok (.iload_n 3, 1) := dk_29 (dk_at dksX1_addForUser_1 4 rfl rfl)
theorem dX1_addForUser_29 : decode cX1_addForUser 29 = .ok (.iconst 1, 1) := dk_4 (dk_at dksX1_addForUser_1 5 rfl rfl)
theorem dX1_addForUser_30 : decode cX1_addForUser 30 = .ok (.invokestatic 144, 3) := dk_184 0 144 (dk_at dksX1_addForUser_1 6 rfl rfl)
theorem dX1_addForUser_33 : decode cX1_addForUser 33 = .ok (.aload_n 0, 1) := dk_42 (dk_at dksX1_addForUser_1 9 rfl rfl)
theorem dX1_addForUser_34 : decode cX1_addForUser 34 = .ok (.iload_n 1, 1) := dk_27 (dk_at dksX1_addForUser_1 10 rfl rfl)
theorem dX1_addForUser_35 : decode cX1_addForUser 35 = .ok (.new 162, 3) := dk_187 0 162 (dk_at dksX1_addForUser_1 11 rfl rfl)
theorem dX1_addForUser_38 : decode cX1_addForUser 38 = .ok (.dup, 1) := dk_89 (dk_at dksX1_addForUser_1 14 rfl rfl)
theorem dX1_addForUser_39 : decode cX1_addForUser 39 = .ok (.iconst 0, 1) := dk_3 (dk_at dksX1_addForUser_1 15 rfl rfl)
theorem dX1_addForUser_40 : decode cX1_addForUser 40 = .ok (.iload_n 2, 1) := dk_28 (dk_at dksX1_addForUser_1 16 rfl rfl)
theorem dX1_addForUser_41 : decode cX1_addForUser 41 = .ok (.iload_n 3, 1) := dk_29 (dk_at dksX1_addForUser_1 17 rfl rfl)
theorem dX1_addForUser_42 : decode cX1_addForUser 42 = .ok (.iload 4, 2) := dk_21 4 (dk_at dksX1_addForUser_1 18 rfl rfl)
theorem dX1_addForUser_44 : decode cX1_addForUser 44 = .ok (.iload 5, 2) := dk_21 5 (dk_at dksX1_addForUser_1 20 rfl rfl)
theorem dX1_addForUser_46 : decode cX1_addForUser 46 = .ok (.invokespecial 164, 3) := dk_183 0 164 (dk_at dksX1_addForUser_2 0 rfl rfl)
theorem dX1_addForUser_49 : decode cX1_addForUser 49 = .ok (.invokevirtual 167, 3) := dk_182 0 167 (dk_at dksX1_addForUser_2 3 rfl rfl)
theorem dX1_addForUser_52 : decode cX1_addForUser 52 = .ok (.ireturn, 1) := dk_172 (dk_at dksX1_addForUser_2 6 rfl rfl)
abbrev cX1_adds : ByteArray := prog_1_method_25_code
def yX1_adds : MethodName := ⟨RX1, "adds", "(ILPermissionDesk$Entry;)I"⟩
def dkwX1_adds_1 : List UInt8 := [180, 0, 155, 182, 0, 88, 44, 182, 0, 158, 54, 4, 42, 45, 182, 0, 80, 21, 4, 172]
abbrev dktX1_adds_1 : List UInt8 := dkwX1_adds_1 ++ []
def dkwX1_adds_0 : List UInt8 := [42, 180, 0, 36, 182, 0, 77, 78, 42, 180, 0, 36, 27, 42, 180, 0, 36, 180, 0, 135, 27, 50]
abbrev dktX1_adds_0 : List UInt8 := dkwX1_adds_0 ++ dktX1_adds_1
theorem dksX1_adds_0 : cX1_adds.data.toList.drop 0 = dktX1_adds_0 := by decide +kernel
theorem dksX1_adds_1 : cX1_adds.data.toList.drop 22 = dktX1_adds_1 := dk_seg dksX1_adds_0 22 rfl rfl
theorem dX1_adds_0 : decode cX1_adds 0 = .ok (.aload_n 0, 1) := dk_42 (dk_at dksX1_adds_0 0 rfl rfl)
theorem dX1_adds_1 : decode cX1_adds 1 = .ok (.getfield 36, 3) := dk_180 0 36 (dk_at dksX1_adds_0 1 rfl rfl)
theorem dX1_adds_4 : decode cX1_adds 4 = .ok (.invokevirtual 77, 3) := dk_182 0 77 (dk_at dksX1_adds_0 4 rfl rfl)
theorem dX1_adds_7 : decode cX1_adds 7 = .ok (.astore_n 3, 1) := dk_78 (dk_at dksX1_adds_0 7 rfl rfl)
theorem dX1_adds_8 : decode cX1_adds 8 = .ok (.aload_n 0, 1) := dk_42 (dk_at dksX1_adds_0 8 rfl rfl)
theorem dX1_adds_9 : decode cX1_adds 9 = .ok (.getfield 36, 3) := dk_180 0 36 (dk_at dksX1_adds_0 9 rfl rfl)
theorem dX1_adds_12 : decode cX1_adds 12 = .ok (.iload_n 1, 1) := dk_27 (dk_at dksX1_adds_0 12 rfl rfl)
theorem dX1_adds_13 : decode cX1_adds 13 = .ok (.aload_n 0, 1) := dk_42 (dk_at dksX1_adds_0 13 rfl rfl)
theorem dX1_adds_14 : decode cX1_adds 14 = .ok (.getfield 36, 3) := dk_180 0 36 (dk_at dksX1_adds_0 14 rfl rfl)
theorem dX1_adds_17 : decode cX1_adds 17 = .ok (.getfield 135, 3) := dk_180 0 135 (dk_at dksX1_adds_0 17 rfl rfl)
theorem dX1_adds_20 : decode cX1_adds 20 = .ok (.iload_n 1, 1) := dk_27 (dk_at dksX1_adds_0 20 rfl rfl)
theorem dX1_adds_21 : decode cX1_adds 21 = .ok (.aaload, 1) := dk_50 (dk_at dksX1_adds_0 21 rfl rfl)
theorem dX1_adds_22 : decode cX1_adds 22 = .ok (.getfield 155, 3) := dk_180 0 155 (dk_at dksX1_adds_1 0 rfl rfl)
theorem dX1_adds_25 : decode cX1_adds 25 = .ok (.invokevirtual 88, 3) := dk_182 0 88 (dk_at dksX1_adds_1 3 rfl rfl)
theorem dX1_adds_28 : decode cX1_adds 28 = .ok (.aload_n 2, 1) := dk_44 (dk_at dksX1_adds_1 6 rfl rfl)
theorem dX1_adds_29 : decode cX1_adds 29 = .ok (.invokevirtual 158, 3) := dk_182 0 158 (dk_at dksX1_adds_1 7 rfl rfl)
theorem dX1_adds_32 : decode cX1_adds 32 = .ok (.istore 4, 2) := dk_54 4 (dk_at dksX1_adds_1 10 rfl rfl)
theorem dX1_adds_34 : decode cX1_adds 34 = .ok (.aload_n 0, 1) := dk_42 (dk_at dksX1_adds_1 12 rfl rfl)
theorem dX1_adds_35 : decode cX1_adds 35 = .ok (.aload_n 3, 1) := dk_45 (dk_at dksX1_adds_1 13 rfl rfl)
theorem dX1_adds_36 : decode cX1_adds 36 = .ok (.invokevirtual 80, 3) := dk_182 0 80 (dk_at dksX1_adds_1 14 rfl rfl)
theorem dX1_adds_39 : decode cX1_adds 39 = .ok (.iload 4, 2) := dk_21 4 (dk_at dksX1_adds_1 17 rfl rfl)
theorem dX1_adds_41 : decode cX1_adds 41 = .ok (.ireturn, 1) := dk_172 (dk_at dksX1_adds_1 19 rfl rfl)
abbrev cX1_addForGroup : ByteArray := prog_1_method_27_code
def yX1_addForGroup : MethodName := ⟨RX1, "addForGroup", "(IIIZZ)I"⟩
def dkwX1_addForGroup_2 : List UInt8 := [183, 0, 164, 182, 0, 167, 172]
abbrev dktX1_addForGroup_2 : List UInt8 := dkwX1_addForGroup_2 ++ []
def dkwX1_addForGroup_1 : List UInt8 := [84, 184, 0, 105, 29, 4, 184, 0, 144, 42, 27, 187, 0, 162, 89, 4, 28, 29, 21, 4, 21, 5]
abbrev dktX1_addForGroup_1 : List UInt8 := dkwX1_addForGroup_1 ++ dktX1_addForGroup_2
def dkwX1_addForGroup_0 : List UInt8 := [5, 188, 4, 89, 3, 42, 180, 0, 36, 27, 182, 0, 122, 84, 89, 4, 42, 180, 0, 36, 28, 182, 0, 102]
abbrev dktX1_addForGroup_0 : List UInt8 := dkwX1_addForGroup_0 ++ dktX1_addForGroup_1
theorem dksX1_addForGroup_0 : cX1_addForGroup.data.toList.drop 0 = dktX1_addForGroup_0 := by decide +kernel
theorem dksX1_addForGroup_1 : cX1_addForGroup.data.toList.drop 24 = dktX1_addForGroup_1 := dk_seg dksX1_addForGroup_0 24 rfl rfl
theorem dksX1_addForGroup_2 : cX1_addForGroup.data.toList.drop 46 = dktX1_addForGroup_2 := dk_seg dksX1_addForGroup_1 22 rfl rfl
theorem dX1_addForGroup_0 : decode cX1_addForGroup 0 = .ok (.iconst 2, 1) := dk_5 (dk_at dksX1_addForGroup_0 0 rfl rfl)
theorem dX1_addForGroup_1 : decode cX1_addForGroup 1 = .ok (.newarray .boolean, 2) := dk_188_4 (dk_at dksX1_addForGroup_0 1 rfl rfl)
theorem dX1_addForGroup_3 : decode cX1_addForGroup 3 = .ok (.dup, 1) := dk_89 (dk_at dksX1_addForGroup_0 3 rfl rfl)
theorem dX1_addForGroup_4 : decode cX1_addForGroup 4 = .ok (.iconst 0, 1) := dk_3 (dk_at dksX1_addForGroup_0 4 rfl rfl)
theorem dX1_addForGroup_5 : decode cX1_addForGroup 5 = .ok (.aload_n 0, 1) := dk_42 (dk_at dksX1_addForGroup_0 5 rfl rfl)
theorem dX1_addForGroup_6 : decode cX1_addForGroup 6 = .ok (.getfield 36, 3) := dk_180 0 36 (dk_at dksX1_addForGroup_0 6 rfl rfl)
theorem dX1_addForGroup_9 : decode cX1_addForGroup 9 = .ok (.iload_n 1, 1) := dk_27 (dk_at dksX1_addForGroup_0 9 rfl rfl)
theorem dX1_addForGroup_10 : decode cX1_addForGroup 10 = .ok (.invokevirtual 122, 3) := dk_182 0 122 (dk_at dksX1_addForGroup_0 10 rfl rfl)
theorem dX1_addForGroup_13 : decode cX1_addForGroup 13 = .ok (.bastore, 1) := dk_84 (dk_at dksX1_addForGroup_0 13 rfl rfl)
theorem dX1_addForGroup_14 : decode cX1_addForGroup 14 = .ok (.dup, 1) := dk_89 (dk_at dksX1_addForGroup_0 14 rfl rfl)
theorem dX1_addForGroup_15 : decode cX1_addForGroup 15 = .ok (.iconst 1, 1) := dk_4 (dk_at dksX1_addForGroup_0 15 rfl rfl)
theorem dX1_addForGroup_16 : decode cX1_addForGroup 16 = .ok (.aload_n 0, 1) := dk_42 (dk_at dksX1_addForGroup_0 16 rfl rfl)
theorem dX1_addForGroup_17 : decode cX1_addForGroup 17 = .ok (.getfield 36, 3) := dk_180 0 36 (dk_at dksX1_addForGroup_0 17 rfl rfl)
theorem dX1_addForGroup_20 : decode cX1_addForGroup 20 = .ok (.iload_n 2, 1) := dk_28 (dk_at dksX1_addForGroup_0 20 rfl rfl)
theorem dX1_addForGroup_21 : decode cX1_addForGroup 21 = .ok (.invokevirtual 102, 3) := dk_182 0 102 (dk_at dksX1_addForGroup_0 21 rfl rfl)
theorem dX1_addForGroup_24 : decode cX1_addForGroup 24 = .ok (.bastore, 1) := dk_84 (dk_at dksX1_addForGroup_1 0 rfl rfl)
theorem dX1_addForGroup_25 : decode cX1_addForGroup 25 = .ok (.invokestatic 105, 3) := dk_184 0 105 (dk_at dksX1_addForGroup_1 1 rfl rfl)
theorem dX1_addForGroup_28 : decode cX1_addForGroup 28 = .ok (.iload_n 3, 1) := dk_29 (dk_at dksX1_addForGroup_1 4 rfl rfl)
theorem dX1_addForGroup_29 : decode cX1_addForGroup 29 = .ok (.iconst 1, 1) := dk_4 (dk_at dksX1_addForGroup_1 5 rfl rfl)
theorem dX1_addForGroup_30 : decode cX1_addForGroup 30 = .ok (.invokestatic 144, 3) := dk_184 0 144 (dk_at dksX1_addForGroup_1 6 rfl rfl)
theorem dX1_addForGroup_33 : decode cX1_addForGroup 33 = .ok (.aload_n 0, 1) := dk_42 (dk_at dksX1_addForGroup_1 9 rfl rfl)
theorem dX1_addForGroup_34 : decode cX1_addForGroup 34 = .ok (.iload_n 1, 1) := dk_27 (dk_at dksX1_addForGroup_1 10 rfl rfl)
theorem dX1_addForGroup_35 : decode cX1_addForGroup 35 = .ok (.new 162, 3) := dk_187 0 162 (dk_at dksX1_addForGroup_1 11 rfl rfl)
theorem dX1_addForGroup_38 : decode cX1_addForGroup 38 = .ok (.dup, 1) := dk_89 (dk_at dksX1_addForGroup_1 14 rfl rfl)
theorem dX1_addForGroup_39 : decode cX1_addForGroup 39 = .ok (.iconst 1, 1) := dk_4 (dk_at dksX1_addForGroup_1 15 rfl rfl)
theorem dX1_addForGroup_40 : decode cX1_addForGroup 40 = .ok (.iload_n 2, 1) := dk_28 (dk_at dksX1_addForGroup_1 16 rfl rfl)
theorem dX1_addForGroup_41 : decode cX1_addForGroup 41 = .ok (.iload_n 3, 1) := dk_29 (dk_at dksX1_addForGroup_1 17 rfl rfl)
theorem dX1_addForGroup_42 : decode cX1_addForGroup 42 = .ok (.iload 4, 2) := dk_21 4 (dk_at dksX1_addForGroup_1 18 rfl rfl)
theorem dX1_addForGroup_44 : decode cX1_addForGroup 44 = .ok (.iload 5, 2) := dk_21 5 (dk_at dksX1_addForGroup_1 20 rfl rfl)
theorem dX1_addForGroup_46 : decode cX1_addForGroup 46 = .ok (.invokespecial 164, 3) := dk_183 0 164 (dk_at dksX1_addForGroup_2 0 rfl rfl)
theorem dX1_addForGroup_49 : decode cX1_addForGroup 49 = .ok (.invokevirtual 167, 3) := dk_182 0 167 (dk_at dksX1_addForGroup_2 3 rfl rfl)
theorem dX1_addForGroup_52 : decode cX1_addForGroup 52 = .ok (.ireturn, 1) := dk_172 (dk_at dksX1_addForGroup_2 6 rfl rfl)
abbrev cX1_addForOwner : ByteArray := prog_1_method_28_code
def yX1_addForOwner : MethodName := ⟨RX1, "addForOwner", "(IIZZ)I"⟩
def dkwX1_addForOwner_1 : List UInt8 := [187, 0, 162, 89, 5, 28, 29, 21, 4, 183, 0, 170, 182, 0, 167, 172]
abbrev dktX1_addForOwner_1 : List UInt8 := dkwX1_addForOwner_1 ++ []
def dkwX1_addForOwner_0 : List UInt8 := [4, 188, 4, 89, 3, 42, 180, 0, 36, 27, 182, 0, 122, 84, 184, 0, 105, 28, 4, 184, 0, 144, 42, 27]
abbrev dktX1_addForOwner_0 : List UInt8 := dkwX1_addForOwner_0 ++ dktX1_addForOwner_1
theorem dksX1_addForOwner_0 : cX1_addForOwner.data.toList.drop 0 = dktX1_addForOwner_0 := by decide +kernel
theorem dksX1_addForOwner_1 : cX1_addForOwner.data.toList.drop 24 = dktX1_addForOwner_1 := dk_seg dksX1_addForOwner_0 24 rfl rfl
theorem dX1_addForOwner_0 : decode cX1_addForOwner 0 = .ok (.iconst 1, 1) := dk_4 (dk_at dksX1_addForOwner_0 0 rfl rfl)
theorem dX1_addForOwner_1 : decode cX1_addForOwner 1 = .ok (.newarray .boolean, 2) := dk_188_4 (dk_at dksX1_addForOwner_0 1 rfl rfl)
theorem dX1_addForOwner_3 : decode cX1_addForOwner 3 = .ok (.dup, 1) := dk_89 (dk_at dksX1_addForOwner_0 3 rfl rfl)
theorem dX1_addForOwner_4 : decode cX1_addForOwner 4 = .ok (.iconst 0, 1) := dk_3 (dk_at dksX1_addForOwner_0 4 rfl rfl)
theorem dX1_addForOwner_5 : decode cX1_addForOwner 5 = .ok (.aload_n 0, 1) := dk_42 (dk_at dksX1_addForOwner_0 5 rfl rfl)
theorem dX1_addForOwner_6 : decode cX1_addForOwner 6 = .ok (.getfield 36, 3) := dk_180 0 36 (dk_at dksX1_addForOwner_0 6 rfl rfl)
theorem dX1_addForOwner_9 : decode cX1_addForOwner 9 = .ok (.iload_n 1, 1) := dk_27 (dk_at dksX1_addForOwner_0 9 rfl rfl)
theorem dX1_addForOwner_10 : decode cX1_addForOwner 10 = .ok (.invokevirtual 122, 3) := dk_182 0 122 (dk_at dksX1_addForOwner_0 10 rfl rfl)
theorem dX1_addForOwner_13 : decode cX1_addForOwner 13 = .ok (.bastore, 1) := dk_84 (dk_at dksX1_addForOwner_0 13 rfl rfl)
theorem dX1_addForOwner_14 : decode cX1_addForOwner 14 = .ok (.invokestatic 105, 3) := dk_184 0 105 (dk_at dksX1_addForOwner_0 14 rfl rfl)
theorem dX1_addForOwner_17 : decode cX1_addForOwner 17 = .ok (.iload_n 2, 1) := dk_28 (dk_at dksX1_addForOwner_0 17 rfl rfl)
theorem dX1_addForOwner_18 : decode cX1_addForOwner 18 = .ok (.iconst 1, 1) := dk_4 (dk_at dksX1_addForOwner_0 18 rfl rfl)
theorem dX1_addForOwner_19 : decode cX1_addForOwner 19 = .ok (.invokestatic 144, 3) := dk_184 0 144 (dk_at dksX1_addForOwner_0 19 rfl rfl)
theorem dX1_addForOwner_22 : decode cX1_addForOwner 22 = .ok (.aload_n 0, 1) := dk_42 (dk_at dksX1_addForOwner_0 22 rfl rfl)
theorem dX1_addForOwner_23 : decode cX1_addForOwner 23 = .ok (.iload_n 1, 1) := dk_27 (dk_at dksX1_addForOwner_0 23 rfl rfl)
theorem dX1_addForOwner_24 : decode cX1_addForOwner 24 = .ok (.new 162, 3) := dk_187 0 162 (dk_at dksX1_addForOwner_1 0 rfl rfl)
theorem dX1_addForOwner_27 : decode cX1_addForOwner 27 = .ok (.dup, 1) := dk_89 (dk_at dksX1_addForOwner_1 3 rfl rfl)
theorem dX1_addForOwner_28 : decode cX1_addForOwner 28 = .ok (.iconst 2, 1) := dk_5 (dk_at dksX1_addForOwner_1 4 rfl rfl)
theorem dX1_addForOwner_29 : decode cX1_addForOwner 29 = .ok (.iload_n 2, 1) := dk_28 (dk_at dksX1_addForOwner_1 5 rfl rfl)
theorem dX1_addForOwner_30 : decode cX1_addForOwner 30 = .ok (.iload_n 3, 1) := dk_29 (dk_at dksX1_addForOwner_1 6 rfl rfl)
theorem dX1_addForOwner_31 : decode cX1_addForOwner 31 = .ok (.iload 4, 2) := dk_21 4 (dk_at dksX1_addForOwner_1 7 rfl rfl)
theorem dX1_addForOwner_33 : decode cX1_addForOwner 33 = .ok (.invokespecial 170, 3) := dk_183 0 170 (dk_at dksX1_addForOwner_1 9 rfl rfl)
theorem dX1_addForOwner_36 : decode cX1_addForOwner 36 = .ok (.invokevirtual 167, 3) := dk_182 0 167 (dk_at dksX1_addForOwner_1 12 rfl rfl)
theorem dX1_addForOwner_39 : decode cX1_addForOwner 39 = .ok (.ireturn, 1) := dk_172 (dk_at dksX1_addForOwner_1 15 rfl rfl)
abbrev cX1_addForAll : ByteArray := prog_1_method_29_code
def yX1_addForAll : MethodName := ⟨RX1, "addForAll", "(IIZZ)I"⟩
def dkwX1_addForAll_1 : List UInt8 := [187, 0, 162, 89, 6, 28, 29, 21, 4, 183, 0, 170, 182, 0, 167, 172]
abbrev dktX1_addForAll_1 : List UInt8 := dkwX1_addForAll_1 ++ []
def dkwX1_addForAll_0 : List UInt8 := [4, 188, 4, 89, 3, 42, 180, 0, 36, 27, 182, 0, 122, 84, 184, 0, 105, 28, 4, 184, 0, 144, 42, 27]
abbrev dktX1_addForAll_0 : List UInt8 := dkwX1_addForAll_0 ++ dktX1_addForAll_1
theorem dksX1_addForAll_0 : cX1_addForAll.data.toList.drop 0 = dktX1_addForAll_0 := by decide +kernel
theorem dksX1_addForAll_1 : cX1_addForAll.data.toList.drop 24 = dktX1_addForAll_1 := dk_seg dksX1_addForAll_0 24 rfl rfl
theorem dX1_addForAll_0 : decode cX1_addForAll 0 = .ok (.iconst 1, 1) := dk_4 (dk_at dksX1_addForAll_0 0 rfl rfl)
theorem dX1_addForAll_1 : decode cX1_addForAll 1 = .ok (.newarray .boolean, 2) := dk_188_4 (dk_at dksX1_addForAll_0 1 rfl rfl)
theorem dX1_addForAll_3 : decode cX1_addForAll 3 = .ok (.dup, 1) := dk_89 (dk_at dksX1_addForAll_0 3 rfl rfl)
theorem dX1_addForAll_4 : decode cX1_addForAll 4 = .ok (.iconst 0, 1) := dk_3 (dk_at dksX1_addForAll_0 4 rfl rfl)
theorem dX1_addForAll_5 : decode cX1_addForAll 5 = .ok (.aload_n 0, 1) := dk_42 (dk_at dksX1_addForAll_0 5 rfl rfl)
theorem dX1_addForAll_6 : decode cX1_addForAll 6 = .ok (.getfield 36, 3) := dk_180 0 36 (dk_at dksX1_addForAll_0 6 rfl rfl)
theorem dX1_addForAll_9 : decode cX1_addForAll 9 = .ok (.iload_n 1, 1) := dk_27 (dk_at dksX1_addForAll_0 9 rfl rfl)
theorem dX1_addForAll_10 : decode cX1_addForAll 10 = .ok (.invokevirtual 122, 3) := dk_182 0 122 (dk_at dksX1_addForAll_0 10 rfl rfl)
theorem dX1_addForAll_13 : decode cX1_addForAll 13 = .ok (.bastore, 1) := dk_84 (dk_at dksX1_addForAll_0 13 rfl rfl)
theorem dX1_addForAll_14 : decode cX1_addForAll 14 = .ok (.invokestatic 105, 3) := dk_184 0 105 (dk_at dksX1_addForAll_0 14 rfl rfl)
theorem dX1_addForAll_17 : decode cX1_addForAll 17 = .ok (.iload_n 2, 1) := dk_28 (dk_at dksX1_addForAll_0 17 rfl rfl)
theorem dX1_addForAll_18 : decode cX1_addForAll 18 = .ok (.iconst 1, 1) := dk_4 (dk_at dksX1_addForAll_0 18 rfl rfl)
theorem dX1_addForAll_19 : decode cX1_addForAll 19 = .ok (.invokestatic 144, 3) := dk_184 0 144 (dk_at dksX1_addForAll_0 19 rfl rfl)
theorem dX1_addForAll_22 : decode cX1_addForAll 22 = .ok (.aload_n 0, 1) := dk_42 (dk_at dksX1_addForAll_0 22 rfl rfl)
theorem dX1_addForAll_23 : decode cX1_addForAll 23 = .ok (.iload_n 1, 1) := dk_27 (dk_at dksX1_addForAll_0 23 rfl rfl)
theorem dX1_addForAll_24 : decode cX1_addForAll 24 = .ok (.new 162, 3) := dk_187 0 162 (dk_at dksX1_addForAll_1 0 rfl rfl)
theorem dX1_addForAll_27 : decode cX1_addForAll 27 = .ok (.dup, 1) := dk_89 (dk_at dksX1_addForAll_1 3 rfl rfl)
theorem dX1_addForAll_28 : decode cX1_addForAll 28 = .ok (.iconst 3, 1) := dk_6 (dk_at dksX1_addForAll_1 4 rfl rfl)
theorem dX1_addForAll_29 : decode cX1_addForAll 29 = .ok (.iload_n 2, 1) := dk_28 (dk_at dksX1_addForAll_1 5 rfl rfl)
theorem dX1_addForAll_30 : decode cX1_addForAll 30 = .ok (.iload_n 3, 1) := dk_29 (dk_at dksX1_addForAll_1 6 rfl rfl)
theorem dX1_addForAll_31 : decode cX1_addForAll 31 = .ok (.iload 4, 2) := dk_21 4 (dk_at dksX1_addForAll_1 7 rfl rfl)
theorem dX1_addForAll_33 : decode cX1_addForAll 33 = .ok (.invokespecial 170, 3) := dk_183 0 170 (dk_at dksX1_addForAll_1 9 rfl rfl)
theorem dX1_addForAll_36 : decode cX1_addForAll 36 = .ok (.invokevirtual 167, 3) := dk_182 0 167 (dk_at dksX1_addForAll_1 12 rfl rfl)
theorem dX1_addForAll_39 : decode cX1_addForAll 39 = .ok (.ireturn, 1) := dk_172 (dk_at dksX1_addForAll_1 15 rfl rfl)
abbrev cX1_removeEntry : ByteArray := prog_1_method_31_code
def yX1_removeEntry : MethodName := ⟨RX1, "removeEntry", "(II)I"⟩
def dkwX1_removeEntry_1 : List UInt8 := [182, 0, 80, 42, 180, 0, 36, 27, 28, 182, 0, 178, 172]
abbrev dktX1_removeEntry_1 : List UInt8 := dkwX1_removeEntry_1 ++ []
def dkwX1_removeEntry_0 : List UInt8 := [4, 188, 4, 89, 3, 42, 27, 28, 182, 0, 174, 84, 184, 0, 105, 42, 42, 180, 0, 36, 182, 0, 77]
abbrev dktX1_removeEntry_0 : List UInt8 := dkwX1_removeEntry_0 ++ dktX1_removeEntry_1
theorem dksX1_removeEntry_0 : cX1_removeEntry.data.toList.drop 0 = dktX1_removeEntry_0 := by decide +kernel
theorem dksX1_removeEntry_1 : cX1_removeEntry.data.toList.drop 23 = dktX1_removeEntry_1 := dk_seg dksX1_removeEntry_0 23 rfl rfl
theorem dX1_removeEntry_0 : decode cX1_removeEntry 0 = .ok (.iconst 1, 1) := dk_4 (dk_at dksX1_removeEntry_0 0 rfl rfl)
theorem dX1_removeEntry_1 : decode cX1_removeEntry 1 = .ok (.newarray .boolean, 2) := dk_188_4 (dk_at dksX1_removeEntry_0 1 rfl rfl)
theorem dX1_removeEntry_3 : decode cX1_removeEntry 3 = .ok (.dup, 1) := dk_89 (dk_at dksX1_removeEntry_0 3 rfl rfl)
theorem dX1_removeEntry_4 : decode cX1_removeEntry 4 = .ok (.iconst 0, 1) := dk_3 (dk_at dksX1_removeEntry_0 4 rfl rfl)
theorem dX1_removeEntry_5 : decode cX1_removeEntry 5 = .ok (.aload_n 0, 1) := dk_42 (dk_at dksX1_removeEntry_0 5 rfl rfl)
theorem dX1_removeEntry_6 : decode cX1_removeEntry 6 = .ok (.iload_n 1, 1) := dk_27 (dk_at dksX1_removeEntry_0 6 rfl rfl)
theorem dX1_removeEntry_7 : decode cX1_removeEntry 7 = .ok (.iload_n 2, 1) := dk_28 (dk_at dksX1_removeEntry_0 7 rfl rfl)
theorem dX1_removeEntry_8 : decode cX1_removeEntry 8 = .ok (.invokevirtual 174, 3) := dk_182 0 174 (dk_at dksX1_removeEntry_0 8 rfl rfl)
theorem dX1_removeEntry_11 : decode cX1_removeEntry 11 = .ok (.bastore, 1) := dk_84 (dk_at dksX1_removeEntry_0 11 rfl rfl)
theorem dX1_removeEntry_12 : decode cX1_removeEntry 12 = .ok (.invokestatic 105, 3) := dk_184 0 105 (dk_at dksX1_removeEntry_0 12 rfl rfl)
theorem dX1_removeEntry_15 : decode cX1_removeEntry 15 = .ok (.aload_n 0, 1) := dk_42 (dk_at dksX1_removeEntry_0 15 rfl rfl)
theorem dX1_removeEntry_16 : decode cX1_removeEntry 16 = .ok (.aload_n 0, 1) := dk_42 (dk_at dksX1_removeEntry_0 16 rfl rfl)
theorem dX1_removeEntry_17 : decode cX1_removeEntry 17 = .ok (.getfield 36, 3) := dk_180 0 36 (dk_at dksX1_removeEntry_0 17 rfl rfl)
theorem dX1_removeEntry_20 : decode cX1_removeEntry 20 = .ok (.invokevirtual 77, 3) := dk_182 0 77 (dk_at dksX1_removeEntry_0 20 rfl rfl)
theorem dX1_removeEntry_23 : decode cX1_removeEntry 23 = .ok (.invokevirtual 80, 3) := dk_182 0 80 (dk_at dksX1_removeEntry_1 0 rfl rfl)
theorem dX1_removeEntry_26 : decode cX1_removeEntry 26 = .ok (.aload_n 0, 1) := dk_42 (dk_at dksX1_removeEntry_1 3 rfl rfl)
theorem dX1_removeEntry_27 : decode cX1_removeEntry 27 = .ok (.getfield 36, 3) := dk_180 0 36 (dk_at dksX1_removeEntry_1 4 rfl rfl)
theorem dX1_removeEntry_30 : decode cX1_removeEntry 30 = .ok (.iload_n 1, 1) := dk_27 (dk_at dksX1_removeEntry_1 7 rfl rfl)
theorem dX1_removeEntry_31 : decode cX1_removeEntry 31 = .ok (.iload_n 2, 1) := dk_28 (dk_at dksX1_removeEntry_1 8 rfl rfl)
theorem dX1_removeEntry_32 : decode cX1_removeEntry 32 = .ok (.invokevirtual 178, 3) := dk_182 0 178 (dk_at dksX1_removeEntry_1 9 rfl rfl)
theorem dX1_removeEntry_35 : decode cX1_removeEntry 35 = .ok (.ireturn, 1) := dk_172 (dk_at dksX1_removeEntry_1 12 rfl rfl)
abbrev cX1_hasEntry : ByteArray := prog_1_method_30_code
def yX1_hasEntry : MethodName := ⟨RX1, "hasEntry", "(II)Z"⟩
def dkwX1_hasEntry_1 : List UInt8 := [153, 0, 7, 4, 167, 0, 4, 3, 172]
abbrev dktX1_hasEntry_1 : List UInt8 := dkwX1_hasEntry_1 ++ []
def dkwX1_hasEntry_0 : List UInt8 := [42, 180, 0, 36, 27, 182, 0, 122, 153, 0, 23, 42, 180, 0, 36, 180, 0, 135, 27, 50, 28, 182, 0, 173]
abbrev dktX1_hasEntry_0 : List UInt8 := dkwX1_hasEntry_0 ++ dktX1_hasEntry_1
theorem dksX1_hasEntry_0 : cX1_hasEntry.data.toList.drop 0 = dktX1_hasEntry_0 := by decide +kernel
theorem dksX1_hasEntry_1 : cX1_hasEntry.data.toList.drop 24 = dktX1_hasEntry_1 := dk_seg dksX1_hasEntry_0 24 rfl rfl
theorem dX1_hasEntry_0 : decode cX1_hasEntry 0 = .ok (.aload_n 0, 1) := dk_42 (dk_at dksX1_hasEntry_0 0 rfl rfl)
theorem dX1_hasEntry_1 : decode cX1_hasEntry 1 = .ok (.getfield 36, 3) := dk_180 0 36 (dk_at dksX1_hasEntry_0 1 rfl rfl)
theorem dX1_hasEntry_4 : decode cX1_hasEntry 4 = .ok (.iload_n 1, 1) := dk_27 (dk_at dksX1_hasEntry_0 4 rfl rfl)
theorem dX1_hasEntry_5 : decode cX1_hasEntry 5 = .ok (.invokevirtual 122, 3) := dk_182 0 122 (dk_at dksX1_hasEntry_0 5 rfl rfl)
theorem dX1_hasEntry_8 : decode cX1_hasEntry 8 = .ok (.ifCond .eq 23, 3) := dk_153 0 23 (dk_at dksX1_hasEntry_0 8 rfl rfl)
theorem dX1_hasEntry_11 : decode cX1_hasEntry 11 = .ok (.aload_n 0, 1) := dk_42 (dk_at dksX1_hasEntry_0 11 rfl rfl)
theorem dX1_hasEntry_12 : decode cX1_hasEntry 12 = .ok (.getfield 36, 3) := dk_180 0 36 (dk_at dksX1_hasEntry_0 12 rfl rfl)
theorem dX1_hasEntry_15 : decode cX1_hasEntry 15 = .ok (.getfield 135, 3) := dk_180 0 135 (dk_at dksX1_hasEntry_0 15 rfl rfl)
theorem dX1_hasEntry_18 : decode cX1_hasEntry 18 = .ok (.iload_n 1, 1) := dk_27 (dk_at dksX1_hasEntry_0 18 rfl rfl)
theorem dX1_hasEntry_19 : decode cX1_hasEntry 19 = .ok (.aaload, 1) := dk_50 (dk_at dksX1_hasEntry_0 19 rfl rfl)
theorem dX1_hasEntry_20 : decode cX1_hasEntry 20 = .ok (.iload_n 2, 1) := dk_28 (dk_at dksX1_hasEntry_0 20 rfl rfl)
theorem dX1_hasEntry_21 : decode cX1_hasEntry 21 = .ok (.invokevirtual 173, 3) := dk_182 0 173 (dk_at dksX1_hasEntry_0 21 rfl rfl)
theorem dX1_hasEntry_24 : decode cX1_hasEntry 24 = .ok (.ifCond .eq 7, 3) := dk_153 0 7 (dk_at dksX1_hasEntry_1 0 rfl rfl)
theorem dX1_hasEntry_27 : decode cX1_hasEntry 27 = .ok (.iconst 1, 1) := dk_4 (dk_at dksX1_hasEntry_1 3 rfl rfl)
theorem dX1_hasEntry_28 : decode cX1_hasEntry 28 = .ok (.goto 4, 3) := dk_167 0 4 (dk_at dksX1_hasEntry_1 4 rfl rfl)
theorem dX1_hasEntry_31 : decode cX1_hasEntry 31 = .ok (.iconst 0, 1) := dk_3 (dk_at dksX1_hasEntry_1 7 rfl rfl)
theorem dX1_hasEntry_32 : decode cX1_hasEntry 32 = .ok (.ireturn, 1) := dk_172 (dk_at dksX1_hasEntry_1 8 rfl rfl)
abbrev cX1_moveEntry : ByteArray := prog_1_method_32_code
def yX1_moveEntry : MethodName := ⟨RX1, "moveEntry", "(III)I"⟩
def dkwX1_moveEntry_1 : List UInt8 := [42, 42, 180, 0, 36, 182, 0, 77, 182, 0, 80, 42, 180, 0, 36, 27, 28, 29, 182, 0, 181, 172]
abbrev dktX1_moveEntry_1 : List UInt8 := dkwX1_moveEntry_1 ++ []
def dkwX1_moveEntry_0 : List UInt8 := [5, 188, 4, 89, 3, 42, 27, 28, 182, 0, 174, 84, 89, 4, 42, 27, 29, 182, 0, 174, 84, 184, 0, 105]
abbrev dktX1_moveEntry_0 : List UInt8 := dkwX1_moveEntry_0 ++ dktX1_moveEntry_1
theorem dksX1_moveEntry_0 : cX1_moveEntry.data.toList.drop 0 = dktX1_moveEntry_0 := by decide +kernel
theorem dksX1_moveEntry_1 : cX1_moveEntry.data.toList.drop 24 = dktX1_moveEntry_1 := dk_seg dksX1_moveEntry_0 24 rfl rfl
theorem dX1_moveEntry_0 : decode cX1_moveEntry 0 = .ok (.iconst 2, 1) := dk_5 (dk_at dksX1_moveEntry_0 0 rfl rfl)
theorem dX1_moveEntry_1 : decode cX1_moveEntry 1 = .ok (.newarray .boolean, 2) := dk_188_4 (dk_at dksX1_moveEntry_0 1 rfl rfl)
theorem dX1_moveEntry_3 : decode cX1_moveEntry 3 = .ok (.dup, 1) := dk_89 (dk_at dksX1_moveEntry_0 3 rfl rfl)
theorem dX1_moveEntry_4 : decode cX1_moveEntry 4 = .ok (.iconst 0, 1) := dk_3 (dk_at dksX1_moveEntry_0 4 rfl rfl)
theorem dX1_moveEntry_5 : decode cX1_moveEntry 5 = .ok (.aload_n 0, 1) := dk_42 (dk_at dksX1_moveEntry_0 5 rfl rfl)
theorem dX1_moveEntry_6 : decode cX1_moveEntry 6 = .ok (.iload_n 1, 1) := dk_27 (dk_at dksX1_moveEntry_0 6 rfl rfl)
theorem dX1_moveEntry_7 : decode cX1_moveEntry 7 = .ok (.iload_n 2, 1) := dk_28 (dk_at dksX1_moveEntry_0 7 rfl rfl)
theorem dX1_moveEntry_8 : decode cX1_moveEntry 8 = .ok (.invokevirtual 174, 3) := dk_182 0 174 (dk_at dksX1_moveEntry_0 8 rfl rfl)
theorem dX1_moveEntry_11 : decode cX1_moveEntry 11 = .ok (.bastore, 1) := dk_84 (dk_at dksX1_moveEntry_0 11 rfl rfl)
theorem dX1_moveEntry_12 : decode cX1_moveEntry 12 = .ok (.dup, 1) := dk_89 (dk_at dksX1_moveEntry_0 12 rfl rfl)
theorem dX1_moveEntry_13 : decode cX1_moveEntry 13 = .ok (.iconst 1, 1) := dk_4 (dk_at dksX1_moveEntry_0 13 rfl rfl)
theorem dX1_moveEntry_14 : decode cX1_moveEntry 14 = .ok (.aload_n 0, 1) := dk_42 (dk_at dksX1_moveEntry_0 14 rfl rfl)
theorem dX1_moveEntry_15 : decode cX1_moveEntry 15 = .ok (.iload_n 1, 1) := dk_27 (dk_at dksX1_moveEntry_0 15 rfl rfl)
theorem dX1_moveEntry_16 : decode cX1_moveEntry 16 = .ok (.iload_n 3, 1) := dk_29 (dk_at dksX1_moveEntry_0 16 rfl rfl)
theorem dX1_moveEntry_17 : decode cX1_moveEntry 17 = .ok (.invokevirtual 174, 3) := dk_182 0 174 (dk_at dksX1_moveEntry_0 17 rfl rfl)
theorem dX1_moveEntry_20 : decode cX1_moveEntry 20 = .ok (.bastore, 1) := dk_84 (dk_at dksX1_moveEntry_0 20 rfl rfl)
theorem dX1_moveEntry_21 : decode cX1_moveEntry 21 = .ok (.invokestatic 105, 3) := dk_184 0 105 (dk_at dksX1_moveEntry_0 21 rfl rfl)
theorem dX1_moveEntry_24 : decode cX1_moveEntry 24 = .ok (.aload_n 0, 1) := dk_42 (dk_at dksX1_moveEntry_1 0 rfl rfl)
theorem dX1_moveEntry_25 : decode cX1_moveEntry 25 = .ok (.aload_n 0, 1) := dk_42 (dk_at dksX1_moveEntry_1 1 rfl rfl)
theorem dX1_moveEntry_26 : decode cX1_moveEntry 26 = .ok (.getfield 36, 3) := dk_180 0 36 (dk_at dksX1_moveEntry_1 2 rfl rfl)
theorem dX1_moveEntry_29 : decode cX1_moveEntry 29 = .ok (.invokevirtual 77, 3) := dk_182 0 77 (dk_at dksX1_moveEntry_1 5 rfl rfl)
theorem dX1_moveEntry_32 : decode cX1_moveEntry 32 = .ok (.invokevirtual 80, 3) := dk_182 0 80 (dk_at dksX1_moveEntry_1 8 rfl rfl)
theorem dX1_moveEntry_35 : decode cX1_moveEntry 35 = .ok (.aload_n 0, 1) := dk_42 (dk_at dksX1_moveEntry_1 11 rfl rfl)
theorem dX1_moveEntry_36 : decode cX1_moveEntry 36 = .ok (.getfield 36, 3) := dk_180 0 36 (dk_at dksX1_moveEntry_1 12 rfl rfl)
theorem dX1_moveEntry_39 : decode cX1_moveEntry 39 = .ok (.iload_n 1, 1) := dk_27 (dk_at dksX1_moveEntry_1 15 rfl rfl)
theorem dX1_moveEntry_40 : decode cX1_moveEntry 40 = .ok (.iload_n 2, 1) := dk_28 (dk_at dksX1_moveEntry_1 16 rfl rfl)
theorem dX1_moveEntry_41 : decode cX1_moveEntry 41 = .ok (.iload_n 3, 1) := dk_29 (dk_at dksX1_moveEntry_1 17 rfl rfl)
theorem dX1_moveEntry_42 : decode cX1_moveEntry 42 = .ok (.invokevirtual 181, 3) := dk_182 0 181 (dk_at dksX1_moveEntry_1 18 rfl rfl)
theorem dX1_moveEntry_45 : decode cX1_moveEntry 45 = .ok (.ireturn, 1) := dk_172 (dk_at dksX1_moveEntry_1 21 rfl rfl)
abbrev cX1_ask : ByteArray := prog_1_method_33_code
def yX1_ask : MethodName := ⟨RX1, "ask", "(III)Z"⟩
def dkwX1_ask_2 : List UInt8 := [28, 29, 182, 0, 189, 172]
abbrev dktX1_ask_2 : List UInt8 := dkwX1_ask_2 ++ []
def dkwX1_ask_1 : List UInt8 := [84, 184, 0, 105, 29, 184, 0, 185, 42, 42, 180, 0, 36, 182, 0, 77, 182, 0, 80, 42, 180, 0, 36, 27]
abbrev dktX1_ask_1 : List UInt8 := dkwX1_ask_1 ++ dktX1_ask_2
def dkwX1_ask_0 : List UInt8 := [5, 188, 4, 89, 3, 42, 180, 0, 36, 27, 182, 0, 98, 84, 89, 4, 42, 180, 0, 36, 28, 182, 0, 122]
abbrev dktX1_ask_0 : List UInt8 := dkwX1_ask_0 ++ dktX1_ask_1
theorem dksX1_ask_0 : cX1_ask.data.toList.drop 0 = dktX1_ask_0 := by decide +kernel
theorem dksX1_ask_1 : cX1_ask.data.toList.drop 24 = dktX1_ask_1 := dk_seg dksX1_ask_0 24 rfl rfl
theorem dksX1_ask_2 : cX1_ask.data.toList.drop 48 = dktX1_ask_2 := dk_seg dksX1_ask_1 24 rfl rfl
theorem dX1_ask_0 : decode cX1_ask 0 = .ok (.iconst 2, 1) := dk_5 (dk_at dksX1_ask_0 0 rfl rfl)
theorem dX1_ask_1 : decode cX1_ask 1 = .ok (.newarray .boolean, 2) := dk_188_4 (dk_at dksX1_ask_0 1 rfl rfl)
theorem dX1_ask_3 : decode cX1_ask 3 = .ok (.dup, 1) := dk_89 (dk_at dksX1_ask_0 3 rfl rfl)
theorem dX1_ask_4 : decode cX1_ask 4 = .ok (.iconst 0, 1) := dk_3 (dk_at dksX1_ask_0 4 rfl rfl)
theorem dX1_ask_5 : decode cX1_ask 5 = .ok (.aload_n 0, 1) := dk_42 (dk_at dksX1_ask_0 5 rfl rfl)
theorem dX1_ask_6 : decode cX1_ask 6 = .ok (.getfield 36, 3) := dk_180 0 36 (dk_at dksX1_ask_0 6 rfl rfl)
theorem dX1_ask_9 : decode cX1_ask 9 = .ok (.iload_n 1, 1) := dk_27 (dk_at dksX1_ask_0 9 rfl rfl)
theorem dX1_ask_10 : decode cX1_ask 10 = .ok (.invokevirtual 98, 3) := dk_182 0 98 (dk_at dksX1_ask_0 10 rfl rfl)
theorem dX1_ask_13 : decode cX1_ask 13 = .ok (.bastore, 1) := dk_84 (dk_at dksX1_ask_0 13 rfl rfl)
theorem dX1_ask_14 : decode cX1_ask 14 = .ok (.dup, 1) := dk_89 (dk_at dksX1_ask_0 14 rfl rfl)
theorem dX1_ask_15 : decode cX1_ask 15 = .ok (.iconst 1, 1) := dk_4 (dk_at dksX1_ask_0 15 rfl rfl)
theorem dX1_ask_16 : decode cX1_ask 16 = .ok (.aload_n 0, 1) := dk_42 (dk_at dksX1_ask_0 16 rfl rfl)
theorem dX1_ask_17 : decode cX1_ask 17 = .ok (.getfield 36, 3) := dk_180 0 36 (dk_at dksX1_ask_0 17 rfl rfl)
theorem dX1_ask_20 : decode cX1_ask 20 = .ok (.iload_n 2, 1) := dk_28 (dk_at dksX1_ask_0 20 rfl rfl)
theorem dX1_ask_21 : decode cX1_ask 21 = .ok (.invokevirtual 122, 3) := dk_182 0 122 (dk_at dksX1_ask_0 21 rfl rfl)
theorem dX1_ask_24 : decode cX1_ask 24 = .ok (.bastore, 1) := dk_84 (dk_at dksX1_ask_1 0 rfl rfl)
theorem dX1_ask_25 : decode cX1_ask 25 = .ok (.invokestatic 105, 3) := dk_184 0 105 (dk_at dksX1_ask_1 1 rfl rfl)
theorem dX1_ask_28 : decode cX1_ask 28 = .ok (.iload_n 3, 1) := dk_29 (dk_at dksX1_ask_1 4 rfl rfl)
theorem dX1_ask_29 : decode cX1_ask 29 = .ok (.invokestatic 185, 3) := dk_184 0 185 (dk_at dksX1_ask_1 5 rfl rfl)
theorem dX1_ask_32 : decode cX1_ask 32 = .ok (.aload_n 0, 1) := dk_42 (dk_at dksX1_ask_1 8 rfl rfl)
theorem dX1_ask_33 : decode cX1_ask 33 = .ok (.aload_n 0, 1) := dk_42 (dk_at dksX1_ask_1 9 rfl rfl)
theorem dX1_ask_34 : decode cX1_ask 34 = .ok (.getfield 36, 3) := dk_180 0 36 (dk_at dksX1_ask_1 10 rfl rfl)
theorem dX1_ask_37 : decode cX1_ask 37 = .ok (.invokevirtual 77, 3) := dk_182 0 77 (dk_at dksX1_ask_1 13 rfl rfl)
theorem dX1_ask_40 : decode cX1_ask 40 = .ok (.invokevirtual 80, 3) := dk_182 0 80 (dk_at dksX1_ask_1 16 rfl rfl)
theorem dX1_ask_43 : decode cX1_ask 43 = .ok (.aload_n 0, 1) := dk_42 (dk_at dksX1_ask_1 19 rfl rfl)
theorem dX1_ask_44 : decode cX1_ask 44 = .ok (.getfield 36, 3) := dk_180 0 36 (dk_at dksX1_ask_1 20 rfl rfl)
theorem dX1_ask_47 : decode cX1_ask 47 = .ok (.iload_n 1, 1) := dk_27 (dk_at dksX1_ask_1 23 rfl rfl)
theorem dX1_ask_48 : decode cX1_ask 48 = .ok (.iload_n 2, 1) := dk_28 (dk_at dksX1_ask_2 0 rfl rfl)
theorem dX1_ask_49 : decode cX1_ask 49 = .ok (.iload_n 3, 1) := dk_29 (dk_at dksX1_ask_2 1 rfl rfl)
theorem dX1_ask_50 : decode cX1_ask 50 = .ok (.invokevirtual 189, 3) := dk_182 0 189 (dk_at dksX1_ask_2 2 rfl rfl)
theorem dX1_ask_53 : decode cX1_ask 53 = .ok (.ireturn, 1) := dk_172 (dk_at dksX1_ask_2 5 rfl rfl)
abbrev cX1_checkRight : ByteArray := prog_1_method_6_code
def yX1_checkRight : MethodName := ⟨RX1, "checkRight", "(I)V"⟩
def dkwX1_checkRight_0 : List UInt8 := [26, 3, 6, 184, 0, 15, 184, 0, 19, 177]
abbrev dktX1_checkRight_0 : List UInt8 := dkwX1_checkRight_0 ++ []
theorem dksX1_checkRight_0 : cX1_checkRight.data.toList.drop 0 = dktX1_checkRight_0 := by decide +kernel
theorem dX1_checkRight_0 : decode cX1_checkRight 0 = .ok (.iload_n 0, 1) := dk_26 (dk_at dksX1_checkRight_0 0 rfl rfl)
theorem dX1_checkRight_1 : decode cX1_checkRight 1 = .ok (.iconst 0, 1) := dk_3 (dk_at dksX1_checkRight_0 1 rfl rfl)
theorem dX1_checkRight_2 : decode cX1_checkRight 2 = .ok (.iconst 3, 1) := dk_6 (dk_at dksX1_checkRight_0 2 rfl rfl)
theorem dX1_checkRight_3 : decode cX1_checkRight 3 = .ok (.invokestatic 15, 3) := dk_184 0 15 (dk_at dksX1_checkRight_0 3 rfl rfl)
theorem dX1_checkRight_6 : decode cX1_checkRight 6 = .ok (.invokestatic 19, 3) := dk_184 0 19 (dk_at dksX1_checkRight_0 6 rfl rfl)
theorem dX1_checkRight_9 : decode cX1_checkRight 9 = .ok (.return_, 1) := dk_177 (dk_at dksX1_checkRight_0 9 rfl rfl)
abbrev cX1_share : ByteArray := prog_1_method_34_code
def yX1_share : MethodName := ⟨RX1, "share", "(IIII)I"⟩
def dkwX1_share_3 : List UInt8 := [25, 5, 182, 0, 80, 21, 6, 172]
abbrev dktX1_share_3 : List UInt8 := dkwX1_share_3 ++ []
def dkwX1_share_2 : List UInt8 := [180, 0, 36, 182, 0, 77, 58, 5, 42, 180, 0, 36, 27, 28, 29, 21, 4, 182, 0, 192, 54, 6, 42]
abbrev dktX1_share_2 : List UInt8 := dkwX1_share_2 ++ dktX1_share_3
def dkwX1_share_1 : List UInt8 := [84, 89, 5, 42, 180, 0, 36, 29, 182, 0, 98, 84, 184, 0, 105, 21, 4, 4, 184, 0, 144, 42]
abbrev dktX1_share_1 : List UInt8 := dkwX1_share_1 ++ dktX1_share_2
def dkwX1_share_0 : List UInt8 := [6, 188, 4, 89, 3, 42, 180, 0, 36, 27, 182, 0, 98, 84, 89, 4, 42, 180, 0, 36, 28, 182, 0, 122]
abbrev dktX1_share_0 : List UInt8 := dkwX1_share_0 ++ dktX1_share_1
theorem dksX1_share_0 : cX1_share.data.toList.drop 0 = dktX1_share_0 := by decide +kernel
theorem dksX1_share_1 : cX1_share.data.toList.drop 24 = dktX1_share_1 := dk_seg dksX1_share_0 24 rfl rfl
theorem dksX1_share_2 : cX1_share.data.toList.drop 46 = dktX1_share_2 := dk_seg dksX1_share_1 22 rfl rfl
theorem dksX1_share_3 : cX1_share.data.toList.drop 69 = dktX1_share_3 := dk_seg dksX1_share_2 23 rfl rfl
theorem dX1_share_0 : decode cX1_share 0 = .ok (.iconst 3, 1) := dk_6 (dk_at dksX1_share_0 0 rfl rfl)
theorem dX1_share_1 : decode cX1_share 1 = .ok (.newarray .boolean, 2) := dk_188_4 (dk_at dksX1_share_0 1 rfl rfl)
theorem dX1_share_3 : decode cX1_share 3 = .ok (.dup, 1) := dk_89 (dk_at dksX1_share_0 3 rfl rfl)
theorem dX1_share_4 : decode cX1_share 4 = .ok (.iconst 0, 1) := dk_3 (dk_at dksX1_share_0 4 rfl rfl)
theorem dX1_share_5 : decode cX1_share 5 = .ok (.aload_n 0, 1) := dk_42 (dk_at dksX1_share_0 5 rfl rfl)
theorem dX1_share_6 : decode cX1_share 6 = .ok (.getfield 36, 3) := dk_180 0 36 (dk_at dksX1_share_0 6 rfl rfl)
theorem dX1_share_9 : decode cX1_share 9 = .ok (.iload_n 1, 1) := dk_27 (dk_at dksX1_share_0 9 rfl rfl)
theorem dX1_share_10 : decode cX1_share 10 = .ok (.invokevirtual 98, 3) := dk_182 0 98 (dk_at dksX1_share_0 10 rfl rfl)
theorem dX1_share_13 : decode cX1_share 13 = .ok (.bastore, 1) := dk_84 (dk_at dksX1_share_0 13 rfl rfl)
theorem dX1_share_14 : decode cX1_share 14 = .ok (.dup, 1) := dk_89 (dk_at dksX1_share_0 14 rfl rfl)
theorem dX1_share_15 : decode cX1_share 15 = .ok (.iconst 1, 1) := dk_4 (dk_at dksX1_share_0 15 rfl rfl)
theorem dX1_share_16 : decode cX1_share 16 = .ok (.aload_n 0, 1) := dk_42 (dk_at dksX1_share_0 16 rfl rfl)
theorem dX1_share_17 : decode cX1_share 17 = .ok (.getfield 36, 3) := dk_180 0 36 (dk_at dksX1_share_0 17 rfl rfl)
theorem dX1_share_20 : decode cX1_share 20 = .ok (.iload_n 2, 1) := dk_28 (dk_at dksX1_share_0 20 rfl rfl)
theorem dX1_share_21 : decode cX1_share 21 = .ok (.invokevirtual 122, 3) := dk_182 0 122 (dk_at dksX1_share_0 21 rfl rfl)
theorem dX1_share_24 : decode cX1_share 24 = .ok (.bastore, 1) := dk_84 (dk_at dksX1_share_1 0 rfl rfl)
theorem dX1_share_25 : decode cX1_share 25 = .ok (.dup, 1) := dk_89 (dk_at dksX1_share_1 1 rfl rfl)
theorem dX1_share_26 : decode cX1_share 26 = .ok (.iconst 2, 1) := dk_5 (dk_at dksX1_share_1 2 rfl rfl)
theorem dX1_share_27 : decode cX1_share 27 = .ok (.aload_n 0, 1) := dk_42 (dk_at dksX1_share_1 3 rfl rfl)
theorem dX1_share_28 : decode cX1_share 28 = .ok (.getfield 36, 3) := dk_180 0 36 (dk_at dksX1_share_1 4 rfl rfl)
theorem dX1_share_31 : decode cX1_share 31 = .ok (.iload_n 3, 1) := dk_29 (dk_at dksX1_share_1 7 rfl rfl)
theorem dX1_share_32 : decode cX1_share 32 = .ok (.invokevirtual 98, 3) := dk_182 0 98 (dk_at dksX1_share_1 8 rfl rfl)
theorem dX1_share_35 : decode cX1_share 35 = .ok (.bastore, 1) := dk_84 (dk_at dksX1_share_1 11 rfl rfl)
theorem dX1_share_36 : decode cX1_share 36 = .ok (.invokestatic 105, 3) := dk_184 0 105 (dk_at dksX1_share_1 12 rfl rfl)
theorem dX1_share_39 : decode cX1_share 39 = .ok (.iload 4, 2) := dk_21 4 (dk_at dksX1_share_1 15 rfl rfl)
theorem dX1_share_41 : decode cX1_share 41 = .ok (.iconst 1, 1) := dk_4 (dk_at dksX1_share_1 17 rfl rfl)
theorem dX1_share_42 : decode cX1_share 42 = .ok (.invokestatic 144, 3) := dk_184 0 144 (dk_at dksX1_share_1 18 rfl rfl)
theorem dX1_share_45 : decode cX1_share 45 = .ok (.aload_n 0, 1) := dk_42 (dk_at dksX1_share_1 21 rfl rfl)
theorem dX1_share_46 : decode cX1_share 46 = .ok (.getfield 36, 3) := dk_180 0 36 (dk_at dksX1_share_2 0 rfl rfl)
theorem dX1_share_49 : decode cX1_share 49 = .ok (.invokevirtual 77, 3) := dk_182 0 77 (dk_at dksX1_share_2 3 rfl rfl)
theorem dX1_share_52 : decode cX1_share 52 = .ok (.astore 5, 2) := dk_58 5 (dk_at dksX1_share_2 6 rfl rfl)
theorem dX1_share_54 : decode cX1_share 54 = .ok (.aload_n 0, 1) := dk_42 (dk_at dksX1_share_2 8 rfl rfl)
theorem dX1_share_55 : decode cX1_share 55 = .ok (.getfield 36, 3) := dk_180 0 36 (dk_at dksX1_share_2 9 rfl rfl)
theorem dX1_share_58 : decode cX1_share 58 = .ok (.iload_n 1, 1) := dk_27 (dk_at dksX1_share_2 12 rfl rfl)
theorem dX1_share_59 : decode cX1_share 59 = .ok (.iload_n 2, 1) := dk_28 (dk_at dksX1_share_2 13 rfl rfl)
theorem dX1_share_60 : decode cX1_share 60 = .ok (.iload_n 3, 1) := dk_29 (dk_at dksX1_share_2 14 rfl rfl)
theorem dX1_share_61 : decode cX1_share 61 = .ok (.iload 4, 2) := dk_21 4 (dk_at dksX1_share_2 15 rfl rfl)
theorem dX1_share_63 : decode cX1_share 63 = .ok (.invokevirtual 192, 3) := dk_182 0 192 (dk_at dksX1_share_2 17 rfl rfl)
theorem dX1_share_66 : decode cX1_share 66 = .ok (.istore 6, 2) := dk_54 6 (dk_at dksX1_share_2 20 rfl rfl)
theorem dX1_share_68 : decode cX1_share 68 = .ok (.aload_n 0, 1) := dk_42 (dk_at dksX1_share_2 22 rfl rfl)
theorem dX1_share_69 : decode cX1_share 69 = .ok (.aload 5, 2) := dk_25 5 (dk_at dksX1_share_3 0 rfl rfl)
theorem dX1_share_71 : decode cX1_share 71 = .ok (.invokevirtual 80, 3) := dk_182 0 80 (dk_at dksX1_share_3 2 rfl rfl)
theorem dX1_share_74 : decode cX1_share 74 = .ok (.iload 6, 2) := dk_21 6 (dk_at dksX1_share_3 5 rfl rfl)
theorem dX1_share_76 : decode cX1_share 76 = .ok (.ireturn, 1) := dk_172 (dk_at dksX1_share_3 7 rfl rfl)
abbrev cX1_append : ByteArray := prog_1_method_35_code
def yX1_append : MethodName := ⟨RX1, "append", "(I)I"⟩
def dkwX1_append_2 : List UInt8 := [172]
abbrev dktX1_append_2 : List UInt8 := dkwX1_append_2 ++ []
def dkwX1_append_1 : List UInt8 := [167, 0, 4, 3, 184, 0, 74, 42, 180, 0, 54, 27, 146, 182, 0, 199, 87, 42, 180, 0, 54, 182, 0, 196]
abbrev dktX1_append_1 : List UInt8 := dkwX1_append_1 ++ dktX1_append_2
def dkwX1_append_0 : List UInt8 := [27, 16, 33, 16, 126, 184, 0, 15, 184, 0, 19, 42, 180, 0, 54, 182, 0, 196, 16, 80, 162, 0, 7, 4]
abbrev dktX1_append_0 : List UInt8 := dkwX1_append_0 ++ dktX1_append_1
theorem dksX1_append_0 : cX1_append.data.toList.drop 0 = dktX1_append_0 := by decide +kernel
theorem dksX1_append_1 : cX1_append.data.toList.drop 24 = dktX1_append_1 := dk_seg dksX1_append_0 24 rfl rfl
theorem dksX1_append_2 : cX1_append.data.toList.drop 48 = dktX1_append_2 := dk_seg dksX1_append_1 24 rfl rfl
theorem dX1_append_0 : decode cX1_append 0 = .ok (.iload_n 1, 1) := dk_27 (dk_at dksX1_append_0 0 rfl rfl)
theorem dX1_append_1 : decode cX1_append 1 = .ok (.bipush 33, 2) := dk_16 33 (dk_at dksX1_append_0 1 rfl rfl)
theorem dX1_append_3 : decode cX1_append 3 = .ok (.bipush 126, 2) := dk_16 126 (dk_at dksX1_append_0 3 rfl rfl)
theorem dX1_append_5 : decode cX1_append 5 = .ok (.invokestatic 15, 3) := dk_184 0 15 (dk_at dksX1_append_0 5 rfl rfl)
theorem dX1_append_8 : decode cX1_append 8 = .ok (.invokestatic 19, 3) := dk_184 0 19 (dk_at dksX1_append_0 8 rfl rfl)
theorem dX1_append_11 : decode cX1_append 11 = .ok (.aload_n 0, 1) := dk_42 (dk_at dksX1_append_0 11 rfl rfl)
theorem dX1_append_12 : decode cX1_append 12 = .ok (.getfield 54, 3) := dk_180 0 54 (dk_at dksX1_append_0 12 rfl rfl)
theorem dX1_append_15 : decode cX1_append 15 = .ok (.invokevirtual 196, 3) := dk_182 0 196 (dk_at dksX1_append_0 15 rfl rfl)
theorem dX1_append_18 : decode cX1_append 18 = .ok (.bipush 80, 2) := dk_16 80 (dk_at dksX1_append_0 18 rfl rfl)
theorem dX1_append_20 : decode cX1_append 20 = .ok (.if_icmp .ge 7, 3) := dk_162 0 7 (dk_at dksX1_append_0 20 rfl rfl)
theorem dX1_append_23 : decode cX1_append 23 = .ok (.iconst 1, 1) := dk_4 (dk_at dksX1_append_0 23 rfl rfl)
theorem dX1_append_24 : decode cX1_append 24 = .ok (.goto 4, 3) := dk_167 0 4 (dk_at dksX1_append_1 0 rfl rfl)
theorem dX1_append_27 : decode cX1_append 27 = .ok (.iconst 0, 1) := dk_3 (dk_at dksX1_append_1 3 rfl rfl)
theorem dX1_append_28 : decode cX1_append 28 = .ok (.invokestatic 74, 3) := dk_184 0 74 (dk_at dksX1_append_1 4 rfl rfl)
theorem dX1_append_31 : decode cX1_append 31 = .ok (.aload_n 0, 1) := dk_42 (dk_at dksX1_append_1 7 rfl rfl)
theorem dX1_append_32 : decode cX1_append 32 = .ok (.getfield 54, 3) := dk_180 0 54 (dk_at dksX1_append_1 8 rfl rfl)
theorem dX1_append_35 : decode cX1_append 35 = .ok (.iload_n 1, 1) := dk_27 (dk_at dksX1_append_1 11 rfl rfl)
theorem dX1_append_36 : decode cX1_append 36 = .ok (.i2c, 1) := dk_146 (dk_at dksX1_append_1 12 rfl rfl)
theorem dX1_append_37 : decode cX1_append 37 = .ok (.invokevirtual 199, 3) := dk_182 0 199 (dk_at dksX1_append_1 13 rfl rfl)
theorem dX1_append_40 : decode cX1_append 40 = .ok (.pop, 1) := dk_87 (dk_at dksX1_append_1 16 rfl rfl)
theorem dX1_append_41 : decode cX1_append 41 = .ok (.aload_n 0, 1) := dk_42 (dk_at dksX1_append_1 17 rfl rfl)
theorem dX1_append_42 : decode cX1_append 42 = .ok (.getfield 54, 3) := dk_180 0 54 (dk_at dksX1_append_1 18 rfl rfl)
theorem dX1_append_45 : decode cX1_append 45 = .ok (.invokevirtual 196, 3) := dk_182 0 196 (dk_at dksX1_append_1 21 rfl rfl)
theorem dX1_append_48 : decode cX1_append 48 = .ok (.ireturn, 1) := dk_172 (dk_at dksX1_append_2 0 rfl rfl)
abbrev cX1_loadEntries : ByteArray := prog_1_method_39_code
def yX1_loadEntries : MethodName := ⟨RX1, "loadEntries", "()I"⟩
def dkwX1_loadEntries_2 : List UInt8 := [183, 0, 12, 191, 42, 43, 182, 0, 80, 28, 172]
abbrev dktX1_loadEntries_2 : List UInt8 := dkwX1_loadEntries_2 ++ []
def dkwX1_loadEntries_1 : List UInt8 := [182, 0, 234, 153, 0, 15, 187, 0, 10, 89, 18, 238, 183, 0, 240, 167, 0, 10, 187, 0, 10, 89]
abbrev dktX1_loadEntries_1 : List UInt8 := dkwX1_loadEntries_1 ++ dktX1_loadEntries_2
def dkwX1_loadEntries_0 : List UInt8 := [42, 180, 0, 36, 182, 0, 77, 76, 42, 42, 180, 0, 36, 182, 0, 233, 61, 167, 0, 31, 78, 45]
abbrev dktX1_loadEntries_0 : List UInt8 := dkwX1_loadEntries_0 ++ dktX1_loadEntries_1
theorem dksX1_loadEntries_0 : cX1_loadEntries.data.toList.drop 0 = dktX1_loadEntries_0 := by decide +kernel
theorem dksX1_loadEntries_1 : cX1_loadEntries.data.toList.drop 22 = dktX1_loadEntries_1 := dk_seg dksX1_loadEntries_0 22 rfl rfl
theorem dksX1_loadEntries_2 : cX1_loadEntries.data.toList.drop 44 = dktX1_loadEntries_2 := dk_seg dksX1_loadEntries_1 22 rfl rfl
theorem dX1_loadEntries_0 : decode cX1_loadEntries 0 = .ok (.aload_n 0, 1) := dk_42 (dk_at dksX1_loadEntries_0 0 rfl rfl)
theorem dX1_loadEntries_1 : decode cX1_loadEntries 1 = .ok (.getfield 36, 3) := dk_180 0 36 (dk_at dksX1_loadEntries_0 1 rfl rfl)
theorem dX1_loadEntries_4 : decode cX1_loadEntries 4 = .ok (.invokevirtual 77, 3) := dk_182 0 77 (dk_at dksX1_loadEntries_0 4 rfl rfl)
theorem dX1_loadEntries_7 : decode cX1_loadEntries 7 = .ok (.astore_n 1, 1) := dk_76 (dk_at dksX1_loadEntries_0 7 rfl rfl)
theorem dX1_loadEntries_8 : decode cX1_loadEntries 8 = .ok (.aload_n 0, 1) := dk_42 (dk_at dksX1_loadEntries_0 8 rfl rfl)
theorem dX1_loadEntries_9 : decode cX1_loadEntries 9 = .ok (.aload_n 0, 1) := dk_42 (dk_at dksX1_loadEntries_0 9 rfl rfl)
theorem dX1_loadEntries_10 : decode cX1_loadEntries 10 = .ok (.getfield 36, 3) := dk_180 0 36 (dk_at dksX1_loadEntries_0 10 rfl rfl)
theorem dX1_loadEntries_13 : decode cX1_loadEntries 13 = .ok (.invokevirtual 233, 3) := dk_182 0 233 (dk_at dksX1_loadEntries_0 13 rfl rfl)
theorem dX1_loadEntries_16 : decode cX1_loadEntries 16 = .ok (.istore_n 2, 1) := dk_61 (dk_at dksX1_loadEntries_0 16 rfl rfl)
theorem dX1_loadEntries_17 : decode cX1_loadEntries 17 = .ok (.goto 31, 3) := dk_167 0 31 (dk_at dksX1_loadEntries_0 17 rfl rfl)
theorem dX1_loadEntries_20 : decode cX1_loadEntries 20 = .ok (.astore_n 3, 1) := dk_78 (dk_at dksX1_loadEntries_0 20 rfl rfl)
theorem dX1_loadEntries_21 : decode cX1_loadEntries 21 = .ok (.aload_n 3, 1) := dk_45 (dk_at dksX1_loadEntries_0 21 rfl rfl)
theorem dX1_loadEntries_22 : decode cX1_loadEntries 22 = .ok (.invokevirtual 234, 3) := dk_182 0 234 (dk_at dksX1_loadEntries_1 0 rfl rfl)
theorem dX1_loadEntries_25 : decode cX1_loadEntries 25 = .ok (.ifCond .eq 15, 3) := dk_153 0 15 (dk_at dksX1_loadEntries_1 3 rfl rfl)
theorem dX1_loadEntries_28 : decode cX1_loadEntries 28 = .ok (.new 10, 3) := dk_187 0 10 (dk_at dksX1_loadEntries_1 6 rfl rfl)
theorem dX1_loadEntries_31 : decode cX1_loadEntries 31 = .ok (.dup, 1) := dk_89 (dk_at dksX1_loadEntries_1 9 rfl rfl)
theorem dX1_loadEntries_32 : decode cX1_loadEntries 32 = .ok (.ldc 238, 2) := dk_18 238 (dk_at dksX1_loadEntries_1 10 rfl rfl)
theorem dX1_loadEntries_34 : decode cX1_loadEntries 34 = .ok (.invokespecial 240, 3) := dk_183 0 240 (dk_at dksX1_loadEntries_1 12 rfl rfl)
theorem dX1_loadEntries_37 : decode cX1_loadEntries 37 = .ok (.goto 10, 3) := dk_167 0 10 (dk_at dksX1_loadEntries_1 15 rfl rfl)
theorem dX1_loadEntries_40 : decode cX1_loadEntries 40 = .ok (.new 10, 3) := dk_187 0 10 (dk_at dksX1_loadEntries_1 18 rfl rfl)
theorem dX1_loadEntries_43 : decode cX1_loadEntries 43 = .ok (.dup, 1) := dk_89 (dk_at dksX1_loadEntries_1 21 rfl rfl)
theorem dX1_loadEntries_44 : decode cX1_loadEntries 44 = .ok (.invokespecial 12, 3) := dk_183 0 12 (dk_at dksX1_loadEntries_2 0 rfl rfl)
theorem dX1_loadEntries_47 : decode cX1_loadEntries 47 = .ok (.athrow, 1) := dk_191 (dk_at dksX1_loadEntries_2 3 rfl rfl)
theorem dX1_loadEntries_48 : decode cX1_loadEntries 48 = .ok (.aload_n 0, 1) := dk_42 (dk_at dksX1_loadEntries_2 4 rfl rfl)
theorem dX1_loadEntries_49 : decode cX1_loadEntries 49 = .ok (.aload_n 1, 1) := dk_43 (dk_at dksX1_loadEntries_2 5 rfl rfl)
theorem dX1_loadEntries_50 : decode cX1_loadEntries 50 = .ok (.invokevirtual 80, 3) := dk_182 0 80 (dk_at dksX1_loadEntries_2 6 rfl rfl)
theorem dX1_loadEntries_53 : decode cX1_loadEntries 53 = .ok (.iload_n 2, 1) := dk_28 (dk_at dksX1_loadEntries_2 9 rfl rfl)
theorem dX1_loadEntries_54 : decode cX1_loadEntries 54 = .ok (.ireturn, 1) := dk_172 (dk_at dksX1_loadEntries_2 10 rfl rfl)
abbrev cX1_loads : ByteArray := prog_1_method_38_code
def yX1_loads : MethodName := ⟨RX1, "loads", "(LPermissionDesk$Land;)I"⟩
def dkwX1_loads_3 : List UInt8 := [167, 0, 10, 42, 180, 0, 54, 182, 0, 196, 182, 0, 203, 25, 5, 191]
abbrev dktX1_loads_3 : List UInt8 := dkwX1_loads_3 ++ []
def dkwX1_loads_2 : List UInt8 := [21, 4, 172, 78, 187, 0, 228, 89, 45, 183, 0, 230, 191, 58, 5, 42, 180, 0, 54, 28, 153, 0, 7, 3]
abbrev dktX1_loads_2 : List UInt8 := dkwX1_loads_2 ++ dktX1_loads_3
def dkwX1_loads_1 : List UInt8 := [54, 4, 42, 180, 0, 54, 28, 153, 0, 7, 3, 167, 0, 10, 42, 180, 0, 54, 182, 0, 196, 182, 0, 203]
abbrev dktX1_loads_1 : List UInt8 := dkwX1_loads_1 ++ dktX1_loads_2
def dkwX1_loads_0 : List UInt8 := [3, 61, 187, 0, 206, 89, 42, 180, 0, 54, 183, 0, 208, 182, 0, 211, 43, 182, 0, 220, 62, 4, 61, 29]
abbrev dktX1_loads_0 : List UInt8 := dkwX1_loads_0 ++ dktX1_loads_1
theorem dksX1_loads_0 : cX1_loads.data.toList.drop 0 = dktX1_loads_0 := by decide +kernel
theorem dksX1_loads_1 : cX1_loads.data.toList.drop 24 = dktX1_loads_1 := dk_seg dksX1_loads_0 24 rfl rfl
theorem dksX1_loads_2 : cX1_loads.data.toList.drop 48 = dktX1_loads_2 := dk_seg dksX1_loads_1 24 rfl rfl
theorem dksX1_loads_3 : cX1_loads.data.toList.drop 72 = dktX1_loads_3 := dk_seg dksX1_loads_2 24 rfl rfl
theorem dX1_loads_0 : decode cX1_loads 0 = .ok (.iconst 0, 1) := dk_3 (dk_at dksX1_loads_0 0 rfl rfl)
theorem dX1_loads_1 : decode cX1_loads 1 = .ok (.istore_n 2, 1) := dk_61 (dk_at dksX1_loads_0 1 rfl rfl)
theorem dX1_loads_2 : decode cX1_loads 2 = .ok (.new 206, 3) := dk_187 0 206 (dk_at dksX1_loads_0 2 rfl rfl)
theorem dX1_loads_5 : decode cX1_loads 5 = .ok (.dup, 1) := dk_89 (dk_at dksX1_loads_0 5 rfl rfl)
theorem dX1_loads_6 : decode cX1_loads 6 = .ok (.aload_n 0, 1) := dk_42 (dk_at dksX1_loads_0 6 rfl rfl)
theorem dX1_loads_7 : decode cX1_loads 7 = .ok (.getfield 54, 3) := dk_180 0 54 (dk_at dksX1_loads_0 7 rfl rfl)
theorem dX1_loads_10 : decode cX1_loads 10 = .ok (.invokespecial 208, 3) := dk_183 0 208 (dk_at dksX1_loads_0 10 rfl rfl)
theorem dX1_loads_13 : decode cX1_loads 13 = .ok (.invokevirtual 211, 3) := dk_182 0 211 (dk_at dksX1_loads_0 13 rfl rfl)
theorem dX1_loads_16 : decode cX1_loads 16 = .ok (.aload_n 1, 1) := dk_43 (dk_at dksX1_loads_0 16 rfl rfl)
theorem dX1_loads_17 : decode cX1_loads 17 = .ok (.invokevirtual 220, 3) := dk_182 0 220 (dk_at dksX1_loads_0 17 rfl rfl)
theorem dX1_loads_20 : decode cX1_loads 20 = .ok (.istore_n 3, 1) := dk_62 (dk_at dksX1_loads_0 20 rfl rfl)
theorem dX1_loads_21 : decode cX1_loads 21 = .ok (.iconst 1, 1) := dk_4 (dk_at dksX1_loads_0 21 rfl rfl)
theorem dX1_loads_22 : decode cX1_loads 22 = .ok (.istore_n 2, 1) := dk_61 (dk_at dksX1_loads_0 22 rfl rfl)
theorem dX1_loads_23 : decode cX1_loads 23 = .ok (.iload_n 3, 1) := dk_29 (dk_at dksX1_loads_0 23 rfl rfl)
theorem dX1_loads_24 : decode cX1_loads 24 = .ok (.istore 4, 2) := dk_54 4 (dk_at dksX1_loads_1 0 rfl rfl)
theorem dX1_loads_26 : decode cX1_loads 26 = .ok (.aload_n 0, 1) := dk_42 (dk_at dksX1_loads_1 2 rfl rfl)
theorem dX1_loads_27 : decode cX1_loads 27 = .ok (.getfield 54, 3) := dk_180 0 54 (dk_at dksX1_loads_1 3 rfl rfl)
theorem dX1_loads_30 : decode cX1_loads 30 = .ok (.iload_n 2, 1) := dk_28 (dk_at dksX1_loads_1 6 rfl rfl)
theorem dX1_loads_31 : decode cX1_loads 31 = .ok (.ifCond .eq 7, 3) := dk_153 0 7 (dk_at dksX1_loads_1 7 rfl rfl)
theorem dX1_loads_34 : decode cX1_loads 34 = .ok (.iconst 0, 1) := dk_3 (dk_at dksX1_loads_1 10 rfl rfl)
theorem dX1_loads_35 : decode cX1_loads 35 = .ok (.goto 10, 3) := dk_167 0 10 (dk_at dksX1_loads_1 11 rfl rfl)
theorem dX1_loads_38 : decode cX1_loads 38 = .ok (.aload_n 0, 1) := dk_42 (dk_at dksX1_loads_1 14 rfl rfl)
theorem dX1_loads_39 : decode cX1_loads 39 = .ok (.getfield 54, 3) := dk_180 0 54 (dk_at dksX1_loads_1 15 rfl rfl)
theorem dX1_loads_42 : decode cX1_loads 42 = .ok (.invokevirtual 196, 3) := dk_182 0 196 (dk_at dksX1_loads_1 18 rfl rfl)
theorem dX1_loads_45 : decode cX1_loads 45 = .ok (.invokevirtual 203, 3) := dk_182 0 203 (dk_at dksX1_loads_1 21 rfl rfl)
theorem dX1_loads_48 : decode cX1_loads 48 = .ok (.iload 4, 2) := dk_21 4 (dk_at dksX1_loads_2 0 rfl rfl)
theorem dX1_loads_50 : decode cX1_loads 50 = .ok (.ireturn, 1) := dk_172 (dk_at dksX1_loads_2 2 rfl rfl)
theorem dX1_loads_51 : decode cX1_loads 51 = .ok (.astore_n 3, 1) := dk_78 (dk_at dksX1_loads_2 3 rfl rfl)
theorem dX1_loads_52 : decode cX1_loads 52 = .ok (.new 228, 3) := dk_187 0 228 (dk_at dksX1_loads_2 4 rfl rfl)
theorem dX1_loads_55 : decode cX1_loads 55 = .ok (.dup, 1) := dk_89 (dk_at dksX1_loads_2 7 rfl rfl)
theorem dX1_loads_56 : decode cX1_loads 56 = .ok (.aload_n 3, 1) := dk_45 (dk_at dksX1_loads_2 8 rfl rfl)
theorem dX1_loads_57 : decode cX1_loads 57 = .ok (.invokespecial 230, 3) := dk_183 0 230 (dk_at dksX1_loads_2 9 rfl rfl)
theorem dX1_loads_60 : decode cX1_loads 60 = .ok (.athrow, 1) := dk_191 (dk_at dksX1_loads_2 12 rfl rfl)
theorem dX1_loads_61 : decode cX1_loads 61 = .ok (.astore 5, 2) := dk_58 5 (dk_at dksX1_loads_2 13 rfl rfl)
theorem dX1_loads_63 : decode cX1_loads 63 = .ok (.aload_n 0, 1) := dk_42 (dk_at dksX1_loads_2 15 rfl rfl)
theorem dX1_loads_64 : decode cX1_loads 64 = .ok (.getfield 54, 3) := dk_180 0 54 (dk_at dksX1_loads_2 16 rfl rfl)
theorem dX1_loads_67 : decode cX1_loads 67 = .ok (.iload_n 2, 1) := dk_28 (dk_at dksX1_loads_2 19 rfl rfl)
theorem dX1_loads_68 : decode cX1_loads 68 = .ok (.ifCond .eq 7, 3) := dk_153 0 7 (dk_at dksX1_loads_2 20 rfl rfl)
theorem dX1_loads_71 : decode cX1_loads 71 = .ok (.iconst 0, 1) := dk_3 (dk_at dksX1_loads_2 23 rfl rfl)
theorem dX1_loads_72 : decode cX1_loads 72 = .ok (.goto 10, 3) := dk_167 0 10 (dk_at dksX1_loads_3 0 rfl rfl)
theorem dX1_loads_75 : decode cX1_loads 75 = .ok (.aload_n 0, 1) := dk_42 (dk_at dksX1_loads_3 3 rfl rfl)
theorem dX1_loads_76 : decode cX1_loads 76 = .ok (.getfield 54, 3) := dk_180 0 54 (dk_at dksX1_loads_3 4 rfl rfl)
theorem dX1_loads_79 : decode cX1_loads 79 = .ok (.invokevirtual 196, 3) := dk_182 0 196 (dk_at dksX1_loads_3 7 rfl rfl)
theorem dX1_loads_82 : decode cX1_loads 82 = .ok (.invokevirtual 203, 3) := dk_182 0 203 (dk_at dksX1_loads_3 10 rfl rfl)
theorem dX1_loads_85 : decode cX1_loads 85 = .ok (.aload 5, 2) := dk_25 5 (dk_at dksX1_loads_3 13 rfl rfl)
theorem dX1_loads_87 : decode cX1_loads 87 = .ok (.athrow, 1) := dk_191 (dk_at dksX1_loads_3 15 rfl rfl)
abbrev cX1_writeEntries : ByteArray := prog_1_method_40_code
def yX1_writeEntries : MethodName := ⟨RX1, "writeEntries", "(I)I"⟩
def dkwX1_writeEntries_4 : List UInt8 := [167, 255, 204, 42, 180, 0, 54, 182, 0, 196, 172]
abbrev dktX1_writeEntries_4 : List UInt8 := dkwX1_writeEntries_4 ++ []
def dkwX1_writeEntries_3 : List UInt8 := [182, 0, 199, 87, 42, 180, 0, 36, 27, 28, 182, 0, 246, 42, 180, 0, 54, 182, 0, 250, 132, 2, 1]
abbrev dktX1_writeEntries_3 : List UInt8 := dkwX1_writeEntries_3 ++ dktX1_writeEntries_4
def dkwX1_writeEntries_2 : List UInt8 := [180, 0, 135, 27, 50, 180, 0, 155, 182, 0, 88, 162, 0, 39, 28, 158, 0, 13, 42, 180, 0, 54, 16, 59]
abbrev dktX1_writeEntries_2 : List UInt8 := dkwX1_writeEntries_2 ++ dktX1_writeEntries_3
def dkwX1_writeEntries_1 : List UInt8 := [182, 0, 203, 42, 180, 0, 54, 27, 182, 0, 243, 16, 58, 182, 0, 199, 87, 3, 61, 28, 42, 180, 0, 36]
abbrev dktX1_writeEntries_1 : List UInt8 := dkwX1_writeEntries_1 ++ dktX1_writeEntries_2
def dkwX1_writeEntries_0 : List UInt8 := [4, 188, 4, 89, 3, 42, 180, 0, 36, 27, 182, 0, 122, 84, 184, 0, 105, 42, 180, 0, 54, 3]
abbrev dktX1_writeEntries_0 : List UInt8 := dkwX1_writeEntries_0 ++ dktX1_writeEntries_1
theorem dksX1_writeEntries_0 : cX1_writeEntries.data.toList.drop 0 = dktX1_writeEntries_0 := by decide +kernel
theorem dksX1_writeEntries_1 : cX1_writeEntries.data.toList.drop 22 = dktX1_writeEntries_1 := dk_seg dksX1_writeEntries_0 22 rfl rfl
theorem dksX1_writeEntries_2 : cX1_writeEntries.data.toList.drop 46 = dktX1_writeEntries_2 := dk_seg dksX1_writeEntries_1 24 rfl rfl
theorem dksX1_writeEntries_3 : cX1_writeEntries.data.toList.drop 70 = dktX1_writeEntries_3 := dk_seg dksX1_writeEntries_2 24 rfl rfl
theorem dksX1_writeEntries_4 : cX1_writeEntries.data.toList.drop 93 = dktX1_writeEntries_4 := dk_seg dksX1_writeEntries_3 23 rfl rfl
theorem dX1_writeEntries_0 : decode cX1_writeEntries 0 = .ok (.iconst 1, 1) := dk_4 (dk_at dksX1_writeEntries_0 0 rfl rfl)
theorem dX1_writeEntries_1 : decode cX1_writeEntries 1 = .ok (.newarray .boolean, 2) := dk_188_4 (dk_at dksX1_writeEntries_0 1 rfl rfl)
theorem dX1_writeEntries_3 : decode cX1_writeEntries 3 = .ok (.dup, 1) := dk_89 (dk_at dksX1_writeEntries_0 3 rfl rfl)
theorem dX1_writeEntries_4 : decode cX1_writeEntries 4 = .ok (.iconst 0, 1) := dk_3 (dk_at dksX1_writeEntries_0 4 rfl rfl)
theorem dX1_writeEntries_5 : decode cX1_writeEntries 5 = .ok (.aload_n 0, 1) := dk_42 (dk_at dksX1_writeEntries_0 5 rfl rfl)
theorem dX1_writeEntries_6 : decode cX1_writeEntries 6 = .ok (.getfield 36, 3) := dk_180 0 36 (dk_at dksX1_writeEntries_0 6 rfl rfl)
theorem dX1_writeEntries_9 : decode cX1_writeEntries 9 = .ok (.iload_n 1, 1) := dk_27 (dk_at dksX1_writeEntries_0 9 rfl rfl)
theorem dX1_writeEntries_10 : decode cX1_writeEntries 10 = .ok (.invokevirtual 122, 3) := dk_182 0 122 (dk_at dksX1_writeEntries_0 10 rfl rfl)
theorem dX1_writeEntries_13 : decode cX1_writeEntries 13 = .ok (.bastore, 1) := dk_84 (dk_at dksX1_writeEntries_0 13 rfl rfl)
theorem dX1_writeEntries_14 : decode cX1_writeEntries 14 = .ok (.invokestatic 105, 3) := dk_184 0 105 (dk_at dksX1_writeEntries_0 14 rfl rfl)
theorem dX1_writeEntries_17 : decode cX1_writeEntries 17 = .ok (.aload_n 0, 1) := dk_42 (dk_at dksX1_writeEntries_0 17 rfl rfl)
theorem dX1_writeEntries_18 : decode cX1_writeEntries 18 = .ok (.getfield 54, 3) := dk_180 0 54 (dk_at dksX1_writeEntries_0 18 rfl rfl)
theorem dX1_writeEntries_21 : decode cX1_writeEntries 21 = .ok (.iconst 0, 1) := dk_3 (dk_at dksX1_writeEntries_0 21 rfl rfl)
theorem dX1_writeEntries_22 : decode cX1_writeEntries 22 = .ok (.invokevirtual 203, 3) := dk_182 0 203 (dk_at dksX1_writeEntries_1 0 rfl rfl)
theorem dX1_writeEntries_25 : decode cX1_writeEntries 25 = .ok (.aload_n 0, 1) := dk_42 (dk_at dksX1_writeEntries_1 3 rfl rfl)
theorem dX1_writeEntries_26 : decode cX1_writeEntries 26 = .ok (.getfield 54, 3) := dk_180 0 54 (dk_at dksX1_writeEntries_1 4 rfl rfl)
theorem dX1_writeEntries_29 : decode cX1_writeEntries 29 = .ok (.iload_n 1, 1) := dk_27 (dk_at dksX1_writeEntries_1 7 rfl rfl)
theorem dX1_writeEntries_30 : decode cX1_writeEntries 30 = .ok (.invokevirtual 243, 3) := dk_182 0 243 (dk_at dksX1_writeEntries_1 8 rfl rfl)
theorem dX1_writeEntries_33 : decode cX1_writeEntries 33 = .ok (.bipush 58, 2) := dk_16 58 (dk_at dksX1_writeEntries_1 11 rfl rfl)
theorem dX1_writeEntries_35 : decode cX1_writeEntries 35 = .ok (.invokevirtual 199, 3) := dk_182 0 199 (dk_at dksX1_writeEntries_1 13 rfl rfl)
theorem dX1_writeEntries_38 : decode cX1_writeEntries 38 = .ok (.pop, 1) := dk_87 (dk_at dksX1_writeEntries_1 16 rfl rfl)
theorem dX1_writeEntries_39 : decode cX1_writeEntries 39 = .ok (.iconst 0, 1) := dk_3 (dk_at dksX1_writeEntries_1 17 rfl rfl)
theorem dX1_writeEntries_40 : decode cX1_writeEntries 40 = .ok (.istore_n 2, 1) := dk_61 (dk_at dksX1_writeEntries_1 18 rfl rfl)
theorem dX1_writeEntries_41 : decode cX1_writeEntries 41 = .ok (.iload_n 2, 1) := dk_28 (dk_at dksX1_writeEntries_1 19 rfl rfl)
theorem dX1_writeEntries_42 : decode cX1_writeEntries 42 = .ok (.aload_n 0, 1) := dk_42 (dk_at dksX1_writeEntries_1 20 rfl rfl)
theorem dX1_writeEntries_43 : decode cX1_writeEntries 43 = .ok (.getfield 36, 3) := dk_180 0 36 (dk_at dksX1_writeEntries_1 21 rfl rfl)
theorem dX1_writeEntries_46 : decode cX1_writeEntries 46 = .ok (.getfield 135, 3) := dk_180 0 135 (dk_at dksX1_writeEntries_2 0 rfl rfl)
theorem dX1_writeEntries_49 : decode cX1_writeEntries 49 = .ok (.iload_n 1, 1) := dk_27 (dk_at dksX1_writeEntries_2 3 rfl rfl)
theorem dX1_writeEntries_50 : decode cX1_writeEntries 50 = .ok (.aaload, 1) := dk_50 (dk_at dksX1_writeEntries_2 4 rfl rfl)
theorem dX1_writeEntries_51 : decode cX1_writeEntries 51 = .ok (.getfield 155, 3) := dk_180 0 155 (dk_at dksX1_writeEntries_2 5 rfl rfl)
theorem dX1_writeEntries_54 : decode cX1_writeEntries 54 = .ok (.invokevirtual 88, 3) := dk_182 0 88 (dk_at dksX1_writeEntries_2 8 rfl rfl)
theorem dX1_writeEntries_57 : decode cX1_writeEntries 57 = .ok (.if_icmp .ge 39, 3) := dk_162 0 39 (dk_at dksX1_writeEntries_2 11 rfl rfl)
theorem dX1_writeEntries_60 : decode cX1_writeEntries 60 = .ok (.iload_n 2, 1) := dk_28 (dk_at dksX1_writeEntries_2 14 rfl rfl)
theorem dX1_writeEntries_61 : decode cX1_writeEntries 61 = .ok (.ifCond .le 13, 3) := dk_158 0 13 (dk_at dksX1_writeEntries_2 15 rfl rfl)
theorem dX1_writeEntries_64 : decode cX1_writeEntries 64 = .ok (.aload_n 0, 1) := dk_42 (dk_at dksX1_writeEntries_2 18 rfl rfl)
theorem dX1_writeEntries_65 : decode cX1_writeEntries 65 = .ok (.getfield 54, 3) := dk_180 0 54 (dk_at dksX1_writeEntries_2 19 rfl rfl)
theorem dX1_writeEntries_68 : decode cX1_writeEntries 68 = .ok (.bipush 59, 2) := dk_16 59 (dk_at dksX1_writeEntries_2 22 rfl rfl)
theorem dX1_writeEntries_70 : decode cX1_writeEntries 70 = .ok (.invokevirtual 199, 3) := dk_182 0 199 (dk_at dksX1_writeEntries_3 0 rfl rfl)
theorem dX1_writeEntries_73 : decode cX1_writeEntries 73 = .ok (.pop, 1) := dk_87 (dk_at dksX1_writeEntries_3 3 rfl rfl)
theorem dX1_writeEntries_74 : decode cX1_writeEntries 74 = .ok (.aload_n 0, 1) := dk_42 (dk_at dksX1_writeEntries_3 4 rfl rfl)
theorem dX1_writeEntries_75 : decode cX1_writeEntries 75 = .ok (.getfield 36, 3) := dk_180 0 36 (dk_at dksX1_writeEntries_3 5 rfl rfl)
theorem dX1_writeEntries_78 : decode cX1_writeEntries 78 = .ok (.iload_n 1, 1) := dk_27 (dk_at dksX1_writeEntries_3 8 rfl rfl)
theorem dX1_writeEntries_79 : decode cX1_writeEntries 79 = .ok (.iload_n 2, 1) := dk_28 (dk_at dksX1_writeEntries_3 9 rfl rfl)
theorem dX1_writeEntries_80 : decode cX1_writeEntries 80 = .ok (.invokevirtual 246, 3) := dk_182 0 246 (dk_at dksX1_writeEntries_3 10 rfl rfl)
theorem dX1_writeEntries_83 : decode cX1_writeEntries 83 = .ok (.aload_n 0, 1) := dk_42 (dk_at dksX1_writeEntries_3 13 rfl rfl)
theorem dX1_writeEntries_84 : decode cX1_writeEntries 84 = .ok (.getfield 54, 3) := dk_180 0 54 (dk_at dksX1_writeEntries_3 14 rfl rfl)
theorem dX1_writeEntries_87 : decode cX1_writeEntries 87 = .ok (.invokevirtual 250, 3) := dk_182 0 250 (dk_at dksX1_writeEntries_3 17 rfl rfl)
theorem dX1_writeEntries_90 : decode cX1_writeEntries 90 = .ok (.iinc 2 1, 3) := dk_132 2 1 (dk_at dksX1_writeEntries_3 20 rfl rfl)
theorem dX1_writeEntries_93 : decode cX1_writeEntries 93 = .ok (.goto (-52), 3) := dk_167 255 204 (dk_at dksX1_writeEntries_4 0 rfl rfl)
theorem dX1_writeEntries_96 : decode cX1_writeEntries 96 = .ok (.aload_n 0, 1) := dk_42 (dk_at dksX1_writeEntries_4 3 rfl rfl)
theorem dX1_writeEntries_97 : decode cX1_writeEntries 97 = .ok (.getfield 54, 3) := dk_180 0 54 (dk_at dksX1_writeEntries_4 4 rfl rfl)
theorem dX1_writeEntries_100 : decode cX1_writeEntries 100 = .ok (.invokevirtual 196, 3) := dk_182 0 196 (dk_at dksX1_writeEntries_4 7 rfl rfl)
theorem dX1_writeEntries_103 : decode cX1_writeEntries 103 = .ok (.ireturn, 1) := dk_172 (dk_at dksX1_writeEntries_4 10 rfl rfl)
abbrev cX1_codeAt : ByteArray := prog_1_method_41_code
def yX1_codeAt : MethodName := ⟨RX1, "codeAt", "(I)I"⟩
def dkwX1_codeAt_1 : List UInt8 := [180, 0, 54, 27, 182, 0, 253, 167, 0, 4, 2, 172]
abbrev dktX1_codeAt_1 : List UInt8 := dkwX1_codeAt_1 ++ []
def dkwX1_codeAt_0 : List UInt8 := [27, 3, 16, 79, 184, 0, 15, 184, 0, 19, 27, 42, 180, 0, 54, 182, 0, 196, 162, 0, 14, 42]
abbrev dktX1_codeAt_0 : List UInt8 := dkwX1_codeAt_0 ++ dktX1_codeAt_1
theorem dksX1_codeAt_0 : cX1_codeAt.data.toList.drop 0 = dktX1_codeAt_0 := by decide +kernel
theorem dksX1_codeAt_1 : cX1_codeAt.data.toList.drop 22 = dktX1_codeAt_1 := dk_seg dksX1_codeAt_0 22 rfl rfl
theorem dX1_codeAt_0 : decode cX1_codeAt 0 = .ok (.iload_n 1, 1) := dk_27 (dk_at dksX1_codeAt_0 0 rfl rfl)
theorem dX1_codeAt_1 : decode cX1_codeAt 1 = .ok (.iconst 0, 1) := dk_3 (dk_at dksX1_codeAt_0 1 rfl rfl)
theorem dX1_codeAt_2 : decode cX1_codeAt 2 = .ok (.bipush 79, 2) := dk_16 79 (dk_at dksX1_codeAt_0 2 rfl rfl)
theorem dX1_codeAt_4 : decode cX1_codeAt 4 = .ok (.invokestatic 15, 3) := dk_184 0 15 (dk_at dksX1_codeAt_0 4 rfl rfl)
theorem dX1_codeAt_7 : decode cX1_codeAt 7 = .ok (.invokestatic 19, 3) := dk_184 0 19 (dk_at dksX1_codeAt_0 7 rfl rfl)
theorem dX1_codeAt_10 : decode cX1_codeAt 10 = .ok (.iload_n 1, 1) := dk_27 (dk_at dksX1_codeAt_0 10 rfl rfl)
theorem dX1_codeAt_11 : decode cX1_codeAt 11 = .ok (.aload_n 0, 1) := dk_42 (dk_at dksX1_codeAt_0 11 rfl rfl)
theorem dX1_codeAt_12 : decode cX1_codeAt 12 = .ok (.getfield 54, 3) := dk_180 0 54 (dk_at dksX1_codeAt_0 12 rfl rfl)
theorem dX1_codeAt_15 : decode cX1_codeAt 15 = .ok (.invokevirtual 196, 3) := dk_182 0 196 (dk_at dksX1_codeAt_0 15 rfl rfl)
theorem dX1_codeAt_18 : decode cX1_codeAt 18 = .ok (.if_icmp .ge 14, 3) := dk_162 0 14 (dk_at dksX1_codeAt_0 18 rfl rfl)
theorem dX1_codeAt_21 : decode cX1_codeAt 21 = .ok (.aload_n 0, 1) := dk_42 (dk_at dksX1_codeAt_0 21 rfl rfl)
theorem dX1_codeAt_22 : decode cX1_codeAt 22 = .ok (.getfield 54, 3) := dk_180 0 54 (dk_at dksX1_codeAt_1 0 rfl rfl)
theorem dX1_codeAt_25 : decode cX1_codeAt 25 = .ok (.iload_n 1, 1) := dk_27 (dk_at dksX1_codeAt_1 3 rfl rfl)
theorem dX1_codeAt_26 : decode cX1_codeAt 26 = .ok (.invokevirtual 253, 3) := dk_182 0 253 (dk_at dksX1_codeAt_1 4 rfl rfl)
theorem dX1_codeAt_29 : decode cX1_codeAt 29 = .ok (.goto 4, 3) := dk_167 0 4 (dk_at dksX1_codeAt_1 7 rfl rfl)
theorem dX1_codeAt_32 : decode cX1_codeAt 32 = .ok (.iconst (-1), 1) := dk_2 (dk_at dksX1_codeAt_1 10 rfl rfl)
theorem dX1_codeAt_33 : decode cX1_codeAt 33 = .ok (.ireturn, 1) := dk_172 (dk_at dksX1_codeAt_1 11 rfl rfl)
abbrev cX1_isMember : ByteArray := prog_1_method_44_code
def yX1_isMember : MethodName := ⟨RX1, "isMember", "(II)Z"⟩
def dkwX1_isMember_1 : List UInt8 := [84, 184, 0, 105, 42, 180, 0, 36, 28, 182, 1, 1, 180, 1, 5, 27, 184, 1, 6, 172]
abbrev dktX1_isMember_1 : List UInt8 := dkwX1_isMember_1 ++ []
def dkwX1_isMember_0 : List UInt8 := [5, 188, 4, 89, 3, 42, 180, 0, 36, 27, 182, 0, 98, 84, 89, 4, 42, 180, 0, 36, 28, 182, 0, 102]
abbrev dktX1_isMember_0 : List UInt8 := dkwX1_isMember_0 ++ dktX1_isMember_1
theorem dksX1_isMember_0 : cX1_isMember.data.toList.drop 0 = dktX1_isMember_0 := by decide +kernel
theorem dksX1_isMember_1 : cX1_isMember.data.toList.drop 24 = dktX1_isMember_1 := dk_seg dksX1_isMember_0 24 rfl rfl
theorem dX1_isMember_0 : decode cX1_isMember 0 = .ok (.iconst 2, 1) := dk_5 (dk_at dksX1_isMember_0 0 rfl rfl)
theorem dX1_isMember_1 : decode cX1_isMember 1 = .ok (.newarray .boolean, 2) := dk_188_4 (dk_at dksX1_isMember_0 1 rfl rfl)
theorem dX1_isMember_3 : decode cX1_isMember 3 = .ok (.dup, 1) := dk_89 (dk_at dksX1_isMember_0 3 rfl rfl)
theorem dX1_isMember_4 : decode cX1_isMember 4 = .ok (.iconst 0, 1) := dk_3 (dk_at dksX1_isMember_0 4 rfl rfl)
theorem dX1_isMember_5 : decode cX1_isMember 5 = .ok (.aload_n 0, 1) := dk_42 (dk_at dksX1_isMember_0 5 rfl rfl)
theorem dX1_isMember_6 : decode cX1_isMember 6 = .ok (.getfield 36, 3) := dk_180 0 36 (dk_at dksX1_isMember_0 6 rfl rfl)
theorem dX1_isMember_9 : decode cX1_isMember 9 = .ok (.iload_n 1, 1) := dk_27 (dk_at dksX1_isMember_0 9 rfl rfl)
theorem dX1_isMember_10 : decode cX1_isMember 10 = .ok (.invokevirtual 98, 3) := dk_182 0 98 (dk_at dksX1_isMember_0 10 rfl rfl)
theorem dX1_isMember_13 : decode cX1_isMember 13 = .ok (.bastore, 1) := dk_84 (dk_at dksX1_isMember_0 13 rfl rfl)
theorem dX1_isMember_14 : decode cX1_isMember 14 = .ok (.dup, 1) := dk_89 (dk_at dksX1_isMember_0 14 rfl rfl)
theorem dX1_isMember_15 : decode cX1_isMember 15 = .ok (.iconst 1, 1) := dk_4 (dk_at dksX1_isMember_0 15 rfl rfl)
theorem dX1_isMember_16 : decode cX1_isMember 16 = .ok (.aload_n 0, 1) := dk_42 (dk_at dksX1_isMember_0 16 rfl rfl)
theorem dX1_isMember_17 : decode cX1_isMember 17 = .ok (.getfield 36, 3) := dk_180 0 36 (dk_at dksX1_isMember_0 17 rfl rfl)
theorem dX1_isMember_20 : decode cX1_isMember 20 = .ok (.iload_n 2, 1) := dk_28 (dk_at dksX1_isMember_0 20 rfl rfl)
theorem dX1_isMember_21 : decode cX1_isMember 21 = .ok (.invokevirtual 102, 3) := dk_182 0 102 (dk_at dksX1_isMember_0 21 rfl rfl)
theorem dX1_isMember_24 : decode cX1_isMember 24 = .ok (.bastore, 1) := dk_84 (dk_at dksX1_isMember_1 0 rfl rfl)
theorem dX1_isMember_25 : decode cX1_isMember 25 = .ok (.invokestatic 105, 3) := dk_184 0 105 (dk_at dksX1_isMember_1 1 rfl rfl)
theorem dX1_isMember_28 : decode cX1_isMember 28 = .ok (.aload_n 0, 1) := dk_42 (dk_at dksX1_isMember_1 4 rfl rfl)
theorem dX1_isMember_29 : decode cX1_isMember 29 = .ok (.getfield 36, 3) := dk_180 0 36 (dk_at dksX1_isMember_1 5 rfl rfl)
theorem dX1_isMember_32 : decode cX1_isMember 32 = .ok (.iload_n 2, 1) := dk_28 (dk_at dksX1_isMember_1 8 rfl rfl)
theorem dX1_isMember_33 : decode cX1_isMember 33 = .ok (.invokevirtual 257, 3) := dk_182 1 1 (dk_at dksX1_isMember_1 9 rfl rfl)
theorem dX1_isMember_36 : decode cX1_isMember 36 = .ok (.getfield 261, 3) := dk_180 1 5 (dk_at dksX1_isMember_1 12 rfl rfl)
theorem dX1_isMember_39 : decode cX1_isMember 39 = .ok (.iload_n 1, 1) := dk_27 (dk_at dksX1_isMember_1 15 rfl rfl)
theorem dX1_isMember_40 : decode cX1_isMember 40 = .ok (.invokestatic 262, 3) := dk_184 1 6 (dk_at dksX1_isMember_1 16 rfl rfl)
theorem dX1_isMember_43 : decode cX1_isMember 43 = .ok (.ireturn, 1) := dk_172 (dk_at dksX1_isMember_1 19 rfl rfl)
abbrev cX1_isNested : ByteArray := prog_1_method_45_code
def yX1_isNested : MethodName := ⟨RX1, "isNested", "(II)Z"⟩
def dkwX1_isNested_1 : List UInt8 := [84, 184, 0, 105, 42, 180, 0, 36, 28, 182, 1, 1, 180, 1, 9, 27, 184, 1, 6, 172]
abbrev dktX1_isNested_1 : List UInt8 := dkwX1_isNested_1 ++ []
def dkwX1_isNested_0 : List UInt8 := [5, 188, 4, 89, 3, 42, 180, 0, 36, 27, 182, 0, 102, 84, 89, 4, 42, 180, 0, 36, 28, 182, 0, 102]
abbrev dktX1_isNested_0 : List UInt8 := dkwX1_isNested_0 ++ dktX1_isNested_1
theorem dksX1_isNested_0 : cX1_isNested.data.toList.drop 0 = dktX1_isNested_0 := by decide +kernel
theorem dksX1_isNested_1 : cX1_isNested.data.toList.drop 24 = dktX1_isNested_1 := dk_seg dksX1_isNested_0 24 rfl rfl
theorem dX1_isNested_0 : decode cX1_isNested 0 = .ok (.iconst 2, 1) := dk_5 (dk_at dksX1_isNested_0 0 rfl rfl)
theorem dX1_isNested_1 : decode cX1_isNested 1 = .ok (.newarray .boolean, 2) := dk_188_4 (dk_at dksX1_isNested_0 1 rfl rfl)
theorem dX1_isNested_3 : decode cX1_isNested 3 = .ok (.dup, 1) := dk_89 (dk_at dksX1_isNested_0 3 rfl rfl)
theorem dX1_isNested_4 : decode cX1_isNested 4 = .ok (.iconst 0, 1) := dk_3 (dk_at dksX1_isNested_0 4 rfl rfl)
theorem dX1_isNested_5 : decode cX1_isNested 5 = .ok (.aload_n 0, 1) := dk_42 (dk_at dksX1_isNested_0 5 rfl rfl)
theorem dX1_isNested_6 : decode cX1_isNested 6 = .ok (.getfield 36, 3) := dk_180 0 36 (dk_at dksX1_isNested_0 6 rfl rfl)
theorem dX1_isNested_9 : decode cX1_isNested 9 = .ok (.iload_n 1, 1) := dk_27 (dk_at dksX1_isNested_0 9 rfl rfl)
theorem dX1_isNested_10 : decode cX1_isNested 10 = .ok (.invokevirtual 102, 3) := dk_182 0 102 (dk_at dksX1_isNested_0 10 rfl rfl)
theorem dX1_isNested_13 : decode cX1_isNested 13 = .ok (.bastore, 1) := dk_84 (dk_at dksX1_isNested_0 13 rfl rfl)
theorem dX1_isNested_14 : decode cX1_isNested 14 = .ok (.dup, 1) := dk_89 (dk_at dksX1_isNested_0 14 rfl rfl)
theorem dX1_isNested_15 : decode cX1_isNested 15 = .ok (.iconst 1, 1) := dk_4 (dk_at dksX1_isNested_0 15 rfl rfl)
theorem dX1_isNested_16 : decode cX1_isNested 16 = .ok (.aload_n 0, 1) := dk_42 (dk_at dksX1_isNested_0 16 rfl rfl)
theorem dX1_isNested_17 : decode cX1_isNested 17 = .ok (.getfield 36, 3) := dk_180 0 36 (dk_at dksX1_isNested_0 17 rfl rfl)
theorem dX1_isNested_20 : decode cX1_isNested 20 = .ok (.iload_n 2, 1) := dk_28 (dk_at dksX1_isNested_0 20 rfl rfl)
theorem dX1_isNested_21 : decode cX1_isNested 21 = .ok (.invokevirtual 102, 3) := dk_182 0 102 (dk_at dksX1_isNested_0 21 rfl rfl)
theorem dX1_isNested_24 : decode cX1_isNested 24 = .ok (.bastore, 1) := dk_84 (dk_at dksX1_isNested_1 0 rfl rfl)
theorem dX1_isNested_25 : decode cX1_isNested 25 = .ok (.invokestatic 105, 3) := dk_184 0 105 (dk_at dksX1_isNested_1 1 rfl rfl)
theorem dX1_isNested_28 : decode cX1_isNested 28 = .ok (.aload_n 0, 1) := dk_42 (dk_at dksX1_isNested_1 4 rfl rfl)
theorem dX1_isNested_29 : decode cX1_isNested 29 = .ok (.getfield 36, 3) := dk_180 0 36 (dk_at dksX1_isNested_1 5 rfl rfl)
theorem dX1_isNested_32 : decode cX1_isNested 32 = .ok (.iload_n 2, 1) := dk_28 (dk_at dksX1_isNested_1 8 rfl rfl)
theorem dX1_isNested_33 : decode cX1_isNested 33 = .ok (.invokevirtual 257, 3) := dk_182 1 1 (dk_at dksX1_isNested_1 9 rfl rfl)
theorem dX1_isNested_36 : decode cX1_isNested 36 = .ok (.getfield 265, 3) := dk_180 1 9 (dk_at dksX1_isNested_1 12 rfl rfl)
theorem dX1_isNested_39 : decode cX1_isNested 39 = .ok (.iload_n 1, 1) := dk_27 (dk_at dksX1_isNested_1 15 rfl rfl)
theorem dX1_isNested_40 : decode cX1_isNested 40 = .ok (.invokestatic 262, 3) := dk_184 1 6 (dk_at dksX1_isNested_1 16 rfl rfl)
theorem dX1_isNested_43 : decode cX1_isNested 43 = .ok (.ireturn, 1) := dk_172 (dk_at dksX1_isNested_1 19 rfl rfl)
abbrev cX1_belongs : ByteArray := prog_1_method_46_code
def yX1_belongs : MethodName := ⟨RX1, "belongs", "(II)Z"⟩
def dkwX1_belongs_1 : List UInt8 := [84, 184, 0, 105, 42, 180, 0, 36, 27, 28, 182, 1, 12, 172]
abbrev dktX1_belongs_1 : List UInt8 := dkwX1_belongs_1 ++ []
def dkwX1_belongs_0 : List UInt8 := [5, 188, 4, 89, 3, 42, 180, 0, 36, 27, 182, 0, 98, 84, 89, 4, 42, 180, 0, 36, 28, 182, 0, 102]
abbrev dktX1_belongs_0 : List UInt8 := dkwX1_belongs_0 ++ dktX1_belongs_1
theorem dksX1_belongs_0 : cX1_belongs.data.toList.drop 0 = dktX1_belongs_0 := by decide +kernel
theorem dksX1_belongs_1 : cX1_belongs.data.toList.drop 24 = dktX1_belongs_1 := dk_seg dksX1_belongs_0 24 rfl rfl
theorem dX1_belongs_0 : decode cX1_belongs 0 = .ok (.iconst 2, 1) := dk_5 (dk_at dksX1_belongs_0 0 rfl rfl)
theorem dX1_belongs_1 : decode cX1_belongs 1 = .ok (.newarray .boolean, 2) := dk_188_4 (dk_at dksX1_belongs_0 1 rfl rfl)
theorem dX1_belongs_3 : decode cX1_belongs 3 = .ok (.dup, 1) := dk_89 (dk_at dksX1_belongs_0 3 rfl rfl)
theorem dX1_belongs_4 : decode cX1_belongs 4 = .ok (.iconst 0, 1) := dk_3 (dk_at dksX1_belongs_0 4 rfl rfl)
theorem dX1_belongs_5 : decode cX1_belongs 5 = .ok (.aload_n 0, 1) := dk_42 (dk_at dksX1_belongs_0 5 rfl rfl)
theorem dX1_belongs_6 : decode cX1_belongs 6 = .ok (.getfield 36, 3) := dk_180 0 36 (dk_at dksX1_belongs_0 6 rfl rfl)
theorem dX1_belongs_9 : decode cX1_belongs 9 = .ok (.iload_n 1, 1) := dk_27 (dk_at dksX1_belongs_0 9 rfl rfl)
theorem dX1_belongs_10 : decode cX1_belongs 10 = .ok (.invokevirtual 98, 3) := dk_182 0 98 (dk_at dksX1_belongs_0 10 rfl rfl)
theorem dX1_belongs_13 : decode cX1_belongs 13 = .ok (.bastore, 1) := dk_84 (dk_at dksX1_belongs_0 13 rfl rfl)
theorem dX1_belongs_14 : decode cX1_belongs 14 = .ok (.dup, 1) := dk_89 (dk_at dksX1_belongs_0 14 rfl rfl)
theorem dX1_belongs_15 : decode cX1_belongs 15 = .ok (.iconst 1, 1) := dk_4 (dk_at dksX1_belongs_0 15 rfl rfl)
theorem dX1_belongs_16 : decode cX1_belongs 16 = .ok (.aload_n 0, 1) := dk_42 (dk_at dksX1_belongs_0 16 rfl rfl)
theorem dX1_belongs_17 : decode cX1_belongs 17 = .ok (.getfield 36, 3) := dk_180 0 36 (dk_at dksX1_belongs_0 17 rfl rfl)
theorem dX1_belongs_20 : decode cX1_belongs 20 = .ok (.iload_n 2, 1) := dk_28 (dk_at dksX1_belongs_0 20 rfl rfl)
theorem dX1_belongs_21 : decode cX1_belongs 21 = .ok (.invokevirtual 102, 3) := dk_182 0 102 (dk_at dksX1_belongs_0 21 rfl rfl)
theorem dX1_belongs_24 : decode cX1_belongs 24 = .ok (.bastore, 1) := dk_84 (dk_at dksX1_belongs_1 0 rfl rfl)
theorem dX1_belongs_25 : decode cX1_belongs 25 = .ok (.invokestatic 105, 3) := dk_184 0 105 (dk_at dksX1_belongs_1 1 rfl rfl)
theorem dX1_belongs_28 : decode cX1_belongs 28 = .ok (.aload_n 0, 1) := dk_42 (dk_at dksX1_belongs_1 4 rfl rfl)
theorem dX1_belongs_29 : decode cX1_belongs 29 = .ok (.getfield 36, 3) := dk_180 0 36 (dk_at dksX1_belongs_1 5 rfl rfl)
theorem dX1_belongs_32 : decode cX1_belongs 32 = .ok (.iload_n 1, 1) := dk_27 (dk_at dksX1_belongs_1 8 rfl rfl)
theorem dX1_belongs_33 : decode cX1_belongs 33 = .ok (.iload_n 2, 1) := dk_28 (dk_at dksX1_belongs_1 9 rfl rfl)
theorem dX1_belongs_34 : decode cX1_belongs 34 = .ok (.invokevirtual 268, 3) := dk_182 1 12 (dk_at dksX1_belongs_1 10 rfl rfl)
theorem dX1_belongs_37 : decode cX1_belongs 37 = .ok (.ireturn, 1) := dk_172 (dk_at dksX1_belongs_1 13 rfl rfl)
abbrev cX1_belongsByMembers : ByteArray := prog_1_method_47_code
def yX1_belongsByMembers : MethodName := ⟨RX1, "belongsByMembers", "(II)Z"⟩
def dkwX1_belongsByMembers_1 : List UInt8 := [84, 184, 0, 105, 42, 180, 0, 36, 28, 182, 1, 15, 27, 184, 1, 6, 172]
abbrev dktX1_belongsByMembers_1 : List UInt8 := dkwX1_belongsByMembers_1 ++ []
def dkwX1_belongsByMembers_0 : List UInt8 := [5, 188, 4, 89, 3, 42, 180, 0, 36, 27, 182, 0, 98, 84, 89, 4, 42, 180, 0, 36, 28, 182, 0, 102]
abbrev dktX1_belongsByMembers_0 : List UInt8 := dkwX1_belongsByMembers_0 ++ dktX1_belongsByMembers_1
theorem dksX1_belongsByMembers_0 : cX1_belongsByMembers.data.toList.drop 0 = dktX1_belongsByMembers_0 := by decide +kernel
theorem dksX1_belongsByMembers_1 : cX1_belongsByMembers.data.toList.drop 24 = dktX1_belongsByMembers_1 := dk_seg dksX1_belongsByMembers_0 24 rfl rfl
theorem dX1_belongsByMembers_0 : decode cX1_belongsByMembers 0 = .ok (.iconst 2, 1) := dk_5 (dk_at dksX1_belongsByMembers_0 0 rfl rfl)
theorem dX1_belongsByMembers_1 : decode cX1_belongsByMembers 1 = .ok (.newarray .boolean, 2) := dk_188_4 (dk_at dksX1_belongsByMembers_0 1 rfl rfl)
theorem dX1_belongsByMembers_3 : decode cX1_belongsByMembers 3 = .ok (.dup, 1) := dk_89 (dk_at dksX1_belongsByMembers_0 3 rfl rfl)
theorem dX1_belongsByMembers_4 : decode cX1_belongsByMembers 4 = .ok (.iconst 0, 1) := dk_3 (dk_at dksX1_belongsByMembers_0 4 rfl rfl)
theorem dX1_belongsByMembers_5 : decode cX1_belongsByMembers 5 = .ok (.aload_n 0, 1) := dk_42 (dk_at dksX1_belongsByMembers_0 5 rfl rfl)
theorem dX1_belongsByMembers_6 : decode cX1_belongsByMembers 6 = .ok (.getfield 36, 3) := dk_180 0 36 (dk_at dksX1_belongsByMembers_0 6 rfl rfl)
theorem dX1_belongsByMembers_9 : decode cX1_belongsByMembers 9 = .ok (.iload_n 1, 1) := dk_27 (dk_at dksX1_belongsByMembers_0 9 rfl rfl)
theorem dX1_belongsByMembers_10 : decode cX1_belongsByMembers 10 = .ok (.invokevirtual 98, 3) := dk_182 0 98 (dk_at dksX1_belongsByMembers_0 10 rfl rfl)
theorem dX1_belongsByMembers_13 : decode cX1_belongsByMembers 13 = .ok (.bastore, 1) := dk_84 (dk_at dksX1_belongsByMembers_0 13 rfl rfl)
theorem dX1_belongsByMembers_14 : decode cX1_belongsByMembers 14 = .ok (.dup, 1) := dk_89 (dk_at dksX1_belongsByMembers_0 14 rfl rfl)
theorem dX1_belongsByMembers_15 : decode cX1_belongsByMembers 15 = .ok (.iconst 1, 1) := dk_4 (dk_at dksX1_belongsByMembers_0 15 rfl rfl)
theorem dX1_belongsByMembers_16 : decode cX1_belongsByMembers 16 = .ok (.aload_n 0, 1) := dk_42 (dk_at dksX1_belongsByMembers_0 16 rfl rfl)
theorem dX1_belongsByMembers_17 : decode cX1_belongsByMembers 17 = .ok (.getfield 36, 3) := dk_180 0 36 (dk_at dksX1_belongsByMembers_0 17 rfl rfl)
theorem dX1_belongsByMembers_20 : decode cX1_belongsByMembers 20 = .ok (.iload_n 2, 1) := dk_28 (dk_at dksX1_belongsByMembers_0 20 rfl rfl)
theorem dX1_belongsByMembers_21 : decode cX1_belongsByMembers 21 = .ok (.invokevirtual 102, 3) := dk_182 0 102 (dk_at dksX1_belongsByMembers_0 21 rfl rfl)
theorem dX1_belongsByMembers_24 : decode cX1_belongsByMembers 24 = .ok (.bastore, 1) := dk_84 (dk_at dksX1_belongsByMembers_1 0 rfl rfl)
theorem dX1_belongsByMembers_25 : decode cX1_belongsByMembers 25 = .ok (.invokestatic 105, 3) := dk_184 0 105 (dk_at dksX1_belongsByMembers_1 1 rfl rfl)
theorem dX1_belongsByMembers_28 : decode cX1_belongsByMembers 28 = .ok (.aload_n 0, 1) := dk_42 (dk_at dksX1_belongsByMembers_1 4 rfl rfl)
theorem dX1_belongsByMembers_29 : decode cX1_belongsByMembers 29 = .ok (.getfield 36, 3) := dk_180 0 36 (dk_at dksX1_belongsByMembers_1 5 rfl rfl)
theorem dX1_belongsByMembers_32 : decode cX1_belongsByMembers 32 = .ok (.iload_n 2, 1) := dk_28 (dk_at dksX1_belongsByMembers_1 8 rfl rfl)
theorem dX1_belongsByMembers_33 : decode cX1_belongsByMembers 33 = .ok (.invokevirtual 271, 3) := dk_182 1 15 (dk_at dksX1_belongsByMembers_1 9 rfl rfl)
theorem dX1_belongsByMembers_36 : decode cX1_belongsByMembers 36 = .ok (.iload_n 1, 1) := dk_27 (dk_at dksX1_belongsByMembers_1 12 rfl rfl)
theorem dX1_belongsByMembers_37 : decode cX1_belongsByMembers 37 = .ok (.invokestatic 262, 3) := dk_184 1 6 (dk_at dksX1_belongsByMembers_1 13 rfl rfl)
theorem dX1_belongsByMembers_40 : decode cX1_belongsByMembers 40 = .ok (.ireturn, 1) := dk_172 (dk_at dksX1_belongsByMembers_1 16 rfl rfl)
abbrev cX1_parentOf : ByteArray := prog_1_method_51_code
def yX1_parentOf : MethodName := ⟨RX1, "parentOf", "(I)I"⟩
def dkwX1_parentOf_0 : List UInt8 := [42, 27, 182, 1, 21, 180, 1, 25, 172]
abbrev dktX1_parentOf_0 : List UInt8 := dkwX1_parentOf_0 ++ []
theorem dksX1_parentOf_0 : cX1_parentOf.data.toList.drop 0 = dktX1_parentOf_0 := by decide +kernel
theorem dX1_parentOf_0 : decode cX1_parentOf 0 = .ok (.aload_n 0, 1) := dk_42 (dk_at dksX1_parentOf_0 0 rfl rfl)
theorem dX1_parentOf_1 : decode cX1_parentOf 1 = .ok (.iload_n 1, 1) := dk_27 (dk_at dksX1_parentOf_0 1 rfl rfl)
theorem dX1_parentOf_2 : decode cX1_parentOf 2 = .ok (.invokevirtual 277, 3) := dk_182 1 21 (dk_at dksX1_parentOf_0 2 rfl rfl)
theorem dX1_parentOf_5 : decode cX1_parentOf 5 = .ok (.getfield 281, 3) := dk_180 1 25 (dk_at dksX1_parentOf_0 5 rfl rfl)
theorem dX1_parentOf_8 : decode cX1_parentOf 8 = .ok (.ireturn, 1) := dk_172 (dk_at dksX1_parentOf_0 8 rfl rfl)
abbrev cX1_thing : ByteArray := prog_1_method_50_code
def yX1_thing : MethodName := ⟨RX1, "thing", "(I)LPermissionDesk$Thing;"⟩
def dkwX1_thing_1 : List UInt8 := [27, 50, 176]
abbrev dktX1_thing_1 : List UInt8 := dkwX1_thing_1 ++ []
def dkwX1_thing_0 : List UInt8 := [4, 188, 4, 89, 3, 42, 180, 0, 36, 27, 182, 0, 122, 84, 184, 0, 105, 42, 180, 0, 36, 180, 0, 135]
abbrev dktX1_thing_0 : List UInt8 := dkwX1_thing_0 ++ dktX1_thing_1
theorem dksX1_thing_0 : cX1_thing.data.toList.drop 0 = dktX1_thing_0 := by decide +kernel
theorem dksX1_thing_1 : cX1_thing.data.toList.drop 24 = dktX1_thing_1 := dk_seg dksX1_thing_0 24 rfl rfl
theorem dX1_thing_0 : decode cX1_thing 0 = .ok (.iconst 1, 1) := dk_4 (dk_at dksX1_thing_0 0 rfl rfl)
theorem dX1_thing_1 : decode cX1_thing 1 = .ok (.newarray .boolean, 2) := dk_188_4 (dk_at dksX1_thing_0 1 rfl rfl)
theorem dX1_thing_3 : decode cX1_thing 3 = .ok (.dup, 1) := dk_89 (dk_at dksX1_thing_0 3 rfl rfl)
theorem dX1_thing_4 : decode cX1_thing 4 = .ok (.iconst 0, 1) := dk_3 (dk_at dksX1_thing_0 4 rfl rfl)
theorem dX1_thing_5 : decode cX1_thing 5 = .ok (.aload_n 0, 1) := dk_42 (dk_at dksX1_thing_0 5 rfl rfl)
theorem dX1_thing_6 : decode cX1_thing 6 = .ok (.getfield 36, 3) := dk_180 0 36 (dk_at dksX1_thing_0 6 rfl rfl)
theorem dX1_thing_9 : decode cX1_thing 9 = .ok (.iload_n 1, 1) := dk_27 (dk_at dksX1_thing_0 9 rfl rfl)
theorem dX1_thing_10 : decode cX1_thing 10 = .ok (.invokevirtual 122, 3) := dk_182 0 122 (dk_at dksX1_thing_0 10 rfl rfl)
theorem dX1_thing_13 : decode cX1_thing 13 = .ok (.bastore, 1) := dk_84 (dk_at dksX1_thing_0 13 rfl rfl)
theorem dX1_thing_14 : decode cX1_thing 14 = .ok (.invokestatic 105, 3) := dk_184 0 105 (dk_at dksX1_thing_0 14 rfl rfl)
theorem dX1_thing_17 : decode cX1_thing 17 = .ok (.aload_n 0, 1) := dk_42 (dk_at dksX1_thing_0 17 rfl rfl)
theorem dX1_thing_18 : decode cX1_thing 18 = .ok (.getfield 36, 3) := dk_180 0 36 (dk_at dksX1_thing_0 18 rfl rfl)
theorem dX1_thing_21 : decode cX1_thing 21 = .ok (.getfield 135, 3) := dk_180 0 135 (dk_at dksX1_thing_0 21 rfl rfl)
theorem dX1_thing_24 : decode cX1_thing 24 = .ok (.iload_n 1, 1) := dk_27 (dk_at dksX1_thing_1 0 rfl rfl)
theorem dX1_thing_25 : decode cX1_thing 25 = .ok (.aaload, 1) := dk_50 (dk_at dksX1_thing_1 1 rfl rfl)
theorem dX1_thing_26 : decode cX1_thing 26 = .ok (.areturn, 1) := dk_176 (dk_at dksX1_thing_1 2 rfl rfl)
abbrev cX1_ownerOf : ByteArray := prog_1_method_52_code
def yX1_ownerOf : MethodName := ⟨RX1, "ownerOf", "(I)I"⟩
def dkwX1_ownerOf_0 : List UInt8 := [42, 27, 182, 1, 21, 180, 0, 139, 172]
abbrev dktX1_ownerOf_0 : List UInt8 := dkwX1_ownerOf_0 ++ []
theorem dksX1_ownerOf_0 : cX1_ownerOf.data.toList.drop 0 = dktX1_ownerOf_0 := by decide +kernel
theorem dX1_ownerOf_0 : decode cX1_ownerOf 0 = .ok (.aload_n 0, 1) := dk_42 (dk_at dksX1_ownerOf_0 0 rfl rfl)
theorem dX1_ownerOf_1 : decode cX1_ownerOf 1 = .ok (.iload_n 1, 1) := dk_27 (dk_at dksX1_ownerOf_0 1 rfl rfl)
theorem dX1_ownerOf_2 : decode cX1_ownerOf 2 = .ok (.invokevirtual 277, 3) := dk_182 1 21 (dk_at dksX1_ownerOf_0 2 rfl rfl)
theorem dX1_ownerOf_5 : decode cX1_ownerOf 5 = .ok (.getfield 139, 3) := dk_180 0 139 (dk_at dksX1_ownerOf_0 5 rfl rfl)
theorem dX1_ownerOf_8 : decode cX1_ownerOf 8 = .ok (.ireturn, 1) := dk_172 (dk_at dksX1_ownerOf_0 8 rfl rfl)
abbrev cX1_maskOf : ByteArray := prog_1_method_53_code
def yX1_maskOf : MethodName := ⟨RX1, "maskOf", "(I)I"⟩
def dkwX1_maskOf_0 : List UInt8 := [42, 27, 182, 1, 21, 180, 0, 148, 172]
abbrev dktX1_maskOf_0 : List UInt8 := dkwX1_maskOf_0 ++ []
theorem dksX1_maskOf_0 : cX1_maskOf.data.toList.drop 0 = dktX1_maskOf_0 := by decide +kernel
theorem dX1_maskOf_0 : decode cX1_maskOf 0 = .ok (.aload_n 0, 1) := dk_42 (dk_at dksX1_maskOf_0 0 rfl rfl)
theorem dX1_maskOf_1 : decode cX1_maskOf 1 = .ok (.iload_n 1, 1) := dk_27 (dk_at dksX1_maskOf_0 1 rfl rfl)
theorem dX1_maskOf_2 : decode cX1_maskOf 2 = .ok (.invokevirtual 277, 3) := dk_182 1 21 (dk_at dksX1_maskOf_0 2 rfl rfl)
theorem dX1_maskOf_5 : decode cX1_maskOf 5 = .ok (.getfield 148, 3) := dk_180 0 148 (dk_at dksX1_maskOf_0 5 rfl rfl)
theorem dX1_maskOf_8 : decode cX1_maskOf 8 = .ok (.ireturn, 1) := dk_172 (dk_at dksX1_maskOf_0 8 rfl rfl)
abbrev cX1_isInheriting : ByteArray := prog_1_method_54_code
def yX1_isInheriting : MethodName := ⟨RX1, "isInheriting", "(I)Z"⟩
def dkwX1_isInheriting_0 : List UInt8 := [42, 27, 182, 1, 21, 180, 0, 151, 172]
abbrev dktX1_isInheriting_0 : List UInt8 := dkwX1_isInheriting_0 ++ []
theorem dksX1_isInheriting_0 : cX1_isInheriting.data.toList.drop 0 = dktX1_isInheriting_0 := by decide +kernel
theorem dX1_isInheriting_0 : decode cX1_isInheriting 0 = .ok (.aload_n 0, 1) := dk_42 (dk_at dksX1_isInheriting_0 0 rfl rfl)
theorem dX1_isInheriting_1 : decode cX1_isInheriting 1 = .ok (.iload_n 1, 1) := dk_27 (dk_at dksX1_isInheriting_0 1 rfl rfl)
theorem dX1_isInheriting_2 : decode cX1_isInheriting 2 = .ok (.invokevirtual 277, 3) := dk_182 1 21 (dk_at dksX1_isInheriting_0 2 rfl rfl)
theorem dX1_isInheriting_5 : decode cX1_isInheriting 5 = .ok (.getfield 151, 3) := dk_180 0 151 (dk_at dksX1_isInheriting_0 5 rfl rfl)
theorem dX1_isInheriting_8 : decode cX1_isInheriting 8 = .ok (.ireturn, 1) := dk_172 (dk_at dksX1_isInheriting_0 8 rfl rfl)
abbrev cX1_below : ByteArray := prog_1_method_55_code
def yX1_below : MethodName := ⟨RX1, "below", "(I)I"⟩
def dkwX1_below_1 : List UInt8 := [182, 1, 28, 172]
abbrev dktX1_below_1 : List UInt8 := dkwX1_below_1 ++ []
def dkwX1_below_0 : List UInt8 := [4, 188, 4, 89, 3, 42, 180, 0, 36, 27, 182, 0, 122, 84, 184, 0, 105, 42, 180, 0, 36, 27]
abbrev dktX1_below_0 : List UInt8 := dkwX1_below_0 ++ dktX1_below_1
theorem dksX1_below_0 : cX1_below.data.toList.drop 0 = dktX1_below_0 := by decide +kernel
theorem dksX1_below_1 : cX1_below.data.toList.drop 22 = dktX1_below_1 := dk_seg dksX1_below_0 22 rfl rfl
theorem dX1_below_0 : decode cX1_below 0 = .ok (.iconst 1, 1) := dk_4 (dk_at dksX1_below_0 0 rfl rfl)
theorem dX1_below_1 : decode cX1_below 1 = .ok (.newarray .boolean, 2) := dk_188_4 (dk_at dksX1_below_0 1 rfl rfl)
theorem dX1_below_3 : decode cX1_below 3 = .ok (.dup, 1) := dk_89 (dk_at dksX1_below_0 3 rfl rfl)
theorem dX1_below_4 : decode cX1_below 4 = .ok (.iconst 0, 1) := dk_3 (dk_at dksX1_below_0 4 rfl rfl)
theorem dX1_below_5 : decode cX1_below 5 = .ok (.aload_n 0, 1) := dk_42 (dk_at dksX1_below_0 5 rfl rfl)
theorem dX1_below_6 : decode cX1_below 6 = .ok (.getfield 36, 3) := dk_180 0 36 (dk_at dksX1_below_0 6 rfl rfl)
theorem dX1_below_9 : decode cX1_below 9 = .ok (.iload_n 1, 1) := dk_27 (dk_at dksX1_below_0 9 rfl rfl)
theorem dX1_below_10 : decode cX1_below 10 = .ok (.invokevirtual 122, 3) := dk_182 0 122 (dk_at dksX1_below_0 10 rfl rfl)
theorem dX1_below_13 : decode cX1_below 13 = .ok (.bastore, 1) := dk_84 (dk_at dksX1_below_0 13 rfl rfl)
theorem dX1_below_14 : decode cX1_below 14 = .ok (.invokestatic 105, 3) := dk_184 0 105 (dk_at dksX1_below_0 14 rfl rfl)
theorem dX1_below_17 : decode cX1_below 17 = .ok (.aload_n 0, 1) := dk_42 (dk_at dksX1_below_0 17 rfl rfl)
theorem dX1_below_18 : decode cX1_below 18 = .ok (.getfield 36, 3) := dk_180 0 36 (dk_at dksX1_below_0 18 rfl rfl)
theorem dX1_below_21 : decode cX1_below 21 = .ok (.iload_n 1, 1) := dk_27 (dk_at dksX1_below_0 21 rfl rfl)
theorem dX1_below_22 : decode cX1_below 22 = .ok (.invokevirtual 284, 3) := dk_182 1 28 (dk_at dksX1_below_1 0 rfl rfl)
theorem dX1_below_25 : decode cX1_below 25 = .ok (.ireturn, 1) := dk_172 (dk_at dksX1_below_1 3 rfl rfl)
abbrev cX1_entriesOf : ByteArray := prog_1_method_56_code
def yX1_entriesOf : MethodName := ⟨RX1, "entriesOf", "(I)I"⟩
def dkwX1_entriesOf_0 : List UInt8 := [42, 27, 182, 1, 21, 180, 0, 155, 182, 0, 88, 172]
abbrev dktX1_entriesOf_0 : List UInt8 := dkwX1_entriesOf_0 ++ []
theorem dksX1_entriesOf_0 : cX1_entriesOf.data.toList.drop 0 = dktX1_entriesOf_0 := by decide +kernel
theorem dX1_entriesOf_0 : decode cX1_entriesOf 0 = .ok (.aload_n 0, 1) := dk_42 (dk_at dksX1_entriesOf_0 0 rfl rfl)
theorem dX1_entriesOf_1 : decode cX1_entriesOf 1 = .ok (.iload_n 1, 1) := dk_27 (dk_at dksX1_entriesOf_0 1 rfl rfl)
theorem dX1_entriesOf_2 : decode cX1_entriesOf 2 = .ok (.invokevirtual 277, 3) := dk_182 1 21 (dk_at dksX1_entriesOf_0 2 rfl rfl)
theorem dX1_entriesOf_5 : decode cX1_entriesOf 5 = .ok (.getfield 155, 3) := dk_180 0 155 (dk_at dksX1_entriesOf_0 5 rfl rfl)
theorem dX1_entriesOf_8 : decode cX1_entriesOf 8 = .ok (.invokevirtual 88, 3) := dk_182 0 88 (dk_at dksX1_entriesOf_0 8 rfl rfl)
theorem dX1_entriesOf_11 : decode cX1_entriesOf 11 = .ok (.ireturn, 1) := dk_172 (dk_at dksX1_entriesOf_0 11 rfl rfl)
abbrev cX1_isAllowing : ByteArray := prog_1_method_58_code
def yX1_isAllowing : MethodName := ⟨RX1, "isAllowing", "(II)Z"⟩
def dkwX1_isAllowing_0 : List UInt8 := [42, 27, 28, 182, 1, 31, 180, 1, 32, 172]
abbrev dktX1_isAllowing_0 : List UInt8 := dkwX1_isAllowing_0 ++ []
theorem dksX1_isAllowing_0 : cX1_isAllowing.data.toList.drop 0 = dktX1_isAllowing_0 := by decide +kernel
theorem dX1_isAllowing_0 : decode cX1_isAllowing 0 = .ok (.aload_n 0, 1) := dk_42 (dk_at dksX1_isAllowing_0 0 rfl rfl)
theorem dX1_isAllowing_1 : decode cX1_isAllowing 1 = .ok (.iload_n 1, 1) := dk_27 (dk_at dksX1_isAllowing_0 1 rfl rfl)
theorem dX1_isAllowing_2 : decode cX1_isAllowing 2 = .ok (.iload_n 2, 1) := dk_28 (dk_at dksX1_isAllowing_0 2 rfl rfl)
theorem dX1_isAllowing_3 : decode cX1_isAllowing 3 = .ok (.invokevirtual 287, 3) := dk_182 1 31 (dk_at dksX1_isAllowing_0 3 rfl rfl)
theorem dX1_isAllowing_6 : decode cX1_isAllowing 6 = .ok (.getfield 288, 3) := dk_180 1 32 (dk_at dksX1_isAllowing_0 6 rfl rfl)
theorem dX1_isAllowing_9 : decode cX1_isAllowing 9 = .ok (.ireturn, 1) := dk_172 (dk_at dksX1_isAllowing_0 9 rfl rfl)
abbrev cX1_entry : ByteArray := prog_1_method_57_code
def yX1_entry : MethodName := ⟨RX1, "entry", "(II)LPermissionDesk$Entry;"⟩
def dkwX1_entry_1 : List UInt8 := [176]
abbrev dktX1_entry_1 : List UInt8 := dkwX1_entry_1 ++ []
def dkwX1_entry_0 : List UInt8 := [4, 188, 4, 89, 3, 42, 27, 28, 182, 0, 174, 84, 184, 0, 105, 42, 180, 0, 36, 27, 28, 182, 0, 246]
abbrev dktX1_entry_0 : List UInt8 := dkwX1_entry_0 ++ dktX1_entry_1
theorem dksX1_entry_0 : cX1_entry.data.toList.drop 0 = dktX1_entry_0 := by decide +kernel
theorem dksX1_entry_1 : cX1_entry.data.toList.drop 24 = dktX1_entry_1 := dk_seg dksX1_entry_0 24 rfl rfl
theorem dX1_entry_0 : decode cX1_entry 0 = .ok (.iconst 1, 1) := dk_4 (dk_at dksX1_entry_0 0 rfl rfl)
theorem dX1_entry_1 : decode cX1_entry 1 = .ok (.newarray .boolean, 2) := dk_188_4 (dk_at dksX1_entry_0 1 rfl rfl)
theorem dX1_entry_3 : decode cX1_entry 3 = .ok (.dup, 1) := dk_89 (dk_at dksX1_entry_0 3 rfl rfl)
theorem dX1_entry_4 : decode cX1_entry 4 = .ok (.iconst 0, 1) := dk_3 (dk_at dksX1_entry_0 4 rfl rfl)
theorem dX1_entry_5 : decode cX1_entry 5 = .ok (.aload_n 0, 1) := dk_42 (dk_at dksX1_entry_0 5 rfl rfl)
theorem dX1_entry_6 : decode cX1_entry 6 = .ok (.iload_n 1, 1) := dk_27 (dk_at dksX1_entry_0 6 rfl rfl)
theorem dX1_entry_7 : decode cX1_entry 7 = .ok (.iload_n 2, 1) := dk_28 (dk_at dksX1_entry_0 7 rfl rfl)
theorem dX1_entry_8 : decode cX1_entry 8 = .ok (.invokevirtual 174, 3) := dk_182 0 174 (dk_at dksX1_entry_0 8 rfl rfl)
theorem dX1_entry_11 : decode cX1_entry 11 = .ok (.bastore, 1) := dk_84 (dk_at dksX1_entry_0 11 rfl rfl)
theorem dX1_entry_12 : decode cX1_entry 12 = .ok (.invokestatic 105, 3) := dk_184 0 105 (dk_at dksX1_entry_0 12 rfl rfl)
theorem dX1_entry_15 : decode cX1_entry 15 = .ok (.aload_n 0, 1) := dk_42 (dk_at dksX1_entry_0 15 rfl rfl)
theorem dX1_entry_16 : decode cX1_entry 16 = .ok (.getfield 36, 3) := dk_180 0 36 (dk_at dksX1_entry_0 16 rfl rfl)
theorem dX1_entry_19 : decode cX1_entry 19 = .ok (.iload_n 1, 1) := dk_27 (dk_at dksX1_entry_0 19 rfl rfl)
theorem dX1_entry_20 : decode cX1_entry 20 = .ok (.iload_n 2, 1) := dk_28 (dk_at dksX1_entry_0 20 rfl rfl)
theorem dX1_entry_21 : decode cX1_entry 21 = .ok (.invokevirtual 246, 3) := dk_182 0 246 (dk_at dksX1_entry_0 21 rfl rfl)
theorem dX1_entry_24 : decode cX1_entry 24 = .ok (.areturn, 1) := dk_176 (dk_at dksX1_entry_1 0 rfl rfl)
abbrev cX1_rightsOfEntry : ByteArray := prog_1_method_59_code
def yX1_rightsOfEntry : MethodName := ⟨RX1, "rightsOfEntry", "(II)I"⟩
def dkwX1_rightsOfEntry_0 : List UInt8 := [42, 27, 28, 182, 1, 31, 180, 1, 35, 172]
abbrev dktX1_rightsOfEntry_0 : List UInt8 := dkwX1_rightsOfEntry_0 ++ []
theorem dksX1_rightsOfEntry_0 : cX1_rightsOfEntry.data.toList.drop 0 = dktX1_rightsOfEntry_0 := by decide +kernel
theorem dX1_rightsOfEntry_0 : decode cX1_rightsOfEntry 0 = .ok (.aload_n 0, 1) := dk_42 (dk_at dksX1_rightsOfEntry_0 0 rfl rfl)
theorem dX1_rightsOfEntry_1 : decode cX1_rightsOfEntry 1 = .ok (.iload_n 1, 1) := dk_27 (dk_at dksX1_rightsOfEntry_0 1 rfl rfl)
theorem dX1_rightsOfEntry_2 : decode cX1_rightsOfEntry 2 = .ok (.iload_n 2, 1) := dk_28 (dk_at dksX1_rightsOfEntry_0 2 rfl rfl)
theorem dX1_rightsOfEntry_3 : decode cX1_rightsOfEntry 3 = .ok (.invokevirtual 287, 3) := dk_182 1 31 (dk_at dksX1_rightsOfEntry_0 3 rfl rfl)
theorem dX1_rightsOfEntry_6 : decode cX1_rightsOfEntry 6 = .ok (.getfield 291, 3) := dk_180 1 35 (dk_at dksX1_rightsOfEntry_0 6 rfl rfl)
theorem dX1_rightsOfEntry_9 : decode cX1_rightsOfEntry 9 = .ok (.ireturn, 1) := dk_172 (dk_at dksX1_rightsOfEntry_0 9 rfl rfl)
abbrev cX1_userOfEntry : ByteArray := prog_1_method_60_code
def yX1_userOfEntry : MethodName := ⟨RX1, "userOfEntry", "(II)I"⟩
def dkwX1_userOfEntry_0 : List UInt8 := [42, 27, 28, 182, 1, 31, 3, 182, 1, 38, 172]
abbrev dktX1_userOfEntry_0 : List UInt8 := dkwX1_userOfEntry_0 ++ []
theorem dksX1_userOfEntry_0 : cX1_userOfEntry.data.toList.drop 0 = dktX1_userOfEntry_0 := by decide +kernel
theorem dX1_userOfEntry_0 : decode cX1_userOfEntry 0 = .ok (.aload_n 0, 1) := dk_42 (dk_at dksX1_userOfEntry_0 0 rfl rfl)
theorem dX1_userOfEntry_1 : decode cX1_userOfEntry 1 = .ok (.iload_n 1, 1) := dk_27 (dk_at dksX1_userOfEntry_0 1 rfl rfl)
theorem dX1_userOfEntry_2 : decode cX1_userOfEntry 2 = .ok (.iload_n 2, 1) := dk_28 (dk_at dksX1_userOfEntry_0 2 rfl rfl)
theorem dX1_userOfEntry_3 : decode cX1_userOfEntry 3 = .ok (.invokevirtual 287, 3) := dk_182 1 31 (dk_at dksX1_userOfEntry_0 3 rfl rfl)
theorem dX1_userOfEntry_6 : decode cX1_userOfEntry 6 = .ok (.iconst 0, 1) := dk_3 (dk_at dksX1_userOfEntry_0 6 rfl rfl)
theorem dX1_userOfEntry_7 : decode cX1_userOfEntry 7 = .ok (.invokevirtual 294, 3) := dk_182 1 38 (dk_at dksX1_userOfEntry_0 7 rfl rfl)
theorem dX1_userOfEntry_10 : decode cX1_userOfEntry 10 = .ok (.ireturn, 1) := dk_172 (dk_at dksX1_userOfEntry_0 10 rfl rfl)
abbrev cX1_groupOfEntry : ByteArray := prog_1_method_61_code
def yX1_groupOfEntry : MethodName := ⟨RX1, "groupOfEntry", "(II)I"⟩
def dkwX1_groupOfEntry_0 : List UInt8 := [42, 27, 28, 182, 1, 31, 4, 182, 1, 38, 172]
abbrev dktX1_groupOfEntry_0 : List UInt8 := dkwX1_groupOfEntry_0 ++ []
theorem dksX1_groupOfEntry_0 : cX1_groupOfEntry.data.toList.drop 0 = dktX1_groupOfEntry_0 := by decide +kernel
theorem dX1_groupOfEntry_0 : decode cX1_groupOfEntry 0 = .ok (.aload_n 0, 1) := dk_42 (dk_at dksX1_groupOfEntry_0 0 rfl rfl)
theorem dX1_groupOfEntry_1 : decode cX1_groupOfEntry 1 = .ok (.iload_n 1, 1) := dk_27 (dk_at dksX1_groupOfEntry_0 1 rfl rfl)
theorem dX1_groupOfEntry_2 : decode cX1_groupOfEntry 2 = .ok (.iload_n 2, 1) := dk_28 (dk_at dksX1_groupOfEntry_0 2 rfl rfl)
theorem dX1_groupOfEntry_3 : decode cX1_groupOfEntry 3 = .ok (.invokevirtual 287, 3) := dk_182 1 31 (dk_at dksX1_groupOfEntry_0 3 rfl rfl)
theorem dX1_groupOfEntry_6 : decode cX1_groupOfEntry 6 = .ok (.iconst 1, 1) := dk_4 (dk_at dksX1_groupOfEntry_0 6 rfl rfl)
theorem dX1_groupOfEntry_7 : decode cX1_groupOfEntry 7 = .ok (.invokevirtual 294, 3) := dk_182 1 38 (dk_at dksX1_groupOfEntry_0 7 rfl rfl)
theorem dX1_groupOfEntry_10 : decode cX1_groupOfEntry 10 = .ok (.ireturn, 1) := dk_172 (dk_at dksX1_groupOfEntry_0 10 rfl rfl)
abbrev cX1_isForOwner : ByteArray := prog_1_method_62_code
def yX1_isForOwner : MethodName := ⟨RX1, "isForOwner", "(II)Z"⟩
def dkwX1_isForOwner_0 : List UInt8 := [42, 27, 28, 182, 1, 31, 180, 1, 41, 5, 160, 0, 7, 4, 167, 0, 4, 3, 172]
abbrev dktX1_isForOwner_0 : List UInt8 := dkwX1_isForOwner_0 ++ []
theorem dksX1_isForOwner_0 : cX1_isForOwner.data.toList.drop 0 = dktX1_isForOwner_0 := by decide +kernel
theorem dX1_isForOwner_0 : decode cX1_isForOwner 0 = .ok (.aload_n 0, 1) := dk_42 (dk_at dksX1_isForOwner_0 0 rfl rfl)
theorem dX1_isForOwner_1 : decode cX1_isForOwner 1 = .ok (.iload_n 1, 1) := dk_27 (dk_at dksX1_isForOwner_0 1 rfl rfl)
theorem dX1_isForOwner_2 : decode cX1_isForOwner 2 = .ok (.iload_n 2, 1) := dk_28 (dk_at dksX1_isForOwner_0 2 rfl rfl)
theorem dX1_isForOwner_3 : decode cX1_isForOwner 3 = .ok (.invokevirtual 287, 3) := dk_182 1 31 (dk_at dksX1_isForOwner_0 3 rfl rfl)
theorem dX1_isForOwner_6 : decode cX1_isForOwner 6 = .ok (.getfield 297, 3) := dk_180 1 41 (dk_at dksX1_isForOwner_0 6 rfl rfl)
theorem dX1_isForOwner_9 : decode cX1_isForOwner 9 = .ok (.iconst 2, 1) := dk_5 (dk_at dksX1_isForOwner_0 9 rfl rfl)
theorem dX1_isForOwner_10 : decode cX1_isForOwner 10 = .ok (.if_icmp .ne 7, 3) := dk_160 0 7 (dk_at dksX1_isForOwner_0 10 rfl rfl)
theorem dX1_isForOwner_13 : decode cX1_isForOwner 13 = .ok (.iconst 1, 1) := dk_4 (dk_at dksX1_isForOwner_0 13 rfl rfl)
theorem dX1_isForOwner_14 : decode cX1_isForOwner 14 = .ok (.goto 4, 3) := dk_167 0 4 (dk_at dksX1_isForOwner_0 14 rfl rfl)
theorem dX1_isForOwner_17 : decode cX1_isForOwner 17 = .ok (.iconst 0, 1) := dk_3 (dk_at dksX1_isForOwner_0 17 rfl rfl)
theorem dX1_isForOwner_18 : decode cX1_isForOwner 18 = .ok (.ireturn, 1) := dk_172 (dk_at dksX1_isForOwner_0 18 rfl rfl)
abbrev cX1_isForBelow : ByteArray := prog_1_method_63_code
def yX1_isForBelow : MethodName := ⟨RX1, "isForBelow", "(II)Z"⟩
def dkwX1_isForBelow_0 : List UInt8 := [42, 27, 28, 182, 1, 31, 180, 1, 44, 172]
abbrev dktX1_isForBelow_0 : List UInt8 := dkwX1_isForBelow_0 ++ []
theorem dksX1_isForBelow_0 : cX1_isForBelow.data.toList.drop 0 = dktX1_isForBelow_0 := by decide +kernel
theorem dX1_isForBelow_0 : decode cX1_isForBelow 0 = .ok (.aload_n 0, 1) := dk_42 (dk_at dksX1_isForBelow_0 0 rfl rfl)
theorem dX1_isForBelow_1 : decode cX1_isForBelow 1 = .ok (.iload_n 1, 1) := dk_27 (dk_at dksX1_isForBelow_0 1 rfl rfl)
theorem dX1_isForBelow_2 : decode cX1_isForBelow 2 = .ok (.iload_n 2, 1) := dk_28 (dk_at dksX1_isForBelow_0 2 rfl rfl)
theorem dX1_isForBelow_3 : decode cX1_isForBelow 3 = .ok (.invokevirtual 287, 3) := dk_182 1 31 (dk_at dksX1_isForBelow_0 3 rfl rfl)
theorem dX1_isForBelow_6 : decode cX1_isForBelow 6 = .ok (.getfield 300, 3) := dk_180 1 44 (dk_at dksX1_isForBelow_0 6 rfl rfl)
theorem dX1_isForBelow_9 : decode cX1_isForBelow 9 = .ok (.ireturn, 1) := dk_172 (dk_at dksX1_isForBelow_0 9 rfl rfl)
abbrev cX1_isAllowed : ByteArray := prog_1_method_65_code
def yX1_isAllowed : MethodName := ⟨RX1, "isAllowed", "(III)Z"⟩
def dkwX1_isAllowed_0 : List UInt8 := [42, 27, 28, 29, 182, 1, 46, 42, 180, 0, 36, 27, 28, 29, 182, 1, 50, 172]
abbrev dktX1_isAllowed_0 : List UInt8 := dkwX1_isAllowed_0 ++ []
theorem dksX1_isAllowed_0 : cX1_isAllowed.data.toList.drop 0 = dktX1_isAllowed_0 := by decide +kernel
theorem dX1_isAllowed_0 : decode cX1_isAllowed 0 = .ok (.aload_n 0, 1) := dk_42 (dk_at dksX1_isAllowed_0 0 rfl rfl)
theorem dX1_isAllowed_1 : decode cX1_isAllowed 1 = .ok (.iload_n 1, 1) := dk_27 (dk_at dksX1_isAllowed_0 1 rfl rfl)
theorem dX1_isAllowed_2 : decode cX1_isAllowed 2 = .ok (.iload_n 2, 1) := dk_28 (dk_at dksX1_isAllowed_0 2 rfl rfl)
theorem dX1_isAllowed_3 : decode cX1_isAllowed 3 = .ok (.iload_n 3, 1) := dk_29 (dk_at dksX1_isAllowed_0 3 rfl rfl)
theorem dX1_isAllowed_4 : decode cX1_isAllowed 4 = .ok (.invokevirtual 302, 3) := dk_182 1 46 (dk_at dksX1_isAllowed_0 4 rfl rfl)
theorem dX1_isAllowed_7 : decode cX1_isAllowed 7 = .ok (.aload_n 0, 1) := dk_42 (dk_at dksX1_isAllowed_0 7 rfl rfl)
theorem dX1_isAllowed_8 : decode cX1_isAllowed 8 = .ok (.getfield 36, 3) := dk_180 0 36 (dk_at dksX1_isAllowed_0 8 rfl rfl)
theorem dX1_isAllowed_11 : decode cX1_isAllowed 11 = .ok (.iload_n 1, 1) := dk_27 (dk_at dksX1_isAllowed_0 11 rfl rfl)
theorem dX1_isAllowed_12 : decode cX1_isAllowed 12 = .ok (.iload_n 2, 1) := dk_28 (dk_at dksX1_isAllowed_0 12 rfl rfl)
theorem dX1_isAllowed_13 : decode cX1_isAllowed 13 = .ok (.iload_n 3, 1) := dk_29 (dk_at dksX1_isAllowed_0 13 rfl rfl)
theorem dX1_isAllowed_14 : decode cX1_isAllowed 14 = .ok (.invokevirtual 306, 3) := dk_182 1 50 (dk_at dksX1_isAllowed_0 14 rfl rfl)
theorem dX1_isAllowed_17 : decode cX1_isAllowed 17 = .ok (.ireturn, 1) := dk_172 (dk_at dksX1_isAllowed_0 17 rfl rfl)
abbrev cX1_knownRight : ByteArray := prog_1_method_64_code
def yX1_knownRight : MethodName := ⟨RX1, "knownRight", "(III)V"⟩
def dkwX1_knownRight_1 : List UInt8 := [84, 184, 0, 105, 29, 184, 0, 185, 177]
abbrev dktX1_knownRight_1 : List UInt8 := dkwX1_knownRight_1 ++ []
def dkwX1_knownRight_0 : List UInt8 := [5, 188, 4, 89, 3, 42, 180, 0, 36, 27, 182, 0, 98, 84, 89, 4, 42, 180, 0, 36, 28, 182, 0, 122]
abbrev dktX1_knownRight_0 : List UInt8 := dkwX1_knownRight_0 ++ dktX1_knownRight_1
theorem dksX1_knownRight_0 : cX1_knownRight.data.toList.drop 0 = dktX1_knownRight_0 := by decide +kernel
theorem dksX1_knownRight_1 : cX1_knownRight.data.toList.drop 24 = dktX1_knownRight_1 := dk_seg dksX1_knownRight_0 24 rfl rfl
theorem dX1_knownRight_0 : decode cX1_knownRight 0 = .ok (.iconst 2, 1) := dk_5 (dk_at dksX1_knownRight_0 0 rfl rfl)
theorem dX1_knownRight_1 : decode cX1_knownRight 1 = .ok (.newarray .boolean, 2) := dk_188_4 (dk_at dksX1_knownRight_0 1 rfl rfl)
theorem dX1_knownRight_3 : decode cX1_knownRight 3 = .ok (.dup, 1) := dk_89 (dk_at dksX1_knownRight_0 3 rfl rfl)
theorem dX1_knownRight_4 : decode cX1_knownRight 4 = .ok (.iconst 0, 1) := dk_3 (dk_at dksX1_knownRight_0 4 rfl rfl)
theorem dX1_knownRight_5 : decode cX1_knownRight 5 = .ok (.aload_n 0, 1) := dk_42 (dk_at dksX1_knownRight_0 5 rfl rfl)
theorem dX1_knownRight_6 : decode cX1_knownRight 6 = .ok (.getfield 36, 3) := dk_180 0 36 (dk_at dksX1_knownRight_0 6 rfl rfl)
theorem dX1_knownRight_9 : decode cX1_knownRight 9 = .ok (.iload_n 1, 1) := dk_27 (dk_at dksX1_knownRight_0 9 rfl rfl)
theorem dX1_knownRight_10 : decode cX1_knownRight 10 = .ok (.invokevirtual 98, 3) := dk_182 0 98 (dk_at dksX1_knownRight_0 10 rfl rfl)
theorem dX1_knownRight_13 : decode cX1_knownRight 13 = .ok (.bastore, 1) := dk_84 (dk_at dksX1_knownRight_0 13 rfl rfl)
theorem dX1_knownRight_14 : decode cX1_knownRight 14 = .ok (.dup, 1) := dk_89 (dk_at dksX1_knownRight_0 14 rfl rfl)
theorem dX1_knownRight_15 : decode cX1_knownRight 15 = .ok (.iconst 1, 1) := dk_4 (dk_at dksX1_knownRight_0 15 rfl rfl)
theorem dX1_knownRight_16 : decode cX1_knownRight 16 = .ok (.aload_n 0, 1) := dk_42 (dk_at dksX1_knownRight_0 16 rfl rfl)
theorem dX1_knownRight_17 : decode cX1_knownRight 17 = .ok (.getfield 36, 3) := dk_180 0 36 (dk_at dksX1_knownRight_0 17 rfl rfl)
theorem dX1_knownRight_20 : decode cX1_knownRight 20 = .ok (.iload_n 2, 1) := dk_28 (dk_at dksX1_knownRight_0 20 rfl rfl)
theorem dX1_knownRight_21 : decode cX1_knownRight 21 = .ok (.invokevirtual 122, 3) := dk_182 0 122 (dk_at dksX1_knownRight_0 21 rfl rfl)
theorem dX1_knownRight_24 : decode cX1_knownRight 24 = .ok (.bastore, 1) := dk_84 (dk_at dksX1_knownRight_1 0 rfl rfl)
theorem dX1_knownRight_25 : decode cX1_knownRight 25 = .ok (.invokestatic 105, 3) := dk_184 0 105 (dk_at dksX1_knownRight_1 1 rfl rfl)
theorem dX1_knownRight_28 : decode cX1_knownRight 28 = .ok (.iload_n 3, 1) := dk_29 (dk_at dksX1_knownRight_1 4 rfl rfl)
theorem dX1_knownRight_29 : decode cX1_knownRight 29 = .ok (.invokestatic 185, 3) := dk_184 0 185 (dk_at dksX1_knownRight_1 5 rfl rfl)
theorem dX1_knownRight_32 : decode cX1_knownRight 32 = .ok (.return_, 1) := dk_177 (dk_at dksX1_knownRight_1 8 rfl rfl)
abbrev cX1_isAllowedByHandingDown : ByteArray := prog_1_method_66_code
def yX1_isAllowedByHandingDown : MethodName := ⟨RX1, "isAllowedByHandingDown", "(III)Z"⟩
def dkwX1_isAllowedByHandingDown_0 : List UInt8 := [42, 27, 28, 29, 182, 1, 46, 42, 180, 0, 36, 27, 28, 29, 182, 1, 53, 172]
abbrev dktX1_isAllowedByHandingDown_0 : List UInt8 := dkwX1_isAllowedByHandingDown_0 ++ []
theorem dksX1_isAllowedByHandingDown_0 : cX1_isAllowedByHandingDown.data.toList.drop 0 = dktX1_isAllowedByHandingDown_0 := by decide +kernel
theorem dX1_isAllowedByHandingDown_0 : decode cX1_isAllowedByHandingDown 0 = .ok (.aload_n 0, 1) := dk_42 (dk_at dksX1_isAllowedByHandingDown_0 0 rfl rfl)
theorem dX1_isAllowedByHandingDown_1 : decode cX1_isAllowedByHandingDown 1 = .ok (.iload_n 1, 1) := dk_27 (dk_at dksX1_isAllowedByHandingDown_0 1 rfl rfl)
theorem dX1_isAllowedByHandingDown_2 : decode cX1_isAllowedByHandingDown 2 = .ok (.iload_n 2, 1) := dk_28 (dk_at dksX1_isAllowedByHandingDown_0 2 rfl rfl)
theorem dX1_isAllowedByHandingDown_3 : decode cX1_isAllowedByHandingDown 3 = .ok (.iload_n 3, 1) := dk_29 (dk_at dksX1_isAllowedByHandingDown_0 3 rfl rfl)
theorem dX1_isAllowedByHandingDown_4 : decode cX1_isAllowedByHandingDown 4 = .ok (.invokevirtual 302, 3) := dk_182 1 46 (dk_at dksX1_isAllowedByHandingDown_0 4 rfl rfl)
theorem dX1_isAllowedByHandingDown_7 : decode cX1_isAllowedByHandingDown 7 = .ok (.aload_n 0, 1) := dk_42 (dk_at dksX1_isAllowedByHandingDown_0 7 rfl rfl)
theorem dX1_isAllowedByHandingDown_8 : decode cX1_isAllowedByHandingDown 8 = .ok (.getfield 36, 3) := dk_180 0 36 (dk_at dksX1_isAllowedByHandingDown_0 8 rfl rfl)
theorem dX1_isAllowedByHandingDown_11 : decode cX1_isAllowedByHandingDown 11 = .ok (.iload_n 1, 1) := dk_27 (dk_at dksX1_isAllowedByHandingDown_0 11 rfl rfl)
theorem dX1_isAllowedByHandingDown_12 : decode cX1_isAllowedByHandingDown 12 = .ok (.iload_n 2, 1) := dk_28 (dk_at dksX1_isAllowedByHandingDown_0 12 rfl rfl)
theorem dX1_isAllowedByHandingDown_13 : decode cX1_isAllowedByHandingDown 13 = .ok (.iload_n 3, 1) := dk_29 (dk_at dksX1_isAllowedByHandingDown_0 13 rfl rfl)
theorem dX1_isAllowedByHandingDown_14 : decode cX1_isAllowedByHandingDown 14 = .ok (.invokevirtual 309, 3) := dk_182 1 53 (dk_at dksX1_isAllowedByHandingDown_0 14 rfl rfl)
theorem dX1_isAllowedByHandingDown_17 : decode cX1_isAllowedByHandingDown 17 = .ok (.ireturn, 1) := dk_172 (dk_at dksX1_isAllowedByHandingDown_0 17 rfl rfl)
abbrev cX1_rightsOf : ByteArray := prog_1_method_67_code
def yX1_rightsOf : MethodName := ⟨RX1, "rightsOf", "(II)I"⟩
def dkwX1_rightsOf_1 : List UInt8 := [84, 184, 0, 105, 42, 180, 0, 36, 27, 28, 182, 1, 56, 172]
abbrev dktX1_rightsOf_1 : List UInt8 := dkwX1_rightsOf_1 ++ []
def dkwX1_rightsOf_0 : List UInt8 := [5, 188, 4, 89, 3, 42, 180, 0, 36, 27, 182, 0, 98, 84, 89, 4, 42, 180, 0, 36, 28, 182, 0, 122]
abbrev dktX1_rightsOf_0 : List UInt8 := dkwX1_rightsOf_0 ++ dktX1_rightsOf_1
theorem dksX1_rightsOf_0 : cX1_rightsOf.data.toList.drop 0 = dktX1_rightsOf_0 := by decide +kernel
theorem dksX1_rightsOf_1 : cX1_rightsOf.data.toList.drop 24 = dktX1_rightsOf_1 := dk_seg dksX1_rightsOf_0 24 rfl rfl
theorem dX1_rightsOf_0 : decode cX1_rightsOf 0 = .ok (.iconst 2, 1) := dk_5 (dk_at dksX1_rightsOf_0 0 rfl rfl)
theorem dX1_rightsOf_1 : decode cX1_rightsOf 1 = .ok (.newarray .boolean, 2) := dk_188_4 (dk_at dksX1_rightsOf_0 1 rfl rfl)
theorem dX1_rightsOf_3 : decode cX1_rightsOf 3 = .ok (.dup, 1) := dk_89 (dk_at dksX1_rightsOf_0 3 rfl rfl)
theorem dX1_rightsOf_4 : decode cX1_rightsOf 4 = .ok (.iconst 0, 1) := dk_3 (dk_at dksX1_rightsOf_0 4 rfl rfl)
theorem dX1_rightsOf_5 : decode cX1_rightsOf 5 = .ok (.aload_n 0, 1) := dk_42 (dk_at dksX1_rightsOf_0 5 rfl rfl)
theorem dX1_rightsOf_6 : decode cX1_rightsOf 6 = .ok (.getfield 36, 3) := dk_180 0 36 (dk_at dksX1_rightsOf_0 6 rfl rfl)
theorem dX1_rightsOf_9 : decode cX1_rightsOf 9 = .ok (.iload_n 1, 1) := dk_27 (dk_at dksX1_rightsOf_0 9 rfl rfl)
theorem dX1_rightsOf_10 : decode cX1_rightsOf 10 = .ok (.invokevirtual 98, 3) := dk_182 0 98 (dk_at dksX1_rightsOf_0 10 rfl rfl)
theorem dX1_rightsOf_13 : decode cX1_rightsOf 13 = .ok (.bastore, 1) := dk_84 (dk_at dksX1_rightsOf_0 13 rfl rfl)
theorem dX1_rightsOf_14 : decode cX1_rightsOf 14 = .ok (.dup, 1) := dk_89 (dk_at dksX1_rightsOf_0 14 rfl rfl)
theorem dX1_rightsOf_15 : decode cX1_rightsOf 15 = .ok (.iconst 1, 1) := dk_4 (dk_at dksX1_rightsOf_0 15 rfl rfl)
theorem dX1_rightsOf_16 : decode cX1_rightsOf 16 = .ok (.aload_n 0, 1) := dk_42 (dk_at dksX1_rightsOf_0 16 rfl rfl)
theorem dX1_rightsOf_17 : decode cX1_rightsOf 17 = .ok (.getfield 36, 3) := dk_180 0 36 (dk_at dksX1_rightsOf_0 17 rfl rfl)
theorem dX1_rightsOf_20 : decode cX1_rightsOf 20 = .ok (.iload_n 2, 1) := dk_28 (dk_at dksX1_rightsOf_0 20 rfl rfl)
theorem dX1_rightsOf_21 : decode cX1_rightsOf 21 = .ok (.invokevirtual 122, 3) := dk_182 0 122 (dk_at dksX1_rightsOf_0 21 rfl rfl)
theorem dX1_rightsOf_24 : decode cX1_rightsOf 24 = .ok (.bastore, 1) := dk_84 (dk_at dksX1_rightsOf_1 0 rfl rfl)
theorem dX1_rightsOf_25 : decode cX1_rightsOf 25 = .ok (.invokestatic 105, 3) := dk_184 0 105 (dk_at dksX1_rightsOf_1 1 rfl rfl)
theorem dX1_rightsOf_28 : decode cX1_rightsOf 28 = .ok (.aload_n 0, 1) := dk_42 (dk_at dksX1_rightsOf_1 4 rfl rfl)
theorem dX1_rightsOf_29 : decode cX1_rightsOf 29 = .ok (.getfield 36, 3) := dk_180 0 36 (dk_at dksX1_rightsOf_1 5 rfl rfl)
theorem dX1_rightsOf_32 : decode cX1_rightsOf 32 = .ok (.iload_n 1, 1) := dk_27 (dk_at dksX1_rightsOf_1 8 rfl rfl)
theorem dX1_rightsOf_33 : decode cX1_rightsOf 33 = .ok (.iload_n 2, 1) := dk_28 (dk_at dksX1_rightsOf_1 9 rfl rfl)
theorem dX1_rightsOf_34 : decode cX1_rightsOf 34 = .ok (.invokevirtual 312, 3) := dk_182 1 56 (dk_at dksX1_rightsOf_1 10 rfl rfl)
theorem dX1_rightsOf_37 : decode cX1_rightsOf 37 = .ok (.ireturn, 1) := dk_172 (dk_at dksX1_rightsOf_1 13 rfl rfl)
abbrev cX1_decidingObject : ByteArray := prog_1_method_68_code
def yX1_decidingObject : MethodName := ⟨RX1, "decidingObject", "(III)I"⟩
def dkwX1_decidingObject_1 : List UInt8 := [2, 167, 0, 8, 21, 4, 16, 8, 108, 172]
abbrev dktX1_decidingObject_1 : List UInt8 := dkwX1_decidingObject_1 ++ []
def dkwX1_decidingObject_0 : List UInt8 := [42, 27, 28, 29, 182, 1, 46, 42, 180, 0, 36, 27, 28, 29, 182, 1, 58, 54, 4, 21, 4, 156, 0, 7]
abbrev dktX1_decidingObject_0 : List UInt8 := dkwX1_decidingObject_0 ++ dktX1_decidingObject_1
theorem dksX1_decidingObject_0 : cX1_decidingObject.data.toList.drop 0 = dktX1_decidingObject_0 := by decide +kernel
theorem dksX1_decidingObject_1 : cX1_decidingObject.data.toList.drop 24 = dktX1_decidingObject_1 := dk_seg dksX1_decidingObject_0 24 rfl rfl
theorem dX1_decidingObject_0 : decode cX1_decidingObject 0 = .ok (.aload_n 0, 1) := dk_42 (dk_at dksX1_decidingObject_0 0 rfl rfl)
theorem dX1_decidingObject_1 : decode cX1_decidingObject 1 = .ok (.iload_n 1, 1) := dk_27 (dk_at dksX1_decidingObject_0 1 rfl rfl)
theorem dX1_decidingObject_2 : decode cX1_decidingObject 2 = .ok (.iload_n 2, 1) := dk_28 (dk_at dksX1_decidingObject_0 2 rfl rfl)
theorem dX1_decidingObject_3 : decode cX1_decidingObject 3 = .ok (.iload_n 3, 1) := dk_29 (dk_at dksX1_decidingObject_0 3 rfl rfl)
theorem dX1_decidingObject_4 : decode cX1_decidingObject 4 = .ok (.invokevirtual 302, 3) := dk_182 1 46 (dk_at dksX1_decidingObject_0 4 rfl rfl)
theorem dX1_decidingObject_7 : decode cX1_decidingObject 7 = .ok (.aload_n 0, 1) := dk_42 (dk_at dksX1_decidingObject_0 7 rfl rfl)
theorem dX1_decidingObject_8 : decode cX1_decidingObject 8 = .ok (.getfield 36, 3) := dk_180 0 36 (dk_at dksX1_decidingObject_0 8 rfl rfl)
theorem dX1_decidingObject_11 : decode cX1_decidingObject 11 = .ok (.iload_n 1, 1) := dk_27 (dk_at dksX1_decidingObject_0 11 rfl rfl)
theorem dX1_decidingObject_12 : decode cX1_decidingObject 12 = .ok (.iload_n 2, 1) := dk_28 (dk_at dksX1_decidingObject_0 12 rfl rfl)
theorem dX1_decidingObject_13 : decode cX1_decidingObject 13 = .ok (.iload_n 3, 1) := dk_29 (dk_at dksX1_decidingObject_0 13 rfl rfl)
theorem dX1_decidingObject_14 : decode cX1_decidingObject 14 = .ok (.invokevirtual 314, 3) := dk_182 1 58 (dk_at dksX1_decidingObject_0 14 rfl rfl)
theorem dX1_decidingObject_17 : decode cX1_decidingObject 17 = .ok (.istore 4, 2) := dk_54 4 (dk_at dksX1_decidingObject_0 17 rfl rfl)
theorem dX1_decidingObject_19 : decode cX1_decidingObject 19 = .ok (.iload 4, 2) := dk_21 4 (dk_at dksX1_decidingObject_0 19 rfl rfl)
theorem dX1_decidingObject_21 : decode cX1_decidingObject 21 = .ok (.ifCond .ge 7, 3) := dk_156 0 7 (dk_at dksX1_decidingObject_0 21 rfl rfl)
theorem dX1_decidingObject_24 : decode cX1_decidingObject 24 = .ok (.iconst (-1), 1) := dk_2 (dk_at dksX1_decidingObject_1 0 rfl rfl)
theorem dX1_decidingObject_25 : decode cX1_decidingObject 25 = .ok (.goto 8, 3) := dk_167 0 8 (dk_at dksX1_decidingObject_1 1 rfl rfl)
theorem dX1_decidingObject_28 : decode cX1_decidingObject 28 = .ok (.iload 4, 2) := dk_21 4 (dk_at dksX1_decidingObject_1 4 rfl rfl)
theorem dX1_decidingObject_30 : decode cX1_decidingObject 30 = .ok (.bipush 8, 2) := dk_16 8 (dk_at dksX1_decidingObject_1 6 rfl rfl)
theorem dX1_decidingObject_32 : decode cX1_decidingObject 32 = .ok (.idiv, 1) := dk_108 (dk_at dksX1_decidingObject_1 8 rfl rfl)
theorem dX1_decidingObject_33 : decode cX1_decidingObject 33 = .ok (.ireturn, 1) := dk_172 (dk_at dksX1_decidingObject_1 9 rfl rfl)
abbrev cX1_decidingEntry : ByteArray := prog_1_method_69_code
def yX1_decidingEntry : MethodName := ⟨RX1, "decidingEntry", "(III)I"⟩
def dkwX1_decidingEntry_1 : List UInt8 := [2, 167, 0, 8, 21, 4, 16, 8, 112, 172]
abbrev dktX1_decidingEntry_1 : List UInt8 := dkwX1_decidingEntry_1 ++ []
def dkwX1_decidingEntry_0 : List UInt8 := [42, 27, 28, 29, 182, 1, 46, 42, 180, 0, 36, 27, 28, 29, 182, 1, 58, 54, 4, 21, 4, 156, 0, 7]
abbrev dktX1_decidingEntry_0 : List UInt8 := dkwX1_decidingEntry_0 ++ dktX1_decidingEntry_1
theorem dksX1_decidingEntry_0 : cX1_decidingEntry.data.toList.drop 0 = dktX1_decidingEntry_0 := by decide +kernel
theorem dksX1_decidingEntry_1 : cX1_decidingEntry.data.toList.drop 24 = dktX1_decidingEntry_1 := dk_seg dksX1_decidingEntry_0 24 rfl rfl
theorem dX1_decidingEntry_0 : decode cX1_decidingEntry 0 = .ok (.aload_n 0, 1) := dk_42 (dk_at dksX1_decidingEntry_0 0 rfl rfl)
theorem dX1_decidingEntry_1 : decode cX1_decidingEntry 1 = .ok (.iload_n 1, 1) := dk_27 (dk_at dksX1_decidingEntry_0 1 rfl rfl)
theorem dX1_decidingEntry_2 : decode cX1_decidingEntry 2 = .ok (.iload_n 2, 1) := dk_28 (dk_at dksX1_decidingEntry_0 2 rfl rfl)
theorem dX1_decidingEntry_3 : decode cX1_decidingEntry 3 = .ok (.iload_n 3, 1) := dk_29 (dk_at dksX1_decidingEntry_0 3 rfl rfl)
theorem dX1_decidingEntry_4 : decode cX1_decidingEntry 4 = .ok (.invokevirtual 302, 3) := dk_182 1 46 (dk_at dksX1_decidingEntry_0 4 rfl rfl)
theorem dX1_decidingEntry_7 : decode cX1_decidingEntry 7 = .ok (.aload_n 0, 1) := dk_42 (dk_at dksX1_decidingEntry_0 7 rfl rfl)
theorem dX1_decidingEntry_8 : decode cX1_decidingEntry 8 = .ok (.getfield 36, 3) := dk_180 0 36 (dk_at dksX1_decidingEntry_0 8 rfl rfl)
theorem dX1_decidingEntry_11 : decode cX1_decidingEntry 11 = .ok (.iload_n 1, 1) := dk_27 (dk_at dksX1_decidingEntry_0 11 rfl rfl)
theorem dX1_decidingEntry_12 : decode cX1_decidingEntry 12 = .ok (.iload_n 2, 1) := dk_28 (dk_at dksX1_decidingEntry_0 12 rfl rfl)
theorem dX1_decidingEntry_13 : decode cX1_decidingEntry 13 = .ok (.iload_n 3, 1) := dk_29 (dk_at dksX1_decidingEntry_0 13 rfl rfl)
theorem dX1_decidingEntry_14 : decode cX1_decidingEntry 14 = .ok (.invokevirtual 314, 3) := dk_182 1 58 (dk_at dksX1_decidingEntry_0 14 rfl rfl)
theorem dX1_decidingEntry_17 : decode cX1_decidingEntry 17 = .ok (.istore 4, 2) := dk_54 4 (dk_at dksX1_decidingEntry_0 17 rfl rfl)
theorem dX1_decidingEntry_19 : decode cX1_decidingEntry 19 = .ok (.iload 4, 2) := dk_21 4 (dk_at dksX1_decidingEntry_0 19 rfl rfl)
theorem dX1_decidingEntry_21 : decode cX1_decidingEntry 21 = .ok (.ifCond .ge 7, 3) := dk_156 0 7 (dk_at dksX1_decidingEntry_0 21 rfl rfl)
theorem dX1_decidingEntry_24 : decode cX1_decidingEntry 24 = .ok (.iconst (-1), 1) := dk_2 (dk_at dksX1_decidingEntry_1 0 rfl rfl)
theorem dX1_decidingEntry_25 : decode cX1_decidingEntry 25 = .ok (.goto 8, 3) := dk_167 0 8 (dk_at dksX1_decidingEntry_1 1 rfl rfl)
theorem dX1_decidingEntry_28 : decode cX1_decidingEntry 28 = .ok (.iload 4, 2) := dk_21 4 (dk_at dksX1_decidingEntry_1 4 rfl rfl)
theorem dX1_decidingEntry_30 : decode cX1_decidingEntry 30 = .ok (.bipush 8, 2) := dk_16 8 (dk_at dksX1_decidingEntry_1 6 rfl rfl)
theorem dX1_decidingEntry_32 : decode cX1_decidingEntry 32 = .ok (.irem, 1) := dk_112 (dk_at dksX1_decidingEntry_1 8 rfl rfl)
theorem dX1_decidingEntry_33 : decode cX1_decidingEntry 33 = .ok (.ireturn, 1) := dk_172 (dk_at dksX1_decidingEntry_1 9 rfl rfl)
abbrev cX1_isStoppedByMask : ByteArray := prog_1_method_70_code
def yX1_isStoppedByMask : MethodName := ⟨RX1, "isStoppedByMask", "(III)Z"⟩
def dkwX1_isStoppedByMask_0 : List UInt8 := [42, 27, 28, 29, 182, 1, 46, 42, 180, 0, 36, 27, 28, 29, 182, 1, 61, 172]
abbrev dktX1_isStoppedByMask_0 : List UInt8 := dkwX1_isStoppedByMask_0 ++ []
theorem dksX1_isStoppedByMask_0 : cX1_isStoppedByMask.data.toList.drop 0 = dktX1_isStoppedByMask_0 := by decide +kernel
theorem dX1_isStoppedByMask_0 : decode cX1_isStoppedByMask 0 = .ok (.aload_n 0, 1) := dk_42 (dk_at dksX1_isStoppedByMask_0 0 rfl rfl)
theorem dX1_isStoppedByMask_1 : decode cX1_isStoppedByMask 1 = .ok (.iload_n 1, 1) := dk_27 (dk_at dksX1_isStoppedByMask_0 1 rfl rfl)
theorem dX1_isStoppedByMask_2 : decode cX1_isStoppedByMask 2 = .ok (.iload_n 2, 1) := dk_28 (dk_at dksX1_isStoppedByMask_0 2 rfl rfl)
theorem dX1_isStoppedByMask_3 : decode cX1_isStoppedByMask 3 = .ok (.iload_n 3, 1) := dk_29 (dk_at dksX1_isStoppedByMask_0 3 rfl rfl)
theorem dX1_isStoppedByMask_4 : decode cX1_isStoppedByMask 4 = .ok (.invokevirtual 302, 3) := dk_182 1 46 (dk_at dksX1_isStoppedByMask_0 4 rfl rfl)
theorem dX1_isStoppedByMask_7 : decode cX1_isStoppedByMask 7 = .ok (.aload_n 0, 1) := dk_42 (dk_at dksX1_isStoppedByMask_0 7 rfl rfl)
theorem dX1_isStoppedByMask_8 : decode cX1_isStoppedByMask 8 = .ok (.getfield 36, 3) := dk_180 0 36 (dk_at dksX1_isStoppedByMask_0 8 rfl rfl)
theorem dX1_isStoppedByMask_11 : decode cX1_isStoppedByMask 11 = .ok (.iload_n 1, 1) := dk_27 (dk_at dksX1_isStoppedByMask_0 11 rfl rfl)
theorem dX1_isStoppedByMask_12 : decode cX1_isStoppedByMask 12 = .ok (.iload_n 2, 1) := dk_28 (dk_at dksX1_isStoppedByMask_0 12 rfl rfl)
theorem dX1_isStoppedByMask_13 : decode cX1_isStoppedByMask 13 = .ok (.iload_n 3, 1) := dk_29 (dk_at dksX1_isStoppedByMask_0 13 rfl rfl)
theorem dX1_isStoppedByMask_14 : decode cX1_isStoppedByMask 14 = .ok (.invokevirtual 317, 3) := dk_182 1 61 (dk_at dksX1_isStoppedByMask_0 14 rfl rfl)
theorem dX1_isStoppedByMask_17 : decode cX1_isStoppedByMask 17 = .ok (.ireturn, 1) := dk_172 (dk_at dksX1_isStoppedByMask_0 17 rfl rfl)
abbrev cX1_usersWith : ByteArray := prog_1_method_71_code
def yX1_usersWith : MethodName := ⟨RX1, "usersWith", "(II)I"⟩
def dkwX1_usersWith_1 : List UInt8 := [180, 0, 36, 27, 28, 182, 1, 64, 172]
abbrev dktX1_usersWith_1 : List UInt8 := dkwX1_usersWith_1 ++ []
def dkwX1_usersWith_0 : List UInt8 := [4, 188, 4, 89, 3, 42, 180, 0, 36, 27, 182, 0, 122, 84, 184, 0, 105, 28, 184, 0, 185, 42]
abbrev dktX1_usersWith_0 : List UInt8 := dkwX1_usersWith_0 ++ dktX1_usersWith_1
theorem dksX1_usersWith_0 : cX1_usersWith.data.toList.drop 0 = dktX1_usersWith_0 := by decide +kernel
theorem dksX1_usersWith_1 : cX1_usersWith.data.toList.drop 22 = dktX1_usersWith_1 := dk_seg dksX1_usersWith_0 22 rfl rfl
theorem dX1_usersWith_0 : decode cX1_usersWith 0 = .ok (.iconst 1, 1) := dk_4 (dk_at dksX1_usersWith_0 0 rfl rfl)
theorem dX1_usersWith_1 : decode cX1_usersWith 1 = .ok (.newarray .boolean, 2) := dk_188_4 (dk_at dksX1_usersWith_0 1 rfl rfl)
theorem dX1_usersWith_3 : decode cX1_usersWith 3 = .ok (.dup, 1) := dk_89 (dk_at dksX1_usersWith_0 3 rfl rfl)
theorem dX1_usersWith_4 : decode cX1_usersWith 4 = .ok (.iconst 0, 1) := dk_3 (dk_at dksX1_usersWith_0 4 rfl rfl)
theorem dX1_usersWith_5 : decode cX1_usersWith 5 = .ok (.aload_n 0, 1) := dk_42 (dk_at dksX1_usersWith_0 5 rfl rfl)
theorem dX1_usersWith_6 : decode cX1_usersWith 6 = .ok (.getfield 36, 3) := dk_180 0 36 (dk_at dksX1_usersWith_0 6 rfl rfl)
theorem dX1_usersWith_9 : decode cX1_usersWith 9 = .ok (.iload_n 1, 1) := dk_27 (dk_at dksX1_usersWith_0 9 rfl rfl)
theorem dX1_usersWith_10 : decode cX1_usersWith 10 = .ok (.invokevirtual 122, 3) := dk_182 0 122 (dk_at dksX1_usersWith_0 10 rfl rfl)
theorem dX1_usersWith_13 : decode cX1_usersWith 13 = .ok (.bastore, 1) := dk_84 (dk_at dksX1_usersWith_0 13 rfl rfl)
theorem dX1_usersWith_14 : decode cX1_usersWith 14 = .ok (.invokestatic 105, 3) := dk_184 0 105 (dk_at dksX1_usersWith_0 14 rfl rfl)
theorem dX1_usersWith_17 : decode cX1_usersWith 17 = .ok (.iload_n 2, 1) := dk_28 (dk_at dksX1_usersWith_0 17 rfl rfl)
theorem dX1_usersWith_18 : decode cX1_usersWith 18 = .ok (.invokestatic 185, 3) := dk_184 0 185 (dk_at dksX1_usersWith_0 18 rfl rfl)
theorem dX1_usersWith_21 : decode cX1_usersWith 21 = .ok (.aload_n 0, 1) := dk_42 (dk_at dksX1_usersWith_0 21 rfl rfl)
theorem dX1_usersWith_22 : decode cX1_usersWith 22 = .ok (.getfield 36, 3) := dk_180 0 36 (dk_at dksX1_usersWith_1 0 rfl rfl)
theorem dX1_usersWith_25 : decode cX1_usersWith 25 = .ok (.iload_n 1, 1) := dk_27 (dk_at dksX1_usersWith_1 3 rfl rfl)
theorem dX1_usersWith_26 : decode cX1_usersWith 26 = .ok (.iload_n 2, 1) := dk_28 (dk_at dksX1_usersWith_1 4 rfl rfl)
theorem dX1_usersWith_27 : decode cX1_usersWith 27 = .ok (.invokevirtual 320, 3) := dk_182 1 64 (dk_at dksX1_usersWith_1 5 rfl rfl)
theorem dX1_usersWith_30 : decode cX1_usersWith 30 = .ok (.ireturn, 1) := dk_172 (dk_at dksX1_usersWith_1 8 rfl rfl)
abbrev cX1_rightsThrough : ByteArray := prog_1_method_72_code
def yX1_rightsThrough : MethodName := ⟨RX1, "rightsThrough", "(II)I"⟩
def dkwX1_rightsThrough_1 : List UInt8 := [84, 184, 0, 105, 42, 180, 0, 36, 27, 28, 182, 1, 67, 172]
abbrev dktX1_rightsThrough_1 : List UInt8 := dkwX1_rightsThrough_1 ++ []
def dkwX1_rightsThrough_0 : List UInt8 := [5, 188, 4, 89, 3, 42, 180, 0, 36, 27, 182, 0, 98, 84, 89, 4, 42, 180, 0, 36, 28, 182, 0, 102]
abbrev dktX1_rightsThrough_0 : List UInt8 := dkwX1_rightsThrough_0 ++ dktX1_rightsThrough_1
theorem dksX1_rightsThrough_0 : cX1_rightsThrough.data.toList.drop 0 = dktX1_rightsThrough_0 := by decide +kernel
theorem dksX1_rightsThrough_1 : cX1_rightsThrough.data.toList.drop 24 = dktX1_rightsThrough_1 := dk_seg dksX1_rightsThrough_0 24 rfl rfl
theorem dX1_rightsThrough_0 : decode cX1_rightsThrough 0 = .ok (.iconst 2, 1) := dk_5 (dk_at dksX1_rightsThrough_0 0 rfl rfl)
theorem dX1_rightsThrough_1 : decode cX1_rightsThrough 1 = .ok (.newarray .boolean, 2) := dk_188_4 (dk_at dksX1_rightsThrough_0 1 rfl rfl)
theorem dX1_rightsThrough_3 : decode cX1_rightsThrough 3 = .ok (.dup, 1) := dk_89 (dk_at dksX1_rightsThrough_0 3 rfl rfl)
theorem dX1_rightsThrough_4 : decode cX1_rightsThrough 4 = .ok (.iconst 0, 1) := dk_3 (dk_at dksX1_rightsThrough_0 4 rfl rfl)
theorem dX1_rightsThrough_5 : decode cX1_rightsThrough 5 = .ok (.aload_n 0, 1) := dk_42 (dk_at dksX1_rightsThrough_0 5 rfl rfl)
theorem dX1_rightsThrough_6 : decode cX1_rightsThrough 6 = .ok (.getfield 36, 3) := dk_180 0 36 (dk_at dksX1_rightsThrough_0 6 rfl rfl)
theorem dX1_rightsThrough_9 : decode cX1_rightsThrough 9 = .ok (.iload_n 1, 1) := dk_27 (dk_at dksX1_rightsThrough_0 9 rfl rfl)
theorem dX1_rightsThrough_10 : decode cX1_rightsThrough 10 = .ok (.invokevirtual 98, 3) := dk_182 0 98 (dk_at dksX1_rightsThrough_0 10 rfl rfl)
theorem dX1_rightsThrough_13 : decode cX1_rightsThrough 13 = .ok (.bastore, 1) := dk_84 (dk_at dksX1_rightsThrough_0 13 rfl rfl)
theorem dX1_rightsThrough_14 : decode cX1_rightsThrough 14 = .ok (.dup, 1) := dk_89 (dk_at dksX1_rightsThrough_0 14 rfl rfl)
theorem dX1_rightsThrough_15 : decode cX1_rightsThrough 15 = .ok (.iconst 1, 1) := dk_4 (dk_at dksX1_rightsThrough_0 15 rfl rfl)
theorem dX1_rightsThrough_16 : decode cX1_rightsThrough 16 = .ok (.aload_n 0, 1) := dk_42 (dk_at dksX1_rightsThrough_0 16 rfl rfl)
theorem dX1_rightsThrough_17 : decode cX1_rightsThrough 17 = .ok (.getfield 36, 3) := dk_180 0 36 (dk_at dksX1_rightsThrough_0 17 rfl rfl)
theorem dX1_rightsThrough_20 : decode cX1_rightsThrough 20 = .ok (.iload_n 2, 1) := dk_28 (dk_at dksX1_rightsThrough_0 20 rfl rfl)
theorem dX1_rightsThrough_21 : decode cX1_rightsThrough 21 = .ok (.invokevirtual 102, 3) := dk_182 0 102 (dk_at dksX1_rightsThrough_0 21 rfl rfl)
theorem dX1_rightsThrough_24 : decode cX1_rightsThrough 24 = .ok (.bastore, 1) := dk_84 (dk_at dksX1_rightsThrough_1 0 rfl rfl)
theorem dX1_rightsThrough_25 : decode cX1_rightsThrough 25 = .ok (.invokestatic 105, 3) := dk_184 0 105 (dk_at dksX1_rightsThrough_1 1 rfl rfl)
theorem dX1_rightsThrough_28 : decode cX1_rightsThrough 28 = .ok (.aload_n 0, 1) := dk_42 (dk_at dksX1_rightsThrough_1 4 rfl rfl)
theorem dX1_rightsThrough_29 : decode cX1_rightsThrough 29 = .ok (.getfield 36, 3) := dk_180 0 36 (dk_at dksX1_rightsThrough_1 5 rfl rfl)
theorem dX1_rightsThrough_32 : decode cX1_rightsThrough 32 = .ok (.iload_n 1, 1) := dk_27 (dk_at dksX1_rightsThrough_1 8 rfl rfl)
theorem dX1_rightsThrough_33 : decode cX1_rightsThrough 33 = .ok (.iload_n 2, 1) := dk_28 (dk_at dksX1_rightsThrough_1 9 rfl rfl)
theorem dX1_rightsThrough_34 : decode cX1_rightsThrough 34 = .ok (.invokevirtual 323, 3) := dk_182 1 67 (dk_at dksX1_rightsThrough_1 10 rfl rfl)
theorem dX1_rightsThrough_37 : decode cX1_rightsThrough 37 = .ok (.ireturn, 1) := dk_172 (dk_at dksX1_rightsThrough_1 13 rfl rfl)
abbrev cX1_isNeedless : ByteArray := prog_1_method_73_code
def yX1_isNeedless : MethodName := ⟨RX1, "isNeedless", "(II)Z"⟩
def dkwX1_isNeedless_1 : List UInt8 := [172]
abbrev dktX1_isNeedless_1 : List UInt8 := dkwX1_isNeedless_1 ++ []
def dkwX1_isNeedless_0 : List UInt8 := [4, 188, 4, 89, 3, 42, 27, 28, 182, 0, 174, 84, 184, 0, 105, 42, 180, 0, 36, 27, 28, 182, 1, 70]
abbrev dktX1_isNeedless_0 : List UInt8 := dkwX1_isNeedless_0 ++ dktX1_isNeedless_1
theorem dksX1_isNeedless_0 : cX1_isNeedless.data.toList.drop 0 = dktX1_isNeedless_0 := by decide +kernel
theorem dksX1_isNeedless_1 : cX1_isNeedless.data.toList.drop 24 = dktX1_isNeedless_1 := dk_seg dksX1_isNeedless_0 24 rfl rfl
theorem dX1_isNeedless_0 : decode cX1_isNeedless 0 = .ok (.iconst 1, 1) := dk_4 (dk_at dksX1_isNeedless_0 0 rfl rfl)
theorem dX1_isNeedless_1 : decode cX1_isNeedless 1 = .ok (.newarray .boolean, 2) := dk_188_4 (dk_at dksX1_isNeedless_0 1 rfl rfl)
theorem dX1_isNeedless_3 : decode cX1_isNeedless 3 = .ok (.dup, 1) := dk_89 (dk_at dksX1_isNeedless_0 3 rfl rfl)
theorem dX1_isNeedless_4 : decode cX1_isNeedless 4 = .ok (.iconst 0, 1) := dk_3 (dk_at dksX1_isNeedless_0 4 rfl rfl)
theorem dX1_isNeedless_5 : decode cX1_isNeedless 5 = .ok (.aload_n 0, 1) := dk_42 (dk_at dksX1_isNeedless_0 5 rfl rfl)
theorem dX1_isNeedless_6 : decode cX1_isNeedless 6 = .ok (.iload_n 1, 1) := dk_27 (dk_at dksX1_isNeedless_0 6 rfl rfl)
theorem dX1_isNeedless_7 : decode cX1_isNeedless 7 = .ok (.iload_n 2, 1) := dk_28 (dk_at dksX1_isNeedless_0 7 rfl rfl)
theorem dX1_isNeedless_8 : decode cX1_isNeedless 8 = .ok (.invokevirtual 174, 3) := dk_182 0 174 (dk_at dksX1_isNeedless_0 8 rfl rfl)
theorem dX1_isNeedless_11 : decode cX1_isNeedless 11 = .ok (.bastore, 1) := dk_84 (dk_at dksX1_isNeedless_0 11 rfl rfl)
theorem dX1_isNeedless_12 : decode cX1_isNeedless 12 = .ok (.invokestatic 105, 3) := dk_184 0 105 (dk_at dksX1_isNeedless_0 12 rfl rfl)
theorem dX1_isNeedless_15 : decode cX1_isNeedless 15 = .ok (.aload_n 0, 1) := dk_42 (dk_at dksX1_isNeedless_0 15 rfl rfl)
theorem dX1_isNeedless_16 : decode cX1_isNeedless 16 = .ok (.getfield 36, 3) := dk_180 0 36 (dk_at dksX1_isNeedless_0 16 rfl rfl)
theorem dX1_isNeedless_19 : decode cX1_isNeedless 19 = .ok (.iload_n 1, 1) := dk_27 (dk_at dksX1_isNeedless_0 19 rfl rfl)
theorem dX1_isNeedless_20 : decode cX1_isNeedless 20 = .ok (.iload_n 2, 1) := dk_28 (dk_at dksX1_isNeedless_0 20 rfl rfl)
theorem dX1_isNeedless_21 : decode cX1_isNeedless 21 = .ok (.invokevirtual 326, 3) := dk_182 1 70 (dk_at dksX1_isNeedless_0 21 rfl rfl)
theorem dX1_isNeedless_24 : decode cX1_isNeedless 24 = .ok (.ireturn, 1) := dk_172 (dk_at dksX1_isNeedless_1 0 rfl rfl)
abbrev cX1_userOfRequest : ByteArray := prog_1_method_79_code
def yX1_userOfRequest : MethodName := ⟨RX1, "userOfRequest", "(I)I"⟩
def dkwX1_userOfRequest_0 : List UInt8 := [42, 27, 182, 1, 91, 180, 1, 95, 172]
abbrev dktX1_userOfRequest_0 : List UInt8 := dkwX1_userOfRequest_0 ++ []
theorem dksX1_userOfRequest_0 : cX1_userOfRequest.data.toList.drop 0 = dktX1_userOfRequest_0 := by decide +kernel
theorem dX1_userOfRequest_0 : decode cX1_userOfRequest 0 = .ok (.aload_n 0, 1) := dk_42 (dk_at dksX1_userOfRequest_0 0 rfl rfl)
theorem dX1_userOfRequest_1 : decode cX1_userOfRequest 1 = .ok (.iload_n 1, 1) := dk_27 (dk_at dksX1_userOfRequest_0 1 rfl rfl)
theorem dX1_userOfRequest_2 : decode cX1_userOfRequest 2 = .ok (.invokevirtual 347, 3) := dk_182 1 91 (dk_at dksX1_userOfRequest_0 2 rfl rfl)
theorem dX1_userOfRequest_5 : decode cX1_userOfRequest 5 = .ok (.getfield 351, 3) := dk_180 1 95 (dk_at dksX1_userOfRequest_0 5 rfl rfl)
theorem dX1_userOfRequest_8 : decode cX1_userOfRequest 8 = .ok (.ireturn, 1) := dk_172 (dk_at dksX1_userOfRequest_0 8 rfl rfl)
abbrev cX1_request : ByteArray := prog_1_method_76_code
def yX1_request : MethodName := ⟨RX1, "request", "(I)LPermissionDesk$Request;"⟩
def dkwX1_request_1 : List UInt8 := [184, 0, 105, 42, 180, 0, 36, 180, 1, 76, 27, 182, 1, 79, 192, 1, 83, 176]
abbrev dktX1_request_1 : List UInt8 := dkwX1_request_1 ++ []
def dkwX1_request_0 : List UInt8 := [4, 188, 4, 89, 3, 27, 3, 42, 180, 0, 36, 180, 1, 76, 182, 0, 58, 4, 100, 184, 0, 15, 84]
abbrev dktX1_request_0 : List UInt8 := dkwX1_request_0 ++ dktX1_request_1
theorem dksX1_request_0 : cX1_request.data.toList.drop 0 = dktX1_request_0 := by decide +kernel
theorem dksX1_request_1 : cX1_request.data.toList.drop 23 = dktX1_request_1 := dk_seg dksX1_request_0 23 rfl rfl
theorem dX1_request_0 : decode cX1_request 0 = .ok (.iconst 1, 1) := dk_4 (dk_at dksX1_request_0 0 rfl rfl)
theorem dX1_request_1 : decode cX1_request 1 = .ok (.newarray .boolean, 2) := dk_188_4 (dk_at dksX1_request_0 1 rfl rfl)
theorem dX1_request_3 : decode cX1_request 3 = .ok (.dup, 1) := dk_89 (dk_at dksX1_request_0 3 rfl rfl)
theorem dX1_request_4 : decode cX1_request 4 = .ok (.iconst 0, 1) := dk_3 (dk_at dksX1_request_0 4 rfl rfl)
theorem dX1_request_5 : decode cX1_request 5 = .ok (.iload_n 1, 1) := dk_27 (dk_at dksX1_request_0 5 rfl rfl)
theorem dX1_request_6 : decode cX1_request 6 = .ok (.iconst 0, 1) := dk_3 (dk_at dksX1_request_0 6 rfl rfl)
theorem dX1_request_7 : decode cX1_request 7 = .ok (.aload_n 0, 1) := dk_42 (dk_at dksX1_request_0 7 rfl rfl)
theorem dX1_request_8 : decode cX1_request 8 = .ok (.getfield 36, 3) := dk_180 0 36 (dk_at dksX1_request_0 8 rfl rfl)
theorem dX1_request_11 : decode cX1_request 11 = .ok (.getfield 332, 3) := dk_180 1 76 (dk_at dksX1_request_0 11 rfl rfl)
theorem dX1_request_14 : decode cX1_request 14 = .ok (.invokevirtual 58, 3) := dk_182 0 58 (dk_at dksX1_request_0 14 rfl rfl)
theorem dX1_request_17 : decode cX1_request 17 = .ok (.iconst 1, 1) := dk_4 (dk_at dksX1_request_0 17 rfl rfl)
theorem dX1_request_18 : decode cX1_request 18 = .ok (.isub, 1) := dk_100 (dk_at dksX1_request_0 18 rfl rfl)
theorem dX1_request_19 : decode cX1_request 19 = .ok (.invokestatic 15, 3) := dk_184 0 15 (dk_at dksX1_request_0 19 rfl rfl)
theorem dX1_request_22 : decode cX1_request 22 = .ok (.bastore, 1) := dk_84 (dk_at dksX1_request_0 22 rfl rfl)
theorem dX1_request_23 : decode cX1_request 23 = .ok (.invokestatic 105, 3) := dk_184 0 105 (dk_at dksX1_request_1 0 rfl rfl)
theorem dX1_request_26 : decode cX1_request 26 = .ok (.aload_n 0, 1) := dk_42 (dk_at dksX1_request_1 3 rfl rfl)
theorem dX1_request_27 : decode cX1_request 27 = .ok (.getfield 36, 3) := dk_180 0 36 (dk_at dksX1_request_1 4 rfl rfl)
theorem dX1_request_30 : decode cX1_request 30 = .ok (.getfield 332, 3) := dk_180 1 76 (dk_at dksX1_request_1 7 rfl rfl)
theorem dX1_request_33 : decode cX1_request 33 = .ok (.iload_n 1, 1) := dk_27 (dk_at dksX1_request_1 10 rfl rfl)
theorem dX1_request_34 : decode cX1_request 34 = .ok (.invokevirtual 335, 3) := dk_182 1 79 (dk_at dksX1_request_1 11 rfl rfl)
theorem dX1_request_37 : decode cX1_request 37 = .ok (.checkcast 339, 3) := dk_192 1 83 (dk_at dksX1_request_1 14 rfl rfl)
theorem dX1_request_40 : decode cX1_request 40 = .ok (.areturn, 1) := dk_176 (dk_at dksX1_request_1 17 rfl rfl)
abbrev cX1_objectOfRequest : ByteArray := prog_1_method_80_code
def yX1_objectOfRequest : MethodName := ⟨RX1, "objectOfRequest", "(I)I"⟩
def dkwX1_objectOfRequest_0 : List UInt8 := [42, 27, 182, 1, 91, 180, 1, 98, 172]
abbrev dktX1_objectOfRequest_0 : List UInt8 := dkwX1_objectOfRequest_0 ++ []
theorem dksX1_objectOfRequest_0 : cX1_objectOfRequest.data.toList.drop 0 = dktX1_objectOfRequest_0 := by decide +kernel
theorem dX1_objectOfRequest_0 : decode cX1_objectOfRequest 0 = .ok (.aload_n 0, 1) := dk_42 (dk_at dksX1_objectOfRequest_0 0 rfl rfl)
theorem dX1_objectOfRequest_1 : decode cX1_objectOfRequest 1 = .ok (.iload_n 1, 1) := dk_27 (dk_at dksX1_objectOfRequest_0 1 rfl rfl)
theorem dX1_objectOfRequest_2 : decode cX1_objectOfRequest 2 = .ok (.invokevirtual 347, 3) := dk_182 1 91 (dk_at dksX1_objectOfRequest_0 2 rfl rfl)
theorem dX1_objectOfRequest_5 : decode cX1_objectOfRequest 5 = .ok (.getfield 354, 3) := dk_180 1 98 (dk_at dksX1_objectOfRequest_0 5 rfl rfl)
theorem dX1_objectOfRequest_8 : decode cX1_objectOfRequest 8 = .ok (.ireturn, 1) := dk_172 (dk_at dksX1_objectOfRequest_0 8 rfl rfl)
abbrev cX1_wasAllowed : ByteArray := prog_1_method_81_code
def yX1_wasAllowed : MethodName := ⟨RX1, "wasAllowed", "(I)Z"⟩
def dkwX1_wasAllowed_0 : List UInt8 := [42, 27, 182, 1, 91, 180, 1, 101, 172]
abbrev dktX1_wasAllowed_0 : List UInt8 := dkwX1_wasAllowed_0 ++ []
theorem dksX1_wasAllowed_0 : cX1_wasAllowed.data.toList.drop 0 = dktX1_wasAllowed_0 := by decide +kernel
theorem dX1_wasAllowed_0 : decode cX1_wasAllowed 0 = .ok (.aload_n 0, 1) := dk_42 (dk_at dksX1_wasAllowed_0 0 rfl rfl)
theorem dX1_wasAllowed_1 : decode cX1_wasAllowed 1 = .ok (.iload_n 1, 1) := dk_27 (dk_at dksX1_wasAllowed_0 1 rfl rfl)
theorem dX1_wasAllowed_2 : decode cX1_wasAllowed 2 = .ok (.invokevirtual 347, 3) := dk_182 1 91 (dk_at dksX1_wasAllowed_0 2 rfl rfl)
theorem dX1_wasAllowed_5 : decode cX1_wasAllowed 5 = .ok (.getfield 357, 3) := dk_180 1 101 (dk_at dksX1_wasAllowed_0 5 rfl rfl)
theorem dX1_wasAllowed_8 : decode cX1_wasAllowed 8 = .ok (.ireturn, 1) := dk_172 (dk_at dksX1_wasAllowed_0 8 rfl rfl)
abbrev cX1_undo : ByteArray := prog_1_method_82_code
def yX1_undo : MethodName := ⟨RX1, "undo", "()I"⟩
def dkwX1_undo_1 : List UInt8 := [182, 1, 106, 192, 0, 31, 181, 0, 36, 42, 180, 0, 43, 182, 0, 58, 172]
abbrev dktX1_undo_1 : List UInt8 := dkwX1_undo_1 ++ []
def dkwX1_undo_0 : List UInt8 := [42, 180, 0, 43, 182, 1, 103, 154, 0, 7, 4, 167, 0, 4, 3, 184, 0, 74, 42, 42, 180, 0, 43]
abbrev dktX1_undo_0 : List UInt8 := dkwX1_undo_0 ++ dktX1_undo_1
theorem dksX1_undo_0 : cX1_undo.data.toList.drop 0 = dktX1_undo_0 := by decide +kernel
theorem dksX1_undo_1 : cX1_undo.data.toList.drop 23 = dktX1_undo_1 := dk_seg dksX1_undo_0 23 rfl rfl
theorem dX1_undo_0 : decode cX1_undo 0 = .ok (.aload_n 0, 1) := dk_42 (dk_at dksX1_undo_0 0 rfl rfl)
theorem dX1_undo_1 : decode cX1_undo 1 = .ok (.getfield 43, 3) := dk_180 0 43 (dk_at dksX1_undo_0 1 rfl rfl)
theorem dX1_undo_4 : decode cX1_undo 4 = .ok (.invokevirtual 359, 3) := dk_182 1 103 (dk_at dksX1_undo_0 4 rfl rfl)
theorem dX1_undo_7 : decode cX1_undo 7 = .ok (.ifCond .ne 7, 3) := dk_154 0 7 (dk_at dksX1_undo_0 7 rfl rfl)
theorem dX1_undo_10 : decode cX1_undo 10 = .ok (.iconst 1, 1) := dk_4 (dk_at dksX1_undo_0 10 rfl rfl)
theorem dX1_undo_11 : decode cX1_undo 11 = .ok (.goto 4, 3) := dk_167 0 4 (dk_at dksX1_undo_0 11 rfl rfl)
theorem dX1_undo_14 : decode cX1_undo 14 = .ok (.iconst 0, 1) := dk_3 (dk_at dksX1_undo_0 14 rfl rfl)
theorem dX1_undo_15 : decode cX1_undo 15 = .ok (.invokestatic 74, 3) := dk_184 0 74 (dk_at dksX1_undo_0 15 rfl rfl)
theorem dX1_undo_18 : decode cX1_undo 18 = .ok (.aload_n 0, 1) := dk_42 (dk_at dksX1_undo_0 18 rfl rfl)
theorem dX1_undo_19 : decode cX1_undo 19 = .ok (.aload_n 0, 1) := dk_42 (dk_at dksX1_undo_0 19 rfl rfl)
theorem dX1_undo_20 : decode cX1_undo 20 = .ok (.getfield 43, 3) := dk_180 0 43 (dk_at dksX1_undo_0 20 rfl rfl)
theorem dX1_undo_23 : decode cX1_undo 23 = .ok (.invokevirtual 362, 3) := dk_182 1 106 (dk_at dksX1_undo_1 0 rfl rfl)
theorem dX1_undo_26 : decode cX1_undo 26 = .ok (.checkcast 31, 3) := dk_192 0 31 (dk_at dksX1_undo_1 3 rfl rfl)
theorem dX1_undo_29 : decode cX1_undo 29 = .ok (.putfield 36, 3) := dk_181 0 36 (dk_at dksX1_undo_1 6 rfl rfl)
theorem dX1_undo_32 : decode cX1_undo 32 = .ok (.aload_n 0, 1) := dk_42 (dk_at dksX1_undo_1 9 rfl rfl)
theorem dX1_undo_33 : decode cX1_undo 33 = .ok (.getfield 43, 3) := dk_180 0 43 (dk_at dksX1_undo_1 10 rfl rfl)
theorem dX1_undo_36 : decode cX1_undo 36 = .ok (.invokevirtual 58, 3) := dk_182 0 58 (dk_at dksX1_undo_1 13 rfl rfl)
theorem dX1_undo_39 : decode cX1_undo 39 = .ok (.ireturn, 1) := dk_172 (dk_at dksX1_undo_1 16 rfl rfl)
abbrev cX1_save : ByteArray := prog_1_method_83_code
def yX1_save : MethodName := ⟨RX1, "save", "(I)I"⟩
def dkwX1_save_1 : List UInt8 := [180, 0, 36, 182, 1, 18, 172]
abbrev dktX1_save_1 : List UInt8 := dkwX1_save_1 ++ []
def dkwX1_save_0 : List UInt8 := [27, 3, 4, 184, 0, 15, 184, 0, 19, 42, 180, 0, 47, 27, 42, 180, 0, 36, 182, 0, 77, 83, 42]
abbrev dktX1_save_0 : List UInt8 := dkwX1_save_0 ++ dktX1_save_1
theorem dksX1_save_0 : cX1_save.data.toList.drop 0 = dktX1_save_0 := by decide +kernel
theorem dksX1_save_1 : cX1_save.data.toList.drop 23 = dktX1_save_1 := dk_seg dksX1_save_0 23 rfl rfl
theorem dX1_save_0 : decode cX1_save 0 = .ok (.iload_n 1, 1) := dk_27 (dk_at dksX1_save_0 0 rfl rfl)
theorem dX1_save_1 : decode cX1_save 1 = .ok (.iconst 0, 1) := dk_3 (dk_at dksX1_save_0 1 rfl rfl)
theorem dX1_save_2 : decode cX1_save 2 = .ok (.iconst 1, 1) := dk_4 (dk_at dksX1_save_0 2 rfl rfl)
theorem dX1_save_3 : decode cX1_save 3 = .ok (.invokestatic 15, 3) := dk_184 0 15 (dk_at dksX1_save_0 3 rfl rfl)
theorem dX1_save_6 : decode cX1_save 6 = .ok (.invokestatic 19, 3) := dk_184 0 19 (dk_at dksX1_save_0 6 rfl rfl)
theorem dX1_save_9 : decode cX1_save 9 = .ok (.aload_n 0, 1) := dk_42 (dk_at dksX1_save_0 9 rfl rfl)
theorem dX1_save_10 : decode cX1_save 10 = .ok (.getfield 47, 3) := dk_180 0 47 (dk_at dksX1_save_0 10 rfl rfl)
theorem dX1_save_13 : decode cX1_save 13 = .ok (.iload_n 1, 1) := dk_27 (dk_at dksX1_save_0 13 rfl rfl)
theorem dX1_save_14 : decode cX1_save 14 = .ok (.aload_n 0, 1) := dk_42 (dk_at dksX1_save_0 14 rfl rfl)
theorem dX1_save_15 : decode cX1_save 15 = .ok (.getfield 36, 3) := dk_180 0 36 (dk_at dksX1_save_0 15 rfl rfl)
theorem dX1_save_18 : decode cX1_save 18 = .ok (.invokevirtual 77, 3) := dk_182 0 77 (dk_at dksX1_save_0 18 rfl rfl)
theorem dX1_save_21 : decode cX1_save 21 = .ok (.aastore, 1) := dk_83 (dk_at dksX1_save_0 21 rfl rfl)
theorem dX1_save_22 : decode cX1_save 22 = .ok (.aload_n 0, 1) := dk_42 (dk_at dksX1_save_0 22 rfl rfl)
theorem dX1_save_23 : decode cX1_save 23 = .ok (.getfield 36, 3) := dk_180 0 36 (dk_at dksX1_save_1 0 rfl rfl)
theorem dX1_save_26 : decode cX1_save 26 = .ok (.invokevirtual 274, 3) := dk_182 1 18 (dk_at dksX1_save_1 3 rfl rfl)
theorem dX1_save_29 : decode cX1_save 29 = .ok (.ireturn, 1) := dk_172 (dk_at dksX1_save_1 6 rfl rfl)
abbrev cX1_restore : ByteArray := prog_1_method_84_code
def yX1_restore : MethodName := ⟨RX1, "restore", "(I)I"⟩
def dkwX1_restore_2 : List UInt8 := [181, 0, 36, 42, 180, 0, 36, 182, 1, 18, 172]
abbrev dktX1_restore_2 : List UInt8 := dkwX1_restore_2 ++ []
def dkwX1_restore_1 : List UInt8 := [184, 0, 74, 42, 42, 180, 0, 36, 182, 0, 77, 182, 0, 80, 42, 42, 180, 0, 47, 27, 50, 182, 0, 77]
abbrev dktX1_restore_1 : List UInt8 := dkwX1_restore_1 ++ dktX1_restore_2
def dkwX1_restore_0 : List UInt8 := [27, 3, 4, 184, 0, 15, 184, 0, 19, 42, 180, 0, 47, 27, 50, 198, 0, 7, 4, 167, 0, 4, 3]
abbrev dktX1_restore_0 : List UInt8 := dkwX1_restore_0 ++ dktX1_restore_1
theorem dksX1_restore_0 : cX1_restore.data.toList.drop 0 = dktX1_restore_0 := by decide +kernel
theorem dksX1_restore_1 : cX1_restore.data.toList.drop 23 = dktX1_restore_1 := dk_seg dksX1_restore_0 23 rfl rfl
theorem dksX1_restore_2 : cX1_restore.data.toList.drop 47 = dktX1_restore_2 := dk_seg dksX1_restore_1 24 rfl rfl
theorem dX1_restore_0 : decode cX1_restore 0 = .ok (.iload_n 1, 1) := dk_27 (dk_at dksX1_restore_0 0 rfl rfl)
theorem dX1_restore_1 : decode cX1_restore 1 = .ok (.iconst 0, 1) := dk_3 (dk_at dksX1_restore_0 1 rfl rfl)
theorem dX1_restore_2 : decode cX1_restore 2 = .ok (.iconst 1, 1) := dk_4 (dk_at dksX1_restore_0 2 rfl rfl)
theorem dX1_restore_3 : decode cX1_restore 3 = .ok (.invokestatic 15, 3) := dk_184 0 15 (dk_at dksX1_restore_0 3 rfl rfl)
theorem dX1_restore_6 : decode cX1_restore 6 = .ok (.invokestatic 19, 3) := dk_184 0 19 (dk_at dksX1_restore_0 6 rfl rfl)
theorem dX1_restore_9 : decode cX1_restore 9 = .ok (.aload_n 0, 1) := dk_42 (dk_at dksX1_restore_0 9 rfl rfl)
theorem dX1_restore_10 : decode cX1_restore 10 = .ok (.getfield 47, 3) := dk_180 0 47 (dk_at dksX1_restore_0 10 rfl rfl)
theorem dX1_restore_13 : decode cX1_restore 13 = .ok (.iload_n 1, 1) := dk_27 (dk_at dksX1_restore_0 13 rfl rfl)
theorem dX1_restore_14 : decode cX1_restore 14 = .ok (.aaload, 1) := dk_50 (dk_at dksX1_restore_0 14 rfl rfl)
theorem dX1_restore_15 : decode cX1_restore 15 = .ok (.ifnull 7, 3) := dk_198 0 7 (dk_at dksX1_restore_0 15 rfl rfl)
theorem dX1_restore_18 : decode cX1_restore 18 = .ok (.iconst 1, 1) := dk_4 (dk_at dksX1_restore_0 18 rfl rfl)
theorem dX1_restore_19 : decode cX1_restore 19 = .ok (.goto 4, 3) := dk_167 0 4 (dk_at dksX1_restore_0 19 rfl rfl)
theorem dX1_restore_22 : decode cX1_restore 22 = .ok (.iconst 0, 1) := dk_3 (dk_at dksX1_restore_0 22 rfl rfl)
theorem dX1_restore_23 : decode cX1_restore 23 = .ok (.invokestatic 74, 3) := dk_184 0 74 (dk_at dksX1_restore_1 0 rfl rfl)
theorem dX1_restore_26 : decode cX1_restore 26 = .ok (.aload_n 0, 1) := dk_42 (dk_at dksX1_restore_1 3 rfl rfl)
theorem dX1_restore_27 : decode cX1_restore 27 = .ok (.aload_n 0, 1) := dk_42 (dk_at dksX1_restore_1 4 rfl rfl)
theorem dX1_restore_28 : decode cX1_restore 28 = .ok (.getfield 36, 3) := dk_180 0 36 (dk_at dksX1_restore_1 5 rfl rfl)
theorem dX1_restore_31 : decode cX1_restore 31 = .ok (.invokevirtual 77, 3) := dk_182 0 77 (dk_at dksX1_restore_1 8 rfl rfl)
theorem dX1_restore_34 : decode cX1_restore 34 = .ok (.invokevirtual 80, 3) := dk_182 0 80 (dk_at dksX1_restore_1 11 rfl rfl)
theorem dX1_restore_37 : decode cX1_restore 37 = .ok (.aload_n 0, 1) := dk_42 (dk_at dksX1_restore_1 14 rfl rfl)
theorem dX1_restore_38 : decode cX1_restore 38 = .ok (.aload_n 0, 1) := dk_42 (dk_at dksX1_restore_1 15 rfl rfl)
theorem dX1_restore_39 : decode cX1_restore 39 = .ok (.getfield 47, 3) := dk_180 0 47 (dk_at dksX1_restore_1 16 rfl rfl)
theorem dX1_restore_42 : decode cX1_restore 42 = .ok (.iload_n 1, 1) := dk_27 (dk_at dksX1_restore_1 19 rfl rfl)
theorem dX1_restore_43 : decode cX1_restore 43 = .ok (.aaload, 1) := dk_50 (dk_at dksX1_restore_1 20 rfl rfl)
theorem dX1_restore_44 : decode cX1_restore 44 = .ok (.invokevirtual 77, 3) := dk_182 0 77 (dk_at dksX1_restore_1 21 rfl rfl)
theorem dX1_restore_47 : decode cX1_restore 47 = .ok (.putfield 36, 3) := dk_181 0 36 (dk_at dksX1_restore_2 0 rfl rfl)
theorem dX1_restore_50 : decode cX1_restore 50 = .ok (.aload_n 0, 1) := dk_42 (dk_at dksX1_restore_2 3 rfl rfl)
theorem dX1_restore_51 : decode cX1_restore 51 = .ok (.getfield 36, 3) := dk_180 0 36 (dk_at dksX1_restore_2 4 rfl rfl)
theorem dX1_restore_54 : decode cX1_restore 54 = .ok (.invokevirtual 274, 3) := dk_182 1 18 (dk_at dksX1_restore_2 7 rfl rfl)
theorem dX1_restore_57 : decode cX1_restore 57 = .ok (.ireturn, 1) := dk_172 (dk_at dksX1_restore_2 10 rfl rfl)
theorem q81 : (Jvm.Cond.initialized "PermissionDesk") ∈ lw_all := lw_g (lw_at lw_m1 1 rfl) rfl
theorem q122 : (Jvm.Cond.instantiable "PermissionDesk" (4 : Nat)) ∈ lw_all := lw_g (lw_at lw_m1 42 rfl) rfl
theorem q124 : (Jvm.Cond.instanceMethod ({ cls := "PermissionDesk", name := "<init>", desc := "()V" } : Jvm.MethodName)) ∈ lw_all := lw_g (lw_at lw_m1 44 rfl) rfl
theorem q125 : (Jvm.Cond.code ({ cls := "PermissionDesk", name := "<init>", desc := "()V" } : Jvm.MethodName) prog_1_method_11_code (1 : Nat) (Option.none : Option Jvm.ClassFile.FieldType)) ∈ lw_all := lw_g (lw_at lw_m1 45 rfl) rfl
theorem q126 : (Jvm.Cond.methodLink "PermissionDesk" (27 : Nat) ({ cls := "java/lang/Object", name := "<init>", desc := "()V" } : Jvm.MethodName)) ∈ lw_all := lw_g (lw_at lw_m1 46 rfl) rfl
theorem q129 : (Jvm.Cond.methodLink "PermissionDesk" (30 : Nat) ({ cls := "PermissionDesk$Land", name := "fresh", desc := "()LPermissionDesk$Land;" } : Jvm.MethodName)) ∈ lw_all := lw_g (lw_at lw_m1 49 rfl) rfl
theorem q192 : (Jvm.Cond.fieldLinkNest "PermissionDesk" (70 : Nat) "PermissionDesk$Land" "users" "I" "PermissionDesk") ∈ lw_tbl := lw_at lw_m1 112 rfl
theorem q194 : (Jvm.Cond.fieldLinkNest "PermissionDesk" (84 : Nat) "PermissionDesk$Land" "teams" "Ljava/util/ArrayList;" "PermissionDesk") ∈ lw_tbl := lw_at lw_m1 114 rfl
theorem q197 : (Jvm.Cond.fieldLinkNest "PermissionDesk" (135 : Nat) "PermissionDesk$Land" "things" "[LPermissionDesk$Thing;" "PermissionDesk") ∈ lw_tbl := lw_at lw_m1 117 rfl
theorem q199 : (Jvm.Cond.fieldLinkNest "PermissionDesk" (332 : Nat) "PermissionDesk$Land" "log" "Ljava/util/LinkedList;" "PermissionDesk") ∈ lw_tbl := lw_at lw_m1 119 rfl
theorem q201 : (Jvm.Cond.fieldLinkNest "PermissionDesk" (341 : Nat) "PermissionDesk$Land" "requests" "I" "PermissionDesk") ∈ lw_tbl := lw_at lw_m1 121 rfl
theorem q203 : (Jvm.Cond.fieldLinkNest "PermissionDesk" (344 : Nat) "PermissionDesk$Land" "refusals" "I" "PermissionDesk") ∈ lw_tbl := lw_at lw_m1 123 rfl
theorem q228 : (Jvm.Cond.static ({ cls := "PermissionDesk", name := "setOf", desc := "([I)I" } : Jvm.MethodName)) ∈ lw_all := lw_g (lw_at lw_m1 148 rfl) rfl
theorem q229 : (Jvm.Cond.code ({ cls := "PermissionDesk", name := "setOf", desc := "([I)I" } : Jvm.MethodName) prog_1_method_8_code (6 : Nat) (Option.some Jvm.ClassFile.FieldType.int)) ∈ lw_all := lw_g (lw_at lw_m1 149 rfl) rfl
theorem q232 : (Jvm.Cond.fieldLinkNest "PermissionDesk" (281 : Nat) "PermissionDesk$Thing" "parent" "I" "PermissionDesk") ∈ lw_tbl := lw_at lw_m1 152 rfl
theorem q234 : (Jvm.Cond.fieldLinkNest "PermissionDesk" (139 : Nat) "PermissionDesk$Thing" "owner" "I" "PermissionDesk") ∈ lw_tbl := lw_at lw_m1 154 rfl
theorem q237 : (Jvm.Cond.fieldLinkNest "PermissionDesk" (148 : Nat) "PermissionDesk$Thing" "mask" "I" "PermissionDesk") ∈ lw_tbl := lw_at lw_m1 157 rfl
theorem q240 : (Jvm.Cond.fieldLinkNest "PermissionDesk" (151 : Nat) "PermissionDesk$Thing" "inherits" "Z" "PermissionDesk") ∈ lw_tbl := lw_at lw_m1 160 rfl
theorem q245 : (Jvm.Cond.fieldLinkNest "PermissionDesk" (155 : Nat) "PermissionDesk$Thing" "entries" "Ljava/util/ArrayList;" "PermissionDesk") ∈ lw_tbl := lw_at lw_m1 165 rfl
theorem q258 : (Jvm.Cond.classLink "PermissionDesk" (40 : Nat) "java/util/LinkedList") ∈ lw_all := lw_g (lw_at lw_m1 178 rfl) rfl
theorem q259 : (Jvm.Cond.methodLink "PermissionDesk" (42 : Nat) ({ cls := "java/util/LinkedList", name := "<init>", desc := "()V" } : Jvm.MethodName)) ∈ lw_all := lw_g (lw_at lw_m1 179 rfl) rfl
theorem q260 : (Jvm.Cond.classLink "PermissionDesk" (31 : Nat) "PermissionDesk$Land") ∈ lw_all := lw_g (lw_at lw_m1 180 rfl) rfl
theorem q262 : (Jvm.Cond.classLink "PermissionDesk" (51 : Nat) "java/lang/StringBuilder") ∈ lw_all := lw_g (lw_at lw_m1 182 rfl) rfl
theorem q264 : (Jvm.Cond.methodLink "PermissionDesk" (53 : Nat) ({ cls := "java/lang/StringBuilder", name := "<init>", desc := "()V" } : Jvm.MethodName)) ∈ lw_all := lw_g (lw_at lw_m1 184 rfl) rfl
theorem q295 : (Jvm.Cond.fieldLink "PermissionDesk" (36 : Nat) "PermissionDesk" "now" "LPermissionDesk$Land;") ∈ lw_all := lw_g (lw_at lw_m1 215 rfl) rfl
theorem q296 : (Jvm.Cond.fieldLink "PermissionDesk" (43 : Nat) "PermissionDesk" "history" "Ljava/util/LinkedList;") ∈ lw_all := lw_g (lw_at lw_m1 216 rfl) rfl
theorem q297 : (Jvm.Cond.fieldLink "PermissionDesk" (47 : Nat) "PermissionDesk" "slots" "[LPermissionDesk$Land;") ∈ lw_all := lw_g (lw_at lw_m1 217 rfl) rfl
theorem q298 : (Jvm.Cond.fieldLink "PermissionDesk" (54 : Nat) "PermissionDesk" "pad" "Ljava/lang/StringBuilder;") ∈ lw_all := lw_g (lw_at lw_m1 218 rfl) rfl
theorem q299 : (Jvm.Cond.lays "PermissionDesk" "PermissionDesk" "now" "LPermissionDesk$Land;") ∈ lw_all := lw_g (lw_at lw_m1 219 rfl) rfl
theorem q300 : (Jvm.Cond.soleField "PermissionDesk" "now") ∈ lw_all := lw_g (lw_at lw_m1 220 rfl) rfl
theorem q301 : (Jvm.Cond.laysFinal "PermissionDesk" "PermissionDesk" "history" "Ljava/util/LinkedList;") ∈ lw_all := lw_g (lw_at lw_m1 221 rfl) rfl
theorem q302 : (Jvm.Cond.soleField "PermissionDesk" "history") ∈ lw_all := lw_g (lw_at lw_m1 222 rfl) rfl
theorem q303 : (Jvm.Cond.laysFinal "PermissionDesk" "PermissionDesk" "slots" "[LPermissionDesk$Land;") ∈ lw_all := lw_g (lw_at lw_m1 223 rfl) rfl
theorem q304 : (Jvm.Cond.soleField "PermissionDesk" "slots") ∈ lw_all := lw_g (lw_at lw_m1 224 rfl) rfl
theorem q305 : (Jvm.Cond.laysFinal "PermissionDesk" "PermissionDesk" "pad" "Ljava/lang/StringBuilder;") ∈ lw_all := lw_g (lw_at lw_m1 225 rfl) rfl
theorem q306 : (Jvm.Cond.soleField "PermissionDesk" "pad") ∈ lw_all := lw_g (lw_at lw_m1 226 rfl) rfl
theorem q307 : (Jvm.Cond.superclass "PermissionDesk" "java/lang/Object") ∈ lw_all := lw_g (lw_at lw_m1 227 rfl) rfl
theorem q309 : (Jvm.Cond.instanceMethod ({ cls := "PermissionDesk", name := "clear", desc := "()I" } : Jvm.MethodName)) ∈ lw_all := lw_g (lw_at lw_m1 229 rfl) rfl
theorem q310 : (Jvm.Cond.selects "PermissionDesk" ({ cls := "PermissionDesk", name := "clear", desc := "()I" } : Jvm.MethodName) ({ cls := "PermissionDesk", name := "clear", desc := "()I" } : Jvm.MethodName)) ∈ lw_all := lw_g (lw_at lw_m1 230 rfl) rfl
theorem q311 : (Jvm.Cond.code ({ cls := "PermissionDesk", name := "clear", desc := "()I" } : Jvm.MethodName) prog_1_method_36_code (2 : Nat) (Option.some Jvm.ClassFile.FieldType.int)) ∈ lw_all := lw_g (lw_at lw_m1 231 rfl) rfl
theorem q312 : (Jvm.Cond.methodLink "PermissionDesk" (196 : Nat) ({ cls := "java/lang/StringBuilder", name := "length", desc := "()I" } : Jvm.MethodName)) ∈ lw_all := lw_g (lw_at lw_m1 232 rfl) rfl
theorem q319 : (Jvm.Cond.methodLink "PermissionDesk" (203 : Nat) ({ cls := "java/lang/StringBuilder", name := "setLength", desc := "(I)V" } : Jvm.MethodName)) ∈ lw_all := lw_g (lw_at lw_m1 239 rfl) rfl
theorem q662 : (Jvm.Cond.instanceMethod ({ cls := "PermissionDesk", name := "fault", desc := "()I" } : Jvm.MethodName)) ∈ lw_all := lw_g (lw_at lw_m3 102 rfl) rfl
theorem q663 : (Jvm.Cond.selects "PermissionDesk" ({ cls := "PermissionDesk", name := "fault", desc := "()I" } : Jvm.MethodName) ({ cls := "PermissionDesk", name := "fault", desc := "()I" } : Jvm.MethodName)) ∈ lw_all := lw_g (lw_at lw_m3 103 rfl) rfl
theorem q664 : (Jvm.Cond.codeWith ({ cls := "PermissionDesk", name := "fault", desc := "()I" } : Jvm.MethodName) prog_1_method_37_code (2 : Nat) (Option.some Jvm.ClassFile.FieldType.int) [((0 : Nat), (16 : Nat), (17 : Nat), (215 : Nat))]) ∈ lw_all := lw_g (lw_at lw_m3 104 rfl) rfl
theorem q665 : (Jvm.Cond.classLink "PermissionDesk" (215 : Nat) "PermissionDesk$Unread") ∈ lw_all := lw_g (lw_at lw_m3 105 rfl) rfl
theorem q666 : (Jvm.Cond.classLink "PermissionDesk" (206 : Nat) "PermissionDesk$Reader") ∈ lw_all := lw_g (lw_at lw_m3 106 rfl) rfl
theorem q668 : (Jvm.Cond.methodLink "PermissionDesk" (208 : Nat) ({ cls := "PermissionDesk$Reader", name := "<init>", desc := "(Ljava/lang/StringBuilder;)V" } : Jvm.MethodName)) ∈ lw_all := lw_g (lw_at lw_m3 108 rfl) rfl
theorem q679 : (Jvm.Cond.methodLink "PermissionDesk" (211 : Nat) ({ cls := "PermissionDesk$Reader", name := "plan", desc := "()LPermissionDesk$Plan;" } : Jvm.MethodName)) ∈ lw_all := lw_g (lw_at lw_m3 119 rfl) rfl
theorem q710 : (Jvm.Cond.static ({ cls := "PermissionDesk", name := "inRange", desc := "(III)Z" } : Jvm.MethodName)) ∈ lw_all := lw_g (lw_at lw_m3 150 rfl) rfl
theorem q711 : (Jvm.Cond.code ({ cls := "PermissionDesk", name := "inRange", desc := "(III)Z" } : Jvm.MethodName) prog_1_method_2_code (3 : Nat) (Option.some Jvm.ClassFile.FieldType.boolean)) ∈ lw_all := lw_g (lw_at lw_m3 151 rfl) rfl
theorem q729 : (Jvm.Cond.fieldLinkNest "PermissionDesk" (217 : Nat) "PermissionDesk$Unread" "at" "I" "PermissionDesk") ∈ lw_tbl := lw_at lw_m3 169 rfl
theorem q769 : (Jvm.Cond.laysStatic "PermissionDesk" "LETTERS" "[I") ∈ lw_tbl := lw_at lw_m3 209 rfl
theorem q808 : (Jvm.Cond.static ({ cls := "PermissionDesk", name := "isIn", desc := "(II)Z" } : Jvm.MethodName)) ∈ lw_all := lw_g (lw_at lw_m4 8 rfl) rfl
theorem q809 : (Jvm.Cond.code ({ cls := "PermissionDesk", name := "isIn", desc := "(II)Z" } : Jvm.MethodName) prog_1_method_9_code (2 : Nat) (Option.some Jvm.ClassFile.FieldType.boolean)) ∈ lw_all := lw_g (lw_at lw_m4 9 rfl) rfl
theorem q815 : (Jvm.Cond.fieldLinkNest "PermissionDesk" (297 : Nat) "PermissionDesk$Entry" "kind" "I" "PermissionDesk") ∈ lw_tbl := lw_at lw_m4 15 rfl
theorem q818 : (Jvm.Cond.fieldLinkNest "PermissionDesk" (291 : Nat) "PermissionDesk$Entry" "rights" "I" "PermissionDesk") ∈ lw_tbl := lw_at lw_m4 18 rfl
theorem q821 : (Jvm.Cond.fieldLinkNest "PermissionDesk" (288 : Nat) "PermissionDesk$Entry" "allows" "Z" "PermissionDesk") ∈ lw_tbl := lw_at lw_m4 21 rfl
theorem q824 : (Jvm.Cond.fieldLinkNest "PermissionDesk" (300 : Nat) "PermissionDesk$Entry" "below" "Z" "PermissionDesk") ∈ lw_tbl := lw_at lw_m4 24 rfl
theorem q862 : (Jvm.Cond.selects "PermissionDesk" ({ cls := "java/lang/Object", name := "getClass", desc := "()Ljava/lang/Class;" } : Jvm.MethodName) ({ cls := "java/lang/Object", name := "getClass", desc := "()Ljava/lang/Class;" } : Jvm.MethodName)) ∈ lw_all := lw_g (lw_at lw_m4 62 rfl) rfl
theorem q896 : (Jvm.Cond.instanceMethod ({ cls := "PermissionDesk", name := "users", desc := "()I" } : Jvm.MethodName)) ∈ lw_all := lw_g (lw_at lw_m4 96 rfl) rfl
theorem q897 : (Jvm.Cond.selects "PermissionDesk" ({ cls := "PermissionDesk", name := "users", desc := "()I" } : Jvm.MethodName) ({ cls := "PermissionDesk", name := "users", desc := "()I" } : Jvm.MethodName)) ∈ lw_all := lw_g (lw_at lw_m4 97 rfl) rfl
theorem q898 : (Jvm.Cond.code ({ cls := "PermissionDesk", name := "users", desc := "()I" } : Jvm.MethodName) prog_1_method_42_code (1 : Nat) (Option.some Jvm.ClassFile.FieldType.int)) ∈ lw_all := lw_g (lw_at lw_m4 98 rfl) rfl
theorem q900 : (Jvm.Cond.instanceMethod ({ cls := "PermissionDesk", name := "groups", desc := "()I" } : Jvm.MethodName)) ∈ lw_all := lw_g (lw_at lw_m4 100 rfl) rfl
theorem q901 : (Jvm.Cond.selects "PermissionDesk" ({ cls := "PermissionDesk", name := "groups", desc := "()I" } : Jvm.MethodName) ({ cls := "PermissionDesk", name := "groups", desc := "()I" } : Jvm.MethodName)) ∈ lw_all := lw_g (lw_at lw_m4 101 rfl) rfl
theorem q902 : (Jvm.Cond.code ({ cls := "PermissionDesk", name := "groups", desc := "()I" } : Jvm.MethodName) prog_1_method_43_code (1 : Nat) (Option.some Jvm.ClassFile.FieldType.int)) ∈ lw_all := lw_g (lw_at lw_m4 102 rfl) rfl
theorem q903 : (Jvm.Cond.methodLink "PermissionDesk" (88 : Nat) ({ cls := "java/util/ArrayList", name := "size", desc := "()I" } : Jvm.MethodName)) ∈ lw_all := lw_g (lw_at lw_m4 103 rfl) rfl
theorem q905 : (Jvm.Cond.instanceMethod ({ cls := "PermissionDesk", name := "objects", desc := "()I" } : Jvm.MethodName)) ∈ lw_all := lw_g (lw_at lw_m4 105 rfl) rfl
theorem q906 : (Jvm.Cond.selects "PermissionDesk" ({ cls := "PermissionDesk", name := "objects", desc := "()I" } : Jvm.MethodName) ({ cls := "PermissionDesk", name := "objects", desc := "()I" } : Jvm.MethodName)) ∈ lw_all := lw_g (lw_at lw_m4 106 rfl) rfl
theorem q907 : (Jvm.Cond.code ({ cls := "PermissionDesk", name := "objects", desc := "()I" } : Jvm.MethodName) prog_1_method_48_code (1 : Nat) (Option.some Jvm.ClassFile.FieldType.int)) ∈ lw_all := lw_g (lw_at lw_m4 107 rfl) rfl
theorem q908 : (Jvm.Cond.methodLink "PermissionDesk" (274 : Nat) ({ cls := "PermissionDesk$Land", name := "objects", desc := "()I" } : Jvm.MethodName)) ∈ lw_all := lw_g (lw_at lw_m4 108 rfl) rfl
theorem q918 : (Jvm.Cond.instanceMethod ({ cls := "PermissionDesk", name := "isThere", desc := "(I)Z" } : Jvm.MethodName)) ∈ lw_all := lw_g (lw_at lw_m4 118 rfl) rfl
theorem q919 : (Jvm.Cond.selects "PermissionDesk" ({ cls := "PermissionDesk", name := "isThere", desc := "(I)Z" } : Jvm.MethodName) ({ cls := "PermissionDesk", name := "isThere", desc := "(I)Z" } : Jvm.MethodName)) ∈ lw_all := lw_g (lw_at lw_m4 119 rfl) rfl
theorem q920 : (Jvm.Cond.code ({ cls := "PermissionDesk", name := "isThere", desc := "(I)Z" } : Jvm.MethodName) prog_1_method_49_code (2 : Nat) (Option.some Jvm.ClassFile.FieldType.boolean)) ∈ lw_all := lw_g (lw_at lw_m4 120 rfl) rfl
theorem q921 : (Jvm.Cond.methodLink "PermissionDesk" (122 : Nat) ({ cls := "PermissionDesk$Land", name := "has", desc := "(I)Z" } : Jvm.MethodName)) ∈ lw_all := lw_g (lw_at lw_m4 121 rfl) rfl
theorem q923 : (Jvm.Cond.instanceMethod ({ cls := "PermissionDesk", name := "allRights", desc := "()I" } : Jvm.MethodName)) ∈ lw_all := lw_g (lw_at lw_m4 123 rfl) rfl
theorem q924 : (Jvm.Cond.selects "PermissionDesk" ({ cls := "PermissionDesk", name := "allRights", desc := "()I" } : Jvm.MethodName) ({ cls := "PermissionDesk", name := "allRights", desc := "()I" } : Jvm.MethodName)) ∈ lw_all := lw_g (lw_at lw_m4 124 rfl) rfl
theorem q925 : (Jvm.Cond.code ({ cls := "PermissionDesk", name := "allRights", desc := "()I" } : Jvm.MethodName) prog_1_method_74_code (1 : Nat) (Option.some Jvm.ClassFile.FieldType.int)) ∈ lw_all := lw_g (lw_at lw_m4 125 rfl) rfl
theorem q926 : (Jvm.Cond.methodLink "PermissionDesk" (329 : Nat) ({ cls := "PermissionDesk$Land", name := "allRights", desc := "()I" } : Jvm.MethodName)) ∈ lw_all := lw_g (lw_at lw_m4 126 rfl) rfl
theorem q973 : (Jvm.Cond.static ({ cls := "PermissionDesk", name := "many", desc := "(I)I" } : Jvm.MethodName)) ∈ lw_all := lw_g (lw_at lw_m4 173 rfl) rfl
theorem q974 : (Jvm.Cond.code ({ cls := "PermissionDesk", name := "many", desc := "(I)I" } : Jvm.MethodName) prog_1_method_10_code (3 : Nat) (Option.some Jvm.ClassFile.FieldType.int)) ∈ lw_all := lw_g (lw_at lw_m4 174 rfl) rfl
theorem q976 : (Jvm.Cond.instanceMethod ({ cls := "PermissionDesk", name := "openness", desc := "()D" } : Jvm.MethodName)) ∈ lw_all := lw_g (lw_at lw_m4 176 rfl) rfl
theorem q977 : (Jvm.Cond.selects "PermissionDesk" ({ cls := "PermissionDesk", name := "openness", desc := "()D" } : Jvm.MethodName) ({ cls := "PermissionDesk", name := "openness", desc := "()D" } : Jvm.MethodName)) ∈ lw_all := lw_g (lw_at lw_m4 177 rfl) rfl
theorem q978 : (Jvm.Cond.code ({ cls := "PermissionDesk", name := "openness", desc := "()D" } : Jvm.MethodName) prog_1_method_75_code (1 : Nat) (Option.some Jvm.ClassFile.FieldType.double)) ∈ lw_all := lw_g (lw_at lw_m4 178 rfl) rfl
theorem q980 : (Jvm.Cond.instanceMethod ({ cls := "PermissionDesk", name := "requests", desc := "()I" } : Jvm.MethodName)) ∈ lw_all := lw_g (lw_at lw_m4 180 rfl) rfl
theorem q981 : (Jvm.Cond.selects "PermissionDesk" ({ cls := "PermissionDesk", name := "requests", desc := "()I" } : Jvm.MethodName) ({ cls := "PermissionDesk", name := "requests", desc := "()I" } : Jvm.MethodName)) ∈ lw_all := lw_g (lw_at lw_m4 181 rfl) rfl
theorem q982 : (Jvm.Cond.code ({ cls := "PermissionDesk", name := "requests", desc := "()I" } : Jvm.MethodName) prog_1_method_77_code (1 : Nat) (Option.some Jvm.ClassFile.FieldType.int)) ∈ lw_all := lw_g (lw_at lw_m4 182 rfl) rfl
theorem q984 : (Jvm.Cond.instanceMethod ({ cls := "PermissionDesk", name := "refusals", desc := "()I" } : Jvm.MethodName)) ∈ lw_all := lw_g (lw_at lw_m4 184 rfl) rfl
theorem q985 : (Jvm.Cond.selects "PermissionDesk" ({ cls := "PermissionDesk", name := "refusals", desc := "()I" } : Jvm.MethodName) ({ cls := "PermissionDesk", name := "refusals", desc := "()I" } : Jvm.MethodName)) ∈ lw_all := lw_g (lw_at lw_m4 185 rfl) rfl
theorem q986 : (Jvm.Cond.code ({ cls := "PermissionDesk", name := "refusals", desc := "()I" } : Jvm.MethodName) prog_1_method_78_code (1 : Nat) (Option.some Jvm.ClassFile.FieldType.int)) ∈ lw_all := lw_g (lw_at lw_m4 186 rfl) rfl
theorem q992 : (Jvm.Cond.instanceMethod ({ cls := "PermissionDesk", name := "addUser", desc := "()I" } : Jvm.MethodName)) ∈ lw_all := lw_g (lw_at lw_m4 192 rfl) rfl
theorem q993 : (Jvm.Cond.selects "PermissionDesk" ({ cls := "PermissionDesk", name := "addUser", desc := "()I" } : Jvm.MethodName) ({ cls := "PermissionDesk", name := "addUser", desc := "()I" } : Jvm.MethodName)) ∈ lw_all := lw_g (lw_at lw_m4 193 rfl) rfl
theorem q994 : (Jvm.Cond.code ({ cls := "PermissionDesk", name := "addUser", desc := "()I" } : Jvm.MethodName) prog_1_method_13_code (1 : Nat) (Option.some Jvm.ClassFile.FieldType.int)) ∈ lw_all := lw_g (lw_at lw_m4 194 rfl) rfl
theorem q995 : (Jvm.Cond.methodLink "PermissionDesk" (74 : Nat) ({ cls := "PermissionDesk", name := "demand", desc := "(Z)V" } : Jvm.MethodName)) ∈ lw_all := lw_g (lw_at lw_m4 195 rfl) rfl
theorem q996 : (Jvm.Cond.static ({ cls := "PermissionDesk", name := "demand", desc := "(Z)V" } : Jvm.MethodName)) ∈ lw_all := lw_g (lw_at lw_m4 196 rfl) rfl
theorem q997 : (Jvm.Cond.code ({ cls := "PermissionDesk", name := "demand", desc := "(Z)V" } : Jvm.MethodName) prog_1_method_5_code (1 : Nat) (Option.none : Option Jvm.ClassFile.FieldType)) ∈ lw_all := lw_g (lw_at lw_m4 197 rfl) rfl
theorem q998 : (Jvm.Cond.classLink "PermissionDesk" (10 : Nat) "java/lang/IllegalStateException") ∈ lw_all := lw_g (lw_at lw_m4 198 rfl) rfl
theorem q1007 : (Jvm.Cond.methodLink "PermissionDesk" (12 : Nat) ({ cls := "java/lang/IllegalStateException", name := "<init>", desc := "()V" } : Jvm.MethodName)) ∈ lw_all := lw_g (lw_at lw_m4 207 rfl) rfl
theorem q1016 : (Jvm.Cond.methodLink "PermissionDesk" (77 : Nat) ({ cls := "PermissionDesk$Land", name := "copy", desc := "()LPermissionDesk$Land;" } : Jvm.MethodName)) ∈ lw_all := lw_g (lw_at lw_m4 216 rfl) rfl
theorem q1078 : (Jvm.Cond.fieldLinkNest "PermissionDesk" (261 : Nat) "PermissionDesk$Team" "users" "I" "PermissionDesk") ∈ lw_tbl := lw_at lw_m5 38 rfl
theorem q1081 : (Jvm.Cond.fieldLinkNest "PermissionDesk" (265 : Nat) "PermissionDesk$Team" "nested" "I" "PermissionDesk") ∈ lw_tbl := lw_at lw_m5 41 rfl
theorem q1179 : (Jvm.Cond.methodLink "PermissionDesk" (80 : Nat) ({ cls := "PermissionDesk", name := "records", desc := "(LPermissionDesk$Land;)V" } : Jvm.MethodName)) ∈ lw_all := lw_g (lw_at lw_m5 139 rfl) rfl
theorem q1180 : (Jvm.Cond.privateMethod ({ cls := "PermissionDesk", name := "records", desc := "(LPermissionDesk$Land;)V" } : Jvm.MethodName)) ∈ lw_tbl := lw_at lw_m5 140 rfl
theorem q1181 : (Jvm.Cond.instanceMethod ({ cls := "PermissionDesk", name := "records", desc := "(LPermissionDesk$Land;)V" } : Jvm.MethodName)) ∈ lw_all := lw_g (lw_at lw_m5 141 rfl) rfl
theorem q1182 : (Jvm.Cond.code ({ cls := "PermissionDesk", name := "records", desc := "(LPermissionDesk$Land;)V" } : Jvm.MethodName) prog_1_method_12_code (2 : Nat) (Option.none : Option Jvm.ClassFile.FieldType)) ∈ lw_all := lw_g (lw_at lw_m5 142 rfl) rfl
theorem q1183 : (Jvm.Cond.methodLink "PermissionDesk" (58 : Nat) ({ cls := "java/util/LinkedList", name := "size", desc := "()I" } : Jvm.MethodName)) ∈ lw_all := lw_g (lw_at lw_m5 143 rfl) rfl
theorem q1187 : (Jvm.Cond.methodLink "PermissionDesk" (62 : Nat) ({ cls := "java/util/LinkedList", name := "removeFirst", desc := "()Ljava/lang/Object;" } : Jvm.MethodName)) ∈ lw_all := lw_g (lw_at lw_m5 147 rfl) rfl
theorem q1195 : (Jvm.Cond.methodLink "PermissionDesk" (66 : Nat) ({ cls := "java/util/LinkedList", name := "addLast", desc := "(Ljava/lang/Object;)V" } : Jvm.MethodName)) ∈ lw_all := lw_g (lw_at lw_m5 155 rfl) rfl
theorem q1207 : (Jvm.Cond.instanceMethod ({ cls := "PermissionDesk", name := "addGroup", desc := "()I" } : Jvm.MethodName)) ∈ lw_all := lw_g (lw_at lw_m5 167 rfl) rfl
theorem q1208 : (Jvm.Cond.selects "PermissionDesk" ({ cls := "PermissionDesk", name := "addGroup", desc := "()I" } : Jvm.MethodName) ({ cls := "PermissionDesk", name := "addGroup", desc := "()I" } : Jvm.MethodName)) ∈ lw_all := lw_g (lw_at lw_m5 168 rfl) rfl
theorem q1209 : (Jvm.Cond.code ({ cls := "PermissionDesk", name := "addGroup", desc := "()I" } : Jvm.MethodName) prog_1_method_14_code (1 : Nat) (Option.some Jvm.ClassFile.FieldType.int)) ∈ lw_all := lw_g (lw_at lw_m5 169 rfl) rfl
theorem q1210 : (Jvm.Cond.classLink "PermissionDesk" (91 : Nat) "PermissionDesk$Team") ∈ lw_all := lw_g (lw_at lw_m5 170 rfl) rfl
theorem q1211 : (Jvm.Cond.methodLinkNest "PermissionDesk" (93 : Nat) ({ cls := "PermissionDesk$Team", name := "<init>", desc := "()V" } : Jvm.MethodName) "PermissionDesk") ∈ lw_tbl := lw_at lw_m5 171 rfl
theorem q1212 : (Jvm.Cond.methodLink "PermissionDesk" (94 : Nat) ({ cls := "java/util/ArrayList", name := "add", desc := "(Ljava/lang/Object;)Z" } : Jvm.MethodName)) ∈ lw_all := lw_g (lw_at lw_m5 172 rfl) rfl
theorem q1220 : (Jvm.Cond.instanceMethod ({ cls := "PermissionDesk", name := "join", desc := "(II)I" } : Jvm.MethodName)) ∈ lw_all := lw_g (lw_at lw_m5 180 rfl) rfl
theorem q1221 : (Jvm.Cond.selects "PermissionDesk" ({ cls := "PermissionDesk", name := "join", desc := "(II)I" } : Jvm.MethodName) ({ cls := "PermissionDesk", name := "join", desc := "(II)I" } : Jvm.MethodName)) ∈ lw_all := lw_g (lw_at lw_m5 181 rfl) rfl
theorem q1222 : (Jvm.Cond.code ({ cls := "PermissionDesk", name := "join", desc := "(II)I" } : Jvm.MethodName) prog_1_method_15_code (5 : Nat) (Option.some Jvm.ClassFile.FieldType.int)) ∈ lw_all := lw_g (lw_at lw_m5 182 rfl) rfl
theorem q1223 : (Jvm.Cond.methodLink "PermissionDesk" (98 : Nat) ({ cls := "PermissionDesk$Land", name := "hasUser", desc := "(I)Z" } : Jvm.MethodName)) ∈ lw_all := lw_g (lw_at lw_m5 183 rfl) rfl
theorem q1227 : (Jvm.Cond.methodLink "PermissionDesk" (102 : Nat) ({ cls := "PermissionDesk$Land", name := "hasGroup", desc := "(I)Z" } : Jvm.MethodName)) ∈ lw_all := lw_g (lw_at lw_m5 187 rfl) rfl
theorem q1231 : (Jvm.Cond.methodLink "PermissionDesk" (105 : Nat) ({ cls := "PermissionDesk", name := "known", desc := "([Z)V" } : Jvm.MethodName)) ∈ lw_all := lw_g (lw_at lw_m5 191 rfl) rfl
theorem q1232 : (Jvm.Cond.static ({ cls := "PermissionDesk", name := "known", desc := "([Z)V" } : Jvm.MethodName)) ∈ lw_all := lw_g (lw_at lw_m5 192 rfl) rfl
theorem q1233 : (Jvm.Cond.code ({ cls := "PermissionDesk", name := "known", desc := "([Z)V" } : Jvm.MethodName) prog_1_method_3_code (5 : Nat) (Option.none : Option Jvm.ClassFile.FieldType)) ∈ lw_all := lw_g (lw_at lw_m5 193 rfl) rfl
theorem q1234 : (Jvm.Cond.classLink "PermissionDesk" (1 : Nat) "java/lang/IndexOutOfBoundsException") ∈ lw_all := lw_g (lw_at lw_m5 194 rfl) rfl
theorem q1235 : (Jvm.Cond.methodLink "PermissionDesk" (3 : Nat) ({ cls := "java/lang/IndexOutOfBoundsException", name := "<init>", desc := "()V" } : Jvm.MethodName)) ∈ lw_all := lw_g (lw_at lw_m5 195 rfl) rfl
theorem q1239 : (Jvm.Cond.methodLink "PermissionDesk" (109 : Nat) ({ cls := "PermissionDesk$Land", name := "joins", desc := "(II)I" } : Jvm.MethodName)) ∈ lw_all := lw_g (lw_at lw_m5 199 rfl) rfl
theorem q1253 : (Jvm.Cond.instanceMethod ({ cls := "PermissionDesk", name := "leave", desc := "(II)I" } : Jvm.MethodName)) ∈ lw_all := lw_g (lw_at lw_m5 213 rfl) rfl
theorem q1254 : (Jvm.Cond.selects "PermissionDesk" ({ cls := "PermissionDesk", name := "leave", desc := "(II)I" } : Jvm.MethodName) ({ cls := "PermissionDesk", name := "leave", desc := "(II)I" } : Jvm.MethodName)) ∈ lw_all := lw_g (lw_at lw_m5 214 rfl) rfl
theorem q1255 : (Jvm.Cond.code ({ cls := "PermissionDesk", name := "leave", desc := "(II)I" } : Jvm.MethodName) prog_1_method_16_code (5 : Nat) (Option.some Jvm.ClassFile.FieldType.int)) ∈ lw_all := lw_g (lw_at lw_m5 215 rfl) rfl
theorem q1256 : (Jvm.Cond.methodLink "PermissionDesk" (113 : Nat) ({ cls := "PermissionDesk$Land", name := "leaves", desc := "(II)I" } : Jvm.MethodName)) ∈ lw_all := lw_g (lw_at lw_m5 216 rfl) rfl
theorem q1264 : (Jvm.Cond.instanceMethod ({ cls := "PermissionDesk", name := "nest", desc := "(II)I" } : Jvm.MethodName)) ∈ lw_all := lw_g (lw_at lw_m5 224 rfl) rfl
theorem q1265 : (Jvm.Cond.selects "PermissionDesk" ({ cls := "PermissionDesk", name := "nest", desc := "(II)I" } : Jvm.MethodName) ({ cls := "PermissionDesk", name := "nest", desc := "(II)I" } : Jvm.MethodName)) ∈ lw_all := lw_g (lw_at lw_m5 225 rfl) rfl
theorem q1266 : (Jvm.Cond.code ({ cls := "PermissionDesk", name := "nest", desc := "(II)I" } : Jvm.MethodName) prog_1_method_17_code (5 : Nat) (Option.some Jvm.ClassFile.FieldType.int)) ∈ lw_all := lw_g (lw_at lw_m5 226 rfl) rfl
theorem q1267 : (Jvm.Cond.methodLink "PermissionDesk" (116 : Nat) ({ cls := "PermissionDesk$Land", name := "nests", desc := "(II)I" } : Jvm.MethodName)) ∈ lw_all := lw_g (lw_at lw_m5 227 rfl) rfl
theorem q1279 : (Jvm.Cond.instanceMethod ({ cls := "PermissionDesk", name := "unnest", desc := "(II)I" } : Jvm.MethodName)) ∈ lw_all := lw_g (lw_at lw_m5 239 rfl) rfl
theorem q1280 : (Jvm.Cond.selects "PermissionDesk" ({ cls := "PermissionDesk", name := "unnest", desc := "(II)I" } : Jvm.MethodName) ({ cls := "PermissionDesk", name := "unnest", desc := "(II)I" } : Jvm.MethodName)) ∈ lw_all := lw_g (lw_at lw_m6 0 rfl) rfl
theorem q1281 : (Jvm.Cond.code ({ cls := "PermissionDesk", name := "unnest", desc := "(II)I" } : Jvm.MethodName) prog_1_method_18_code (5 : Nat) (Option.some Jvm.ClassFile.FieldType.int)) ∈ lw_all := lw_g (lw_at lw_m6 1 rfl) rfl
theorem q1282 : (Jvm.Cond.methodLink "PermissionDesk" (119 : Nat) ({ cls := "PermissionDesk$Land", name := "unnests", desc := "(II)I" } : Jvm.MethodName)) ∈ lw_all := lw_g (lw_at lw_m6 2 rfl) rfl
theorem q1290 : (Jvm.Cond.instanceMethod ({ cls := "PermissionDesk", name := "make", desc := "(II)I" } : Jvm.MethodName)) ∈ lw_all := lw_g (lw_at lw_m6 10 rfl) rfl
theorem q1291 : (Jvm.Cond.selects "PermissionDesk" ({ cls := "PermissionDesk", name := "make", desc := "(II)I" } : Jvm.MethodName) ({ cls := "PermissionDesk", name := "make", desc := "(II)I" } : Jvm.MethodName)) ∈ lw_all := lw_g (lw_at lw_m6 11 rfl) rfl
theorem q1292 : (Jvm.Cond.code ({ cls := "PermissionDesk", name := "make", desc := "(II)I" } : Jvm.MethodName) prog_1_method_19_code (5 : Nat) (Option.some Jvm.ClassFile.FieldType.int)) ∈ lw_all := lw_g (lw_at lw_m6 12 rfl) rfl
theorem q1293 : (Jvm.Cond.methodLink "PermissionDesk" (125 : Nat) ({ cls := "PermissionDesk$Land", name := "makes", desc := "(II)I" } : Jvm.MethodName)) ∈ lw_all := lw_g (lw_at lw_m6 13 rfl) rfl
theorem q1302 : (Jvm.Cond.instanceMethod ({ cls := "PermissionDesk", name := "remove", desc := "(I)I" } : Jvm.MethodName)) ∈ lw_all := lw_g (lw_at lw_m6 22 rfl) rfl
theorem q1303 : (Jvm.Cond.selects "PermissionDesk" ({ cls := "PermissionDesk", name := "remove", desc := "(I)I" } : Jvm.MethodName) ({ cls := "PermissionDesk", name := "remove", desc := "(I)I" } : Jvm.MethodName)) ∈ lw_all := lw_g (lw_at lw_m6 23 rfl) rfl
theorem q1304 : (Jvm.Cond.code ({ cls := "PermissionDesk", name := "remove", desc := "(I)I" } : Jvm.MethodName) prog_1_method_20_code (4 : Nat) (Option.some Jvm.ClassFile.FieldType.int)) ∈ lw_all := lw_g (lw_at lw_m6 24 rfl) rfl
theorem q1305 : (Jvm.Cond.methodLink "PermissionDesk" (128 : Nat) ({ cls := "PermissionDesk$Land", name := "removes", desc := "(I)I" } : Jvm.MethodName)) ∈ lw_all := lw_g (lw_at lw_m6 25 rfl) rfl
theorem q1322 : (Jvm.Cond.instanceMethod ({ cls := "PermissionDesk", name := "move", desc := "(II)I" } : Jvm.MethodName)) ∈ lw_all := lw_g (lw_at lw_m6 42 rfl) rfl
theorem q1323 : (Jvm.Cond.selects "PermissionDesk" ({ cls := "PermissionDesk", name := "move", desc := "(II)I" } : Jvm.MethodName) ({ cls := "PermissionDesk", name := "move", desc := "(II)I" } : Jvm.MethodName)) ∈ lw_all := lw_g (lw_at lw_m6 43 rfl) rfl
theorem q1324 : (Jvm.Cond.code ({ cls := "PermissionDesk", name := "move", desc := "(II)I" } : Jvm.MethodName) prog_1_method_21_code (5 : Nat) (Option.some Jvm.ClassFile.FieldType.int)) ∈ lw_all := lw_g (lw_at lw_m6 44 rfl) rfl
theorem q1325 : (Jvm.Cond.methodLink "PermissionDesk" (132 : Nat) ({ cls := "PermissionDesk$Land", name := "moves", desc := "(II)I" } : Jvm.MethodName)) ∈ lw_all := lw_g (lw_at lw_m6 45 rfl) rfl
theorem q1333 : (Jvm.Cond.instanceMethod ({ cls := "PermissionDesk", name := "giveTo", desc := "(II)I" } : Jvm.MethodName)) ∈ lw_all := lw_g (lw_at lw_m6 53 rfl) rfl
theorem q1334 : (Jvm.Cond.selects "PermissionDesk" ({ cls := "PermissionDesk", name := "giveTo", desc := "(II)I" } : Jvm.MethodName) ({ cls := "PermissionDesk", name := "giveTo", desc := "(II)I" } : Jvm.MethodName)) ∈ lw_all := lw_g (lw_at lw_m6 54 rfl) rfl
theorem q1335 : (Jvm.Cond.code ({ cls := "PermissionDesk", name := "giveTo", desc := "(II)I" } : Jvm.MethodName) prog_1_method_22_code (4 : Nat) (Option.some Jvm.ClassFile.FieldType.int)) ∈ lw_all := lw_g (lw_at lw_m6 55 rfl) rfl
theorem q1341 : (Jvm.Cond.instanceMethod ({ cls := "PermissionDesk", name := "setMask", desc := "(II)I" } : Jvm.MethodName)) ∈ lw_all := lw_g (lw_at lw_m6 61 rfl) rfl
theorem q1342 : (Jvm.Cond.selects "PermissionDesk" ({ cls := "PermissionDesk", name := "setMask", desc := "(II)I" } : Jvm.MethodName) ({ cls := "PermissionDesk", name := "setMask", desc := "(II)I" } : Jvm.MethodName)) ∈ lw_all := lw_g (lw_at lw_m6 62 rfl) rfl
theorem q1343 : (Jvm.Cond.code ({ cls := "PermissionDesk", name := "setMask", desc := "(II)I" } : Jvm.MethodName) prog_1_method_23_code (4 : Nat) (Option.some Jvm.ClassFile.FieldType.int)) ∈ lw_all := lw_g (lw_at lw_m6 63 rfl) rfl
theorem q1344 : (Jvm.Cond.methodLink "PermissionDesk" (144 : Nat) ({ cls := "PermissionDesk", name := "checkRights", desc := "(II)V" } : Jvm.MethodName)) ∈ lw_all := lw_g (lw_at lw_m6 64 rfl) rfl
theorem q1345 : (Jvm.Cond.static ({ cls := "PermissionDesk", name := "checkRights", desc := "(II)V" } : Jvm.MethodName)) ∈ lw_all := lw_g (lw_at lw_m6 65 rfl) rfl
theorem q1346 : (Jvm.Cond.code ({ cls := "PermissionDesk", name := "checkRights", desc := "(II)V" } : Jvm.MethodName) prog_1_method_7_code (2 : Nat) (Option.none : Option Jvm.ClassFile.FieldType)) ∈ lw_all := lw_g (lw_at lw_m6 66 rfl) rfl
theorem q1347 : (Jvm.Cond.methodLink "PermissionDesk" (23 : Nat) ({ cls := "PermissionDesk", name := "setOf", desc := "([I)I" } : Jvm.MethodName)) ∈ lw_all := lw_g (lw_at lw_m6 67 rfl) rfl
theorem q1348 : (Jvm.Cond.methodLink "PermissionDesk" (15 : Nat) ({ cls := "PermissionDesk", name := "inRange", desc := "(III)Z" } : Jvm.MethodName)) ∈ lw_all := lw_g (lw_at lw_m6 68 rfl) rfl
theorem q1349 : (Jvm.Cond.methodLink "PermissionDesk" (19 : Nat) ({ cls := "PermissionDesk", name := "check", desc := "(Z)V" } : Jvm.MethodName)) ∈ lw_all := lw_g (lw_at lw_m6 69 rfl) rfl
theorem q1350 : (Jvm.Cond.static ({ cls := "PermissionDesk", name := "check", desc := "(Z)V" } : Jvm.MethodName)) ∈ lw_all := lw_g (lw_at lw_m6 70 rfl) rfl
theorem q1351 : (Jvm.Cond.code ({ cls := "PermissionDesk", name := "check", desc := "(Z)V" } : Jvm.MethodName) prog_1_method_4_code (1 : Nat) (Option.none : Option Jvm.ClassFile.FieldType)) ∈ lw_all := lw_g (lw_at lw_m6 71 rfl) rfl
theorem q1352 : (Jvm.Cond.classLink "PermissionDesk" (7 : Nat) "java/lang/IllegalArgumentException") ∈ lw_all := lw_g (lw_at lw_m6 72 rfl) rfl
theorem q1353 : (Jvm.Cond.methodLink "PermissionDesk" (9 : Nat) ({ cls := "java/lang/IllegalArgumentException", name := "<init>", desc := "()V" } : Jvm.MethodName)) ∈ lw_all := lw_g (lw_at lw_m6 73 rfl) rfl
theorem q1361 : (Jvm.Cond.instanceMethod ({ cls := "PermissionDesk", name := "setInheriting", desc := "(IZ)Z" } : Jvm.MethodName)) ∈ lw_all := lw_g (lw_at lw_m6 81 rfl) rfl
theorem q1362 : (Jvm.Cond.selects "PermissionDesk" ({ cls := "PermissionDesk", name := "setInheriting", desc := "(IZ)Z" } : Jvm.MethodName) ({ cls := "PermissionDesk", name := "setInheriting", desc := "(IZ)Z" } : Jvm.MethodName)) ∈ lw_all := lw_g (lw_at lw_m6 82 rfl) rfl
theorem q1363 : (Jvm.Cond.code ({ cls := "PermissionDesk", name := "setInheriting", desc := "(IZ)Z" } : Jvm.MethodName) prog_1_method_24_code (4 : Nat) (Option.some Jvm.ClassFile.FieldType.boolean)) ∈ lw_all := lw_g (lw_at lw_m6 83 rfl) rfl
theorem q1368 : (Jvm.Cond.instanceMethod ({ cls := "PermissionDesk", name := "addForUser", desc := "(IIIZZ)I" } : Jvm.MethodName)) ∈ lw_all := lw_g (lw_at lw_m6 88 rfl) rfl
theorem q1369 : (Jvm.Cond.selects "PermissionDesk" ({ cls := "PermissionDesk", name := "addForUser", desc := "(IIIZZ)I" } : Jvm.MethodName) ({ cls := "PermissionDesk", name := "addForUser", desc := "(IIIZZ)I" } : Jvm.MethodName)) ∈ lw_all := lw_g (lw_at lw_m6 89 rfl) rfl
theorem q1370 : (Jvm.Cond.code ({ cls := "PermissionDesk", name := "addForUser", desc := "(IIIZZ)I" } : Jvm.MethodName) prog_1_method_26_code (6 : Nat) (Option.some Jvm.ClassFile.FieldType.int)) ∈ lw_all := lw_g (lw_at lw_m6 90 rfl) rfl
theorem q1371 : (Jvm.Cond.classLink "PermissionDesk" (162 : Nat) "PermissionDesk$Entry") ∈ lw_all := lw_g (lw_at lw_m6 91 rfl) rfl
theorem q1372 : (Jvm.Cond.methodLink "PermissionDesk" (164 : Nat) ({ cls := "PermissionDesk$Entry", name := "<init>", desc := "(IIIZZ)V" } : Jvm.MethodName)) ∈ lw_all := lw_g (lw_at lw_m6 92 rfl) rfl
theorem q1373 : (Jvm.Cond.methodLink "PermissionDesk" (167 : Nat) ({ cls := "PermissionDesk", name := "adds", desc := "(ILPermissionDesk$Entry;)I" } : Jvm.MethodName)) ∈ lw_all := lw_g (lw_at lw_m6 93 rfl) rfl
theorem q1374 : (Jvm.Cond.privateMethod ({ cls := "PermissionDesk", name := "adds", desc := "(ILPermissionDesk$Entry;)I" } : Jvm.MethodName)) ∈ lw_tbl := lw_at lw_m6 94 rfl
theorem q1375 : (Jvm.Cond.instanceMethod ({ cls := "PermissionDesk", name := "adds", desc := "(ILPermissionDesk$Entry;)I" } : Jvm.MethodName)) ∈ lw_all := lw_g (lw_at lw_m6 95 rfl) rfl
theorem q1376 : (Jvm.Cond.code ({ cls := "PermissionDesk", name := "adds", desc := "(ILPermissionDesk$Entry;)I" } : Jvm.MethodName) prog_1_method_25_code (5 : Nat) (Option.some Jvm.ClassFile.FieldType.int)) ∈ lw_all := lw_g (lw_at lw_m6 96 rfl) rfl
theorem q1377 : (Jvm.Cond.methodLink "PermissionDesk" (158 : Nat) ({ cls := "PermissionDesk$Land", name := "adds", desc := "(IILPermissionDesk$Entry;)I" } : Jvm.MethodName)) ∈ lw_all := lw_g (lw_at lw_m6 97 rfl) rfl
theorem q1406 : (Jvm.Cond.instanceMethod ({ cls := "PermissionDesk", name := "addForGroup", desc := "(IIIZZ)I" } : Jvm.MethodName)) ∈ lw_all := lw_g (lw_at lw_m6 126 rfl) rfl
theorem q1407 : (Jvm.Cond.selects "PermissionDesk" ({ cls := "PermissionDesk", name := "addForGroup", desc := "(IIIZZ)I" } : Jvm.MethodName) ({ cls := "PermissionDesk", name := "addForGroup", desc := "(IIIZZ)I" } : Jvm.MethodName)) ∈ lw_all := lw_g (lw_at lw_m6 127 rfl) rfl
theorem q1408 : (Jvm.Cond.code ({ cls := "PermissionDesk", name := "addForGroup", desc := "(IIIZZ)I" } : Jvm.MethodName) prog_1_method_27_code (6 : Nat) (Option.some Jvm.ClassFile.FieldType.int)) ∈ lw_all := lw_g (lw_at lw_m6 128 rfl) rfl
theorem q1413 : (Jvm.Cond.instanceMethod ({ cls := "PermissionDesk", name := "addForOwner", desc := "(IIZZ)I" } : Jvm.MethodName)) ∈ lw_all := lw_g (lw_at lw_m6 133 rfl) rfl
theorem q1414 : (Jvm.Cond.selects "PermissionDesk" ({ cls := "PermissionDesk", name := "addForOwner", desc := "(IIZZ)I" } : Jvm.MethodName) ({ cls := "PermissionDesk", name := "addForOwner", desc := "(IIZZ)I" } : Jvm.MethodName)) ∈ lw_all := lw_g (lw_at lw_m6 134 rfl) rfl
theorem q1415 : (Jvm.Cond.code ({ cls := "PermissionDesk", name := "addForOwner", desc := "(IIZZ)I" } : Jvm.MethodName) prog_1_method_28_code (5 : Nat) (Option.some Jvm.ClassFile.FieldType.int)) ∈ lw_all := lw_g (lw_at lw_m6 135 rfl) rfl
theorem q1416 : (Jvm.Cond.methodLink "PermissionDesk" (170 : Nat) ({ cls := "PermissionDesk$Entry", name := "<init>", desc := "(IIZZ)V" } : Jvm.MethodName)) ∈ lw_all := lw_g (lw_at lw_m6 136 rfl) rfl
theorem q1424 : (Jvm.Cond.instanceMethod ({ cls := "PermissionDesk", name := "addForAll", desc := "(IIZZ)I" } : Jvm.MethodName)) ∈ lw_all := lw_g (lw_at lw_m6 144 rfl) rfl
theorem q1425 : (Jvm.Cond.selects "PermissionDesk" ({ cls := "PermissionDesk", name := "addForAll", desc := "(IIZZ)I" } : Jvm.MethodName) ({ cls := "PermissionDesk", name := "addForAll", desc := "(IIZZ)I" } : Jvm.MethodName)) ∈ lw_all := lw_g (lw_at lw_m6 145 rfl) rfl
theorem q1426 : (Jvm.Cond.code ({ cls := "PermissionDesk", name := "addForAll", desc := "(IIZZ)I" } : Jvm.MethodName) prog_1_method_29_code (5 : Nat) (Option.some Jvm.ClassFile.FieldType.int)) ∈ lw_all := lw_g (lw_at lw_m6 146 rfl) rfl
theorem q1431 : (Jvm.Cond.instanceMethod ({ cls := "PermissionDesk", name := "removeEntry", desc := "(II)I" } : Jvm.MethodName)) ∈ lw_all := lw_g (lw_at lw_m6 151 rfl) rfl
theorem q1432 : (Jvm.Cond.selects "PermissionDesk" ({ cls := "PermissionDesk", name := "removeEntry", desc := "(II)I" } : Jvm.MethodName) ({ cls := "PermissionDesk", name := "removeEntry", desc := "(II)I" } : Jvm.MethodName)) ∈ lw_all := lw_g (lw_at lw_m6 152 rfl) rfl
theorem q1433 : (Jvm.Cond.code ({ cls := "PermissionDesk", name := "removeEntry", desc := "(II)I" } : Jvm.MethodName) prog_1_method_31_code (3 : Nat) (Option.some Jvm.ClassFile.FieldType.int)) ∈ lw_all := lw_g (lw_at lw_m6 153 rfl) rfl
theorem q1434 : (Jvm.Cond.methodLink "PermissionDesk" (174 : Nat) ({ cls := "PermissionDesk", name := "hasEntry", desc := "(II)Z" } : Jvm.MethodName)) ∈ lw_all := lw_g (lw_at lw_m6 154 rfl) rfl
theorem q1435 : (Jvm.Cond.privateMethod ({ cls := "PermissionDesk", name := "hasEntry", desc := "(II)Z" } : Jvm.MethodName)) ∈ lw_tbl := lw_at lw_m6 155 rfl
theorem q1436 : (Jvm.Cond.instanceMethod ({ cls := "PermissionDesk", name := "hasEntry", desc := "(II)Z" } : Jvm.MethodName)) ∈ lw_all := lw_g (lw_at lw_m6 156 rfl) rfl
theorem q1437 : (Jvm.Cond.code ({ cls := "PermissionDesk", name := "hasEntry", desc := "(II)Z" } : Jvm.MethodName) prog_1_method_30_code (3 : Nat) (Option.some Jvm.ClassFile.FieldType.boolean)) ∈ lw_all := lw_g (lw_at lw_m6 157 rfl) rfl
theorem q1438 : (Jvm.Cond.methodLink "PermissionDesk" (173 : Nat) ({ cls := "PermissionDesk$Thing", name := "has", desc := "(I)Z" } : Jvm.MethodName)) ∈ lw_all := lw_g (lw_at lw_m6 158 rfl) rfl
theorem q1444 : (Jvm.Cond.methodLink "PermissionDesk" (178 : Nat) ({ cls := "PermissionDesk$Land", name := "removesEntry", desc := "(II)I" } : Jvm.MethodName)) ∈ lw_all := lw_g (lw_at lw_m6 164 rfl) rfl
theorem q1460 : (Jvm.Cond.instanceMethod ({ cls := "PermissionDesk", name := "moveEntry", desc := "(III)I" } : Jvm.MethodName)) ∈ lw_all := lw_g (lw_at lw_m6 180 rfl) rfl
theorem q1461 : (Jvm.Cond.selects "PermissionDesk" ({ cls := "PermissionDesk", name := "moveEntry", desc := "(III)I" } : Jvm.MethodName) ({ cls := "PermissionDesk", name := "moveEntry", desc := "(III)I" } : Jvm.MethodName)) ∈ lw_all := lw_g (lw_at lw_m6 181 rfl) rfl
theorem q1462 : (Jvm.Cond.code ({ cls := "PermissionDesk", name := "moveEntry", desc := "(III)I" } : Jvm.MethodName) prog_1_method_32_code (4 : Nat) (Option.some Jvm.ClassFile.FieldType.int)) ∈ lw_all := lw_g (lw_at lw_m6 182 rfl) rfl
theorem q1463 : (Jvm.Cond.methodLink "PermissionDesk" (181 : Nat) ({ cls := "PermissionDesk$Land", name := "movesEntry", desc := "(III)I" } : Jvm.MethodName)) ∈ lw_all := lw_g (lw_at lw_m6 183 rfl) rfl
theorem q1476 : (Jvm.Cond.instanceMethod ({ cls := "PermissionDesk", name := "ask", desc := "(III)Z" } : Jvm.MethodName)) ∈ lw_all := lw_g (lw_at lw_m6 196 rfl) rfl
theorem q1477 : (Jvm.Cond.selects "PermissionDesk" ({ cls := "PermissionDesk", name := "ask", desc := "(III)Z" } : Jvm.MethodName) ({ cls := "PermissionDesk", name := "ask", desc := "(III)Z" } : Jvm.MethodName)) ∈ lw_all := lw_g (lw_at lw_m6 197 rfl) rfl
theorem q1478 : (Jvm.Cond.code ({ cls := "PermissionDesk", name := "ask", desc := "(III)Z" } : Jvm.MethodName) prog_1_method_33_code (4 : Nat) (Option.some Jvm.ClassFile.FieldType.boolean)) ∈ lw_all := lw_g (lw_at lw_m6 198 rfl) rfl
theorem q1479 : (Jvm.Cond.methodLink "PermissionDesk" (185 : Nat) ({ cls := "PermissionDesk", name := "checkRight", desc := "(I)V" } : Jvm.MethodName)) ∈ lw_all := lw_g (lw_at lw_m6 199 rfl) rfl
theorem q1480 : (Jvm.Cond.static ({ cls := "PermissionDesk", name := "checkRight", desc := "(I)V" } : Jvm.MethodName)) ∈ lw_all := lw_g (lw_at lw_m6 200 rfl) rfl
theorem q1481 : (Jvm.Cond.code ({ cls := "PermissionDesk", name := "checkRight", desc := "(I)V" } : Jvm.MethodName) prog_1_method_6_code (1 : Nat) (Option.none : Option Jvm.ClassFile.FieldType)) ∈ lw_all := lw_g (lw_at lw_m6 201 rfl) rfl
theorem q1482 : (Jvm.Cond.methodLink "PermissionDesk" (189 : Nat) ({ cls := "PermissionDesk$Land", name := "asks", desc := "(III)Z" } : Jvm.MethodName)) ∈ lw_all := lw_g (lw_at lw_m6 202 rfl) rfl
theorem q1502 : (Jvm.Cond.fieldLinkNest "PermissionDesk" (351 : Nat) "PermissionDesk$Request" "user" "I" "PermissionDesk") ∈ lw_tbl := lw_at lw_m6 222 rfl
theorem q1504 : (Jvm.Cond.fieldLinkNest "PermissionDesk" (354 : Nat) "PermissionDesk$Request" "object" "I" "PermissionDesk") ∈ lw_tbl := lw_at lw_m6 224 rfl
theorem q1506 : (Jvm.Cond.fieldLinkNest "PermissionDesk" (357 : Nat) "PermissionDesk$Request" "isAllowed" "Z" "PermissionDesk") ∈ lw_tbl := lw_at lw_m6 226 rfl
theorem q1526 : (Jvm.Cond.instanceMethod ({ cls := "PermissionDesk", name := "share", desc := "(IIII)I" } : Jvm.MethodName)) ∈ lw_all := lw_g (lw_at lw_m7 6 rfl) rfl
theorem q1527 : (Jvm.Cond.selects "PermissionDesk" ({ cls := "PermissionDesk", name := "share", desc := "(IIII)I" } : Jvm.MethodName) ({ cls := "PermissionDesk", name := "share", desc := "(IIII)I" } : Jvm.MethodName)) ∈ lw_all := lw_g (lw_at lw_m7 7 rfl) rfl
theorem q1528 : (Jvm.Cond.code ({ cls := "PermissionDesk", name := "share", desc := "(IIII)I" } : Jvm.MethodName) prog_1_method_34_code (7 : Nat) (Option.some Jvm.ClassFile.FieldType.int)) ∈ lw_all := lw_g (lw_at lw_m7 8 rfl) rfl
theorem q1529 : (Jvm.Cond.methodLink "PermissionDesk" (192 : Nat) ({ cls := "PermissionDesk$Land", name := "shares", desc := "(IIII)I" } : Jvm.MethodName)) ∈ lw_all := lw_g (lw_at lw_m7 9 rfl) rfl
theorem q1540 : (Jvm.Cond.instanceMethod ({ cls := "PermissionDesk", name := "append", desc := "(I)I" } : Jvm.MethodName)) ∈ lw_all := lw_g (lw_at lw_m7 20 rfl) rfl
theorem q1541 : (Jvm.Cond.selects "PermissionDesk" ({ cls := "PermissionDesk", name := "append", desc := "(I)I" } : Jvm.MethodName) ({ cls := "PermissionDesk", name := "append", desc := "(I)I" } : Jvm.MethodName)) ∈ lw_all := lw_g (lw_at lw_m7 21 rfl) rfl
theorem q1542 : (Jvm.Cond.code ({ cls := "PermissionDesk", name := "append", desc := "(I)I" } : Jvm.MethodName) prog_1_method_35_code (2 : Nat) (Option.some Jvm.ClassFile.FieldType.int)) ∈ lw_all := lw_g (lw_at lw_m7 22 rfl) rfl
theorem q1543 : (Jvm.Cond.methodLink "PermissionDesk" (199 : Nat) ({ cls := "java/lang/StringBuilder", name := "append", desc := "(C)Ljava/lang/StringBuilder;" } : Jvm.MethodName)) ∈ lw_all := lw_g (lw_at lw_m7 23 rfl) rfl
theorem q1564 : (Jvm.Cond.instanceMethod ({ cls := "PermissionDesk", name := "loadEntries", desc := "()I" } : Jvm.MethodName)) ∈ lw_all := lw_g (lw_at lw_m7 44 rfl) rfl
theorem q1565 : (Jvm.Cond.selects "PermissionDesk" ({ cls := "PermissionDesk", name := "loadEntries", desc := "()I" } : Jvm.MethodName) ({ cls := "PermissionDesk", name := "loadEntries", desc := "()I" } : Jvm.MethodName)) ∈ lw_all := lw_g (lw_at lw_m7 45 rfl) rfl
theorem q1566 : (Jvm.Cond.codeWith ({ cls := "PermissionDesk", name := "loadEntries", desc := "()I" } : Jvm.MethodName) prog_1_method_39_code (4 : Nat) (Option.some Jvm.ClassFile.FieldType.int) [((8 : Nat), (17 : Nat), (20 : Nat), (228 : Nat))]) ∈ lw_all := lw_g (lw_at lw_m7 46 rfl) rfl
theorem q1567 : (Jvm.Cond.classLink "PermissionDesk" (228 : Nat) "PermissionDesk$Unloaded") ∈ lw_all := lw_g (lw_at lw_m7 47 rfl) rfl
theorem q1568 : (Jvm.Cond.methodLink "PermissionDesk" (233 : Nat) ({ cls := "PermissionDesk", name := "loads", desc := "(LPermissionDesk$Land;)I" } : Jvm.MethodName)) ∈ lw_all := lw_g (lw_at lw_m7 48 rfl) rfl
theorem q1569 : (Jvm.Cond.privateMethod ({ cls := "PermissionDesk", name := "loads", desc := "(LPermissionDesk$Land;)I" } : Jvm.MethodName)) ∈ lw_tbl := lw_at lw_m7 49 rfl
theorem q1570 : (Jvm.Cond.instanceMethod ({ cls := "PermissionDesk", name := "loads", desc := "(LPermissionDesk$Land;)I" } : Jvm.MethodName)) ∈ lw_all := lw_g (lw_at lw_m7 50 rfl) rfl
theorem q1571 : (Jvm.Cond.codeWith ({ cls := "PermissionDesk", name := "loads", desc := "(LPermissionDesk$Land;)I" } : Jvm.MethodName) prog_1_method_38_code (6 : Nat) (Option.some Jvm.ClassFile.FieldType.int) [((2 : Nat), (26 : Nat), (51 : Nat), (215 : Nat)), ((2 : Nat), (26 : Nat), (51 : Nat), (226 : Nat)), ((2 : Nat), (26 : Nat), (61 : Nat), (0 : Nat)), ((51 : Nat), (63 : Nat), (61 : Nat), (0 : Nat))]) ∈ lw_all := lw_g (lw_at lw_m7 51 rfl) rfl
theorem q1572 : (Jvm.Cond.classLink "PermissionDesk" (226 : Nat) "PermissionDesk$Absent") ∈ lw_all := lw_g (lw_at lw_m7 52 rfl) rfl
theorem q1573 : (Jvm.Cond.methodLink "PermissionDesk" (220 : Nat) ({ cls := "PermissionDesk$Plan", name := "loads", desc := "(LPermissionDesk$Land;)I" } : Jvm.MethodName)) ∈ lw_all := lw_g (lw_at lw_m7 53 rfl) rfl
theorem q1619 : (Jvm.Cond.methodLink "PermissionDesk" (230 : Nat) ({ cls := "PermissionDesk$Unloaded", name := "<init>", desc := "(Ljava/lang/Exception;)V" } : Jvm.MethodName)) ∈ lw_all := lw_g (lw_at lw_m7 99 rfl) rfl
theorem q1642 : (Jvm.Cond.selects "PermissionDesk" ({ cls := "java/lang/Object", name := "toString", desc := "()Ljava/lang/String;" } : Jvm.MethodName) ({ cls := "java/lang/Object", name := "toString", desc := "()Ljava/lang/String;" } : Jvm.MethodName)) ∈ lw_all := lw_g (lw_at lw_m7 122 rfl) rfl
theorem q1712 : (Jvm.Cond.methodLink "PermissionDesk" (234 : Nat) ({ cls := "PermissionDesk$Unloaded", name := "isOfText", desc := "()Z" } : Jvm.MethodName)) ∈ lw_all := lw_g (lw_at lw_m7 192 rfl) rfl
theorem q1723 : (Jvm.Cond.stringRef "PermissionDesk" (238 : Nat) "text") ∈ lw_tbl := lw_at lw_m7 203 rfl
theorem q1724 : (Jvm.Cond.methodLink "PermissionDesk" (240 : Nat) ({ cls := "java/lang/IllegalStateException", name := "<init>", desc := "(Ljava/lang/String;)V" } : Jvm.MethodName)) ∈ lw_all := lw_g (lw_at lw_m7 204 rfl) rfl
theorem q1732 : (Jvm.Cond.instanceMethod ({ cls := "PermissionDesk", name := "writeEntries", desc := "(I)I" } : Jvm.MethodName)) ∈ lw_all := lw_g (lw_at lw_m7 212 rfl) rfl
theorem q1733 : (Jvm.Cond.selects "PermissionDesk" ({ cls := "PermissionDesk", name := "writeEntries", desc := "(I)I" } : Jvm.MethodName) ({ cls := "PermissionDesk", name := "writeEntries", desc := "(I)I" } : Jvm.MethodName)) ∈ lw_all := lw_g (lw_at lw_m7 213 rfl) rfl
theorem q1734 : (Jvm.Cond.code ({ cls := "PermissionDesk", name := "writeEntries", desc := "(I)I" } : Jvm.MethodName) prog_1_method_40_code (3 : Nat) (Option.some Jvm.ClassFile.FieldType.int)) ∈ lw_all := lw_g (lw_at lw_m7 214 rfl) rfl
theorem q1735 : (Jvm.Cond.methodLink "PermissionDesk" (243 : Nat) ({ cls := "java/lang/StringBuilder", name := "append", desc := "(I)Ljava/lang/StringBuilder;" } : Jvm.MethodName)) ∈ lw_all := lw_g (lw_at lw_m7 215 rfl) rfl
theorem q1736 : (Jvm.Cond.methodLink "PermissionDesk" (246 : Nat) ({ cls := "PermissionDesk$Land", name := "entry", desc := "(II)LPermissionDesk$Entry;" } : Jvm.MethodName)) ∈ lw_all := lw_g (lw_at lw_m7 216 rfl) rfl
theorem q1737 : (Jvm.Cond.methodLink "PermissionDesk" (250 : Nat) ({ cls := "PermissionDesk$Entry", name := "writes", desc := "(Ljava/lang/StringBuilder;)V" } : Jvm.MethodName)) ∈ lw_all := lw_g (lw_at lw_m7 217 rfl) rfl
theorem q1748 : (Jvm.Cond.instanceMethod ({ cls := "PermissionDesk", name := "codeAt", desc := "(I)I" } : Jvm.MethodName)) ∈ lw_all := lw_g (lw_at lw_m7 228 rfl) rfl
theorem q1749 : (Jvm.Cond.selects "PermissionDesk" ({ cls := "PermissionDesk", name := "codeAt", desc := "(I)I" } : Jvm.MethodName) ({ cls := "PermissionDesk", name := "codeAt", desc := "(I)I" } : Jvm.MethodName)) ∈ lw_all := lw_g (lw_at lw_m7 229 rfl) rfl
theorem q1750 : (Jvm.Cond.code ({ cls := "PermissionDesk", name := "codeAt", desc := "(I)I" } : Jvm.MethodName) prog_1_method_41_code (2 : Nat) (Option.some Jvm.ClassFile.FieldType.int)) ∈ lw_all := lw_g (lw_at lw_m7 230 rfl) rfl
theorem q1751 : (Jvm.Cond.methodLink "PermissionDesk" (253 : Nat) ({ cls := "java/lang/StringBuilder", name := "charAt", desc := "(I)C" } : Jvm.MethodName)) ∈ lw_all := lw_g (lw_at lw_m7 231 rfl) rfl
theorem q1756 : (Jvm.Cond.instanceMethod ({ cls := "PermissionDesk", name := "isMember", desc := "(II)Z" } : Jvm.MethodName)) ∈ lw_all := lw_g (lw_at lw_m7 236 rfl) rfl
theorem q1757 : (Jvm.Cond.selects "PermissionDesk" ({ cls := "PermissionDesk", name := "isMember", desc := "(II)Z" } : Jvm.MethodName) ({ cls := "PermissionDesk", name := "isMember", desc := "(II)Z" } : Jvm.MethodName)) ∈ lw_all := lw_g (lw_at lw_m7 237 rfl) rfl
theorem q1758 : (Jvm.Cond.code ({ cls := "PermissionDesk", name := "isMember", desc := "(II)Z" } : Jvm.MethodName) prog_1_method_44_code (3 : Nat) (Option.some Jvm.ClassFile.FieldType.boolean)) ∈ lw_all := lw_g (lw_at lw_m7 238 rfl) rfl
theorem q1759 : (Jvm.Cond.methodLink "PermissionDesk" (257 : Nat) ({ cls := "PermissionDesk$Land", name := "team", desc := "(I)LPermissionDesk$Team;" } : Jvm.MethodName)) ∈ lw_all := lw_g (lw_at lw_m7 239 rfl) rfl
theorem q1760 : (Jvm.Cond.methodLink "PermissionDesk" (262 : Nat) ({ cls := "PermissionDesk", name := "isIn", desc := "(II)Z" } : Jvm.MethodName)) ∈ lw_all := lw_g (lw_at lw_m8 0 rfl) rfl
theorem q1765 : (Jvm.Cond.instanceMethod ({ cls := "PermissionDesk", name := "isNested", desc := "(II)Z" } : Jvm.MethodName)) ∈ lw_all := lw_g (lw_at lw_m8 5 rfl) rfl
theorem q1766 : (Jvm.Cond.selects "PermissionDesk" ({ cls := "PermissionDesk", name := "isNested", desc := "(II)Z" } : Jvm.MethodName) ({ cls := "PermissionDesk", name := "isNested", desc := "(II)Z" } : Jvm.MethodName)) ∈ lw_all := lw_g (lw_at lw_m8 6 rfl) rfl
theorem q1767 : (Jvm.Cond.code ({ cls := "PermissionDesk", name := "isNested", desc := "(II)Z" } : Jvm.MethodName) prog_1_method_45_code (3 : Nat) (Option.some Jvm.ClassFile.FieldType.boolean)) ∈ lw_all := lw_g (lw_at lw_m8 7 rfl) rfl
theorem q1772 : (Jvm.Cond.instanceMethod ({ cls := "PermissionDesk", name := "belongs", desc := "(II)Z" } : Jvm.MethodName)) ∈ lw_all := lw_g (lw_at lw_m8 12 rfl) rfl
theorem q1773 : (Jvm.Cond.selects "PermissionDesk" ({ cls := "PermissionDesk", name := "belongs", desc := "(II)Z" } : Jvm.MethodName) ({ cls := "PermissionDesk", name := "belongs", desc := "(II)Z" } : Jvm.MethodName)) ∈ lw_all := lw_g (lw_at lw_m8 13 rfl) rfl
theorem q1774 : (Jvm.Cond.code ({ cls := "PermissionDesk", name := "belongs", desc := "(II)Z" } : Jvm.MethodName) prog_1_method_46_code (3 : Nat) (Option.some Jvm.ClassFile.FieldType.boolean)) ∈ lw_all := lw_g (lw_at lw_m8 14 rfl) rfl
theorem q1775 : (Jvm.Cond.methodLink "PermissionDesk" (268 : Nat) ({ cls := "PermissionDesk$Land", name := "belongs", desc := "(II)Z" } : Jvm.MethodName)) ∈ lw_all := lw_g (lw_at lw_m8 15 rfl) rfl
theorem q1780 : (Jvm.Cond.instanceMethod ({ cls := "PermissionDesk", name := "belongsByMembers", desc := "(II)Z" } : Jvm.MethodName)) ∈ lw_all := lw_g (lw_at lw_m8 20 rfl) rfl
theorem q1781 : (Jvm.Cond.selects "PermissionDesk" ({ cls := "PermissionDesk", name := "belongsByMembers", desc := "(II)Z" } : Jvm.MethodName) ({ cls := "PermissionDesk", name := "belongsByMembers", desc := "(II)Z" } : Jvm.MethodName)) ∈ lw_all := lw_g (lw_at lw_m8 21 rfl) rfl
theorem q1782 : (Jvm.Cond.code ({ cls := "PermissionDesk", name := "belongsByMembers", desc := "(II)Z" } : Jvm.MethodName) prog_1_method_47_code (3 : Nat) (Option.some Jvm.ClassFile.FieldType.boolean)) ∈ lw_all := lw_g (lw_at lw_m8 22 rfl) rfl
theorem q1783 : (Jvm.Cond.methodLink "PermissionDesk" (271 : Nat) ({ cls := "PermissionDesk$Land", name := "belonging", desc := "(I)I" } : Jvm.MethodName)) ∈ lw_all := lw_g (lw_at lw_m8 23 rfl) rfl
theorem q1788 : (Jvm.Cond.instanceMethod ({ cls := "PermissionDesk", name := "parentOf", desc := "(I)I" } : Jvm.MethodName)) ∈ lw_all := lw_g (lw_at lw_m8 28 rfl) rfl
theorem q1789 : (Jvm.Cond.selects "PermissionDesk" ({ cls := "PermissionDesk", name := "parentOf", desc := "(I)I" } : Jvm.MethodName) ({ cls := "PermissionDesk", name := "parentOf", desc := "(I)I" } : Jvm.MethodName)) ∈ lw_all := lw_g (lw_at lw_m8 29 rfl) rfl
theorem q1790 : (Jvm.Cond.code ({ cls := "PermissionDesk", name := "parentOf", desc := "(I)I" } : Jvm.MethodName) prog_1_method_51_code (2 : Nat) (Option.some Jvm.ClassFile.FieldType.int)) ∈ lw_all := lw_g (lw_at lw_m8 30 rfl) rfl
theorem q1791 : (Jvm.Cond.methodLink "PermissionDesk" (277 : Nat) ({ cls := "PermissionDesk", name := "thing", desc := "(I)LPermissionDesk$Thing;" } : Jvm.MethodName)) ∈ lw_all := lw_g (lw_at lw_m8 31 rfl) rfl
theorem q1792 : (Jvm.Cond.privateMethod ({ cls := "PermissionDesk", name := "thing", desc := "(I)LPermissionDesk$Thing;" } : Jvm.MethodName)) ∈ lw_tbl := lw_at lw_m8 32 rfl
theorem q1793 : (Jvm.Cond.instanceMethod ({ cls := "PermissionDesk", name := "thing", desc := "(I)LPermissionDesk$Thing;" } : Jvm.MethodName)) ∈ lw_all := lw_g (lw_at lw_m8 33 rfl) rfl
theorem q1794 : (Jvm.Cond.code ({ cls := "PermissionDesk", name := "thing", desc := "(I)LPermissionDesk$Thing;" } : Jvm.MethodName) prog_1_method_50_code (2 : Nat) (Option.some (Jvm.ClassFile.FieldType.object "PermissionDesk$Thing"))) ∈ lw_all := lw_g (lw_at lw_m8 34 rfl) rfl
theorem q1799 : (Jvm.Cond.instanceMethod ({ cls := "PermissionDesk", name := "ownerOf", desc := "(I)I" } : Jvm.MethodName)) ∈ lw_all := lw_g (lw_at lw_m8 39 rfl) rfl
theorem q1800 : (Jvm.Cond.selects "PermissionDesk" ({ cls := "PermissionDesk", name := "ownerOf", desc := "(I)I" } : Jvm.MethodName) ({ cls := "PermissionDesk", name := "ownerOf", desc := "(I)I" } : Jvm.MethodName)) ∈ lw_all := lw_g (lw_at lw_m8 40 rfl) rfl
theorem q1801 : (Jvm.Cond.code ({ cls := "PermissionDesk", name := "ownerOf", desc := "(I)I" } : Jvm.MethodName) prog_1_method_52_code (2 : Nat) (Option.some Jvm.ClassFile.FieldType.int)) ∈ lw_all := lw_g (lw_at lw_m8 41 rfl) rfl
theorem q1806 : (Jvm.Cond.instanceMethod ({ cls := "PermissionDesk", name := "maskOf", desc := "(I)I" } : Jvm.MethodName)) ∈ lw_all := lw_g (lw_at lw_m8 46 rfl) rfl
theorem q1807 : (Jvm.Cond.selects "PermissionDesk" ({ cls := "PermissionDesk", name := "maskOf", desc := "(I)I" } : Jvm.MethodName) ({ cls := "PermissionDesk", name := "maskOf", desc := "(I)I" } : Jvm.MethodName)) ∈ lw_all := lw_g (lw_at lw_m8 47 rfl) rfl
theorem q1808 : (Jvm.Cond.code ({ cls := "PermissionDesk", name := "maskOf", desc := "(I)I" } : Jvm.MethodName) prog_1_method_53_code (2 : Nat) (Option.some Jvm.ClassFile.FieldType.int)) ∈ lw_all := lw_g (lw_at lw_m8 48 rfl) rfl
theorem q1813 : (Jvm.Cond.instanceMethod ({ cls := "PermissionDesk", name := "isInheriting", desc := "(I)Z" } : Jvm.MethodName)) ∈ lw_all := lw_g (lw_at lw_m8 53 rfl) rfl
theorem q1814 : (Jvm.Cond.selects "PermissionDesk" ({ cls := "PermissionDesk", name := "isInheriting", desc := "(I)Z" } : Jvm.MethodName) ({ cls := "PermissionDesk", name := "isInheriting", desc := "(I)Z" } : Jvm.MethodName)) ∈ lw_all := lw_g (lw_at lw_m8 54 rfl) rfl
theorem q1815 : (Jvm.Cond.code ({ cls := "PermissionDesk", name := "isInheriting", desc := "(I)Z" } : Jvm.MethodName) prog_1_method_54_code (2 : Nat) (Option.some Jvm.ClassFile.FieldType.boolean)) ∈ lw_all := lw_g (lw_at lw_m8 55 rfl) rfl
theorem q1820 : (Jvm.Cond.instanceMethod ({ cls := "PermissionDesk", name := "below", desc := "(I)I" } : Jvm.MethodName)) ∈ lw_all := lw_g (lw_at lw_m8 60 rfl) rfl
theorem q1821 : (Jvm.Cond.selects "PermissionDesk" ({ cls := "PermissionDesk", name := "below", desc := "(I)I" } : Jvm.MethodName) ({ cls := "PermissionDesk", name := "below", desc := "(I)I" } : Jvm.MethodName)) ∈ lw_all := lw_g (lw_at lw_m8 61 rfl) rfl
theorem q1822 : (Jvm.Cond.code ({ cls := "PermissionDesk", name := "below", desc := "(I)I" } : Jvm.MethodName) prog_1_method_55_code (2 : Nat) (Option.some Jvm.ClassFile.FieldType.int)) ∈ lw_all := lw_g (lw_at lw_m8 62 rfl) rfl
theorem q1823 : (Jvm.Cond.methodLink "PermissionDesk" (284 : Nat) ({ cls := "PermissionDesk$Land", name := "below", desc := "(I)I" } : Jvm.MethodName)) ∈ lw_all := lw_g (lw_at lw_m8 63 rfl) rfl
theorem q1828 : (Jvm.Cond.instanceMethod ({ cls := "PermissionDesk", name := "entriesOf", desc := "(I)I" } : Jvm.MethodName)) ∈ lw_all := lw_g (lw_at lw_m8 68 rfl) rfl
theorem q1829 : (Jvm.Cond.selects "PermissionDesk" ({ cls := "PermissionDesk", name := "entriesOf", desc := "(I)I" } : Jvm.MethodName) ({ cls := "PermissionDesk", name := "entriesOf", desc := "(I)I" } : Jvm.MethodName)) ∈ lw_all := lw_g (lw_at lw_m8 69 rfl) rfl
theorem q1830 : (Jvm.Cond.code ({ cls := "PermissionDesk", name := "entriesOf", desc := "(I)I" } : Jvm.MethodName) prog_1_method_56_code (2 : Nat) (Option.some Jvm.ClassFile.FieldType.int)) ∈ lw_all := lw_g (lw_at lw_m8 70 rfl) rfl
theorem q1835 : (Jvm.Cond.instanceMethod ({ cls := "PermissionDesk", name := "isAllowing", desc := "(II)Z" } : Jvm.MethodName)) ∈ lw_all := lw_g (lw_at lw_m8 75 rfl) rfl
theorem q1836 : (Jvm.Cond.selects "PermissionDesk" ({ cls := "PermissionDesk", name := "isAllowing", desc := "(II)Z" } : Jvm.MethodName) ({ cls := "PermissionDesk", name := "isAllowing", desc := "(II)Z" } : Jvm.MethodName)) ∈ lw_all := lw_g (lw_at lw_m8 76 rfl) rfl
theorem q1837 : (Jvm.Cond.code ({ cls := "PermissionDesk", name := "isAllowing", desc := "(II)Z" } : Jvm.MethodName) prog_1_method_58_code (3 : Nat) (Option.some Jvm.ClassFile.FieldType.boolean)) ∈ lw_all := lw_g (lw_at lw_m8 77 rfl) rfl
theorem q1838 : (Jvm.Cond.methodLink "PermissionDesk" (287 : Nat) ({ cls := "PermissionDesk", name := "entry", desc := "(II)LPermissionDesk$Entry;" } : Jvm.MethodName)) ∈ lw_all := lw_g (lw_at lw_m8 78 rfl) rfl
theorem q1839 : (Jvm.Cond.privateMethod ({ cls := "PermissionDesk", name := "entry", desc := "(II)LPermissionDesk$Entry;" } : Jvm.MethodName)) ∈ lw_tbl := lw_at lw_m8 79 rfl
theorem q1840 : (Jvm.Cond.instanceMethod ({ cls := "PermissionDesk", name := "entry", desc := "(II)LPermissionDesk$Entry;" } : Jvm.MethodName)) ∈ lw_all := lw_g (lw_at lw_m8 80 rfl) rfl
theorem q1841 : (Jvm.Cond.code ({ cls := "PermissionDesk", name := "entry", desc := "(II)LPermissionDesk$Entry;" } : Jvm.MethodName) prog_1_method_57_code (3 : Nat) (Option.some (Jvm.ClassFile.FieldType.object "PermissionDesk$Entry"))) ∈ lw_all := lw_g (lw_at lw_m8 81 rfl) rfl
theorem q1846 : (Jvm.Cond.instanceMethod ({ cls := "PermissionDesk", name := "rightsOfEntry", desc := "(II)I" } : Jvm.MethodName)) ∈ lw_all := lw_g (lw_at lw_m8 86 rfl) rfl
theorem q1847 : (Jvm.Cond.selects "PermissionDesk" ({ cls := "PermissionDesk", name := "rightsOfEntry", desc := "(II)I" } : Jvm.MethodName) ({ cls := "PermissionDesk", name := "rightsOfEntry", desc := "(II)I" } : Jvm.MethodName)) ∈ lw_all := lw_g (lw_at lw_m8 87 rfl) rfl
theorem q1848 : (Jvm.Cond.code ({ cls := "PermissionDesk", name := "rightsOfEntry", desc := "(II)I" } : Jvm.MethodName) prog_1_method_59_code (3 : Nat) (Option.some Jvm.ClassFile.FieldType.int)) ∈ lw_all := lw_g (lw_at lw_m8 88 rfl) rfl
theorem q1853 : (Jvm.Cond.instanceMethod ({ cls := "PermissionDesk", name := "userOfEntry", desc := "(II)I" } : Jvm.MethodName)) ∈ lw_all := lw_g (lw_at lw_m8 93 rfl) rfl
theorem q1854 : (Jvm.Cond.selects "PermissionDesk" ({ cls := "PermissionDesk", name := "userOfEntry", desc := "(II)I" } : Jvm.MethodName) ({ cls := "PermissionDesk", name := "userOfEntry", desc := "(II)I" } : Jvm.MethodName)) ∈ lw_all := lw_g (lw_at lw_m8 94 rfl) rfl
theorem q1855 : (Jvm.Cond.code ({ cls := "PermissionDesk", name := "userOfEntry", desc := "(II)I" } : Jvm.MethodName) prog_1_method_60_code (3 : Nat) (Option.some Jvm.ClassFile.FieldType.int)) ∈ lw_all := lw_g (lw_at lw_m8 95 rfl) rfl
theorem q1856 : (Jvm.Cond.methodLink "PermissionDesk" (294 : Nat) ({ cls := "PermissionDesk$Entry", name := "whoIf", desc := "(I)I" } : Jvm.MethodName)) ∈ lw_all := lw_g (lw_at lw_m8 96 rfl) rfl
theorem q1861 : (Jvm.Cond.instanceMethod ({ cls := "PermissionDesk", name := "groupOfEntry", desc := "(II)I" } : Jvm.MethodName)) ∈ lw_all := lw_g (lw_at lw_m8 101 rfl) rfl
theorem q1862 : (Jvm.Cond.selects "PermissionDesk" ({ cls := "PermissionDesk", name := "groupOfEntry", desc := "(II)I" } : Jvm.MethodName) ({ cls := "PermissionDesk", name := "groupOfEntry", desc := "(II)I" } : Jvm.MethodName)) ∈ lw_all := lw_g (lw_at lw_m8 102 rfl) rfl
theorem q1863 : (Jvm.Cond.code ({ cls := "PermissionDesk", name := "groupOfEntry", desc := "(II)I" } : Jvm.MethodName) prog_1_method_61_code (3 : Nat) (Option.some Jvm.ClassFile.FieldType.int)) ∈ lw_all := lw_g (lw_at lw_m8 103 rfl) rfl
theorem q1868 : (Jvm.Cond.instanceMethod ({ cls := "PermissionDesk", name := "isForOwner", desc := "(II)Z" } : Jvm.MethodName)) ∈ lw_all := lw_g (lw_at lw_m8 108 rfl) rfl
theorem q1869 : (Jvm.Cond.selects "PermissionDesk" ({ cls := "PermissionDesk", name := "isForOwner", desc := "(II)Z" } : Jvm.MethodName) ({ cls := "PermissionDesk", name := "isForOwner", desc := "(II)Z" } : Jvm.MethodName)) ∈ lw_all := lw_g (lw_at lw_m8 109 rfl) rfl
theorem q1870 : (Jvm.Cond.code ({ cls := "PermissionDesk", name := "isForOwner", desc := "(II)Z" } : Jvm.MethodName) prog_1_method_62_code (3 : Nat) (Option.some Jvm.ClassFile.FieldType.boolean)) ∈ lw_all := lw_g (lw_at lw_m8 110 rfl) rfl
theorem q1875 : (Jvm.Cond.instanceMethod ({ cls := "PermissionDesk", name := "isForBelow", desc := "(II)Z" } : Jvm.MethodName)) ∈ lw_all := lw_g (lw_at lw_m8 115 rfl) rfl
theorem q1876 : (Jvm.Cond.selects "PermissionDesk" ({ cls := "PermissionDesk", name := "isForBelow", desc := "(II)Z" } : Jvm.MethodName) ({ cls := "PermissionDesk", name := "isForBelow", desc := "(II)Z" } : Jvm.MethodName)) ∈ lw_all := lw_g (lw_at lw_m8 116 rfl) rfl
theorem q1877 : (Jvm.Cond.code ({ cls := "PermissionDesk", name := "isForBelow", desc := "(II)Z" } : Jvm.MethodName) prog_1_method_63_code (3 : Nat) (Option.some Jvm.ClassFile.FieldType.boolean)) ∈ lw_all := lw_g (lw_at lw_m8 117 rfl) rfl
theorem q1882 : (Jvm.Cond.instanceMethod ({ cls := "PermissionDesk", name := "isAllowed", desc := "(III)Z" } : Jvm.MethodName)) ∈ lw_all := lw_g (lw_at lw_m8 122 rfl) rfl
theorem q1883 : (Jvm.Cond.selects "PermissionDesk" ({ cls := "PermissionDesk", name := "isAllowed", desc := "(III)Z" } : Jvm.MethodName) ({ cls := "PermissionDesk", name := "isAllowed", desc := "(III)Z" } : Jvm.MethodName)) ∈ lw_all := lw_g (lw_at lw_m8 123 rfl) rfl
theorem q1884 : (Jvm.Cond.code ({ cls := "PermissionDesk", name := "isAllowed", desc := "(III)Z" } : Jvm.MethodName) prog_1_method_65_code (4 : Nat) (Option.some Jvm.ClassFile.FieldType.boolean)) ∈ lw_all := lw_g (lw_at lw_m8 124 rfl) rfl
theorem q1885 : (Jvm.Cond.methodLink "PermissionDesk" (302 : Nat) ({ cls := "PermissionDesk", name := "knownRight", desc := "(III)V" } : Jvm.MethodName)) ∈ lw_all := lw_g (lw_at lw_m8 125 rfl) rfl
theorem q1886 : (Jvm.Cond.privateMethod ({ cls := "PermissionDesk", name := "knownRight", desc := "(III)V" } : Jvm.MethodName)) ∈ lw_tbl := lw_at lw_m8 126 rfl
theorem q1887 : (Jvm.Cond.instanceMethod ({ cls := "PermissionDesk", name := "knownRight", desc := "(III)V" } : Jvm.MethodName)) ∈ lw_all := lw_g (lw_at lw_m8 127 rfl) rfl
theorem q1888 : (Jvm.Cond.code ({ cls := "PermissionDesk", name := "knownRight", desc := "(III)V" } : Jvm.MethodName) prog_1_method_64_code (4 : Nat) (Option.none : Option Jvm.ClassFile.FieldType)) ∈ lw_all := lw_g (lw_at lw_m8 128 rfl) rfl
theorem q1889 : (Jvm.Cond.methodLink "PermissionDesk" (306 : Nat) ({ cls := "PermissionDesk$Land", name := "isAllowed", desc := "(III)Z" } : Jvm.MethodName)) ∈ lw_all := lw_g (lw_at lw_m8 129 rfl) rfl
theorem q1894 : (Jvm.Cond.instanceMethod ({ cls := "PermissionDesk", name := "isAllowedByHandingDown", desc := "(III)Z" } : Jvm.MethodName)) ∈ lw_all := lw_g (lw_at lw_m8 134 rfl) rfl
theorem q1895 : (Jvm.Cond.selects "PermissionDesk" ({ cls := "PermissionDesk", name := "isAllowedByHandingDown", desc := "(III)Z" } : Jvm.MethodName) ({ cls := "PermissionDesk", name := "isAllowedByHandingDown", desc := "(III)Z" } : Jvm.MethodName)) ∈ lw_all := lw_g (lw_at lw_m8 135 rfl) rfl
theorem q1896 : (Jvm.Cond.code ({ cls := "PermissionDesk", name := "isAllowedByHandingDown", desc := "(III)Z" } : Jvm.MethodName) prog_1_method_66_code (4 : Nat) (Option.some Jvm.ClassFile.FieldType.boolean)) ∈ lw_all := lw_g (lw_at lw_m8 136 rfl) rfl
theorem q1897 : (Jvm.Cond.methodLink "PermissionDesk" (309 : Nat) ({ cls := "PermissionDesk$Land", name := "isAllowedByHandingDown", desc := "(III)Z" } : Jvm.MethodName)) ∈ lw_all := lw_g (lw_at lw_m8 137 rfl) rfl
theorem q1910 : (Jvm.Cond.instanceMethod ({ cls := "PermissionDesk", name := "rightsOf", desc := "(II)I" } : Jvm.MethodName)) ∈ lw_all := lw_g (lw_at lw_m8 150 rfl) rfl
theorem q1911 : (Jvm.Cond.selects "PermissionDesk" ({ cls := "PermissionDesk", name := "rightsOf", desc := "(II)I" } : Jvm.MethodName) ({ cls := "PermissionDesk", name := "rightsOf", desc := "(II)I" } : Jvm.MethodName)) ∈ lw_all := lw_g (lw_at lw_m8 151 rfl) rfl
theorem q1912 : (Jvm.Cond.code ({ cls := "PermissionDesk", name := "rightsOf", desc := "(II)I" } : Jvm.MethodName) prog_1_method_67_code (3 : Nat) (Option.some Jvm.ClassFile.FieldType.int)) ∈ lw_all := lw_g (lw_at lw_m8 152 rfl) rfl
theorem q1913 : (Jvm.Cond.methodLink "PermissionDesk" (312 : Nat) ({ cls := "PermissionDesk$Land", name := "rights", desc := "(II)I" } : Jvm.MethodName)) ∈ lw_all := lw_g (lw_at lw_m8 153 rfl) rfl
theorem q1918 : (Jvm.Cond.instanceMethod ({ cls := "PermissionDesk", name := "decidingObject", desc := "(III)I" } : Jvm.MethodName)) ∈ lw_all := lw_g (lw_at lw_m8 158 rfl) rfl
theorem q1919 : (Jvm.Cond.selects "PermissionDesk" ({ cls := "PermissionDesk", name := "decidingObject", desc := "(III)I" } : Jvm.MethodName) ({ cls := "PermissionDesk", name := "decidingObject", desc := "(III)I" } : Jvm.MethodName)) ∈ lw_all := lw_g (lw_at lw_m8 159 rfl) rfl
theorem q1920 : (Jvm.Cond.code ({ cls := "PermissionDesk", name := "decidingObject", desc := "(III)I" } : Jvm.MethodName) prog_1_method_68_code (5 : Nat) (Option.some Jvm.ClassFile.FieldType.int)) ∈ lw_all := lw_g (lw_at lw_m8 160 rfl) rfl
theorem q1921 : (Jvm.Cond.methodLink "PermissionDesk" (314 : Nat) ({ cls := "PermissionDesk$Land", name := "deciding", desc := "(III)I" } : Jvm.MethodName)) ∈ lw_all := lw_g (lw_at lw_m8 161 rfl) rfl
theorem q1926 : (Jvm.Cond.instanceMethod ({ cls := "PermissionDesk", name := "decidingEntry", desc := "(III)I" } : Jvm.MethodName)) ∈ lw_all := lw_g (lw_at lw_m8 166 rfl) rfl
theorem q1927 : (Jvm.Cond.selects "PermissionDesk" ({ cls := "PermissionDesk", name := "decidingEntry", desc := "(III)I" } : Jvm.MethodName) ({ cls := "PermissionDesk", name := "decidingEntry", desc := "(III)I" } : Jvm.MethodName)) ∈ lw_all := lw_g (lw_at lw_m8 167 rfl) rfl
theorem q1928 : (Jvm.Cond.code ({ cls := "PermissionDesk", name := "decidingEntry", desc := "(III)I" } : Jvm.MethodName) prog_1_method_69_code (5 : Nat) (Option.some Jvm.ClassFile.FieldType.int)) ∈ lw_all := lw_g (lw_at lw_m8 168 rfl) rfl
theorem q1933 : (Jvm.Cond.instanceMethod ({ cls := "PermissionDesk", name := "isStoppedByMask", desc := "(III)Z" } : Jvm.MethodName)) ∈ lw_all := lw_g (lw_at lw_m8 173 rfl) rfl
theorem q1934 : (Jvm.Cond.selects "PermissionDesk" ({ cls := "PermissionDesk", name := "isStoppedByMask", desc := "(III)Z" } : Jvm.MethodName) ({ cls := "PermissionDesk", name := "isStoppedByMask", desc := "(III)Z" } : Jvm.MethodName)) ∈ lw_all := lw_g (lw_at lw_m8 174 rfl) rfl
theorem q1935 : (Jvm.Cond.code ({ cls := "PermissionDesk", name := "isStoppedByMask", desc := "(III)Z" } : Jvm.MethodName) prog_1_method_70_code (4 : Nat) (Option.some Jvm.ClassFile.FieldType.boolean)) ∈ lw_all := lw_g (lw_at lw_m8 175 rfl) rfl
theorem q1936 : (Jvm.Cond.methodLink "PermissionDesk" (317 : Nat) ({ cls := "PermissionDesk$Land", name := "isStopped", desc := "(III)Z" } : Jvm.MethodName)) ∈ lw_all := lw_g (lw_at lw_m8 176 rfl) rfl
theorem q1944 : (Jvm.Cond.instanceMethod ({ cls := "PermissionDesk", name := "usersWith", desc := "(II)I" } : Jvm.MethodName)) ∈ lw_all := lw_g (lw_at lw_m8 184 rfl) rfl
theorem q1945 : (Jvm.Cond.selects "PermissionDesk" ({ cls := "PermissionDesk", name := "usersWith", desc := "(II)I" } : Jvm.MethodName) ({ cls := "PermissionDesk", name := "usersWith", desc := "(II)I" } : Jvm.MethodName)) ∈ lw_all := lw_g (lw_at lw_m8 185 rfl) rfl
theorem q1946 : (Jvm.Cond.code ({ cls := "PermissionDesk", name := "usersWith", desc := "(II)I" } : Jvm.MethodName) prog_1_method_71_code (3 : Nat) (Option.some Jvm.ClassFile.FieldType.int)) ∈ lw_all := lw_g (lw_at lw_m8 186 rfl) rfl
theorem q1947 : (Jvm.Cond.methodLink "PermissionDesk" (320 : Nat) ({ cls := "PermissionDesk$Land", name := "usersWith", desc := "(II)I" } : Jvm.MethodName)) ∈ lw_all := lw_g (lw_at lw_m8 187 rfl) rfl
theorem q1955 : (Jvm.Cond.instanceMethod ({ cls := "PermissionDesk", name := "rightsThrough", desc := "(II)I" } : Jvm.MethodName)) ∈ lw_all := lw_g (lw_at lw_m8 195 rfl) rfl
theorem q1956 : (Jvm.Cond.selects "PermissionDesk" ({ cls := "PermissionDesk", name := "rightsThrough", desc := "(II)I" } : Jvm.MethodName) ({ cls := "PermissionDesk", name := "rightsThrough", desc := "(II)I" } : Jvm.MethodName)) ∈ lw_all := lw_g (lw_at lw_m8 196 rfl) rfl
theorem q1957 : (Jvm.Cond.code ({ cls := "PermissionDesk", name := "rightsThrough", desc := "(II)I" } : Jvm.MethodName) prog_1_method_72_code (3 : Nat) (Option.some Jvm.ClassFile.FieldType.int)) ∈ lw_all := lw_g (lw_at lw_m8 197 rfl) rfl
theorem q1958 : (Jvm.Cond.methodLink "PermissionDesk" (323 : Nat) ({ cls := "PermissionDesk$Land", name := "rightsThrough", desc := "(II)I" } : Jvm.MethodName)) ∈ lw_all := lw_g (lw_at lw_m8 198 rfl) rfl
theorem q1967 : (Jvm.Cond.instanceMethod ({ cls := "PermissionDesk", name := "isNeedless", desc := "(II)Z" } : Jvm.MethodName)) ∈ lw_all := lw_g (lw_at lw_m8 207 rfl) rfl
theorem q1968 : (Jvm.Cond.selects "PermissionDesk" ({ cls := "PermissionDesk", name := "isNeedless", desc := "(II)Z" } : Jvm.MethodName) ({ cls := "PermissionDesk", name := "isNeedless", desc := "(II)Z" } : Jvm.MethodName)) ∈ lw_all := lw_g (lw_at lw_m8 208 rfl) rfl
theorem q1969 : (Jvm.Cond.code ({ cls := "PermissionDesk", name := "isNeedless", desc := "(II)Z" } : Jvm.MethodName) prog_1_method_73_code (3 : Nat) (Option.some Jvm.ClassFile.FieldType.boolean)) ∈ lw_all := lw_g (lw_at lw_m8 209 rfl) rfl
theorem q1970 : (Jvm.Cond.methodLink "PermissionDesk" (326 : Nat) ({ cls := "PermissionDesk$Land", name := "isNeedless", desc := "(II)Z" } : Jvm.MethodName)) ∈ lw_all := lw_g (lw_at lw_m8 210 rfl) rfl
theorem q1979 : (Jvm.Cond.instanceMethod ({ cls := "PermissionDesk", name := "userOfRequest", desc := "(I)I" } : Jvm.MethodName)) ∈ lw_all := lw_g (lw_at lw_m8 219 rfl) rfl
theorem q1980 : (Jvm.Cond.selects "PermissionDesk" ({ cls := "PermissionDesk", name := "userOfRequest", desc := "(I)I" } : Jvm.MethodName) ({ cls := "PermissionDesk", name := "userOfRequest", desc := "(I)I" } : Jvm.MethodName)) ∈ lw_all := lw_g (lw_at lw_m8 220 rfl) rfl
theorem q1981 : (Jvm.Cond.code ({ cls := "PermissionDesk", name := "userOfRequest", desc := "(I)I" } : Jvm.MethodName) prog_1_method_79_code (2 : Nat) (Option.some Jvm.ClassFile.FieldType.int)) ∈ lw_all := lw_g (lw_at lw_m8 221 rfl) rfl
theorem q1982 : (Jvm.Cond.methodLink "PermissionDesk" (347 : Nat) ({ cls := "PermissionDesk", name := "request", desc := "(I)LPermissionDesk$Request;" } : Jvm.MethodName)) ∈ lw_all := lw_g (lw_at lw_m8 222 rfl) rfl
theorem q1983 : (Jvm.Cond.privateMethod ({ cls := "PermissionDesk", name := "request", desc := "(I)LPermissionDesk$Request;" } : Jvm.MethodName)) ∈ lw_tbl := lw_at lw_m8 223 rfl
theorem q1984 : (Jvm.Cond.instanceMethod ({ cls := "PermissionDesk", name := "request", desc := "(I)LPermissionDesk$Request;" } : Jvm.MethodName)) ∈ lw_all := lw_g (lw_at lw_m8 224 rfl) rfl
theorem q1985 : (Jvm.Cond.code ({ cls := "PermissionDesk", name := "request", desc := "(I)LPermissionDesk$Request;" } : Jvm.MethodName) prog_1_method_76_code (2 : Nat) (Option.some (Jvm.ClassFile.FieldType.object "PermissionDesk$Request"))) ∈ lw_all := lw_g (lw_at lw_m8 225 rfl) rfl
theorem q1986 : (Jvm.Cond.methodLink "PermissionDesk" (335 : Nat) ({ cls := "java/util/LinkedList", name := "get", desc := "(I)Ljava/lang/Object;" } : Jvm.MethodName)) ∈ lw_all := lw_g (lw_at lw_m8 226 rfl) rfl
theorem q1998 : (Jvm.Cond.classLink "PermissionDesk" (339 : Nat) "PermissionDesk$Request") ∈ lw_all := lw_g (lw_at lw_m8 238 rfl) rfl
theorem q2003 : (Jvm.Cond.instanceMethod ({ cls := "PermissionDesk", name := "objectOfRequest", desc := "(I)I" } : Jvm.MethodName)) ∈ lw_all := lw_g (lw_at lw_m9 3 rfl) rfl
theorem q2004 : (Jvm.Cond.selects "PermissionDesk" ({ cls := "PermissionDesk", name := "objectOfRequest", desc := "(I)I" } : Jvm.MethodName) ({ cls := "PermissionDesk", name := "objectOfRequest", desc := "(I)I" } : Jvm.MethodName)) ∈ lw_all := lw_g (lw_at lw_m9 4 rfl) rfl
theorem q2005 : (Jvm.Cond.code ({ cls := "PermissionDesk", name := "objectOfRequest", desc := "(I)I" } : Jvm.MethodName) prog_1_method_80_code (2 : Nat) (Option.some Jvm.ClassFile.FieldType.int)) ∈ lw_all := lw_g (lw_at lw_m9 5 rfl) rfl
theorem q2010 : (Jvm.Cond.instanceMethod ({ cls := "PermissionDesk", name := "wasAllowed", desc := "(I)Z" } : Jvm.MethodName)) ∈ lw_all := lw_g (lw_at lw_m9 10 rfl) rfl
theorem q2011 : (Jvm.Cond.selects "PermissionDesk" ({ cls := "PermissionDesk", name := "wasAllowed", desc := "(I)Z" } : Jvm.MethodName) ({ cls := "PermissionDesk", name := "wasAllowed", desc := "(I)Z" } : Jvm.MethodName)) ∈ lw_all := lw_g (lw_at lw_m9 11 rfl) rfl
theorem q2012 : (Jvm.Cond.code ({ cls := "PermissionDesk", name := "wasAllowed", desc := "(I)Z" } : Jvm.MethodName) prog_1_method_81_code (2 : Nat) (Option.some Jvm.ClassFile.FieldType.boolean)) ∈ lw_all := lw_g (lw_at lw_m9 12 rfl) rfl
theorem q2017 : (Jvm.Cond.instanceMethod ({ cls := "PermissionDesk", name := "undo", desc := "()I" } : Jvm.MethodName)) ∈ lw_all := lw_g (lw_at lw_m9 17 rfl) rfl
theorem q2018 : (Jvm.Cond.selects "PermissionDesk" ({ cls := "PermissionDesk", name := "undo", desc := "()I" } : Jvm.MethodName) ({ cls := "PermissionDesk", name := "undo", desc := "()I" } : Jvm.MethodName)) ∈ lw_all := lw_g (lw_at lw_m9 18 rfl) rfl
theorem q2019 : (Jvm.Cond.code ({ cls := "PermissionDesk", name := "undo", desc := "()I" } : Jvm.MethodName) prog_1_method_82_code (1 : Nat) (Option.some Jvm.ClassFile.FieldType.int)) ∈ lw_all := lw_g (lw_at lw_m9 19 rfl) rfl
theorem q2020 : (Jvm.Cond.methodLink "PermissionDesk" (359 : Nat) ({ cls := "java/util/LinkedList", name := "isEmpty", desc := "()Z" } : Jvm.MethodName)) ∈ lw_all := lw_g (lw_at lw_m9 20 rfl) rfl
theorem q2031 : (Jvm.Cond.methodLink "PermissionDesk" (362 : Nat) ({ cls := "java/util/LinkedList", name := "removeLast", desc := "()Ljava/lang/Object;" } : Jvm.MethodName)) ∈ lw_all := lw_g (lw_at lw_m9 31 rfl) rfl
theorem q2036 : (Jvm.Cond.instanceMethod ({ cls := "PermissionDesk", name := "save", desc := "(I)I" } : Jvm.MethodName)) ∈ lw_all := lw_g (lw_at lw_m9 36 rfl) rfl
theorem q2037 : (Jvm.Cond.selects "PermissionDesk" ({ cls := "PermissionDesk", name := "save", desc := "(I)I" } : Jvm.MethodName) ({ cls := "PermissionDesk", name := "save", desc := "(I)I" } : Jvm.MethodName)) ∈ lw_all := lw_g (lw_at lw_m9 37 rfl) rfl
theorem q2038 : (Jvm.Cond.code ({ cls := "PermissionDesk", name := "save", desc := "(I)I" } : Jvm.MethodName) prog_1_method_83_code (2 : Nat) (Option.some Jvm.ClassFile.FieldType.int)) ∈ lw_all := lw_g (lw_at lw_m9 38 rfl) rfl
theorem q2043 : (Jvm.Cond.instanceMethod ({ cls := "PermissionDesk", name := "restore", desc := "(I)I" } : Jvm.MethodName)) ∈ lw_all := lw_g (lw_at lw_m9 43 rfl) rfl
theorem q2044 : (Jvm.Cond.selects "PermissionDesk" ({ cls := "PermissionDesk", name := "restore", desc := "(I)I" } : Jvm.MethodName) ({ cls := "PermissionDesk", name := "restore", desc := "(I)I" } : Jvm.MethodName)) ∈ lw_all := lw_g (lw_at lw_m9 44 rfl) rfl
theorem q2045 : (Jvm.Cond.code ({ cls := "PermissionDesk", name := "restore", desc := "(I)I" } : Jvm.MethodName) prog_1_method_84_code (2 : Nat) (Option.some Jvm.ClassFile.FieldType.int)) ∈ lw_all := lw_g (lw_at lw_m9 45 rfl) rfl
theorem q2592 : (Jvm.Cond.castable "PermissionDesk" "java/lang/Object") ∈ lw_tbl := lw_at lw_m11 112 rfl
theorem in_X1 : ∀ w ∈ wsX10, w ∈ lw_all := lw_in wsX10 [299, 301, 303, 305] (by decide +kernel) (by decide +kernel)
