/-! PermissionDeskLaw -/
set_option maxRecDepth 100000
def RX0 : String := "PermissionDeskLaw"
abbrev cX0_addUser : ByteArray := method_3_code
def yX0_addUser : MethodName := ⟨RX0, "addUser", "(LPermissionDesk;[J)I"⟩
def dkwX0_addUser_0 : List UInt8 := [43, 3, 42, 182, 0, 7, 133, 80, 167, 0, 6, 77, 4, 172, 3, 172]
abbrev dktX0_addUser_0 : List UInt8 := dkwX0_addUser_0 ++ []
theorem dksX0_addUser_0 : cX0_addUser.data.toList.drop 0 = dktX0_addUser_0 := by decide +kernel
theorem dX0_addUser_0 : decode cX0_addUser 0 = .ok (.aload_n 1, 1) := dk_43 (dk_at dksX0_addUser_0 0 rfl rfl)
theorem dX0_addUser_1 : decode cX0_addUser 1 = .ok (.iconst 0, 1) := dk_3 (dk_at dksX0_addUser_0 1 rfl rfl)
theorem dX0_addUser_2 : decode cX0_addUser 2 = .ok (.aload_n 0, 1) := dk_42 (dk_at dksX0_addUser_0 2 rfl rfl)
theorem dX0_addUser_3 : decode cX0_addUser 3 = .ok (.invokevirtual 7, 3) := dk_182 0 7 (dk_at dksX0_addUser_0 3 rfl rfl)
theorem dX0_addUser_6 : decode cX0_addUser 6 = .ok (.i2l, 1) := dk_133 (dk_at dksX0_addUser_0 6 rfl rfl)
theorem dX0_addUser_7 : decode cX0_addUser 7 = .ok (.lastore, 1) := dk_80 (dk_at dksX0_addUser_0 7 rfl rfl)
theorem dX0_addUser_8 : decode cX0_addUser 8 = .ok (.goto 6, 3) := dk_167 0 6 (dk_at dksX0_addUser_0 8 rfl rfl)
theorem dX0_addUser_11 : decode cX0_addUser 11 = .ok (.astore_n 2, 1) := dk_77 (dk_at dksX0_addUser_0 11 rfl rfl)
theorem dX0_addUser_12 : decode cX0_addUser 12 = .ok (.iconst 1, 1) := dk_4 (dk_at dksX0_addUser_0 12 rfl rfl)
theorem dX0_addUser_13 : decode cX0_addUser 13 = .ok (.ireturn, 1) := dk_172 (dk_at dksX0_addUser_0 13 rfl rfl)
theorem dX0_addUser_14 : decode cX0_addUser 14 = .ok (.iconst 0, 1) := dk_3 (dk_at dksX0_addUser_0 14 rfl rfl)
theorem dX0_addUser_15 : decode cX0_addUser 15 = .ok (.ireturn, 1) := dk_172 (dk_at dksX0_addUser_0 15 rfl rfl)
abbrev cX0_addGroup : ByteArray := method_4_code
def yX0_addGroup : MethodName := ⟨RX0, "addGroup", "(LPermissionDesk;[J)I"⟩
def dkwX0_addGroup_0 : List UInt8 := [43, 3, 42, 182, 0, 15, 133, 80, 167, 0, 6, 77, 4, 172, 3, 172]
abbrev dktX0_addGroup_0 : List UInt8 := dkwX0_addGroup_0 ++ []
theorem dksX0_addGroup_0 : cX0_addGroup.data.toList.drop 0 = dktX0_addGroup_0 := by decide +kernel
theorem dX0_addGroup_0 : decode cX0_addGroup 0 = .ok (.aload_n 1, 1) := dk_43 (dk_at dksX0_addGroup_0 0 rfl rfl)
theorem dX0_addGroup_1 : decode cX0_addGroup 1 = .ok (.iconst 0, 1) := dk_3 (dk_at dksX0_addGroup_0 1 rfl rfl)
theorem dX0_addGroup_2 : decode cX0_addGroup 2 = .ok (.aload_n 0, 1) := dk_42 (dk_at dksX0_addGroup_0 2 rfl rfl)
theorem dX0_addGroup_3 : decode cX0_addGroup 3 = .ok (.invokevirtual 15, 3) := dk_182 0 15 (dk_at dksX0_addGroup_0 3 rfl rfl)
theorem dX0_addGroup_6 : decode cX0_addGroup 6 = .ok (.i2l, 1) := dk_133 (dk_at dksX0_addGroup_0 6 rfl rfl)
theorem dX0_addGroup_7 : decode cX0_addGroup 7 = .ok (.lastore, 1) := dk_80 (dk_at dksX0_addGroup_0 7 rfl rfl)
theorem dX0_addGroup_8 : decode cX0_addGroup 8 = .ok (.goto 6, 3) := dk_167 0 6 (dk_at dksX0_addGroup_0 8 rfl rfl)
theorem dX0_addGroup_11 : decode cX0_addGroup 11 = .ok (.astore_n 2, 1) := dk_77 (dk_at dksX0_addGroup_0 11 rfl rfl)
theorem dX0_addGroup_12 : decode cX0_addGroup 12 = .ok (.iconst 1, 1) := dk_4 (dk_at dksX0_addGroup_0 12 rfl rfl)
theorem dX0_addGroup_13 : decode cX0_addGroup 13 = .ok (.ireturn, 1) := dk_172 (dk_at dksX0_addGroup_0 13 rfl rfl)
theorem dX0_addGroup_14 : decode cX0_addGroup 14 = .ok (.iconst 0, 1) := dk_3 (dk_at dksX0_addGroup_0 14 rfl rfl)
theorem dX0_addGroup_15 : decode cX0_addGroup 15 = .ok (.ireturn, 1) := dk_172 (dk_at dksX0_addGroup_0 15 rfl rfl)
abbrev cX0_join : ByteArray := method_5_code
def yX0_join : MethodName := ⟨RX0, "join", "(LPermissionDesk;II[J)I"⟩
def dkwX0_join_0 : List UInt8 := [45, 3, 42, 27, 28, 182, 0, 18, 133, 80, 167, 0, 11, 58, 4, 4, 172, 58, 4, 5, 172, 3, 172]
abbrev dktX0_join_0 : List UInt8 := dkwX0_join_0 ++ []
theorem dksX0_join_0 : cX0_join.data.toList.drop 0 = dktX0_join_0 := by decide +kernel
theorem dX0_join_0 : decode cX0_join 0 = .ok (.aload_n 3, 1) := dk_45 (dk_at dksX0_join_0 0 rfl rfl)
theorem dX0_join_1 : decode cX0_join 1 = .ok (.iconst 0, 1) := dk_3 (dk_at dksX0_join_0 1 rfl rfl)
theorem dX0_join_2 : decode cX0_join 2 = .ok (.aload_n 0, 1) := dk_42 (dk_at dksX0_join_0 2 rfl rfl)
theorem dX0_join_3 : decode cX0_join 3 = .ok (.iload_n 1, 1) := dk_27 (dk_at dksX0_join_0 3 rfl rfl)
theorem dX0_join_4 : decode cX0_join 4 = .ok (.iload_n 2, 1) := dk_28 (dk_at dksX0_join_0 4 rfl rfl)
theorem dX0_join_5 : decode cX0_join 5 = .ok (.invokevirtual 18, 3) := dk_182 0 18 (dk_at dksX0_join_0 5 rfl rfl)
theorem dX0_join_8 : decode cX0_join 8 = .ok (.i2l, 1) := dk_133 (dk_at dksX0_join_0 8 rfl rfl)
theorem dX0_join_9 : decode cX0_join 9 = .ok (.lastore, 1) := dk_80 (dk_at dksX0_join_0 9 rfl rfl)
theorem dX0_join_10 : decode cX0_join 10 = .ok (.goto 11, 3) := dk_167 0 11 (dk_at dksX0_join_0 10 rfl rfl)
theorem dX0_join_13 : decode cX0_join 13 = .ok (.astore 4, 2) := dk_58 4 (dk_at dksX0_join_0 13 rfl rfl)
theorem dX0_join_15 : decode cX0_join 15 = .ok (.iconst 1, 1) := dk_4 (dk_at dksX0_join_0 15 rfl rfl)
theorem dX0_join_16 : decode cX0_join 16 = .ok (.ireturn, 1) := dk_172 (dk_at dksX0_join_0 16 rfl rfl)
theorem dX0_join_17 : decode cX0_join 17 = .ok (.astore 4, 2) := dk_58 4 (dk_at dksX0_join_0 17 rfl rfl)
theorem dX0_join_19 : decode cX0_join 19 = .ok (.iconst 2, 1) := dk_5 (dk_at dksX0_join_0 19 rfl rfl)
theorem dX0_join_20 : decode cX0_join 20 = .ok (.ireturn, 1) := dk_172 (dk_at dksX0_join_0 20 rfl rfl)
theorem dX0_join_21 : decode cX0_join 21 = .ok (.iconst 0, 1) := dk_3 (dk_at dksX0_join_0 21 rfl rfl)
theorem dX0_join_22 : decode cX0_join 22 = .ok (.ireturn, 1) := dk_172 (dk_at dksX0_join_0 22 rfl rfl)
abbrev cX0_leave : ByteArray := method_6_code
def yX0_leave : MethodName := ⟨RX0, "leave", "(LPermissionDesk;II[J)I"⟩
def dkwX0_leave_0 : List UInt8 := [45, 3, 42, 27, 28, 182, 0, 24, 133, 80, 167, 0, 11, 58, 4, 4, 172, 58, 4, 5, 172, 3, 172]
abbrev dktX0_leave_0 : List UInt8 := dkwX0_leave_0 ++ []
theorem dksX0_leave_0 : cX0_leave.data.toList.drop 0 = dktX0_leave_0 := by decide +kernel
theorem dX0_leave_0 : decode cX0_leave 0 = .ok (.aload_n 3, 1) := dk_45 (dk_at dksX0_leave_0 0 rfl rfl)
theorem dX0_leave_1 : decode cX0_leave 1 = .ok (.iconst 0, 1) := dk_3 (dk_at dksX0_leave_0 1 rfl rfl)
theorem dX0_leave_2 : decode cX0_leave 2 = .ok (.aload_n 0, 1) := dk_42 (dk_at dksX0_leave_0 2 rfl rfl)
theorem dX0_leave_3 : decode cX0_leave 3 = .ok (.iload_n 1, 1) := dk_27 (dk_at dksX0_leave_0 3 rfl rfl)
theorem dX0_leave_4 : decode cX0_leave 4 = .ok (.iload_n 2, 1) := dk_28 (dk_at dksX0_leave_0 4 rfl rfl)
theorem dX0_leave_5 : decode cX0_leave 5 = .ok (.invokevirtual 24, 3) := dk_182 0 24 (dk_at dksX0_leave_0 5 rfl rfl)
theorem dX0_leave_8 : decode cX0_leave 8 = .ok (.i2l, 1) := dk_133 (dk_at dksX0_leave_0 8 rfl rfl)
theorem dX0_leave_9 : decode cX0_leave 9 = .ok (.lastore, 1) := dk_80 (dk_at dksX0_leave_0 9 rfl rfl)
theorem dX0_leave_10 : decode cX0_leave 10 = .ok (.goto 11, 3) := dk_167 0 11 (dk_at dksX0_leave_0 10 rfl rfl)
theorem dX0_leave_13 : decode cX0_leave 13 = .ok (.astore 4, 2) := dk_58 4 (dk_at dksX0_leave_0 13 rfl rfl)
theorem dX0_leave_15 : decode cX0_leave 15 = .ok (.iconst 1, 1) := dk_4 (dk_at dksX0_leave_0 15 rfl rfl)
theorem dX0_leave_16 : decode cX0_leave 16 = .ok (.ireturn, 1) := dk_172 (dk_at dksX0_leave_0 16 rfl rfl)
theorem dX0_leave_17 : decode cX0_leave 17 = .ok (.astore 4, 2) := dk_58 4 (dk_at dksX0_leave_0 17 rfl rfl)
theorem dX0_leave_19 : decode cX0_leave 19 = .ok (.iconst 2, 1) := dk_5 (dk_at dksX0_leave_0 19 rfl rfl)
theorem dX0_leave_20 : decode cX0_leave 20 = .ok (.ireturn, 1) := dk_172 (dk_at dksX0_leave_0 20 rfl rfl)
theorem dX0_leave_21 : decode cX0_leave 21 = .ok (.iconst 0, 1) := dk_3 (dk_at dksX0_leave_0 21 rfl rfl)
theorem dX0_leave_22 : decode cX0_leave 22 = .ok (.ireturn, 1) := dk_172 (dk_at dksX0_leave_0 22 rfl rfl)
abbrev cX0_nest : ByteArray := method_7_code
def yX0_nest : MethodName := ⟨RX0, "nest", "(LPermissionDesk;II[J)I"⟩
def dkwX0_nest_0 : List UInt8 := [45, 3, 42, 27, 28, 182, 0, 27, 133, 80, 167, 0, 11, 58, 4, 4, 172, 58, 4, 5, 172, 3, 172]
abbrev dktX0_nest_0 : List UInt8 := dkwX0_nest_0 ++ []
theorem dksX0_nest_0 : cX0_nest.data.toList.drop 0 = dktX0_nest_0 := by decide +kernel
theorem dX0_nest_0 : decode cX0_nest 0 = .ok (.aload_n 3, 1) := dk_45 (dk_at dksX0_nest_0 0 rfl rfl)
theorem dX0_nest_1 : decode cX0_nest 1 = .ok (.iconst 0, 1) := dk_3 (dk_at dksX0_nest_0 1 rfl rfl)
theorem dX0_nest_2 : decode cX0_nest 2 = .ok (.aload_n 0, 1) := dk_42 (dk_at dksX0_nest_0 2 rfl rfl)
theorem dX0_nest_3 : decode cX0_nest 3 = .ok (.iload_n 1, 1) := dk_27 (dk_at dksX0_nest_0 3 rfl rfl)
theorem dX0_nest_4 : decode cX0_nest 4 = .ok (.iload_n 2, 1) := dk_28 (dk_at dksX0_nest_0 4 rfl rfl)
theorem dX0_nest_5 : decode cX0_nest 5 = .ok (.invokevirtual 27, 3) := dk_182 0 27 (dk_at dksX0_nest_0 5 rfl rfl)
theorem dX0_nest_8 : decode cX0_nest 8 = .ok (.i2l, 1) := dk_133 (dk_at dksX0_nest_0 8 rfl rfl)
theorem dX0_nest_9 : decode cX0_nest 9 = .ok (.lastore, 1) := dk_80 (dk_at dksX0_nest_0 9 rfl rfl)
theorem dX0_nest_10 : decode cX0_nest 10 = .ok (.goto 11, 3) := dk_167 0 11 (dk_at dksX0_nest_0 10 rfl rfl)
theorem dX0_nest_13 : decode cX0_nest 13 = .ok (.astore 4, 2) := dk_58 4 (dk_at dksX0_nest_0 13 rfl rfl)
theorem dX0_nest_15 : decode cX0_nest 15 = .ok (.iconst 1, 1) := dk_4 (dk_at dksX0_nest_0 15 rfl rfl)
theorem dX0_nest_16 : decode cX0_nest 16 = .ok (.ireturn, 1) := dk_172 (dk_at dksX0_nest_0 16 rfl rfl)
theorem dX0_nest_17 : decode cX0_nest 17 = .ok (.astore 4, 2) := dk_58 4 (dk_at dksX0_nest_0 17 rfl rfl)
theorem dX0_nest_19 : decode cX0_nest 19 = .ok (.iconst 2, 1) := dk_5 (dk_at dksX0_nest_0 19 rfl rfl)
theorem dX0_nest_20 : decode cX0_nest 20 = .ok (.ireturn, 1) := dk_172 (dk_at dksX0_nest_0 20 rfl rfl)
theorem dX0_nest_21 : decode cX0_nest 21 = .ok (.iconst 0, 1) := dk_3 (dk_at dksX0_nest_0 21 rfl rfl)
theorem dX0_nest_22 : decode cX0_nest 22 = .ok (.ireturn, 1) := dk_172 (dk_at dksX0_nest_0 22 rfl rfl)
abbrev cX0_unnest : ByteArray := method_8_code
def yX0_unnest : MethodName := ⟨RX0, "unnest", "(LPermissionDesk;II[J)I"⟩
def dkwX0_unnest_0 : List UInt8 := [45, 3, 42, 27, 28, 182, 0, 30, 133, 80, 167, 0, 11, 58, 4, 4, 172, 58, 4, 5, 172, 3, 172]
abbrev dktX0_unnest_0 : List UInt8 := dkwX0_unnest_0 ++ []
theorem dksX0_unnest_0 : cX0_unnest.data.toList.drop 0 = dktX0_unnest_0 := by decide +kernel
theorem dX0_unnest_0 : decode cX0_unnest 0 = .ok (.aload_n 3, 1) := dk_45 (dk_at dksX0_unnest_0 0 rfl rfl)
theorem dX0_unnest_1 : decode cX0_unnest 1 = .ok (.iconst 0, 1) := dk_3 (dk_at dksX0_unnest_0 1 rfl rfl)
theorem dX0_unnest_2 : decode cX0_unnest 2 = .ok (.aload_n 0, 1) := dk_42 (dk_at dksX0_unnest_0 2 rfl rfl)
theorem dX0_unnest_3 : decode cX0_unnest 3 = .ok (.iload_n 1, 1) := dk_27 (dk_at dksX0_unnest_0 3 rfl rfl)
theorem dX0_unnest_4 : decode cX0_unnest 4 = .ok (.iload_n 2, 1) := dk_28 (dk_at dksX0_unnest_0 4 rfl rfl)
theorem dX0_unnest_5 : decode cX0_unnest 5 = .ok (.invokevirtual 30, 3) := dk_182 0 30 (dk_at dksX0_unnest_0 5 rfl rfl)
theorem dX0_unnest_8 : decode cX0_unnest 8 = .ok (.i2l, 1) := dk_133 (dk_at dksX0_unnest_0 8 rfl rfl)
theorem dX0_unnest_9 : decode cX0_unnest 9 = .ok (.lastore, 1) := dk_80 (dk_at dksX0_unnest_0 9 rfl rfl)
theorem dX0_unnest_10 : decode cX0_unnest 10 = .ok (.goto 11, 3) := dk_167 0 11 (dk_at dksX0_unnest_0 10 rfl rfl)
theorem dX0_unnest_13 : decode cX0_unnest 13 = .ok (.astore 4, 2) := dk_58 4 (dk_at dksX0_unnest_0 13 rfl rfl)
theorem dX0_unnest_15 : decode cX0_unnest 15 = .ok (.iconst 1, 1) := dk_4 (dk_at dksX0_unnest_0 15 rfl rfl)
theorem dX0_unnest_16 : decode cX0_unnest 16 = .ok (.ireturn, 1) := dk_172 (dk_at dksX0_unnest_0 16 rfl rfl)
theorem dX0_unnest_17 : decode cX0_unnest 17 = .ok (.astore 4, 2) := dk_58 4 (dk_at dksX0_unnest_0 17 rfl rfl)
theorem dX0_unnest_19 : decode cX0_unnest 19 = .ok (.iconst 2, 1) := dk_5 (dk_at dksX0_unnest_0 19 rfl rfl)
theorem dX0_unnest_20 : decode cX0_unnest 20 = .ok (.ireturn, 1) := dk_172 (dk_at dksX0_unnest_0 20 rfl rfl)
theorem dX0_unnest_21 : decode cX0_unnest 21 = .ok (.iconst 0, 1) := dk_3 (dk_at dksX0_unnest_0 21 rfl rfl)
theorem dX0_unnest_22 : decode cX0_unnest 22 = .ok (.ireturn, 1) := dk_172 (dk_at dksX0_unnest_0 22 rfl rfl)
abbrev cX0_make : ByteArray := method_9_code
def yX0_make : MethodName := ⟨RX0, "make", "(LPermissionDesk;II[J)I"⟩
def dkwX0_make_0 : List UInt8 := [45, 3, 42, 27, 28, 182, 0, 33, 133, 80, 167, 0, 11, 58, 4, 4, 172, 58, 4, 5, 172, 3, 172]
abbrev dktX0_make_0 : List UInt8 := dkwX0_make_0 ++ []
theorem dksX0_make_0 : cX0_make.data.toList.drop 0 = dktX0_make_0 := by decide +kernel
theorem dX0_make_0 : decode cX0_make 0 = .ok (.aload_n 3, 1) := dk_45 (dk_at dksX0_make_0 0 rfl rfl)
theorem dX0_make_1 : decode cX0_make 1 = .ok (.iconst 0, 1) := dk_3 (dk_at dksX0_make_0 1 rfl rfl)
theorem dX0_make_2 : decode cX0_make 2 = .ok (.aload_n 0, 1) := dk_42 (dk_at dksX0_make_0 2 rfl rfl)
theorem dX0_make_3 : decode cX0_make 3 = .ok (.iload_n 1, 1) := dk_27 (dk_at dksX0_make_0 3 rfl rfl)
theorem dX0_make_4 : decode cX0_make 4 = .ok (.iload_n 2, 1) := dk_28 (dk_at dksX0_make_0 4 rfl rfl)
theorem dX0_make_5 : decode cX0_make 5 = .ok (.invokevirtual 33, 3) := dk_182 0 33 (dk_at dksX0_make_0 5 rfl rfl)
theorem dX0_make_8 : decode cX0_make 8 = .ok (.i2l, 1) := dk_133 (dk_at dksX0_make_0 8 rfl rfl)
theorem dX0_make_9 : decode cX0_make 9 = .ok (.lastore, 1) := dk_80 (dk_at dksX0_make_0 9 rfl rfl)
theorem dX0_make_10 : decode cX0_make 10 = .ok (.goto 11, 3) := dk_167 0 11 (dk_at dksX0_make_0 10 rfl rfl)
theorem dX0_make_13 : decode cX0_make 13 = .ok (.astore 4, 2) := dk_58 4 (dk_at dksX0_make_0 13 rfl rfl)
theorem dX0_make_15 : decode cX0_make 15 = .ok (.iconst 1, 1) := dk_4 (dk_at dksX0_make_0 15 rfl rfl)
theorem dX0_make_16 : decode cX0_make 16 = .ok (.ireturn, 1) := dk_172 (dk_at dksX0_make_0 16 rfl rfl)
theorem dX0_make_17 : decode cX0_make 17 = .ok (.astore 4, 2) := dk_58 4 (dk_at dksX0_make_0 17 rfl rfl)
theorem dX0_make_19 : decode cX0_make 19 = .ok (.iconst 2, 1) := dk_5 (dk_at dksX0_make_0 19 rfl rfl)
theorem dX0_make_20 : decode cX0_make 20 = .ok (.ireturn, 1) := dk_172 (dk_at dksX0_make_0 20 rfl rfl)
theorem dX0_make_21 : decode cX0_make 21 = .ok (.iconst 0, 1) := dk_3 (dk_at dksX0_make_0 21 rfl rfl)
theorem dX0_make_22 : decode cX0_make 22 = .ok (.ireturn, 1) := dk_172 (dk_at dksX0_make_0 22 rfl rfl)
abbrev cX0_remove : ByteArray := method_10_code
def yX0_remove : MethodName := ⟨RX0, "remove", "(LPermissionDesk;I[J)I"⟩
def dkwX0_remove_0 : List UInt8 := [44, 3, 42, 27, 182, 0, 36, 133, 80, 167, 0, 9, 78, 4, 172, 78, 5, 172, 3, 172]
abbrev dktX0_remove_0 : List UInt8 := dkwX0_remove_0 ++ []
theorem dksX0_remove_0 : cX0_remove.data.toList.drop 0 = dktX0_remove_0 := by decide +kernel
theorem dX0_remove_0 : decode cX0_remove 0 = .ok (.aload_n 2, 1) := dk_44 (dk_at dksX0_remove_0 0 rfl rfl)
theorem dX0_remove_1 : decode cX0_remove 1 = .ok (.iconst 0, 1) := dk_3 (dk_at dksX0_remove_0 1 rfl rfl)
theorem dX0_remove_2 : decode cX0_remove 2 = .ok (.aload_n 0, 1) := dk_42 (dk_at dksX0_remove_0 2 rfl rfl)
theorem dX0_remove_3 : decode cX0_remove 3 = .ok (.iload_n 1, 1) := dk_27 (dk_at dksX0_remove_0 3 rfl rfl)
theorem dX0_remove_4 : decode cX0_remove 4 = .ok (.invokevirtual 36, 3) := dk_182 0 36 (dk_at dksX0_remove_0 4 rfl rfl)
theorem dX0_remove_7 : decode cX0_remove 7 = .ok (.i2l, 1) := dk_133 (dk_at dksX0_remove_0 7 rfl rfl)
theorem dX0_remove_8 : decode cX0_remove 8 = .ok (.lastore, 1) := dk_80 (dk_at dksX0_remove_0 8 rfl rfl)
theorem dX0_remove_9 : decode cX0_remove 9 = .ok (.goto 9, 3) := dk_167 0 9 (dk_at dksX0_remove_0 9 rfl rfl)
theorem dX0_remove_12 : decode cX0_remove 12 = .ok (.astore_n 3, 1) := dk_78 (dk_at dksX0_remove_0 12 rfl rfl)
theorem dX0_remove_13 : decode cX0_remove 13 = .ok (.iconst 1, 1) := dk_4 (dk_at dksX0_remove_0 13 rfl rfl)
theorem dX0_remove_14 : decode cX0_remove 14 = .ok (.ireturn, 1) := dk_172 (dk_at dksX0_remove_0 14 rfl rfl)
theorem dX0_remove_15 : decode cX0_remove 15 = .ok (.astore_n 3, 1) := dk_78 (dk_at dksX0_remove_0 15 rfl rfl)
theorem dX0_remove_16 : decode cX0_remove 16 = .ok (.iconst 2, 1) := dk_5 (dk_at dksX0_remove_0 16 rfl rfl)
theorem dX0_remove_17 : decode cX0_remove 17 = .ok (.ireturn, 1) := dk_172 (dk_at dksX0_remove_0 17 rfl rfl)
theorem dX0_remove_18 : decode cX0_remove 18 = .ok (.iconst 0, 1) := dk_3 (dk_at dksX0_remove_0 18 rfl rfl)
theorem dX0_remove_19 : decode cX0_remove 19 = .ok (.ireturn, 1) := dk_172 (dk_at dksX0_remove_0 19 rfl rfl)
abbrev cX0_move : ByteArray := method_11_code
def yX0_move : MethodName := ⟨RX0, "move", "(LPermissionDesk;II[J)I"⟩
def dkwX0_move_0 : List UInt8 := [45, 3, 42, 27, 28, 182, 0, 40, 133, 80, 167, 0, 11, 58, 4, 4, 172, 58, 4, 5, 172, 3, 172]
abbrev dktX0_move_0 : List UInt8 := dkwX0_move_0 ++ []
theorem dksX0_move_0 : cX0_move.data.toList.drop 0 = dktX0_move_0 := by decide +kernel
theorem dX0_move_0 : decode cX0_move 0 = .ok (.aload_n 3, 1) := dk_45 (dk_at dksX0_move_0 0 rfl rfl)
theorem dX0_move_1 : decode cX0_move 1 = .ok (.iconst 0, 1) := dk_3 (dk_at dksX0_move_0 1 rfl rfl)
theorem dX0_move_2 : decode cX0_move 2 = .ok (.aload_n 0, 1) := dk_42 (dk_at dksX0_move_0 2 rfl rfl)
theorem dX0_move_3 : decode cX0_move 3 = .ok (.iload_n 1, 1) := dk_27 (dk_at dksX0_move_0 3 rfl rfl)
theorem dX0_move_4 : decode cX0_move 4 = .ok (.iload_n 2, 1) := dk_28 (dk_at dksX0_move_0 4 rfl rfl)
theorem dX0_move_5 : decode cX0_move 5 = .ok (.invokevirtual 40, 3) := dk_182 0 40 (dk_at dksX0_move_0 5 rfl rfl)
theorem dX0_move_8 : decode cX0_move 8 = .ok (.i2l, 1) := dk_133 (dk_at dksX0_move_0 8 rfl rfl)
theorem dX0_move_9 : decode cX0_move 9 = .ok (.lastore, 1) := dk_80 (dk_at dksX0_move_0 9 rfl rfl)
theorem dX0_move_10 : decode cX0_move 10 = .ok (.goto 11, 3) := dk_167 0 11 (dk_at dksX0_move_0 10 rfl rfl)
theorem dX0_move_13 : decode cX0_move 13 = .ok (.astore 4, 2) := dk_58 4 (dk_at dksX0_move_0 13 rfl rfl)
theorem dX0_move_15 : decode cX0_move 15 = .ok (.iconst 1, 1) := dk_4 (dk_at dksX0_move_0 15 rfl rfl)
theorem dX0_move_16 : decode cX0_move 16 = .ok (.ireturn, 1) := dk_172 (dk_at dksX0_move_0 16 rfl rfl)
theorem dX0_move_17 : decode cX0_move 17 = .ok (.astore 4, 2) := dk_58 4 (dk_at dksX0_move_0 17 rfl rfl)
theorem dX0_move_19 : decode cX0_move 19 = .ok (.iconst 2, 1) := dk_5 (dk_at dksX0_move_0 19 rfl rfl)
theorem dX0_move_20 : decode cX0_move 20 = .ok (.ireturn, 1) := dk_172 (dk_at dksX0_move_0 20 rfl rfl)
theorem dX0_move_21 : decode cX0_move 21 = .ok (.iconst 0, 1) := dk_3 (dk_at dksX0_move_0 21 rfl rfl)
theorem dX0_move_22 : decode cX0_move 22 = .ok (.ireturn, 1) := dk_172 (dk_at dksX0_move_0 22 rfl rfl)
abbrev cX0_giveTo : ByteArray := method_12_code
def yX0_giveTo : MethodName := ⟨RX0, "giveTo", "(LPermissionDesk;II[J)I"⟩
def dkwX0_giveTo_0 : List UInt8 := [45, 3, 42, 27, 28, 182, 0, 43, 133, 80, 167, 0, 7, 58, 4, 4, 172, 3, 172]
abbrev dktX0_giveTo_0 : List UInt8 := dkwX0_giveTo_0 ++ []
theorem dksX0_giveTo_0 : cX0_giveTo.data.toList.drop 0 = dktX0_giveTo_0 := by decide +kernel
theorem dX0_giveTo_0 : decode cX0_giveTo 0 = .ok (.aload_n 3, 1) := dk_45 (dk_at dksX0_giveTo_0 0 rfl rfl)
theorem dX0_giveTo_1 : decode cX0_giveTo 1 = .ok (.iconst 0, 1) := dk_3 (dk_at dksX0_giveTo_0 1 rfl rfl)
theorem dX0_giveTo_2 : decode cX0_giveTo 2 = .ok (.aload_n 0, 1) := dk_42 (dk_at dksX0_giveTo_0 2 rfl rfl)
theorem dX0_giveTo_3 : decode cX0_giveTo 3 = .ok (.iload_n 1, 1) := dk_27 (dk_at dksX0_giveTo_0 3 rfl rfl)
theorem dX0_giveTo_4 : decode cX0_giveTo 4 = .ok (.iload_n 2, 1) := dk_28 (dk_at dksX0_giveTo_0 4 rfl rfl)
theorem dX0_giveTo_5 : decode cX0_giveTo 5 = .ok (.invokevirtual 43, 3) := dk_182 0 43 (dk_at dksX0_giveTo_0 5 rfl rfl)
theorem dX0_giveTo_8 : decode cX0_giveTo 8 = .ok (.i2l, 1) := dk_133 (dk_at dksX0_giveTo_0 8 rfl rfl)
theorem dX0_giveTo_9 : decode cX0_giveTo 9 = .ok (.lastore, 1) := dk_80 (dk_at dksX0_giveTo_0 9 rfl rfl)
theorem dX0_giveTo_10 : decode cX0_giveTo 10 = .ok (.goto 7, 3) := dk_167 0 7 (dk_at dksX0_giveTo_0 10 rfl rfl)
theorem dX0_giveTo_13 : decode cX0_giveTo 13 = .ok (.astore 4, 2) := dk_58 4 (dk_at dksX0_giveTo_0 13 rfl rfl)
theorem dX0_giveTo_15 : decode cX0_giveTo 15 = .ok (.iconst 1, 1) := dk_4 (dk_at dksX0_giveTo_0 15 rfl rfl)
theorem dX0_giveTo_16 : decode cX0_giveTo 16 = .ok (.ireturn, 1) := dk_172 (dk_at dksX0_giveTo_0 16 rfl rfl)
theorem dX0_giveTo_17 : decode cX0_giveTo 17 = .ok (.iconst 0, 1) := dk_3 (dk_at dksX0_giveTo_0 17 rfl rfl)
theorem dX0_giveTo_18 : decode cX0_giveTo 18 = .ok (.ireturn, 1) := dk_172 (dk_at dksX0_giveTo_0 18 rfl rfl)
abbrev cX0_setMask : ByteArray := method_13_code
def yX0_setMask : MethodName := ⟨RX0, "setMask", "(LPermissionDesk;II[J)I"⟩
def dkwX0_setMask_0 : List UInt8 := [45, 3, 42, 27, 28, 182, 0, 46, 133, 80, 167, 0, 11, 58, 4, 4, 172, 58, 4, 5, 172, 3, 172]
abbrev dktX0_setMask_0 : List UInt8 := dkwX0_setMask_0 ++ []
theorem dksX0_setMask_0 : cX0_setMask.data.toList.drop 0 = dktX0_setMask_0 := by decide +kernel
theorem dX0_setMask_0 : decode cX0_setMask 0 = .ok (.aload_n 3, 1) := dk_45 (dk_at dksX0_setMask_0 0 rfl rfl)
theorem dX0_setMask_1 : decode cX0_setMask 1 = .ok (.iconst 0, 1) := dk_3 (dk_at dksX0_setMask_0 1 rfl rfl)
theorem dX0_setMask_2 : decode cX0_setMask 2 = .ok (.aload_n 0, 1) := dk_42 (dk_at dksX0_setMask_0 2 rfl rfl)
theorem dX0_setMask_3 : decode cX0_setMask 3 = .ok (.iload_n 1, 1) := dk_27 (dk_at dksX0_setMask_0 3 rfl rfl)
theorem dX0_setMask_4 : decode cX0_setMask 4 = .ok (.iload_n 2, 1) := dk_28 (dk_at dksX0_setMask_0 4 rfl rfl)
theorem dX0_setMask_5 : decode cX0_setMask 5 = .ok (.invokevirtual 46, 3) := dk_182 0 46 (dk_at dksX0_setMask_0 5 rfl rfl)
theorem dX0_setMask_8 : decode cX0_setMask 8 = .ok (.i2l, 1) := dk_133 (dk_at dksX0_setMask_0 8 rfl rfl)
theorem dX0_setMask_9 : decode cX0_setMask 9 = .ok (.lastore, 1) := dk_80 (dk_at dksX0_setMask_0 9 rfl rfl)
theorem dX0_setMask_10 : decode cX0_setMask 10 = .ok (.goto 11, 3) := dk_167 0 11 (dk_at dksX0_setMask_0 10 rfl rfl)
theorem dX0_setMask_13 : decode cX0_setMask 13 = .ok (.astore 4, 2) := dk_58 4 (dk_at dksX0_setMask_0 13 rfl rfl)
theorem dX0_setMask_15 : decode cX0_setMask 15 = .ok (.iconst 1, 1) := dk_4 (dk_at dksX0_setMask_0 15 rfl rfl)
theorem dX0_setMask_16 : decode cX0_setMask 16 = .ok (.ireturn, 1) := dk_172 (dk_at dksX0_setMask_0 16 rfl rfl)
theorem dX0_setMask_17 : decode cX0_setMask 17 = .ok (.astore 4, 2) := dk_58 4 (dk_at dksX0_setMask_0 17 rfl rfl)
theorem dX0_setMask_19 : decode cX0_setMask 19 = .ok (.iconst 2, 1) := dk_5 (dk_at dksX0_setMask_0 19 rfl rfl)
theorem dX0_setMask_20 : decode cX0_setMask 20 = .ok (.ireturn, 1) := dk_172 (dk_at dksX0_setMask_0 20 rfl rfl)
theorem dX0_setMask_21 : decode cX0_setMask 21 = .ok (.iconst 0, 1) := dk_3 (dk_at dksX0_setMask_0 21 rfl rfl)
theorem dX0_setMask_22 : decode cX0_setMask 22 = .ok (.ireturn, 1) := dk_172 (dk_at dksX0_setMask_0 22 rfl rfl)
abbrev cX0_setInheriting : ByteArray := method_14_code
def yX0_setInheriting : MethodName := ⟨RX0, "setInheriting", "(LPermissionDesk;IZ[J)I"⟩
def dkwX0_setInheriting_1 : List UInt8 := [3, 172]
abbrev dktX0_setInheriting_1 : List UInt8 := dkwX0_setInheriting_1 ++ []
def dkwX0_setInheriting_0 : List UInt8 := [45, 3, 42, 27, 28, 182, 0, 51, 153, 0, 7, 10, 167, 0, 4, 9, 80, 167, 0, 7, 58, 4, 4, 172]
abbrev dktX0_setInheriting_0 : List UInt8 := dkwX0_setInheriting_0 ++ dktX0_setInheriting_1
theorem dksX0_setInheriting_0 : cX0_setInheriting.data.toList.drop 0 = dktX0_setInheriting_0 := by decide +kernel
theorem dksX0_setInheriting_1 : cX0_setInheriting.data.toList.drop 24 = dktX0_setInheriting_1 := dk_seg dksX0_setInheriting_0 24 rfl rfl
theorem dX0_setInheriting_0 : decode cX0_setInheriting 0 = .ok (.aload_n 3, 1) := dk_45 (dk_at dksX0_setInheriting_0 0 rfl rfl)
theorem dX0_setInheriting_1 : decode cX0_setInheriting 1 = .ok (.iconst 0, 1) := dk_3 (dk_at dksX0_setInheriting_0 1 rfl rfl)
theorem dX0_setInheriting_2 : decode cX0_setInheriting 2 = .ok (.aload_n 0, 1) := dk_42 (dk_at dksX0_setInheriting_0 2 rfl rfl)
theorem dX0_setInheriting_3 : decode cX0_setInheriting 3 = .ok (.iload_n 1, 1) := dk_27 (dk_at dksX0_setInheriting_0 3 rfl rfl)
theorem dX0_setInheriting_4 : decode cX0_setInheriting 4 = .ok (.iload_n 2, 1) := dk_28 (dk_at dksX0_setInheriting_0 4 rfl rfl)
theorem dX0_setInheriting_5 : decode cX0_setInheriting 5 = .ok (.invokevirtual 51, 3) := dk_182 0 51 (dk_at dksX0_setInheriting_0 5 rfl rfl)
theorem dX0_setInheriting_8 : decode cX0_setInheriting 8 = .ok (.ifCond .eq 7, 3) := dk_153 0 7 (dk_at dksX0_setInheriting_0 8 rfl rfl)
theorem dX0_setInheriting_11 : decode cX0_setInheriting 11 = .ok (.lconst 1, 1) := dk_10 (dk_at dksX0_setInheriting_0 11 rfl rfl)
theorem dX0_setInheriting_12 : decode cX0_setInheriting 12 = .ok (.goto 4, 3) := dk_167 0 4 (dk_at dksX0_setInheriting_0 12 rfl rfl)
theorem dX0_setInheriting_15 : decode cX0_setInheriting 15 = .ok (.lconst 0, 1) := dk_9 (dk_at dksX0_setInheriting_0 15 rfl rfl)
theorem dX0_setInheriting_16 : decode cX0_setInheriting 16 = .ok (.lastore, 1) := dk_80 (dk_at dksX0_setInheriting_0 16 rfl rfl)
theorem dX0_setInheriting_17 : decode cX0_setInheriting 17 = .ok (.goto 7, 3) := dk_167 0 7 (dk_at dksX0_setInheriting_0 17 rfl rfl)
theorem dX0_setInheriting_20 : decode cX0_setInheriting 20 = .ok (.astore 4, 2) := dk_58 4 (dk_at dksX0_setInheriting_0 20 rfl rfl)
theorem dX0_setInheriting_22 : decode cX0_setInheriting 22 = .ok (.iconst 1, 1) := dk_4 (dk_at dksX0_setInheriting_0 22 rfl rfl)
theorem dX0_setInheriting_23 : decode cX0_setInheriting 23 = .ok (.ireturn, 1) := dk_172 (dk_at dksX0_setInheriting_0 23 rfl rfl)
theorem dX0_setInheriting_24 : decode cX0_setInheriting 24 = .ok (.iconst 0, 1) := dk_3 (dk_at dksX0_setInheriting_1 0 rfl rfl)
theorem dX0_setInheriting_25 : decode cX0_setInheriting 25 = .ok (.ireturn, 1) := dk_172 (dk_at dksX0_setInheriting_1 1 rfl rfl)
abbrev cX0_addForUser : ByteArray := method_15_code
def yX0_addForUser : MethodName := ⟨RX0, "addForUser", "(LPermissionDesk;IIIZZ[J)I"⟩
def dkwX0_addForUser_1 : List UInt8 := [58, 7, 5, 172, 58, 7, 6, 172, 3, 172]
abbrev dktX0_addForUser_1 : List UInt8 := dkwX0_addForUser_1 ++ []
def dkwX0_addForUser_0 : List UInt8 := [25, 6, 3, 42, 27, 28, 29, 21, 4, 21, 5, 182, 0, 55, 133, 80, 167, 0, 15, 58, 7, 4, 172]
abbrev dktX0_addForUser_0 : List UInt8 := dkwX0_addForUser_0 ++ dktX0_addForUser_1
theorem dksX0_addForUser_0 : cX0_addForUser.data.toList.drop 0 = dktX0_addForUser_0 := by decide +kernel
theorem dksX0_addForUser_1 : cX0_addForUser.data.toList.drop 23 = dktX0_addForUser_1 := dk_seg dksX0_addForUser_0 23 rfl rfl
theorem dX0_addForUser_0 : decode cX0_addForUser 0 = .ok (.aload 6, 2) := dk_25 6 (dk_at dksX0_addForUser_0 0 rfl rfl)
theorem dX0_addForUser_2 : decode cX0_addForUser 2 = .ok (.iconst 0, 1) := dk_3 (dk_at dksX0_addForUser_0 2 rfl rfl)
theorem dX0_addForUser_3 : decode cX0_addForUser 3 = .ok (.aload_n 0, 1) := dk_42 (dk_at dksX0_addForUser_0 3 rfl rfl)
theorem dX0_addForUser_4 : decode cX0_addForUser 4 = .ok (.iload_n 1, 1) := dk_27 (dk_at dksX0_addForUser_0 4 rfl rfl)
theorem dX0_addForUser_5 : decode cX0_addForUser 5 = .ok (.iload_n 2, 1) := dk_28 (dk_at dksX0_addForUser_0 5 rfl rfl)
theorem dX0_addForUser_6 : decode cX0_addForUser 6 = .ok (.iload_n 3, 1) := dk_29 (dk_at dksX0_addForUser_0 6 rfl rfl)
theorem dX0_addForUser_7 : decode cX0_addForUser 7 = .ok (.iload 4, 2) := dk_21 4 (dk_at dksX0_addForUser_0 7 rfl rfl)
theorem dX0_addForUser_9 : decode cX0_addForUser 9 = .ok (.iload 5, 2) := dk_21 5 (dk_at dksX0_addForUser_0 9 rfl rfl)
theorem dX0_addForUser_11 : decode cX0_addForUser 11 = .ok (.invokevirtual 55, 3) := dk_182 0 55 (dk_at dksX0_addForUser_0 11 rfl rfl)
theorem dX0_addForUser_14 : decode cX0_addForUser 14 = .ok (.i2l, 1) := dk_133 (dk_at dksX0_addForUser_0 14 rfl rfl)
theorem dX0_addForUser_15 : decode cX0_addForUser 15 = .ok (.lastore, 1) := dk_80 (dk_at dksX0_addForUser_0 15 rfl rfl)
theorem dX0_addForUser_16 : decode cX0_addForUser 16 = .ok (.goto 15, 3) := dk_167 0 15 (dk_at dksX0_addForUser_0 16 rfl rfl)
theorem dX0_addForUser_19 : decode cX0_addForUser 19 = .ok (.astore 7, 2) := dk_58 7 (dk_at dksX0_addForUser_0 19 rfl rfl)
theorem dX0_addForUser_21 : decode cX0_addForUser 21 = .ok (.iconst 1, 1) := dk_4 (dk_at dksX0_addForUser_0 21 rfl rfl)
theorem dX0_addForUser_22 : decode cX0_addForUser 22 = .ok (.ireturn, 1) := dk_172 (dk_at dksX0_addForUser_0 22 rfl rfl)
theorem dX0_addForUser_23 : decode cX0_addForUser 23 = .ok (.astore 7, 2) := dk_58 7 (dk_at dksX0_addForUser_1 0 rfl rfl)
theorem dX0_addForUser_25 : decode cX0_addForUser 25 = .ok (.iconst 2, 1) := dk_5 (dk_at dksX0_addForUser_1 2 rfl rfl)
theorem dX0_addForUser_26 : decode cX0_addForUser 26 = .ok (.ireturn, 1) := dk_172 (dk_at dksX0_addForUser_1 3 rfl rfl)
theorem dX0_addForUser_27 : decode cX0_addForUser 27 = .ok (.astore 7, 2) := dk_58 7 (dk_at dksX0_addForUser_1 4 rfl rfl)
theorem dX0_addForUser_29 : decode cX0_addForUser 29 = .ok (.iconst 3, 1) := dk_6 (dk_at dksX0_addForUser_1 6 rfl rfl)
theorem dX0_addForUser_30 : decode cX0_addForUser 30 = .ok (.ireturn, 1) := dk_172 (dk_at dksX0_addForUser_1 7 rfl rfl)
theorem dX0_addForUser_31 : decode cX0_addForUser 31 = .ok (.iconst 0, 1) := dk_3 (dk_at dksX0_addForUser_1 8 rfl rfl)
theorem dX0_addForUser_32 : decode cX0_addForUser 32 = .ok (.ireturn, 1) := dk_172 (dk_at dksX0_addForUser_1 9 rfl rfl)
abbrev cX0_addForGroup : ByteArray := method_16_code
def yX0_addForGroup : MethodName := ⟨RX0, "addForGroup", "(LPermissionDesk;IIIZZ[J)I"⟩
def dkwX0_addForGroup_1 : List UInt8 := [58, 7, 5, 172, 58, 7, 6, 172, 3, 172]
abbrev dktX0_addForGroup_1 : List UInt8 := dkwX0_addForGroup_1 ++ []
def dkwX0_addForGroup_0 : List UInt8 := [25, 6, 3, 42, 27, 28, 29, 21, 4, 21, 5, 182, 0, 59, 133, 80, 167, 0, 15, 58, 7, 4, 172]
abbrev dktX0_addForGroup_0 : List UInt8 := dkwX0_addForGroup_0 ++ dktX0_addForGroup_1
theorem dksX0_addForGroup_0 : cX0_addForGroup.data.toList.drop 0 = dktX0_addForGroup_0 := by decide +kernel
theorem dksX0_addForGroup_1 : cX0_addForGroup.data.toList.drop 23 = dktX0_addForGroup_1 := dk_seg dksX0_addForGroup_0 23 rfl rfl
theorem dX0_addForGroup_0 : decode cX0_addForGroup 0 = .ok (.aload 6, 2) := dk_25 6 (dk_at dksX0_addForGroup_0 0 rfl rfl)
theorem dX0_addForGroup_2 : decode cX0_addForGroup 2 = .ok (.iconst 0, 1) := dk_3 (dk_at dksX0_addForGroup_0 2 rfl rfl)
theorem dX0_addForGroup_3 : decode cX0_addForGroup 3 = .ok (.aload_n 0, 1) := dk_42 (dk_at dksX0_addForGroup_0 3 rfl rfl)
theorem dX0_addForGroup_4 : decode cX0_addForGroup 4 = .ok (.iload_n 1, 1) := dk_27 (dk_at dksX0_addForGroup_0 4 rfl rfl)
theorem dX0_addForGroup_5 : decode cX0_addForGroup 5 = .ok (.iload_n 2, 1) := dk_28 (dk_at dksX0_addForGroup_0 5 rfl rfl)
theorem dX0_addForGroup_6 : decode cX0_addForGroup 6 = .ok (.iload_n 3, 1) := dk_29 (dk_at dksX0_addForGroup_0 6 rfl rfl)
theorem dX0_addForGroup_7 : decode cX0_addForGroup 7 = .ok (.iload 4, 2) := dk_21 4 (dk_at dksX0_addForGroup_0 7 rfl rfl)
theorem dX0_addForGroup_9 : decode cX0_addForGroup 9 = .ok (.iload 5, 2) := dk_21 5 (dk_at dksX0_addForGroup_0 9 rfl rfl)
theorem dX0_addForGroup_11 : decode cX0_addForGroup 11 = .ok (.invokevirtual 59, 3) := dk_182 0 59 (dk_at dksX0_addForGroup_0 11 rfl rfl)
theorem dX0_addForGroup_14 : decode cX0_addForGroup 14 = .ok (.i2l, 1) := dk_133 (dk_at dksX0_addForGroup_0 14 rfl rfl)
theorem dX0_addForGroup_15 : decode cX0_addForGroup 15 = .ok (.lastore, 1) := dk_80 (dk_at dksX0_addForGroup_0 15 rfl rfl)
theorem dX0_addForGroup_16 : decode cX0_addForGroup 16 = .ok (.goto 15, 3) := dk_167 0 15 (dk_at dksX0_addForGroup_0 16 rfl rfl)
theorem dX0_addForGroup_19 : decode cX0_addForGroup 19 = .ok (.astore 7, 2) := dk_58 7 (dk_at dksX0_addForGroup_0 19 rfl rfl)
theorem dX0_addForGroup_21 : decode cX0_addForGroup 21 = .ok (.iconst 1, 1) := dk_4 (dk_at dksX0_addForGroup_0 21 rfl rfl)
theorem dX0_addForGroup_22 : decode cX0_addForGroup 22 = .ok (.ireturn, 1) := dk_172 (dk_at dksX0_addForGroup_0 22 rfl rfl)
theorem dX0_addForGroup_23 : decode cX0_addForGroup 23 = .ok (.astore 7, 2) := dk_58 7 (dk_at dksX0_addForGroup_1 0 rfl rfl)
theorem dX0_addForGroup_25 : decode cX0_addForGroup 25 = .ok (.iconst 2, 1) := dk_5 (dk_at dksX0_addForGroup_1 2 rfl rfl)
theorem dX0_addForGroup_26 : decode cX0_addForGroup 26 = .ok (.ireturn, 1) := dk_172 (dk_at dksX0_addForGroup_1 3 rfl rfl)
theorem dX0_addForGroup_27 : decode cX0_addForGroup 27 = .ok (.astore 7, 2) := dk_58 7 (dk_at dksX0_addForGroup_1 4 rfl rfl)
theorem dX0_addForGroup_29 : decode cX0_addForGroup 29 = .ok (.iconst 3, 1) := dk_6 (dk_at dksX0_addForGroup_1 6 rfl rfl)
theorem dX0_addForGroup_30 : decode cX0_addForGroup 30 = .ok (.ireturn, 1) := dk_172 (dk_at dksX0_addForGroup_1 7 rfl rfl)
theorem dX0_addForGroup_31 : decode cX0_addForGroup 31 = .ok (.iconst 0, 1) := dk_3 (dk_at dksX0_addForGroup_1 8 rfl rfl)
theorem dX0_addForGroup_32 : decode cX0_addForGroup 32 = .ok (.ireturn, 1) := dk_172 (dk_at dksX0_addForGroup_1 9 rfl rfl)
abbrev cX0_addForOwner : ByteArray := method_17_code
def yX0_addForOwner : MethodName := ⟨RX0, "addForOwner", "(LPermissionDesk;IIZZ[J)I"⟩
def dkwX0_addForOwner_1 : List UInt8 := [172, 58, 6, 6, 172, 3, 172]
abbrev dktX0_addForOwner_1 : List UInt8 := dkwX0_addForOwner_1 ++ []
def dkwX0_addForOwner_0 : List UInt8 := [25, 5, 3, 42, 27, 28, 29, 21, 4, 182, 0, 62, 133, 80, 167, 0, 15, 58, 6, 4, 172, 58, 6, 5]
abbrev dktX0_addForOwner_0 : List UInt8 := dkwX0_addForOwner_0 ++ dktX0_addForOwner_1
theorem dksX0_addForOwner_0 : cX0_addForOwner.data.toList.drop 0 = dktX0_addForOwner_0 := by decide +kernel
theorem dksX0_addForOwner_1 : cX0_addForOwner.data.toList.drop 24 = dktX0_addForOwner_1 := dk_seg dksX0_addForOwner_0 24 rfl rfl
theorem dX0_addForOwner_0 : decode cX0_addForOwner 0 = .ok (.aload 5, 2) := dk_25 5 (dk_at dksX0_addForOwner_0 0 rfl rfl)
theorem dX0_addForOwner_2 : decode cX0_addForOwner 2 = .ok (.iconst 0, 1) := dk_3 (dk_at dksX0_addForOwner_0 2 rfl rfl)
theorem dX0_addForOwner_3 : decode cX0_addForOwner 3 = .ok (.aload_n 0, 1) := dk_42 (dk_at dksX0_addForOwner_0 3 rfl rfl)
theorem dX0_addForOwner_4 : decode cX0_addForOwner 4 = .ok (.iload_n 1, 1) := dk_27 (dk_at dksX0_addForOwner_0 4 rfl rfl)
theorem dX0_addForOwner_5 : decode cX0_addForOwner 5 = .ok (.iload_n 2, 1) := dk_28 (dk_at dksX0_addForOwner_0 5 rfl rfl)
theorem dX0_addForOwner_6 : decode cX0_addForOwner 6 = .ok (.iload_n 3, 1) := dk_29 (dk_at dksX0_addForOwner_0 6 rfl rfl)
theorem dX0_addForOwner_7 : decode cX0_addForOwner 7 = .ok (.iload 4, 2) := dk_21 4 (dk_at dksX0_addForOwner_0 7 rfl rfl)
theorem dX0_addForOwner_9 : decode cX0_addForOwner 9 = .ok (.invokevirtual 62, 3) := dk_182 0 62 (dk_at dksX0_addForOwner_0 9 rfl rfl)
theorem dX0_addForOwner_12 : decode cX0_addForOwner 12 = .ok (.i2l, 1) := dk_133 (dk_at dksX0_addForOwner_0 12 rfl rfl)
theorem dX0_addForOwner_13 : decode cX0_addForOwner 13 = .ok (.lastore, 1) := dk_80 (dk_at dksX0_addForOwner_0 13 rfl rfl)
theorem dX0_addForOwner_14 : decode cX0_addForOwner 14 = .ok (.goto 15, 3) := dk_167 0 15 (dk_at dksX0_addForOwner_0 14 rfl rfl)
theorem dX0_addForOwner_17 : decode cX0_addForOwner 17 = .ok (.astore 6, 2) := dk_58 6 (dk_at dksX0_addForOwner_0 17 rfl rfl)
theorem dX0_addForOwner_19 : decode cX0_addForOwner 19 = .ok (.iconst 1, 1) := dk_4 (dk_at dksX0_addForOwner_0 19 rfl rfl)
theorem dX0_addForOwner_20 : decode cX0_addForOwner 20 = .ok (.ireturn, 1) := dk_172 (dk_at dksX0_addForOwner_0 20 rfl rfl)
theorem dX0_addForOwner_21 : decode cX0_addForOwner 21 = .ok (.astore 6, 2) := dk_58 6 (dk_at dksX0_addForOwner_0 21 rfl rfl)
theorem dX0_addForOwner_23 : decode cX0_addForOwner 23 = .ok (.iconst 2, 1) := dk_5 (dk_at dksX0_addForOwner_0 23 rfl rfl)
theorem dX0_addForOwner_24 : decode cX0_addForOwner 24 = .ok (.ireturn, 1) := dk_172 (dk_at dksX0_addForOwner_1 0 rfl rfl)
theorem dX0_addForOwner_25 : decode cX0_addForOwner 25 = .ok (.astore 6, 2) := dk_58 6 (dk_at dksX0_addForOwner_1 1 rfl rfl)
theorem dX0_addForOwner_27 : decode cX0_addForOwner 27 = .ok (.iconst 3, 1) := dk_6 (dk_at dksX0_addForOwner_1 3 rfl rfl)
theorem dX0_addForOwner_28 : decode cX0_addForOwner 28 = .ok (.ireturn, 1) := dk_172 (dk_at dksX0_addForOwner_1 4 rfl rfl)
theorem dX0_addForOwner_29 : decode cX0_addForOwner 29 = .ok (.iconst 0, 1) := dk_3 (dk_at dksX0_addForOwner_1 5 rfl rfl)
theorem dX0_addForOwner_30 : decode cX0_addForOwner 30 = .ok (.ireturn, 1) := dk_172 (dk_at dksX0_addForOwner_1 6 rfl rfl)
abbrev cX0_addForAll : ByteArray := method_18_code
def yX0_addForAll : MethodName := ⟨RX0, "addForAll", "(LPermissionDesk;IIZZ[J)I"⟩
def dkwX0_addForAll_1 : List UInt8 := [172, 58, 6, 6, 172, 3, 172]
abbrev dktX0_addForAll_1 : List UInt8 := dkwX0_addForAll_1 ++ []
def dkwX0_addForAll_0 : List UInt8 := [25, 5, 3, 42, 27, 28, 29, 21, 4, 182, 0, 66, 133, 80, 167, 0, 15, 58, 6, 4, 172, 58, 6, 5]
abbrev dktX0_addForAll_0 : List UInt8 := dkwX0_addForAll_0 ++ dktX0_addForAll_1
theorem dksX0_addForAll_0 : cX0_addForAll.data.toList.drop 0 = dktX0_addForAll_0 := by decide +kernel
theorem dksX0_addForAll_1 : cX0_addForAll.data.toList.drop 24 = dktX0_addForAll_1 := dk_seg dksX0_addForAll_0 24 rfl rfl
theorem dX0_addForAll_0 : decode cX0_addForAll 0 = .ok (.aload 5, 2) := dk_25 5 (dk_at dksX0_addForAll_0 0 rfl rfl)
theorem dX0_addForAll_2 : decode cX0_addForAll 2 = .ok (.iconst 0, 1) := dk_3 (dk_at dksX0_addForAll_0 2 rfl rfl)
theorem dX0_addForAll_3 : decode cX0_addForAll 3 = .ok (.aload_n 0, 1) := dk_42 (dk_at dksX0_addForAll_0 3 rfl rfl)
theorem dX0_addForAll_4 : decode cX0_addForAll 4 = .ok (.iload_n 1, 1) := dk_27 (dk_at dksX0_addForAll_0 4 rfl rfl)
theorem dX0_addForAll_5 : decode cX0_addForAll 5 = .ok (.iload_n 2, 1) := dk_28 (dk_at dksX0_addForAll_0 5 rfl rfl)
theorem dX0_addForAll_6 : decode cX0_addForAll 6 = .ok (.iload_n 3, 1) := dk_29 (dk_at dksX0_addForAll_0 6 rfl rfl)
theorem dX0_addForAll_7 : decode cX0_addForAll 7 = .ok (.iload 4, 2) := dk_21 4 (dk_at dksX0_addForAll_0 7 rfl rfl)
theorem dX0_addForAll_9 : decode cX0_addForAll 9 = .ok (.invokevirtual 66, 3) := dk_182 0 66 (dk_at dksX0_addForAll_0 9 rfl rfl)
theorem dX0_addForAll_12 : decode cX0_addForAll 12 = .ok (.i2l, 1) := dk_133 (dk_at dksX0_addForAll_0 12 rfl rfl)
theorem dX0_addForAll_13 : decode cX0_addForAll 13 = .ok (.lastore, 1) := dk_80 (dk_at dksX0_addForAll_0 13 rfl rfl)
theorem dX0_addForAll_14 : decode cX0_addForAll 14 = .ok (.goto 15, 3) := dk_167 0 15 (dk_at dksX0_addForAll_0 14 rfl rfl)
theorem dX0_addForAll_17 : decode cX0_addForAll 17 = .ok (.astore 6, 2) := dk_58 6 (dk_at dksX0_addForAll_0 17 rfl rfl)
theorem dX0_addForAll_19 : decode cX0_addForAll 19 = .ok (.iconst 1, 1) := dk_4 (dk_at dksX0_addForAll_0 19 rfl rfl)
theorem dX0_addForAll_20 : decode cX0_addForAll 20 = .ok (.ireturn, 1) := dk_172 (dk_at dksX0_addForAll_0 20 rfl rfl)
theorem dX0_addForAll_21 : decode cX0_addForAll 21 = .ok (.astore 6, 2) := dk_58 6 (dk_at dksX0_addForAll_0 21 rfl rfl)
theorem dX0_addForAll_23 : decode cX0_addForAll 23 = .ok (.iconst 2, 1) := dk_5 (dk_at dksX0_addForAll_0 23 rfl rfl)
theorem dX0_addForAll_24 : decode cX0_addForAll 24 = .ok (.ireturn, 1) := dk_172 (dk_at dksX0_addForAll_1 0 rfl rfl)
theorem dX0_addForAll_25 : decode cX0_addForAll 25 = .ok (.astore 6, 2) := dk_58 6 (dk_at dksX0_addForAll_1 1 rfl rfl)
theorem dX0_addForAll_27 : decode cX0_addForAll 27 = .ok (.iconst 3, 1) := dk_6 (dk_at dksX0_addForAll_1 3 rfl rfl)
theorem dX0_addForAll_28 : decode cX0_addForAll 28 = .ok (.ireturn, 1) := dk_172 (dk_at dksX0_addForAll_1 4 rfl rfl)
theorem dX0_addForAll_29 : decode cX0_addForAll 29 = .ok (.iconst 0, 1) := dk_3 (dk_at dksX0_addForAll_1 5 rfl rfl)
theorem dX0_addForAll_30 : decode cX0_addForAll 30 = .ok (.ireturn, 1) := dk_172 (dk_at dksX0_addForAll_1 6 rfl rfl)
abbrev cX0_removeEntry : ByteArray := method_19_code
def yX0_removeEntry : MethodName := ⟨RX0, "removeEntry", "(LPermissionDesk;II[J)I"⟩
def dkwX0_removeEntry_0 : List UInt8 := [45, 3, 42, 27, 28, 182, 0, 69, 133, 80, 167, 0, 7, 58, 4, 4, 172, 3, 172]
abbrev dktX0_removeEntry_0 : List UInt8 := dkwX0_removeEntry_0 ++ []
theorem dksX0_removeEntry_0 : cX0_removeEntry.data.toList.drop 0 = dktX0_removeEntry_0 := by decide +kernel
theorem dX0_removeEntry_0 : decode cX0_removeEntry 0 = .ok (.aload_n 3, 1) := dk_45 (dk_at dksX0_removeEntry_0 0 rfl rfl)
theorem dX0_removeEntry_1 : decode cX0_removeEntry 1 = .ok (.iconst 0, 1) := dk_3 (dk_at dksX0_removeEntry_0 1 rfl rfl)
theorem dX0_removeEntry_2 : decode cX0_removeEntry 2 = .ok (.aload_n 0, 1) := dk_42 (dk_at dksX0_removeEntry_0 2 rfl rfl)
theorem dX0_removeEntry_3 : decode cX0_removeEntry 3 = .ok (.iload_n 1, 1) := dk_27 (dk_at dksX0_removeEntry_0 3 rfl rfl)
theorem dX0_removeEntry_4 : decode cX0_removeEntry 4 = .ok (.iload_n 2, 1) := dk_28 (dk_at dksX0_removeEntry_0 4 rfl rfl)
theorem dX0_removeEntry_5 : decode cX0_removeEntry 5 = .ok (.invokevirtual 69, 3) := dk_182 0 69 (dk_at dksX0_removeEntry_0 5 rfl rfl)
theorem dX0_removeEntry_8 : decode cX0_removeEntry 8 = .ok (.i2l, 1) := dk_133 (dk_at dksX0_removeEntry_0 8 rfl rfl)
theorem dX0_removeEntry_9 : decode cX0_removeEntry 9 = .ok (.lastore, 1) := dk_80 (dk_at dksX0_removeEntry_0 9 rfl rfl)
theorem dX0_removeEntry_10 : decode cX0_removeEntry 10 = .ok (.goto 7, 3) := dk_167 0 7 (dk_at dksX0_removeEntry_0 10 rfl rfl)
theorem dX0_removeEntry_13 : decode cX0_removeEntry 13 = .ok (.astore 4, 2) := dk_58 4 (dk_at dksX0_removeEntry_0 13 rfl rfl)
theorem dX0_removeEntry_15 : decode cX0_removeEntry 15 = .ok (.iconst 1, 1) := dk_4 (dk_at dksX0_removeEntry_0 15 rfl rfl)
theorem dX0_removeEntry_16 : decode cX0_removeEntry 16 = .ok (.ireturn, 1) := dk_172 (dk_at dksX0_removeEntry_0 16 rfl rfl)
theorem dX0_removeEntry_17 : decode cX0_removeEntry 17 = .ok (.iconst 0, 1) := dk_3 (dk_at dksX0_removeEntry_0 17 rfl rfl)
theorem dX0_removeEntry_18 : decode cX0_removeEntry 18 = .ok (.ireturn, 1) := dk_172 (dk_at dksX0_removeEntry_0 18 rfl rfl)
abbrev cX0_moveEntry : ByteArray := method_20_code
def yX0_moveEntry : MethodName := ⟨RX0, "moveEntry", "(LPermissionDesk;III[J)I"⟩
def dkwX0_moveEntry_0 : List UInt8 := [25, 4, 3, 42, 27, 28, 29, 182, 0, 72, 133, 80, 167, 0, 7, 58, 5, 4, 172, 3, 172]
abbrev dktX0_moveEntry_0 : List UInt8 := dkwX0_moveEntry_0 ++ []
theorem dksX0_moveEntry_0 : cX0_moveEntry.data.toList.drop 0 = dktX0_moveEntry_0 := by decide +kernel
theorem dX0_moveEntry_0 : decode cX0_moveEntry 0 = .ok (.aload 4, 2) := dk_25 4 (dk_at dksX0_moveEntry_0 0 rfl rfl)
theorem dX0_moveEntry_2 : decode cX0_moveEntry 2 = .ok (.iconst 0, 1) := dk_3 (dk_at dksX0_moveEntry_0 2 rfl rfl)
theorem dX0_moveEntry_3 : decode cX0_moveEntry 3 = .ok (.aload_n 0, 1) := dk_42 (dk_at dksX0_moveEntry_0 3 rfl rfl)
theorem dX0_moveEntry_4 : decode cX0_moveEntry 4 = .ok (.iload_n 1, 1) := dk_27 (dk_at dksX0_moveEntry_0 4 rfl rfl)
theorem dX0_moveEntry_5 : decode cX0_moveEntry 5 = .ok (.iload_n 2, 1) := dk_28 (dk_at dksX0_moveEntry_0 5 rfl rfl)
theorem dX0_moveEntry_6 : decode cX0_moveEntry 6 = .ok (.iload_n 3, 1) := dk_29 (dk_at dksX0_moveEntry_0 6 rfl rfl)
theorem dX0_moveEntry_7 : decode cX0_moveEntry 7 = .ok (.invokevirtual 72, 3) := dk_182 0 72 (dk_at dksX0_moveEntry_0 7 rfl rfl)
theorem dX0_moveEntry_10 : decode cX0_moveEntry 10 = .ok (.i2l, 1) := dk_133 (dk_at dksX0_moveEntry_0 10 rfl rfl)
theorem dX0_moveEntry_11 : decode cX0_moveEntry 11 = .ok (.lastore, 1) := dk_80 (dk_at dksX0_moveEntry_0 11 rfl rfl)
theorem dX0_moveEntry_12 : decode cX0_moveEntry 12 = .ok (.goto 7, 3) := dk_167 0 7 (dk_at dksX0_moveEntry_0 12 rfl rfl)
theorem dX0_moveEntry_15 : decode cX0_moveEntry 15 = .ok (.astore 5, 2) := dk_58 5 (dk_at dksX0_moveEntry_0 15 rfl rfl)
theorem dX0_moveEntry_17 : decode cX0_moveEntry 17 = .ok (.iconst 1, 1) := dk_4 (dk_at dksX0_moveEntry_0 17 rfl rfl)
theorem dX0_moveEntry_18 : decode cX0_moveEntry 18 = .ok (.ireturn, 1) := dk_172 (dk_at dksX0_moveEntry_0 18 rfl rfl)
theorem dX0_moveEntry_19 : decode cX0_moveEntry 19 = .ok (.iconst 0, 1) := dk_3 (dk_at dksX0_moveEntry_0 19 rfl rfl)
theorem dX0_moveEntry_20 : decode cX0_moveEntry 20 = .ok (.ireturn, 1) := dk_172 (dk_at dksX0_moveEntry_0 20 rfl rfl)
abbrev cX0_ask : ByteArray := method_21_code
def yX0_ask : MethodName := ⟨RX0, "ask", "(LPermissionDesk;III[J)I"⟩
def dkwX0_ask_1 : List UInt8 := [4, 172, 58, 5, 5, 172, 3, 172]
abbrev dktX0_ask_1 : List UInt8 := dkwX0_ask_1 ++ []
def dkwX0_ask_0 : List UInt8 := [25, 4, 3, 42, 27, 28, 29, 182, 0, 76, 153, 0, 7, 10, 167, 0, 4, 9, 80, 167, 0, 11, 58, 5]
abbrev dktX0_ask_0 : List UInt8 := dkwX0_ask_0 ++ dktX0_ask_1
theorem dksX0_ask_0 : cX0_ask.data.toList.drop 0 = dktX0_ask_0 := by decide +kernel
theorem dksX0_ask_1 : cX0_ask.data.toList.drop 24 = dktX0_ask_1 := dk_seg dksX0_ask_0 24 rfl rfl
theorem dX0_ask_0 : decode cX0_ask 0 = .ok (.aload 4, 2) := dk_25 4 (dk_at dksX0_ask_0 0 rfl rfl)
theorem dX0_ask_2 : decode cX0_ask 2 = .ok (.iconst 0, 1) := dk_3 (dk_at dksX0_ask_0 2 rfl rfl)
theorem dX0_ask_3 : decode cX0_ask 3 = .ok (.aload_n 0, 1) := dk_42 (dk_at dksX0_ask_0 3 rfl rfl)
theorem dX0_ask_4 : decode cX0_ask 4 = .ok (.iload_n 1, 1) := dk_27 (dk_at dksX0_ask_0 4 rfl rfl)
theorem dX0_ask_5 : decode cX0_ask 5 = .ok (.iload_n 2, 1) := dk_28 (dk_at dksX0_ask_0 5 rfl rfl)
theorem dX0_ask_6 : decode cX0_ask 6 = .ok (.iload_n 3, 1) := dk_29 (dk_at dksX0_ask_0 6 rfl rfl)
theorem dX0_ask_7 : decode cX0_ask 7 = .ok (.invokevirtual 76, 3) := dk_182 0 76 (dk_at dksX0_ask_0 7 rfl rfl)
theorem dX0_ask_10 : decode cX0_ask 10 = .ok (.ifCond .eq 7, 3) := dk_153 0 7 (dk_at dksX0_ask_0 10 rfl rfl)
theorem dX0_ask_13 : decode cX0_ask 13 = .ok (.lconst 1, 1) := dk_10 (dk_at dksX0_ask_0 13 rfl rfl)
theorem dX0_ask_14 : decode cX0_ask 14 = .ok (.goto 4, 3) := dk_167 0 4 (dk_at dksX0_ask_0 14 rfl rfl)
theorem dX0_ask_17 : decode cX0_ask 17 = .ok (.lconst 0, 1) := dk_9 (dk_at dksX0_ask_0 17 rfl rfl)
theorem dX0_ask_18 : decode cX0_ask 18 = .ok (.lastore, 1) := dk_80 (dk_at dksX0_ask_0 18 rfl rfl)
theorem dX0_ask_19 : decode cX0_ask 19 = .ok (.goto 11, 3) := dk_167 0 11 (dk_at dksX0_ask_0 19 rfl rfl)
theorem dX0_ask_22 : decode cX0_ask 22 = .ok (.astore 5, 2) := dk_58 5 (dk_at dksX0_ask_0 22 rfl rfl)
theorem dX0_ask_24 : decode cX0_ask 24 = .ok (.iconst 1, 1) := dk_4 (dk_at dksX0_ask_1 0 rfl rfl)
theorem dX0_ask_25 : decode cX0_ask 25 = .ok (.ireturn, 1) := dk_172 (dk_at dksX0_ask_1 1 rfl rfl)
theorem dX0_ask_26 : decode cX0_ask 26 = .ok (.astore 5, 2) := dk_58 5 (dk_at dksX0_ask_1 2 rfl rfl)
theorem dX0_ask_28 : decode cX0_ask 28 = .ok (.iconst 2, 1) := dk_5 (dk_at dksX0_ask_1 4 rfl rfl)
theorem dX0_ask_29 : decode cX0_ask 29 = .ok (.ireturn, 1) := dk_172 (dk_at dksX0_ask_1 5 rfl rfl)
theorem dX0_ask_30 : decode cX0_ask 30 = .ok (.iconst 0, 1) := dk_3 (dk_at dksX0_ask_1 6 rfl rfl)
theorem dX0_ask_31 : decode cX0_ask 31 = .ok (.ireturn, 1) := dk_172 (dk_at dksX0_ask_1 7 rfl rfl)
abbrev cX0_share : ByteArray := method_22_code
def yX0_share : MethodName := ⟨RX0, "share", "(LPermissionDesk;IIII[J)I"⟩
def dkwX0_share_1 : List UInt8 := [172, 58, 6, 6, 172, 3, 172]
abbrev dktX0_share_1 : List UInt8 := dkwX0_share_1 ++ []
def dkwX0_share_0 : List UInt8 := [25, 5, 3, 42, 27, 28, 29, 21, 4, 182, 0, 80, 133, 80, 167, 0, 15, 58, 6, 4, 172, 58, 6, 5]
abbrev dktX0_share_0 : List UInt8 := dkwX0_share_0 ++ dktX0_share_1
theorem dksX0_share_0 : cX0_share.data.toList.drop 0 = dktX0_share_0 := by decide +kernel
theorem dksX0_share_1 : cX0_share.data.toList.drop 24 = dktX0_share_1 := dk_seg dksX0_share_0 24 rfl rfl
theorem dX0_share_0 : decode cX0_share 0 = .ok (.aload 5, 2) := dk_25 5 (dk_at dksX0_share_0 0 rfl rfl)
theorem dX0_share_2 : decode cX0_share 2 = .ok (.iconst 0, 1) := dk_3 (dk_at dksX0_share_0 2 rfl rfl)
theorem dX0_share_3 : decode cX0_share 3 = .ok (.aload_n 0, 1) := dk_42 (dk_at dksX0_share_0 3 rfl rfl)
theorem dX0_share_4 : decode cX0_share 4 = .ok (.iload_n 1, 1) := dk_27 (dk_at dksX0_share_0 4 rfl rfl)
theorem dX0_share_5 : decode cX0_share 5 = .ok (.iload_n 2, 1) := dk_28 (dk_at dksX0_share_0 5 rfl rfl)
theorem dX0_share_6 : decode cX0_share 6 = .ok (.iload_n 3, 1) := dk_29 (dk_at dksX0_share_0 6 rfl rfl)
theorem dX0_share_7 : decode cX0_share 7 = .ok (.iload 4, 2) := dk_21 4 (dk_at dksX0_share_0 7 rfl rfl)
theorem dX0_share_9 : decode cX0_share 9 = .ok (.invokevirtual 80, 3) := dk_182 0 80 (dk_at dksX0_share_0 9 rfl rfl)
theorem dX0_share_12 : decode cX0_share 12 = .ok (.i2l, 1) := dk_133 (dk_at dksX0_share_0 12 rfl rfl)
theorem dX0_share_13 : decode cX0_share 13 = .ok (.lastore, 1) := dk_80 (dk_at dksX0_share_0 13 rfl rfl)
theorem dX0_share_14 : decode cX0_share 14 = .ok (.goto 15, 3) := dk_167 0 15 (dk_at dksX0_share_0 14 rfl rfl)
theorem dX0_share_17 : decode cX0_share 17 = .ok (.astore 6, 2) := dk_58 6 (dk_at dksX0_share_0 17 rfl rfl)
theorem dX0_share_19 : decode cX0_share 19 = .ok (.iconst 1, 1) := dk_4 (dk_at dksX0_share_0 19 rfl rfl)
theorem dX0_share_20 : decode cX0_share 20 = .ok (.ireturn, 1) := dk_172 (dk_at dksX0_share_0 20 rfl rfl)
theorem dX0_share_21 : decode cX0_share 21 = .ok (.astore 6, 2) := dk_58 6 (dk_at dksX0_share_0 21 rfl rfl)
theorem dX0_share_23 : decode cX0_share 23 = .ok (.iconst 2, 1) := dk_5 (dk_at dksX0_share_0 23 rfl rfl)
theorem dX0_share_24 : decode cX0_share 24 = .ok (.ireturn, 1) := dk_172 (dk_at dksX0_share_1 0 rfl rfl)
theorem dX0_share_25 : decode cX0_share 25 = .ok (.astore 6, 2) := dk_58 6 (dk_at dksX0_share_1 1 rfl rfl)
theorem dX0_share_27 : decode cX0_share 27 = .ok (.iconst 3, 1) := dk_6 (dk_at dksX0_share_1 3 rfl rfl)
theorem dX0_share_28 : decode cX0_share 28 = .ok (.ireturn, 1) := dk_172 (dk_at dksX0_share_1 4 rfl rfl)
theorem dX0_share_29 : decode cX0_share 29 = .ok (.iconst 0, 1) := dk_3 (dk_at dksX0_share_1 5 rfl rfl)
theorem dX0_share_30 : decode cX0_share 30 = .ok (.ireturn, 1) := dk_172 (dk_at dksX0_share_1 6 rfl rfl)
abbrev cX0_append : ByteArray := method_23_code
def yX0_append : MethodName := ⟨RX0, "append", "(LPermissionDesk;I[J)I"⟩
def dkwX0_append_0 : List UInt8 := [44, 3, 42, 27, 182, 0, 84, 133, 80, 167, 0, 9, 78, 4, 172, 78, 5, 172, 3, 172]
abbrev dktX0_append_0 : List UInt8 := dkwX0_append_0 ++ []
theorem dksX0_append_0 : cX0_append.data.toList.drop 0 = dktX0_append_0 := by decide +kernel
theorem dX0_append_0 : decode cX0_append 0 = .ok (.aload_n 2, 1) := dk_44 (dk_at dksX0_append_0 0 rfl rfl)
theorem dX0_append_1 : decode cX0_append 1 = .ok (.iconst 0, 1) := dk_3 (dk_at dksX0_append_0 1 rfl rfl)
theorem dX0_append_2 : decode cX0_append 2 = .ok (.aload_n 0, 1) := dk_42 (dk_at dksX0_append_0 2 rfl rfl)
theorem dX0_append_3 : decode cX0_append 3 = .ok (.iload_n 1, 1) := dk_27 (dk_at dksX0_append_0 3 rfl rfl)
theorem dX0_append_4 : decode cX0_append 4 = .ok (.invokevirtual 84, 3) := dk_182 0 84 (dk_at dksX0_append_0 4 rfl rfl)
theorem dX0_append_7 : decode cX0_append 7 = .ok (.i2l, 1) := dk_133 (dk_at dksX0_append_0 7 rfl rfl)
theorem dX0_append_8 : decode cX0_append 8 = .ok (.lastore, 1) := dk_80 (dk_at dksX0_append_0 8 rfl rfl)
theorem dX0_append_9 : decode cX0_append 9 = .ok (.goto 9, 3) := dk_167 0 9 (dk_at dksX0_append_0 9 rfl rfl)
theorem dX0_append_12 : decode cX0_append 12 = .ok (.astore_n 3, 1) := dk_78 (dk_at dksX0_append_0 12 rfl rfl)
theorem dX0_append_13 : decode cX0_append 13 = .ok (.iconst 1, 1) := dk_4 (dk_at dksX0_append_0 13 rfl rfl)
theorem dX0_append_14 : decode cX0_append 14 = .ok (.ireturn, 1) := dk_172 (dk_at dksX0_append_0 14 rfl rfl)
theorem dX0_append_15 : decode cX0_append 15 = .ok (.astore_n 3, 1) := dk_78 (dk_at dksX0_append_0 15 rfl rfl)
theorem dX0_append_16 : decode cX0_append 16 = .ok (.iconst 2, 1) := dk_5 (dk_at dksX0_append_0 16 rfl rfl)
theorem dX0_append_17 : decode cX0_append 17 = .ok (.ireturn, 1) := dk_172 (dk_at dksX0_append_0 17 rfl rfl)
theorem dX0_append_18 : decode cX0_append 18 = .ok (.iconst 0, 1) := dk_3 (dk_at dksX0_append_0 18 rfl rfl)
theorem dX0_append_19 : decode cX0_append 19 = .ok (.ireturn, 1) := dk_172 (dk_at dksX0_append_0 19 rfl rfl)
abbrev cX0_loadEntries : ByteArray := method_24_code
def yX0_loadEntries : MethodName := ⟨RX0, "loadEntries", "(LPermissionDesk;[J)I"⟩
def dkwX0_loadEntries_0 : List UInt8 := [43, 3, 42, 182, 0, 87, 133, 80, 167, 0, 6, 77, 4, 172, 3, 172]
abbrev dktX0_loadEntries_0 : List UInt8 := dkwX0_loadEntries_0 ++ []
theorem dksX0_loadEntries_0 : cX0_loadEntries.data.toList.drop 0 = dktX0_loadEntries_0 := by decide +kernel
theorem dX0_loadEntries_0 : decode cX0_loadEntries 0 = .ok (.aload_n 1, 1) := dk_43 (dk_at dksX0_loadEntries_0 0 rfl rfl)
theorem dX0_loadEntries_1 : decode cX0_loadEntries 1 = .ok (.iconst 0, 1) := dk_3 (dk_at dksX0_loadEntries_0 1 rfl rfl)
theorem dX0_loadEntries_2 : decode cX0_loadEntries 2 = .ok (.aload_n 0, 1) := dk_42 (dk_at dksX0_loadEntries_0 2 rfl rfl)
theorem dX0_loadEntries_3 : decode cX0_loadEntries 3 = .ok (.invokevirtual 87, 3) := dk_182 0 87 (dk_at dksX0_loadEntries_0 3 rfl rfl)
theorem dX0_loadEntries_6 : decode cX0_loadEntries 6 = .ok (.i2l, 1) := dk_133 (dk_at dksX0_loadEntries_0 6 rfl rfl)
theorem dX0_loadEntries_7 : decode cX0_loadEntries 7 = .ok (.lastore, 1) := dk_80 (dk_at dksX0_loadEntries_0 7 rfl rfl)
theorem dX0_loadEntries_8 : decode cX0_loadEntries 8 = .ok (.goto 6, 3) := dk_167 0 6 (dk_at dksX0_loadEntries_0 8 rfl rfl)
theorem dX0_loadEntries_11 : decode cX0_loadEntries 11 = .ok (.astore_n 2, 1) := dk_77 (dk_at dksX0_loadEntries_0 11 rfl rfl)
theorem dX0_loadEntries_12 : decode cX0_loadEntries 12 = .ok (.iconst 1, 1) := dk_4 (dk_at dksX0_loadEntries_0 12 rfl rfl)
theorem dX0_loadEntries_13 : decode cX0_loadEntries 13 = .ok (.ireturn, 1) := dk_172 (dk_at dksX0_loadEntries_0 13 rfl rfl)
theorem dX0_loadEntries_14 : decode cX0_loadEntries 14 = .ok (.iconst 0, 1) := dk_3 (dk_at dksX0_loadEntries_0 14 rfl rfl)
theorem dX0_loadEntries_15 : decode cX0_loadEntries 15 = .ok (.ireturn, 1) := dk_172 (dk_at dksX0_loadEntries_0 15 rfl rfl)
abbrev cX0_writeEntries : ByteArray := method_25_code
def yX0_writeEntries : MethodName := ⟨RX0, "writeEntries", "(LPermissionDesk;I[J)I"⟩
def dkwX0_writeEntries_0 : List UInt8 := [44, 3, 42, 27, 182, 0, 90, 133, 80, 167, 0, 6, 78, 4, 172, 3, 172]
abbrev dktX0_writeEntries_0 : List UInt8 := dkwX0_writeEntries_0 ++ []
theorem dksX0_writeEntries_0 : cX0_writeEntries.data.toList.drop 0 = dktX0_writeEntries_0 := by decide +kernel
theorem dX0_writeEntries_0 : decode cX0_writeEntries 0 = .ok (.aload_n 2, 1) := dk_44 (dk_at dksX0_writeEntries_0 0 rfl rfl)
theorem dX0_writeEntries_1 : decode cX0_writeEntries 1 = .ok (.iconst 0, 1) := dk_3 (dk_at dksX0_writeEntries_0 1 rfl rfl)
theorem dX0_writeEntries_2 : decode cX0_writeEntries 2 = .ok (.aload_n 0, 1) := dk_42 (dk_at dksX0_writeEntries_0 2 rfl rfl)
theorem dX0_writeEntries_3 : decode cX0_writeEntries 3 = .ok (.iload_n 1, 1) := dk_27 (dk_at dksX0_writeEntries_0 3 rfl rfl)
theorem dX0_writeEntries_4 : decode cX0_writeEntries 4 = .ok (.invokevirtual 90, 3) := dk_182 0 90 (dk_at dksX0_writeEntries_0 4 rfl rfl)
theorem dX0_writeEntries_7 : decode cX0_writeEntries 7 = .ok (.i2l, 1) := dk_133 (dk_at dksX0_writeEntries_0 7 rfl rfl)
theorem dX0_writeEntries_8 : decode cX0_writeEntries 8 = .ok (.lastore, 1) := dk_80 (dk_at dksX0_writeEntries_0 8 rfl rfl)
theorem dX0_writeEntries_9 : decode cX0_writeEntries 9 = .ok (.goto 6, 3) := dk_167 0 6 (dk_at dksX0_writeEntries_0 9 rfl rfl)
theorem dX0_writeEntries_12 : decode cX0_writeEntries 12 = .ok (.astore_n 3, 1) := dk_78 (dk_at dksX0_writeEntries_0 12 rfl rfl)
theorem dX0_writeEntries_13 : decode cX0_writeEntries 13 = .ok (.iconst 1, 1) := dk_4 (dk_at dksX0_writeEntries_0 13 rfl rfl)
theorem dX0_writeEntries_14 : decode cX0_writeEntries 14 = .ok (.ireturn, 1) := dk_172 (dk_at dksX0_writeEntries_0 14 rfl rfl)
theorem dX0_writeEntries_15 : decode cX0_writeEntries 15 = .ok (.iconst 0, 1) := dk_3 (dk_at dksX0_writeEntries_0 15 rfl rfl)
theorem dX0_writeEntries_16 : decode cX0_writeEntries 16 = .ok (.ireturn, 1) := dk_172 (dk_at dksX0_writeEntries_0 16 rfl rfl)
abbrev cX0_codeAt : ByteArray := method_26_code
def yX0_codeAt : MethodName := ⟨RX0, "codeAt", "(LPermissionDesk;I[J)I"⟩
def dkwX0_codeAt_0 : List UInt8 := [44, 3, 42, 27, 182, 0, 93, 133, 80, 167, 0, 6, 78, 4, 172, 3, 172]
abbrev dktX0_codeAt_0 : List UInt8 := dkwX0_codeAt_0 ++ []
theorem dksX0_codeAt_0 : cX0_codeAt.data.toList.drop 0 = dktX0_codeAt_0 := by decide +kernel
theorem dX0_codeAt_0 : decode cX0_codeAt 0 = .ok (.aload_n 2, 1) := dk_44 (dk_at dksX0_codeAt_0 0 rfl rfl)
theorem dX0_codeAt_1 : decode cX0_codeAt 1 = .ok (.iconst 0, 1) := dk_3 (dk_at dksX0_codeAt_0 1 rfl rfl)
theorem dX0_codeAt_2 : decode cX0_codeAt 2 = .ok (.aload_n 0, 1) := dk_42 (dk_at dksX0_codeAt_0 2 rfl rfl)
theorem dX0_codeAt_3 : decode cX0_codeAt 3 = .ok (.iload_n 1, 1) := dk_27 (dk_at dksX0_codeAt_0 3 rfl rfl)
theorem dX0_codeAt_4 : decode cX0_codeAt 4 = .ok (.invokevirtual 93, 3) := dk_182 0 93 (dk_at dksX0_codeAt_0 4 rfl rfl)
theorem dX0_codeAt_7 : decode cX0_codeAt 7 = .ok (.i2l, 1) := dk_133 (dk_at dksX0_codeAt_0 7 rfl rfl)
theorem dX0_codeAt_8 : decode cX0_codeAt 8 = .ok (.lastore, 1) := dk_80 (dk_at dksX0_codeAt_0 8 rfl rfl)
theorem dX0_codeAt_9 : decode cX0_codeAt 9 = .ok (.goto 6, 3) := dk_167 0 6 (dk_at dksX0_codeAt_0 9 rfl rfl)
theorem dX0_codeAt_12 : decode cX0_codeAt 12 = .ok (.astore_n 3, 1) := dk_78 (dk_at dksX0_codeAt_0 12 rfl rfl)
theorem dX0_codeAt_13 : decode cX0_codeAt 13 = .ok (.iconst 1, 1) := dk_4 (dk_at dksX0_codeAt_0 13 rfl rfl)
theorem dX0_codeAt_14 : decode cX0_codeAt 14 = .ok (.ireturn, 1) := dk_172 (dk_at dksX0_codeAt_0 14 rfl rfl)
theorem dX0_codeAt_15 : decode cX0_codeAt 15 = .ok (.iconst 0, 1) := dk_3 (dk_at dksX0_codeAt_0 15 rfl rfl)
theorem dX0_codeAt_16 : decode cX0_codeAt 16 = .ok (.ireturn, 1) := dk_172 (dk_at dksX0_codeAt_0 16 rfl rfl)
abbrev cX0_isMember : ByteArray := method_27_code
def yX0_isMember : MethodName := ⟨RX0, "isMember", "(LPermissionDesk;II[J)I"⟩
def dkwX0_isMember_1 : List UInt8 := [3, 172]
abbrev dktX0_isMember_1 : List UInt8 := dkwX0_isMember_1 ++ []
def dkwX0_isMember_0 : List UInt8 := [45, 3, 42, 27, 28, 182, 0, 96, 153, 0, 7, 10, 167, 0, 4, 9, 80, 167, 0, 7, 58, 4, 4, 172]
abbrev dktX0_isMember_0 : List UInt8 := dkwX0_isMember_0 ++ dktX0_isMember_1
theorem dksX0_isMember_0 : cX0_isMember.data.toList.drop 0 = dktX0_isMember_0 := by decide +kernel
theorem dksX0_isMember_1 : cX0_isMember.data.toList.drop 24 = dktX0_isMember_1 := dk_seg dksX0_isMember_0 24 rfl rfl
theorem dX0_isMember_0 : decode cX0_isMember 0 = .ok (.aload_n 3, 1) := dk_45 (dk_at dksX0_isMember_0 0 rfl rfl)
theorem dX0_isMember_1 : decode cX0_isMember 1 = .ok (.iconst 0, 1) := dk_3 (dk_at dksX0_isMember_0 1 rfl rfl)
theorem dX0_isMember_2 : decode cX0_isMember 2 = .ok (.aload_n 0, 1) := dk_42 (dk_at dksX0_isMember_0 2 rfl rfl)
theorem dX0_isMember_3 : decode cX0_isMember 3 = .ok (.iload_n 1, 1) := dk_27 (dk_at dksX0_isMember_0 3 rfl rfl)
theorem dX0_isMember_4 : decode cX0_isMember 4 = .ok (.iload_n 2, 1) := dk_28 (dk_at dksX0_isMember_0 4 rfl rfl)
theorem dX0_isMember_5 : decode cX0_isMember 5 = .ok (.invokevirtual 96, 3) := dk_182 0 96 (dk_at dksX0_isMember_0 5 rfl rfl)
theorem dX0_isMember_8 : decode cX0_isMember 8 = .ok (.ifCond .eq 7, 3) := dk_153 0 7 (dk_at dksX0_isMember_0 8 rfl rfl)
theorem dX0_isMember_11 : decode cX0_isMember 11 = .ok (.lconst 1, 1) := dk_10 (dk_at dksX0_isMember_0 11 rfl rfl)
theorem dX0_isMember_12 : decode cX0_isMember 12 = .ok (.goto 4, 3) := dk_167 0 4 (dk_at dksX0_isMember_0 12 rfl rfl)
theorem dX0_isMember_15 : decode cX0_isMember 15 = .ok (.lconst 0, 1) := dk_9 (dk_at dksX0_isMember_0 15 rfl rfl)
theorem dX0_isMember_16 : decode cX0_isMember 16 = .ok (.lastore, 1) := dk_80 (dk_at dksX0_isMember_0 16 rfl rfl)
theorem dX0_isMember_17 : decode cX0_isMember 17 = .ok (.goto 7, 3) := dk_167 0 7 (dk_at dksX0_isMember_0 17 rfl rfl)
theorem dX0_isMember_20 : decode cX0_isMember 20 = .ok (.astore 4, 2) := dk_58 4 (dk_at dksX0_isMember_0 20 rfl rfl)
theorem dX0_isMember_22 : decode cX0_isMember 22 = .ok (.iconst 1, 1) := dk_4 (dk_at dksX0_isMember_0 22 rfl rfl)
theorem dX0_isMember_23 : decode cX0_isMember 23 = .ok (.ireturn, 1) := dk_172 (dk_at dksX0_isMember_0 23 rfl rfl)
theorem dX0_isMember_24 : decode cX0_isMember 24 = .ok (.iconst 0, 1) := dk_3 (dk_at dksX0_isMember_1 0 rfl rfl)
theorem dX0_isMember_25 : decode cX0_isMember 25 = .ok (.ireturn, 1) := dk_172 (dk_at dksX0_isMember_1 1 rfl rfl)
abbrev cX0_isNested : ByteArray := method_28_code
def yX0_isNested : MethodName := ⟨RX0, "isNested", "(LPermissionDesk;II[J)I"⟩
def dkwX0_isNested_1 : List UInt8 := [3, 172]
abbrev dktX0_isNested_1 : List UInt8 := dkwX0_isNested_1 ++ []
def dkwX0_isNested_0 : List UInt8 := [45, 3, 42, 27, 28, 182, 0, 100, 153, 0, 7, 10, 167, 0, 4, 9, 80, 167, 0, 7, 58, 4, 4, 172]
abbrev dktX0_isNested_0 : List UInt8 := dkwX0_isNested_0 ++ dktX0_isNested_1
theorem dksX0_isNested_0 : cX0_isNested.data.toList.drop 0 = dktX0_isNested_0 := by decide +kernel
theorem dksX0_isNested_1 : cX0_isNested.data.toList.drop 24 = dktX0_isNested_1 := dk_seg dksX0_isNested_0 24 rfl rfl
theorem dX0_isNested_0 : decode cX0_isNested 0 = .ok (.aload_n 3, 1) := dk_45 (dk_at dksX0_isNested_0 0 rfl rfl)
theorem dX0_isNested_1 : decode cX0_isNested 1 = .ok (.iconst 0, 1) := dk_3 (dk_at dksX0_isNested_0 1 rfl rfl)
theorem dX0_isNested_2 : decode cX0_isNested 2 = .ok (.aload_n 0, 1) := dk_42 (dk_at dksX0_isNested_0 2 rfl rfl)
theorem dX0_isNested_3 : decode cX0_isNested 3 = .ok (.iload_n 1, 1) := dk_27 (dk_at dksX0_isNested_0 3 rfl rfl)
theorem dX0_isNested_4 : decode cX0_isNested 4 = .ok (.iload_n 2, 1) := dk_28 (dk_at dksX0_isNested_0 4 rfl rfl)
theorem dX0_isNested_5 : decode cX0_isNested 5 = .ok (.invokevirtual 100, 3) := dk_182 0 100 (dk_at dksX0_isNested_0 5 rfl rfl)
theorem dX0_isNested_8 : decode cX0_isNested 8 = .ok (.ifCond .eq 7, 3) := dk_153 0 7 (dk_at dksX0_isNested_0 8 rfl rfl)
theorem dX0_isNested_11 : decode cX0_isNested 11 = .ok (.lconst 1, 1) := dk_10 (dk_at dksX0_isNested_0 11 rfl rfl)
theorem dX0_isNested_12 : decode cX0_isNested 12 = .ok (.goto 4, 3) := dk_167 0 4 (dk_at dksX0_isNested_0 12 rfl rfl)
theorem dX0_isNested_15 : decode cX0_isNested 15 = .ok (.lconst 0, 1) := dk_9 (dk_at dksX0_isNested_0 15 rfl rfl)
theorem dX0_isNested_16 : decode cX0_isNested 16 = .ok (.lastore, 1) := dk_80 (dk_at dksX0_isNested_0 16 rfl rfl)
theorem dX0_isNested_17 : decode cX0_isNested 17 = .ok (.goto 7, 3) := dk_167 0 7 (dk_at dksX0_isNested_0 17 rfl rfl)
theorem dX0_isNested_20 : decode cX0_isNested 20 = .ok (.astore 4, 2) := dk_58 4 (dk_at dksX0_isNested_0 20 rfl rfl)
theorem dX0_isNested_22 : decode cX0_isNested 22 = .ok (.iconst 1, 1) := dk_4 (dk_at dksX0_isNested_0 22 rfl rfl)
theorem dX0_isNested_23 : decode cX0_isNested 23 = .ok (.ireturn, 1) := dk_172 (dk_at dksX0_isNested_0 23 rfl rfl)
theorem dX0_isNested_24 : decode cX0_isNested 24 = .ok (.iconst 0, 1) := dk_3 (dk_at dksX0_isNested_1 0 rfl rfl)
theorem dX0_isNested_25 : decode cX0_isNested 25 = .ok (.ireturn, 1) := dk_172 (dk_at dksX0_isNested_1 1 rfl rfl)
abbrev cX0_belongs : ByteArray := method_29_code
def yX0_belongs : MethodName := ⟨RX0, "belongs", "(LPermissionDesk;II[J)I"⟩
def dkwX0_belongs_1 : List UInt8 := [3, 172]
abbrev dktX0_belongs_1 : List UInt8 := dkwX0_belongs_1 ++ []
def dkwX0_belongs_0 : List UInt8 := [45, 3, 42, 27, 28, 182, 0, 103, 153, 0, 7, 10, 167, 0, 4, 9, 80, 167, 0, 7, 58, 4, 4, 172]
abbrev dktX0_belongs_0 : List UInt8 := dkwX0_belongs_0 ++ dktX0_belongs_1
theorem dksX0_belongs_0 : cX0_belongs.data.toList.drop 0 = dktX0_belongs_0 := by decide +kernel
theorem dksX0_belongs_1 : cX0_belongs.data.toList.drop 24 = dktX0_belongs_1 := dk_seg dksX0_belongs_0 24 rfl rfl
theorem dX0_belongs_0 : decode cX0_belongs 0 = .ok (.aload_n 3, 1) := dk_45 (dk_at dksX0_belongs_0 0 rfl rfl)
theorem dX0_belongs_1 : decode cX0_belongs 1 = .ok (.iconst 0, 1) := dk_3 (dk_at dksX0_belongs_0 1 rfl rfl)
theorem dX0_belongs_2 : decode cX0_belongs 2 = .ok (.aload_n 0, 1) := dk_42 (dk_at dksX0_belongs_0 2 rfl rfl)
theorem dX0_belongs_3 : decode cX0_belongs 3 = .ok (.iload_n 1, 1) := dk_27 (dk_at dksX0_belongs_0 3 rfl rfl)
theorem dX0_belongs_4 : decode cX0_belongs 4 = .ok (.iload_n 2, 1) := dk_28 (dk_at dksX0_belongs_0 4 rfl rfl)
theorem dX0_belongs_5 : decode cX0_belongs 5 = .ok (.invokevirtual 103, 3) := dk_182 0 103 (dk_at dksX0_belongs_0 5 rfl rfl)
theorem dX0_belongs_8 : decode cX0_belongs 8 = .ok (.ifCond .eq 7, 3) := dk_153 0 7 (dk_at dksX0_belongs_0 8 rfl rfl)
theorem dX0_belongs_11 : decode cX0_belongs 11 = .ok (.lconst 1, 1) := dk_10 (dk_at dksX0_belongs_0 11 rfl rfl)
theorem dX0_belongs_12 : decode cX0_belongs 12 = .ok (.goto 4, 3) := dk_167 0 4 (dk_at dksX0_belongs_0 12 rfl rfl)
theorem dX0_belongs_15 : decode cX0_belongs 15 = .ok (.lconst 0, 1) := dk_9 (dk_at dksX0_belongs_0 15 rfl rfl)
theorem dX0_belongs_16 : decode cX0_belongs 16 = .ok (.lastore, 1) := dk_80 (dk_at dksX0_belongs_0 16 rfl rfl)
theorem dX0_belongs_17 : decode cX0_belongs 17 = .ok (.goto 7, 3) := dk_167 0 7 (dk_at dksX0_belongs_0 17 rfl rfl)
theorem dX0_belongs_20 : decode cX0_belongs 20 = .ok (.astore 4, 2) := dk_58 4 (dk_at dksX0_belongs_0 20 rfl rfl)
theorem dX0_belongs_22 : decode cX0_belongs 22 = .ok (.iconst 1, 1) := dk_4 (dk_at dksX0_belongs_0 22 rfl rfl)
theorem dX0_belongs_23 : decode cX0_belongs 23 = .ok (.ireturn, 1) := dk_172 (dk_at dksX0_belongs_0 23 rfl rfl)
theorem dX0_belongs_24 : decode cX0_belongs 24 = .ok (.iconst 0, 1) := dk_3 (dk_at dksX0_belongs_1 0 rfl rfl)
theorem dX0_belongs_25 : decode cX0_belongs 25 = .ok (.ireturn, 1) := dk_172 (dk_at dksX0_belongs_1 1 rfl rfl)
abbrev cX0_belongsByMembers : ByteArray := method_30_code
def yX0_belongsByMembers : MethodName := ⟨RX0, "belongsByMembers", "(LPermissionDesk;II[J)I"⟩
def dkwX0_belongsByMembers_1 : List UInt8 := [3, 172]
abbrev dktX0_belongsByMembers_1 : List UInt8 := dkwX0_belongsByMembers_1 ++ []
def dkwX0_belongsByMembers_0 : List UInt8 := [45, 3, 42, 27, 28, 182, 0, 106, 153, 0, 7, 10, 167, 0, 4, 9, 80, 167, 0, 7, 58, 4, 4, 172]
abbrev dktX0_belongsByMembers_0 : List UInt8 := dkwX0_belongsByMembers_0 ++ dktX0_belongsByMembers_1
theorem dksX0_belongsByMembers_0 : cX0_belongsByMembers.data.toList.drop 0 = dktX0_belongsByMembers_0 := by decide +kernel
theorem dksX0_belongsByMembers_1 : cX0_belongsByMembers.data.toList.drop 24 = dktX0_belongsByMembers_1 := dk_seg dksX0_belongsByMembers_0 24 rfl rfl
theorem dX0_belongsByMembers_0 : decode cX0_belongsByMembers 0 = .ok (.aload_n 3, 1) := dk_45 (dk_at dksX0_belongsByMembers_0 0 rfl rfl)
theorem dX0_belongsByMembers_1 : decode cX0_belongsByMembers 1 = .ok (.iconst 0, 1) := dk_3 (dk_at dksX0_belongsByMembers_0 1 rfl rfl)
theorem dX0_belongsByMembers_2 : decode cX0_belongsByMembers 2 = .ok (.aload_n 0, 1) := dk_42 (dk_at dksX0_belongsByMembers_0 2 rfl rfl)
theorem dX0_belongsByMembers_3 : decode cX0_belongsByMembers 3 = .ok (.iload_n 1, 1) := dk_27 (dk_at dksX0_belongsByMembers_0 3 rfl rfl)
theorem dX0_belongsByMembers_4 : decode cX0_belongsByMembers 4 = .ok (.iload_n 2, 1) := dk_28 (dk_at dksX0_belongsByMembers_0 4 rfl rfl)
theorem dX0_belongsByMembers_5 : decode cX0_belongsByMembers 5 = .ok (.invokevirtual 106, 3) := dk_182 0 106 (dk_at dksX0_belongsByMembers_0 5 rfl rfl)
theorem dX0_belongsByMembers_8 : decode cX0_belongsByMembers 8 = .ok (.ifCond .eq 7, 3) := dk_153 0 7 (dk_at dksX0_belongsByMembers_0 8 rfl rfl)
theorem dX0_belongsByMembers_11 : decode cX0_belongsByMembers 11 = .ok (.lconst 1, 1) := dk_10 (dk_at dksX0_belongsByMembers_0 11 rfl rfl)
theorem dX0_belongsByMembers_12 : decode cX0_belongsByMembers 12 = .ok (.goto 4, 3) := dk_167 0 4 (dk_at dksX0_belongsByMembers_0 12 rfl rfl)
theorem dX0_belongsByMembers_15 : decode cX0_belongsByMembers 15 = .ok (.lconst 0, 1) := dk_9 (dk_at dksX0_belongsByMembers_0 15 rfl rfl)
theorem dX0_belongsByMembers_16 : decode cX0_belongsByMembers 16 = .ok (.lastore, 1) := dk_80 (dk_at dksX0_belongsByMembers_0 16 rfl rfl)
theorem dX0_belongsByMembers_17 : decode cX0_belongsByMembers 17 = .ok (.goto 7, 3) := dk_167 0 7 (dk_at dksX0_belongsByMembers_0 17 rfl rfl)
theorem dX0_belongsByMembers_20 : decode cX0_belongsByMembers 20 = .ok (.astore 4, 2) := dk_58 4 (dk_at dksX0_belongsByMembers_0 20 rfl rfl)
theorem dX0_belongsByMembers_22 : decode cX0_belongsByMembers 22 = .ok (.iconst 1, 1) := dk_4 (dk_at dksX0_belongsByMembers_0 22 rfl rfl)
theorem dX0_belongsByMembers_23 : decode cX0_belongsByMembers 23 = .ok (.ireturn, 1) := dk_172 (dk_at dksX0_belongsByMembers_0 23 rfl rfl)
theorem dX0_belongsByMembers_24 : decode cX0_belongsByMembers 24 = .ok (.iconst 0, 1) := dk_3 (dk_at dksX0_belongsByMembers_1 0 rfl rfl)
theorem dX0_belongsByMembers_25 : decode cX0_belongsByMembers 25 = .ok (.ireturn, 1) := dk_172 (dk_at dksX0_belongsByMembers_1 1 rfl rfl)
abbrev cX0_parentOf : ByteArray := method_31_code
def yX0_parentOf : MethodName := ⟨RX0, "parentOf", "(LPermissionDesk;I[J)I"⟩
def dkwX0_parentOf_0 : List UInt8 := [44, 3, 42, 27, 182, 0, 109, 133, 80, 167, 0, 6, 78, 4, 172, 3, 172]
abbrev dktX0_parentOf_0 : List UInt8 := dkwX0_parentOf_0 ++ []
theorem dksX0_parentOf_0 : cX0_parentOf.data.toList.drop 0 = dktX0_parentOf_0 := by decide +kernel
theorem dX0_parentOf_0 : decode cX0_parentOf 0 = .ok (.aload_n 2, 1) := dk_44 (dk_at dksX0_parentOf_0 0 rfl rfl)
theorem dX0_parentOf_1 : decode cX0_parentOf 1 = .ok (.iconst 0, 1) := dk_3 (dk_at dksX0_parentOf_0 1 rfl rfl)
theorem dX0_parentOf_2 : decode cX0_parentOf 2 = .ok (.aload_n 0, 1) := dk_42 (dk_at dksX0_parentOf_0 2 rfl rfl)
theorem dX0_parentOf_3 : decode cX0_parentOf 3 = .ok (.iload_n 1, 1) := dk_27 (dk_at dksX0_parentOf_0 3 rfl rfl)
theorem dX0_parentOf_4 : decode cX0_parentOf 4 = .ok (.invokevirtual 109, 3) := dk_182 0 109 (dk_at dksX0_parentOf_0 4 rfl rfl)
theorem dX0_parentOf_7 : decode cX0_parentOf 7 = .ok (.i2l, 1) := dk_133 (dk_at dksX0_parentOf_0 7 rfl rfl)
theorem dX0_parentOf_8 : decode cX0_parentOf 8 = .ok (.lastore, 1) := dk_80 (dk_at dksX0_parentOf_0 8 rfl rfl)
theorem dX0_parentOf_9 : decode cX0_parentOf 9 = .ok (.goto 6, 3) := dk_167 0 6 (dk_at dksX0_parentOf_0 9 rfl rfl)
theorem dX0_parentOf_12 : decode cX0_parentOf 12 = .ok (.astore_n 3, 1) := dk_78 (dk_at dksX0_parentOf_0 12 rfl rfl)
theorem dX0_parentOf_13 : decode cX0_parentOf 13 = .ok (.iconst 1, 1) := dk_4 (dk_at dksX0_parentOf_0 13 rfl rfl)
theorem dX0_parentOf_14 : decode cX0_parentOf 14 = .ok (.ireturn, 1) := dk_172 (dk_at dksX0_parentOf_0 14 rfl rfl)
theorem dX0_parentOf_15 : decode cX0_parentOf 15 = .ok (.iconst 0, 1) := dk_3 (dk_at dksX0_parentOf_0 15 rfl rfl)
theorem dX0_parentOf_16 : decode cX0_parentOf 16 = .ok (.ireturn, 1) := dk_172 (dk_at dksX0_parentOf_0 16 rfl rfl)
abbrev cX0_ownerOf : ByteArray := method_32_code
def yX0_ownerOf : MethodName := ⟨RX0, "ownerOf", "(LPermissionDesk;I[J)I"⟩
def dkwX0_ownerOf_0 : List UInt8 := [44, 3, 42, 27, 182, 0, 112, 133, 80, 167, 0, 6, 78, 4, 172, 3, 172]
abbrev dktX0_ownerOf_0 : List UInt8 := dkwX0_ownerOf_0 ++ []
theorem dksX0_ownerOf_0 : cX0_ownerOf.data.toList.drop 0 = dktX0_ownerOf_0 := by decide +kernel
theorem dX0_ownerOf_0 : decode cX0_ownerOf 0 = .ok (.aload_n 2, 1) := dk_44 (dk_at dksX0_ownerOf_0 0 rfl rfl)
theorem dX0_ownerOf_1 : decode cX0_ownerOf 1 = .ok (.iconst 0, 1) := dk_3 (dk_at dksX0_ownerOf_0 1 rfl rfl)
theorem dX0_ownerOf_2 : decode cX0_ownerOf 2 = .ok (.aload_n 0, 1) := dk_42 (dk_at dksX0_ownerOf_0 2 rfl rfl)
theorem dX0_ownerOf_3 : decode cX0_ownerOf 3 = .ok (.iload_n 1, 1) := dk_27 (dk_at dksX0_ownerOf_0 3 rfl rfl)
theorem dX0_ownerOf_4 : decode cX0_ownerOf 4 = .ok (.invokevirtual 112, 3) := dk_182 0 112 (dk_at dksX0_ownerOf_0 4 rfl rfl)
theorem dX0_ownerOf_7 : decode cX0_ownerOf 7 = .ok (.i2l, 1) := dk_133 (dk_at dksX0_ownerOf_0 7 rfl rfl)
theorem dX0_ownerOf_8 : decode cX0_ownerOf 8 = .ok (.lastore, 1) := dk_80 (dk_at dksX0_ownerOf_0 8 rfl rfl)
theorem dX0_ownerOf_9 : decode cX0_ownerOf 9 = .ok (.goto 6, 3) := dk_167 0 6 (dk_at dksX0_ownerOf_0 9 rfl rfl)
theorem dX0_ownerOf_12 : decode cX0_ownerOf 12 = .ok (.astore_n 3, 1) := dk_78 (dk_at dksX0_ownerOf_0 12 rfl rfl)
theorem dX0_ownerOf_13 : decode cX0_ownerOf 13 = .ok (.iconst 1, 1) := dk_4 (dk_at dksX0_ownerOf_0 13 rfl rfl)
theorem dX0_ownerOf_14 : decode cX0_ownerOf 14 = .ok (.ireturn, 1) := dk_172 (dk_at dksX0_ownerOf_0 14 rfl rfl)
theorem dX0_ownerOf_15 : decode cX0_ownerOf 15 = .ok (.iconst 0, 1) := dk_3 (dk_at dksX0_ownerOf_0 15 rfl rfl)
theorem dX0_ownerOf_16 : decode cX0_ownerOf 16 = .ok (.ireturn, 1) := dk_172 (dk_at dksX0_ownerOf_0 16 rfl rfl)
abbrev cX0_maskOf : ByteArray := method_33_code
def yX0_maskOf : MethodName := ⟨RX0, "maskOf", "(LPermissionDesk;I[J)I"⟩
def dkwX0_maskOf_0 : List UInt8 := [44, 3, 42, 27, 182, 0, 115, 133, 80, 167, 0, 6, 78, 4, 172, 3, 172]
abbrev dktX0_maskOf_0 : List UInt8 := dkwX0_maskOf_0 ++ []
theorem dksX0_maskOf_0 : cX0_maskOf.data.toList.drop 0 = dktX0_maskOf_0 := by decide +kernel
theorem dX0_maskOf_0 : decode cX0_maskOf 0 = .ok (.aload_n 2, 1) := dk_44 (dk_at dksX0_maskOf_0 0 rfl rfl)
theorem dX0_maskOf_1 : decode cX0_maskOf 1 = .ok (.iconst 0, 1) := dk_3 (dk_at dksX0_maskOf_0 1 rfl rfl)
theorem dX0_maskOf_2 : decode cX0_maskOf 2 = .ok (.aload_n 0, 1) := dk_42 (dk_at dksX0_maskOf_0 2 rfl rfl)
theorem dX0_maskOf_3 : decode cX0_maskOf 3 = .ok (.iload_n 1, 1) := dk_27 (dk_at dksX0_maskOf_0 3 rfl rfl)
theorem dX0_maskOf_4 : decode cX0_maskOf 4 = .ok (.invokevirtual 115, 3) := dk_182 0 115 (dk_at dksX0_maskOf_0 4 rfl rfl)
theorem dX0_maskOf_7 : decode cX0_maskOf 7 = .ok (.i2l, 1) := dk_133 (dk_at dksX0_maskOf_0 7 rfl rfl)
theorem dX0_maskOf_8 : decode cX0_maskOf 8 = .ok (.lastore, 1) := dk_80 (dk_at dksX0_maskOf_0 8 rfl rfl)
theorem dX0_maskOf_9 : decode cX0_maskOf 9 = .ok (.goto 6, 3) := dk_167 0 6 (dk_at dksX0_maskOf_0 9 rfl rfl)
theorem dX0_maskOf_12 : decode cX0_maskOf 12 = .ok (.astore_n 3, 1) := dk_78 (dk_at dksX0_maskOf_0 12 rfl rfl)
theorem dX0_maskOf_13 : decode cX0_maskOf 13 = .ok (.iconst 1, 1) := dk_4 (dk_at dksX0_maskOf_0 13 rfl rfl)
theorem dX0_maskOf_14 : decode cX0_maskOf 14 = .ok (.ireturn, 1) := dk_172 (dk_at dksX0_maskOf_0 14 rfl rfl)
theorem dX0_maskOf_15 : decode cX0_maskOf 15 = .ok (.iconst 0, 1) := dk_3 (dk_at dksX0_maskOf_0 15 rfl rfl)
theorem dX0_maskOf_16 : decode cX0_maskOf 16 = .ok (.ireturn, 1) := dk_172 (dk_at dksX0_maskOf_0 16 rfl rfl)
abbrev cX0_isInheriting : ByteArray := method_34_code
def yX0_isInheriting : MethodName := ⟨RX0, "isInheriting", "(LPermissionDesk;I[J)I"⟩
def dkwX0_isInheriting_0 : List UInt8 := [44, 3, 42, 27, 182, 0, 118, 153, 0, 7, 10, 167, 0, 4, 9, 80, 167, 0, 6, 78, 4, 172, 3, 172]
abbrev dktX0_isInheriting_0 : List UInt8 := dkwX0_isInheriting_0 ++ []
theorem dksX0_isInheriting_0 : cX0_isInheriting.data.toList.drop 0 = dktX0_isInheriting_0 := by decide +kernel
theorem dX0_isInheriting_0 : decode cX0_isInheriting 0 = .ok (.aload_n 2, 1) := dk_44 (dk_at dksX0_isInheriting_0 0 rfl rfl)
theorem dX0_isInheriting_1 : decode cX0_isInheriting 1 = .ok (.iconst 0, 1) := dk_3 (dk_at dksX0_isInheriting_0 1 rfl rfl)
theorem dX0_isInheriting_2 : decode cX0_isInheriting 2 = .ok (.aload_n 0, 1) := dk_42 (dk_at dksX0_isInheriting_0 2 rfl rfl)
theorem dX0_isInheriting_3 : decode cX0_isInheriting 3 = .ok (.iload_n 1, 1) := dk_27 (dk_at dksX0_isInheriting_0 3 rfl rfl)
theorem dX0_isInheriting_4 : decode cX0_isInheriting 4 = .ok (.invokevirtual 118, 3) := dk_182 0 118 (dk_at dksX0_isInheriting_0 4 rfl rfl)
theorem dX0_isInheriting_7 : decode cX0_isInheriting 7 = .ok (.ifCond .eq 7, 3) := dk_153 0 7 (dk_at dksX0_isInheriting_0 7 rfl rfl)
theorem dX0_isInheriting_10 : decode cX0_isInheriting 10 = .ok (.lconst 1, 1) := dk_10 (dk_at dksX0_isInheriting_0 10 rfl rfl)
theorem dX0_isInheriting_11 : decode cX0_isInheriting 11 = .ok (.goto 4, 3) := dk_167 0 4 (dk_at dksX0_isInheriting_0 11 rfl rfl)
theorem dX0_isInheriting_14 : decode cX0_isInheriting 14 = .ok (.lconst 0, 1) := dk_9 (dk_at dksX0_isInheriting_0 14 rfl rfl)
theorem dX0_isInheriting_15 : decode cX0_isInheriting 15 = .ok (.lastore, 1) := dk_80 (dk_at dksX0_isInheriting_0 15 rfl rfl)
theorem dX0_isInheriting_16 : decode cX0_isInheriting 16 = .ok (.goto 6, 3) := dk_167 0 6 (dk_at dksX0_isInheriting_0 16 rfl rfl)
theorem dX0_isInheriting_19 : decode cX0_isInheriting 19 = .ok (.astore_n 3, 1) := dk_78 (dk_at dksX0_isInheriting_0 19 rfl rfl)
theorem dX0_isInheriting_20 : decode cX0_isInheriting 20 = .ok (.iconst 1, 1) := dk_4 (dk_at dksX0_isInheriting_0 20 rfl rfl)
theorem dX0_isInheriting_21 : decode cX0_isInheriting 21 = .ok (.ireturn, 1) := dk_172 (dk_at dksX0_isInheriting_0 21 rfl rfl)
theorem dX0_isInheriting_22 : decode cX0_isInheriting 22 = .ok (.iconst 0, 1) := dk_3 (dk_at dksX0_isInheriting_0 22 rfl rfl)
theorem dX0_isInheriting_23 : decode cX0_isInheriting 23 = .ok (.ireturn, 1) := dk_172 (dk_at dksX0_isInheriting_0 23 rfl rfl)
abbrev cX0_below : ByteArray := method_35_code
def yX0_below : MethodName := ⟨RX0, "below", "(LPermissionDesk;I[J)I"⟩
def dkwX0_below_0 : List UInt8 := [44, 3, 42, 27, 182, 0, 122, 133, 80, 167, 0, 6, 78, 4, 172, 3, 172]
abbrev dktX0_below_0 : List UInt8 := dkwX0_below_0 ++ []
theorem dksX0_below_0 : cX0_below.data.toList.drop 0 = dktX0_below_0 := by decide +kernel
theorem dX0_below_0 : decode cX0_below 0 = .ok (.aload_n 2, 1) := dk_44 (dk_at dksX0_below_0 0 rfl rfl)
theorem dX0_below_1 : decode cX0_below 1 = .ok (.iconst 0, 1) := dk_3 (dk_at dksX0_below_0 1 rfl rfl)
theorem dX0_below_2 : decode cX0_below 2 = .ok (.aload_n 0, 1) := dk_42 (dk_at dksX0_below_0 2 rfl rfl)
theorem dX0_below_3 : decode cX0_below 3 = .ok (.iload_n 1, 1) := dk_27 (dk_at dksX0_below_0 3 rfl rfl)
theorem dX0_below_4 : decode cX0_below 4 = .ok (.invokevirtual 122, 3) := dk_182 0 122 (dk_at dksX0_below_0 4 rfl rfl)
theorem dX0_below_7 : decode cX0_below 7 = .ok (.i2l, 1) := dk_133 (dk_at dksX0_below_0 7 rfl rfl)
theorem dX0_below_8 : decode cX0_below 8 = .ok (.lastore, 1) := dk_80 (dk_at dksX0_below_0 8 rfl rfl)
theorem dX0_below_9 : decode cX0_below 9 = .ok (.goto 6, 3) := dk_167 0 6 (dk_at dksX0_below_0 9 rfl rfl)
theorem dX0_below_12 : decode cX0_below 12 = .ok (.astore_n 3, 1) := dk_78 (dk_at dksX0_below_0 12 rfl rfl)
theorem dX0_below_13 : decode cX0_below 13 = .ok (.iconst 1, 1) := dk_4 (dk_at dksX0_below_0 13 rfl rfl)
theorem dX0_below_14 : decode cX0_below 14 = .ok (.ireturn, 1) := dk_172 (dk_at dksX0_below_0 14 rfl rfl)
theorem dX0_below_15 : decode cX0_below 15 = .ok (.iconst 0, 1) := dk_3 (dk_at dksX0_below_0 15 rfl rfl)
theorem dX0_below_16 : decode cX0_below 16 = .ok (.ireturn, 1) := dk_172 (dk_at dksX0_below_0 16 rfl rfl)
abbrev cX0_entriesOf : ByteArray := method_36_code
def yX0_entriesOf : MethodName := ⟨RX0, "entriesOf", "(LPermissionDesk;I[J)I"⟩
def dkwX0_entriesOf_0 : List UInt8 := [44, 3, 42, 27, 182, 0, 125, 133, 80, 167, 0, 6, 78, 4, 172, 3, 172]
abbrev dktX0_entriesOf_0 : List UInt8 := dkwX0_entriesOf_0 ++ []
theorem dksX0_entriesOf_0 : cX0_entriesOf.data.toList.drop 0 = dktX0_entriesOf_0 := by decide +kernel
theorem dX0_entriesOf_0 : decode cX0_entriesOf 0 = .ok (.aload_n 2, 1) := dk_44 (dk_at dksX0_entriesOf_0 0 rfl rfl)
theorem dX0_entriesOf_1 : decode cX0_entriesOf 1 = .ok (.iconst 0, 1) := dk_3 (dk_at dksX0_entriesOf_0 1 rfl rfl)
theorem dX0_entriesOf_2 : decode cX0_entriesOf 2 = .ok (.aload_n 0, 1) := dk_42 (dk_at dksX0_entriesOf_0 2 rfl rfl)
theorem dX0_entriesOf_3 : decode cX0_entriesOf 3 = .ok (.iload_n 1, 1) := dk_27 (dk_at dksX0_entriesOf_0 3 rfl rfl)
theorem dX0_entriesOf_4 : decode cX0_entriesOf 4 = .ok (.invokevirtual 125, 3) := dk_182 0 125 (dk_at dksX0_entriesOf_0 4 rfl rfl)
theorem dX0_entriesOf_7 : decode cX0_entriesOf 7 = .ok (.i2l, 1) := dk_133 (dk_at dksX0_entriesOf_0 7 rfl rfl)
theorem dX0_entriesOf_8 : decode cX0_entriesOf 8 = .ok (.lastore, 1) := dk_80 (dk_at dksX0_entriesOf_0 8 rfl rfl)
theorem dX0_entriesOf_9 : decode cX0_entriesOf 9 = .ok (.goto 6, 3) := dk_167 0 6 (dk_at dksX0_entriesOf_0 9 rfl rfl)
theorem dX0_entriesOf_12 : decode cX0_entriesOf 12 = .ok (.astore_n 3, 1) := dk_78 (dk_at dksX0_entriesOf_0 12 rfl rfl)
theorem dX0_entriesOf_13 : decode cX0_entriesOf 13 = .ok (.iconst 1, 1) := dk_4 (dk_at dksX0_entriesOf_0 13 rfl rfl)
theorem dX0_entriesOf_14 : decode cX0_entriesOf 14 = .ok (.ireturn, 1) := dk_172 (dk_at dksX0_entriesOf_0 14 rfl rfl)
theorem dX0_entriesOf_15 : decode cX0_entriesOf 15 = .ok (.iconst 0, 1) := dk_3 (dk_at dksX0_entriesOf_0 15 rfl rfl)
theorem dX0_entriesOf_16 : decode cX0_entriesOf 16 = .ok (.ireturn, 1) := dk_172 (dk_at dksX0_entriesOf_0 16 rfl rfl)
abbrev cX0_isAllowing : ByteArray := method_37_code
def yX0_isAllowing : MethodName := ⟨RX0, "isAllowing", "(LPermissionDesk;II[J)I"⟩
def dkwX0_isAllowing_1 : List UInt8 := [3, 172]
abbrev dktX0_isAllowing_1 : List UInt8 := dkwX0_isAllowing_1 ++ []
def dkwX0_isAllowing_0 : List UInt8 := [45, 3, 42, 27, 28, 182, 0, 128, 153, 0, 7, 10, 167, 0, 4, 9, 80, 167, 0, 7, 58, 4, 4, 172]
abbrev dktX0_isAllowing_0 : List UInt8 := dkwX0_isAllowing_0 ++ dktX0_isAllowing_1
theorem dksX0_isAllowing_0 : cX0_isAllowing.data.toList.drop 0 = dktX0_isAllowing_0 := by decide +kernel
theorem dksX0_isAllowing_1 : cX0_isAllowing.data.toList.drop 24 = dktX0_isAllowing_1 := dk_seg dksX0_isAllowing_0 24 rfl rfl
theorem dX0_isAllowing_0 : decode cX0_isAllowing 0 = .ok (.aload_n 3, 1) := dk_45 (dk_at dksX0_isAllowing_0 0 rfl rfl)
theorem dX0_isAllowing_1 : decode cX0_isAllowing 1 = .ok (.iconst 0, 1) := dk_3 (dk_at dksX0_isAllowing_0 1 rfl rfl)
theorem dX0_isAllowing_2 : decode cX0_isAllowing 2 = .ok (.aload_n 0, 1) := dk_42 (dk_at dksX0_isAllowing_0 2 rfl rfl)
theorem dX0_isAllowing_3 : decode cX0_isAllowing 3 = .ok (.iload_n 1, 1) := dk_27 (dk_at dksX0_isAllowing_0 3 rfl rfl)
theorem dX0_isAllowing_4 : decode cX0_isAllowing 4 = .ok (.iload_n 2, 1) := dk_28 (dk_at dksX0_isAllowing_0 4 rfl rfl)
theorem dX0_isAllowing_5 : decode cX0_isAllowing 5 = .ok (.invokevirtual 128, 3) := dk_182 0 128 (dk_at dksX0_isAllowing_0 5 rfl rfl)
theorem dX0_isAllowing_8 : decode cX0_isAllowing 8 = .ok (.ifCond .eq 7, 3) := dk_153 0 7 (dk_at dksX0_isAllowing_0 8 rfl rfl)
theorem dX0_isAllowing_11 : decode cX0_isAllowing 11 = .ok (.lconst 1, 1) := dk_10 (dk_at dksX0_isAllowing_0 11 rfl rfl)
theorem dX0_isAllowing_12 : decode cX0_isAllowing 12 = .ok (.goto 4, 3) := dk_167 0 4 (dk_at dksX0_isAllowing_0 12 rfl rfl)
theorem dX0_isAllowing_15 : decode cX0_isAllowing 15 = .ok (.lconst 0, 1) := dk_9 (dk_at dksX0_isAllowing_0 15 rfl rfl)
theorem dX0_isAllowing_16 : decode cX0_isAllowing 16 = .ok (.lastore, 1) := dk_80 (dk_at dksX0_isAllowing_0 16 rfl rfl)
theorem dX0_isAllowing_17 : decode cX0_isAllowing 17 = .ok (.goto 7, 3) := dk_167 0 7 (dk_at dksX0_isAllowing_0 17 rfl rfl)
theorem dX0_isAllowing_20 : decode cX0_isAllowing 20 = .ok (.astore 4, 2) := dk_58 4 (dk_at dksX0_isAllowing_0 20 rfl rfl)
theorem dX0_isAllowing_22 : decode cX0_isAllowing 22 = .ok (.iconst 1, 1) := dk_4 (dk_at dksX0_isAllowing_0 22 rfl rfl)
theorem dX0_isAllowing_23 : decode cX0_isAllowing 23 = .ok (.ireturn, 1) := dk_172 (dk_at dksX0_isAllowing_0 23 rfl rfl)
theorem dX0_isAllowing_24 : decode cX0_isAllowing 24 = .ok (.iconst 0, 1) := dk_3 (dk_at dksX0_isAllowing_1 0 rfl rfl)
theorem dX0_isAllowing_25 : decode cX0_isAllowing 25 = .ok (.ireturn, 1) := dk_172 (dk_at dksX0_isAllowing_1 1 rfl rfl)
abbrev cX0_rightsOfEntry : ByteArray := method_38_code
def yX0_rightsOfEntry : MethodName := ⟨RX0, "rightsOfEntry", "(LPermissionDesk;II[J)I"⟩
def dkwX0_rightsOfEntry_0 : List UInt8 := [45, 3, 42, 27, 28, 182, 0, 131, 133, 80, 167, 0, 7, 58, 4, 4, 172, 3, 172]
abbrev dktX0_rightsOfEntry_0 : List UInt8 := dkwX0_rightsOfEntry_0 ++ []
theorem dksX0_rightsOfEntry_0 : cX0_rightsOfEntry.data.toList.drop 0 = dktX0_rightsOfEntry_0 := by decide +kernel
theorem dX0_rightsOfEntry_0 : decode cX0_rightsOfEntry 0 = .ok (.aload_n 3, 1) := dk_45 (dk_at dksX0_rightsOfEntry_0 0 rfl rfl)
theorem dX0_rightsOfEntry_1 : decode cX0_rightsOfEntry 1 = .ok (.iconst 0, 1) := dk_3 (dk_at dksX0_rightsOfEntry_0 1 rfl rfl)
theorem dX0_rightsOfEntry_2 : decode cX0_rightsOfEntry 2 = .ok (.aload_n 0, 1) := dk_42 (dk_at dksX0_rightsOfEntry_0 2 rfl rfl)
theorem dX0_rightsOfEntry_3 : decode cX0_rightsOfEntry 3 = .ok (.iload_n 1, 1) := dk_27 (dk_at dksX0_rightsOfEntry_0 3 rfl rfl)
theorem dX0_rightsOfEntry_4 : decode cX0_rightsOfEntry 4 = .ok (.iload_n 2, 1) := dk_28 (dk_at dksX0_rightsOfEntry_0 4 rfl rfl)
theorem dX0_rightsOfEntry_5 : decode cX0_rightsOfEntry 5 = .ok (.invokevirtual 131, 3) := dk_182 0 131 (dk_at dksX0_rightsOfEntry_0 5 rfl rfl)
theorem dX0_rightsOfEntry_8 : decode cX0_rightsOfEntry 8 = .ok (.i2l, 1) := dk_133 (dk_at dksX0_rightsOfEntry_0 8 rfl rfl)
theorem dX0_rightsOfEntry_9 : decode cX0_rightsOfEntry 9 = .ok (.lastore, 1) := dk_80 (dk_at dksX0_rightsOfEntry_0 9 rfl rfl)
theorem dX0_rightsOfEntry_10 : decode cX0_rightsOfEntry 10 = .ok (.goto 7, 3) := dk_167 0 7 (dk_at dksX0_rightsOfEntry_0 10 rfl rfl)
theorem dX0_rightsOfEntry_13 : decode cX0_rightsOfEntry 13 = .ok (.astore 4, 2) := dk_58 4 (dk_at dksX0_rightsOfEntry_0 13 rfl rfl)
theorem dX0_rightsOfEntry_15 : decode cX0_rightsOfEntry 15 = .ok (.iconst 1, 1) := dk_4 (dk_at dksX0_rightsOfEntry_0 15 rfl rfl)
theorem dX0_rightsOfEntry_16 : decode cX0_rightsOfEntry 16 = .ok (.ireturn, 1) := dk_172 (dk_at dksX0_rightsOfEntry_0 16 rfl rfl)
theorem dX0_rightsOfEntry_17 : decode cX0_rightsOfEntry 17 = .ok (.iconst 0, 1) := dk_3 (dk_at dksX0_rightsOfEntry_0 17 rfl rfl)
theorem dX0_rightsOfEntry_18 : decode cX0_rightsOfEntry 18 = .ok (.ireturn, 1) := dk_172 (dk_at dksX0_rightsOfEntry_0 18 rfl rfl)
abbrev cX0_userOfEntry : ByteArray := method_39_code
def yX0_userOfEntry : MethodName := ⟨RX0, "userOfEntry", "(LPermissionDesk;II[J)I"⟩
def dkwX0_userOfEntry_0 : List UInt8 := [45, 3, 42, 27, 28, 182, 0, 134, 133, 80, 167, 0, 7, 58, 4, 4, 172, 3, 172]
abbrev dktX0_userOfEntry_0 : List UInt8 := dkwX0_userOfEntry_0 ++ []
theorem dksX0_userOfEntry_0 : cX0_userOfEntry.data.toList.drop 0 = dktX0_userOfEntry_0 := by decide +kernel
theorem dX0_userOfEntry_0 : decode cX0_userOfEntry 0 = .ok (.aload_n 3, 1) := dk_45 (dk_at dksX0_userOfEntry_0 0 rfl rfl)
theorem dX0_userOfEntry_1 : decode cX0_userOfEntry 1 = .ok (.iconst 0, 1) := dk_3 (dk_at dksX0_userOfEntry_0 1 rfl rfl)
theorem dX0_userOfEntry_2 : decode cX0_userOfEntry 2 = .ok (.aload_n 0, 1) := dk_42 (dk_at dksX0_userOfEntry_0 2 rfl rfl)
theorem dX0_userOfEntry_3 : decode cX0_userOfEntry 3 = .ok (.iload_n 1, 1) := dk_27 (dk_at dksX0_userOfEntry_0 3 rfl rfl)
theorem dX0_userOfEntry_4 : decode cX0_userOfEntry 4 = .ok (.iload_n 2, 1) := dk_28 (dk_at dksX0_userOfEntry_0 4 rfl rfl)
theorem dX0_userOfEntry_5 : decode cX0_userOfEntry 5 = .ok (.invokevirtual 134, 3) := dk_182 0 134 (dk_at dksX0_userOfEntry_0 5 rfl rfl)
theorem dX0_userOfEntry_8 : decode cX0_userOfEntry 8 = .ok (.i2l, 1) := dk_133 (dk_at dksX0_userOfEntry_0 8 rfl rfl)
theorem dX0_userOfEntry_9 : decode cX0_userOfEntry 9 = .ok (.lastore, 1) := dk_80 (dk_at dksX0_userOfEntry_0 9 rfl rfl)
theorem dX0_userOfEntry_10 : decode cX0_userOfEntry 10 = .ok (.goto 7, 3) := dk_167 0 7 (dk_at dksX0_userOfEntry_0 10 rfl rfl)
theorem dX0_userOfEntry_13 : decode cX0_userOfEntry 13 = .ok (.astore 4, 2) := dk_58 4 (dk_at dksX0_userOfEntry_0 13 rfl rfl)
theorem dX0_userOfEntry_15 : decode cX0_userOfEntry 15 = .ok (.iconst 1, 1) := dk_4 (dk_at dksX0_userOfEntry_0 15 rfl rfl)
theorem dX0_userOfEntry_16 : decode cX0_userOfEntry 16 = .ok (.ireturn, 1) := dk_172 (dk_at dksX0_userOfEntry_0 16 rfl rfl)
theorem dX0_userOfEntry_17 : decode cX0_userOfEntry 17 = .ok (.iconst 0, 1) := dk_3 (dk_at dksX0_userOfEntry_0 17 rfl rfl)
theorem dX0_userOfEntry_18 : decode cX0_userOfEntry 18 = .ok (.ireturn, 1) := dk_172 (dk_at dksX0_userOfEntry_0 18 rfl rfl)
abbrev cX0_groupOfEntry : ByteArray := method_40_code
def yX0_groupOfEntry : MethodName := ⟨RX0, "groupOfEntry", "(LPermissionDesk;II[J)I"⟩
def dkwX0_groupOfEntry_0 : List UInt8 := [45, 3, 42, 27, 28, 182, 0, 137, 133, 80, 167, 0, 7, 58, 4, 4, 172, 3, 172]
abbrev dktX0_groupOfEntry_0 : List UInt8 := dkwX0_groupOfEntry_0 ++ []
theorem dksX0_groupOfEntry_0 : cX0_groupOfEntry.data.toList.drop 0 = dktX0_groupOfEntry_0 := by decide +kernel
theorem dX0_groupOfEntry_0 : decode cX0_groupOfEntry 0 = .ok (.aload_n 3, 1) := dk_45 (dk_at dksX0_groupOfEntry_0 0 rfl rfl)
theorem dX0_groupOfEntry_1 : decode cX0_groupOfEntry 1 = .ok (.iconst 0, 1) := dk_3 (dk_at dksX0_groupOfEntry_0 1 rfl rfl)
theorem dX0_groupOfEntry_2 : decode cX0_groupOfEntry 2 = .ok (.aload_n 0, 1) := dk_42 (dk_at dksX0_groupOfEntry_0 2 rfl rfl)
theorem dX0_groupOfEntry_3 : decode cX0_groupOfEntry 3 = .ok (.iload_n 1, 1) := dk_27 (dk_at dksX0_groupOfEntry_0 3 rfl rfl)
theorem dX0_groupOfEntry_4 : decode cX0_groupOfEntry 4 = .ok (.iload_n 2, 1) := dk_28 (dk_at dksX0_groupOfEntry_0 4 rfl rfl)
theorem dX0_groupOfEntry_5 : decode cX0_groupOfEntry 5 = .ok (.invokevirtual 137, 3) := dk_182 0 137 (dk_at dksX0_groupOfEntry_0 5 rfl rfl)
theorem dX0_groupOfEntry_8 : decode cX0_groupOfEntry 8 = .ok (.i2l, 1) := dk_133 (dk_at dksX0_groupOfEntry_0 8 rfl rfl)
theorem dX0_groupOfEntry_9 : decode cX0_groupOfEntry 9 = .ok (.lastore, 1) := dk_80 (dk_at dksX0_groupOfEntry_0 9 rfl rfl)
theorem dX0_groupOfEntry_10 : decode cX0_groupOfEntry 10 = .ok (.goto 7, 3) := dk_167 0 7 (dk_at dksX0_groupOfEntry_0 10 rfl rfl)
theorem dX0_groupOfEntry_13 : decode cX0_groupOfEntry 13 = .ok (.astore 4, 2) := dk_58 4 (dk_at dksX0_groupOfEntry_0 13 rfl rfl)
theorem dX0_groupOfEntry_15 : decode cX0_groupOfEntry 15 = .ok (.iconst 1, 1) := dk_4 (dk_at dksX0_groupOfEntry_0 15 rfl rfl)
theorem dX0_groupOfEntry_16 : decode cX0_groupOfEntry 16 = .ok (.ireturn, 1) := dk_172 (dk_at dksX0_groupOfEntry_0 16 rfl rfl)
theorem dX0_groupOfEntry_17 : decode cX0_groupOfEntry 17 = .ok (.iconst 0, 1) := dk_3 (dk_at dksX0_groupOfEntry_0 17 rfl rfl)
theorem dX0_groupOfEntry_18 : decode cX0_groupOfEntry 18 = .ok (.ireturn, 1) := dk_172 (dk_at dksX0_groupOfEntry_0 18 rfl rfl)
abbrev cX0_isForOwner : ByteArray := method_41_code
def yX0_isForOwner : MethodName := ⟨RX0, "isForOwner", "(LPermissionDesk;II[J)I"⟩
def dkwX0_isForOwner_1 : List UInt8 := [3, 172]
abbrev dktX0_isForOwner_1 : List UInt8 := dkwX0_isForOwner_1 ++ []
def dkwX0_isForOwner_0 : List UInt8 := [45, 3, 42, 27, 28, 182, 0, 140, 153, 0, 7, 10, 167, 0, 4, 9, 80, 167, 0, 7, 58, 4, 4, 172]
abbrev dktX0_isForOwner_0 : List UInt8 := dkwX0_isForOwner_0 ++ dktX0_isForOwner_1
theorem dksX0_isForOwner_0 : cX0_isForOwner.data.toList.drop 0 = dktX0_isForOwner_0 := by decide +kernel
theorem dksX0_isForOwner_1 : cX0_isForOwner.data.toList.drop 24 = dktX0_isForOwner_1 := dk_seg dksX0_isForOwner_0 24 rfl rfl
theorem dX0_isForOwner_0 : decode cX0_isForOwner 0 = .ok (.aload_n 3, 1) := dk_45 (dk_at dksX0_isForOwner_0 0 rfl rfl)
theorem dX0_isForOwner_1 : decode cX0_isForOwner 1 = .ok (.iconst 0, 1) := dk_3 (dk_at dksX0_isForOwner_0 1 rfl rfl)
theorem dX0_isForOwner_2 : decode cX0_isForOwner 2 = .ok (.aload_n 0, 1) := dk_42 (dk_at dksX0_isForOwner_0 2 rfl rfl)
theorem dX0_isForOwner_3 : decode cX0_isForOwner 3 = .ok (.iload_n 1, 1) := dk_27 (dk_at dksX0_isForOwner_0 3 rfl rfl)
theorem dX0_isForOwner_4 : decode cX0_isForOwner 4 = .ok (.iload_n 2, 1) := dk_28 (dk_at dksX0_isForOwner_0 4 rfl rfl)
theorem dX0_isForOwner_5 : decode cX0_isForOwner 5 = .ok (.invokevirtual 140, 3) := dk_182 0 140 (dk_at dksX0_isForOwner_0 5 rfl rfl)
theorem dX0_isForOwner_8 : decode cX0_isForOwner 8 = .ok (.ifCond .eq 7, 3) := dk_153 0 7 (dk_at dksX0_isForOwner_0 8 rfl rfl)
theorem dX0_isForOwner_11 : decode cX0_isForOwner 11 = .ok (.lconst 1, 1) := dk_10 (dk_at dksX0_isForOwner_0 11 rfl rfl)
theorem dX0_isForOwner_12 : decode cX0_isForOwner 12 = .ok (.goto 4, 3) := dk_167 0 4 (dk_at dksX0_isForOwner_0 12 rfl rfl)
theorem dX0_isForOwner_15 : decode cX0_isForOwner 15 = .ok (.lconst 0, 1) := dk_9 (dk_at dksX0_isForOwner_0 15 rfl rfl)
theorem dX0_isForOwner_16 : decode cX0_isForOwner 16 = .ok (.lastore, 1) := dk_80 (dk_at dksX0_isForOwner_0 16 rfl rfl)
theorem dX0_isForOwner_17 : decode cX0_isForOwner 17 = .ok (.goto 7, 3) := dk_167 0 7 (dk_at dksX0_isForOwner_0 17 rfl rfl)
theorem dX0_isForOwner_20 : decode cX0_isForOwner 20 = .ok (.astore 4, 2) := dk_58 4 (dk_at dksX0_isForOwner_0 20 rfl rfl)
theorem dX0_isForOwner_22 : decode cX0_isForOwner 22 = .ok (.iconst 1, 1) := dk_4 (dk_at dksX0_isForOwner_0 22 rfl rfl)
theorem dX0_isForOwner_23 : decode cX0_isForOwner 23 = .ok (.ireturn, 1) := dk_172 (dk_at dksX0_isForOwner_0 23 rfl rfl)
theorem dX0_isForOwner_24 : decode cX0_isForOwner 24 = .ok (.iconst 0, 1) := dk_3 (dk_at dksX0_isForOwner_1 0 rfl rfl)
theorem dX0_isForOwner_25 : decode cX0_isForOwner 25 = .ok (.ireturn, 1) := dk_172 (dk_at dksX0_isForOwner_1 1 rfl rfl)
abbrev cX0_isForBelow : ByteArray := method_42_code
def yX0_isForBelow : MethodName := ⟨RX0, "isForBelow", "(LPermissionDesk;II[J)I"⟩
def dkwX0_isForBelow_1 : List UInt8 := [3, 172]
abbrev dktX0_isForBelow_1 : List UInt8 := dkwX0_isForBelow_1 ++ []
def dkwX0_isForBelow_0 : List UInt8 := [45, 3, 42, 27, 28, 182, 0, 143, 153, 0, 7, 10, 167, 0, 4, 9, 80, 167, 0, 7, 58, 4, 4, 172]
abbrev dktX0_isForBelow_0 : List UInt8 := dkwX0_isForBelow_0 ++ dktX0_isForBelow_1
theorem dksX0_isForBelow_0 : cX0_isForBelow.data.toList.drop 0 = dktX0_isForBelow_0 := by decide +kernel
theorem dksX0_isForBelow_1 : cX0_isForBelow.data.toList.drop 24 = dktX0_isForBelow_1 := dk_seg dksX0_isForBelow_0 24 rfl rfl
theorem dX0_isForBelow_0 : decode cX0_isForBelow 0 = .ok (.aload_n 3, 1) := dk_45 (dk_at dksX0_isForBelow_0 0 rfl rfl)
theorem dX0_isForBelow_1 : decode cX0_isForBelow 1 = .ok (.iconst 0, 1) := dk_3 (dk_at dksX0_isForBelow_0 1 rfl rfl)
theorem dX0_isForBelow_2 : decode cX0_isForBelow 2 = .ok (.aload_n 0, 1) := dk_42 (dk_at dksX0_isForBelow_0 2 rfl rfl)
theorem dX0_isForBelow_3 : decode cX0_isForBelow 3 = .ok (.iload_n 1, 1) := dk_27 (dk_at dksX0_isForBelow_0 3 rfl rfl)
theorem dX0_isForBelow_4 : decode cX0_isForBelow 4 = .ok (.iload_n 2, 1) := dk_28 (dk_at dksX0_isForBelow_0 4 rfl rfl)
theorem dX0_isForBelow_5 : decode cX0_isForBelow 5 = .ok (.invokevirtual 143, 3) := dk_182 0 143 (dk_at dksX0_isForBelow_0 5 rfl rfl)
theorem dX0_isForBelow_8 : decode cX0_isForBelow 8 = .ok (.ifCond .eq 7, 3) := dk_153 0 7 (dk_at dksX0_isForBelow_0 8 rfl rfl)
theorem dX0_isForBelow_11 : decode cX0_isForBelow 11 = .ok (.lconst 1, 1) := dk_10 (dk_at dksX0_isForBelow_0 11 rfl rfl)
theorem dX0_isForBelow_12 : decode cX0_isForBelow 12 = .ok (.goto 4, 3) := dk_167 0 4 (dk_at dksX0_isForBelow_0 12 rfl rfl)
theorem dX0_isForBelow_15 : decode cX0_isForBelow 15 = .ok (.lconst 0, 1) := dk_9 (dk_at dksX0_isForBelow_0 15 rfl rfl)
theorem dX0_isForBelow_16 : decode cX0_isForBelow 16 = .ok (.lastore, 1) := dk_80 (dk_at dksX0_isForBelow_0 16 rfl rfl)
theorem dX0_isForBelow_17 : decode cX0_isForBelow 17 = .ok (.goto 7, 3) := dk_167 0 7 (dk_at dksX0_isForBelow_0 17 rfl rfl)
theorem dX0_isForBelow_20 : decode cX0_isForBelow 20 = .ok (.astore 4, 2) := dk_58 4 (dk_at dksX0_isForBelow_0 20 rfl rfl)
theorem dX0_isForBelow_22 : decode cX0_isForBelow 22 = .ok (.iconst 1, 1) := dk_4 (dk_at dksX0_isForBelow_0 22 rfl rfl)
theorem dX0_isForBelow_23 : decode cX0_isForBelow 23 = .ok (.ireturn, 1) := dk_172 (dk_at dksX0_isForBelow_0 23 rfl rfl)
theorem dX0_isForBelow_24 : decode cX0_isForBelow 24 = .ok (.iconst 0, 1) := dk_3 (dk_at dksX0_isForBelow_1 0 rfl rfl)
theorem dX0_isForBelow_25 : decode cX0_isForBelow 25 = .ok (.ireturn, 1) := dk_172 (dk_at dksX0_isForBelow_1 1 rfl rfl)
abbrev cX0_isAllowed : ByteArray := method_43_code
def yX0_isAllowed : MethodName := ⟨RX0, "isAllowed", "(LPermissionDesk;III[J)I"⟩
def dkwX0_isAllowed_1 : List UInt8 := [4, 172, 58, 5, 5, 172, 3, 172]
abbrev dktX0_isAllowed_1 : List UInt8 := dkwX0_isAllowed_1 ++ []
def dkwX0_isAllowed_0 : List UInt8 := [25, 4, 3, 42, 27, 28, 29, 182, 0, 146, 153, 0, 7, 10, 167, 0, 4, 9, 80, 167, 0, 11, 58, 5]
abbrev dktX0_isAllowed_0 : List UInt8 := dkwX0_isAllowed_0 ++ dktX0_isAllowed_1
theorem dksX0_isAllowed_0 : cX0_isAllowed.data.toList.drop 0 = dktX0_isAllowed_0 := by decide +kernel
theorem dksX0_isAllowed_1 : cX0_isAllowed.data.toList.drop 24 = dktX0_isAllowed_1 := dk_seg dksX0_isAllowed_0 24 rfl rfl
theorem dX0_isAllowed_0 : decode cX0_isAllowed 0 = .ok (.aload 4, 2) := dk_25 4 (dk_at dksX0_isAllowed_0 0 rfl rfl)
theorem dX0_isAllowed_2 : decode cX0_isAllowed 2 = .ok (.iconst 0, 1) := dk_3 (dk_at dksX0_isAllowed_0 2 rfl rfl)
theorem dX0_isAllowed_3 : decode cX0_isAllowed 3 = .ok (.aload_n 0, 1) := dk_42 (dk_at dksX0_isAllowed_0 3 rfl rfl)
theorem dX0_isAllowed_4 : decode cX0_isAllowed 4 = .ok (.iload_n 1, 1) := dk_27 (dk_at dksX0_isAllowed_0 4 rfl rfl)
theorem dX0_isAllowed_5 : decode cX0_isAllowed 5 = .ok (.iload_n 2, 1) := dk_28 (dk_at dksX0_isAllowed_0 5 rfl rfl)
theorem dX0_isAllowed_6 : decode cX0_isAllowed 6 = .ok (.iload_n 3, 1) := dk_29 (dk_at dksX0_isAllowed_0 6 rfl rfl)
theorem dX0_isAllowed_7 : decode cX0_isAllowed 7 = .ok (.invokevirtual 146, 3) := dk_182 0 146 (dk_at dksX0_isAllowed_0 7 rfl rfl)
theorem dX0_isAllowed_10 : decode cX0_isAllowed 10 = .ok (.ifCond .eq 7, 3) := dk_153 0 7 (dk_at dksX0_isAllowed_0 10 rfl rfl)
theorem dX0_isAllowed_13 : decode cX0_isAllowed 13 = .ok (.lconst 1, 1) := dk_10 (dk_at dksX0_isAllowed_0 13 rfl rfl)
theorem dX0_isAllowed_14 : decode cX0_isAllowed 14 = .ok (.goto 4, 3) := dk_167 0 4 (dk_at dksX0_isAllowed_0 14 rfl rfl)
theorem dX0_isAllowed_17 : decode cX0_isAllowed 17 = .ok (.lconst 0, 1) := dk_9 (dk_at dksX0_isAllowed_0 17 rfl rfl)
theorem dX0_isAllowed_18 : decode cX0_isAllowed 18 = .ok (.lastore, 1) := dk_80 (dk_at dksX0_isAllowed_0 18 rfl rfl)
theorem dX0_isAllowed_19 : decode cX0_isAllowed 19 = .ok (.goto 11, 3) := dk_167 0 11 (dk_at dksX0_isAllowed_0 19 rfl rfl)
theorem dX0_isAllowed_22 : decode cX0_isAllowed 22 = .ok (.astore 5, 2) := dk_58 5 (dk_at dksX0_isAllowed_0 22 rfl rfl)
theorem dX0_isAllowed_24 : decode cX0_isAllowed 24 = .ok (.iconst 1, 1) := dk_4 (dk_at dksX0_isAllowed_1 0 rfl rfl)
theorem dX0_isAllowed_25 : decode cX0_isAllowed 25 = .ok (.ireturn, 1) := dk_172 (dk_at dksX0_isAllowed_1 1 rfl rfl)
theorem dX0_isAllowed_26 : decode cX0_isAllowed 26 = .ok (.astore 5, 2) := dk_58 5 (dk_at dksX0_isAllowed_1 2 rfl rfl)
theorem dX0_isAllowed_28 : decode cX0_isAllowed 28 = .ok (.iconst 2, 1) := dk_5 (dk_at dksX0_isAllowed_1 4 rfl rfl)
theorem dX0_isAllowed_29 : decode cX0_isAllowed 29 = .ok (.ireturn, 1) := dk_172 (dk_at dksX0_isAllowed_1 5 rfl rfl)
theorem dX0_isAllowed_30 : decode cX0_isAllowed 30 = .ok (.iconst 0, 1) := dk_3 (dk_at dksX0_isAllowed_1 6 rfl rfl)
theorem dX0_isAllowed_31 : decode cX0_isAllowed 31 = .ok (.ireturn, 1) := dk_172 (dk_at dksX0_isAllowed_1 7 rfl rfl)
abbrev cX0_isAllowedByHandingDown : ByteArray := method_44_code
def yX0_isAllowedByHandingDown : MethodName := ⟨RX0, "isAllowedByHandingDown", "(LPermissionDesk;III[J)I"⟩
def dkwX0_isAllowedByHandingDown_1 : List UInt8 := [4, 172, 58, 5, 5, 172, 3, 172]
abbrev dktX0_isAllowedByHandingDown_1 : List UInt8 := dkwX0_isAllowedByHandingDown_1 ++ []
def dkwX0_isAllowedByHandingDown_0 : List UInt8 := [25, 4, 3, 42, 27, 28, 29, 182, 0, 149, 153, 0, 7, 10, 167, 0, 4, 9, 80, 167, 0, 11, 58, 5]
abbrev dktX0_isAllowedByHandingDown_0 : List UInt8 := dkwX0_isAllowedByHandingDown_0 ++ dktX0_isAllowedByHandingDown_1
theorem dksX0_isAllowedByHandingDown_0 : cX0_isAllowedByHandingDown.data.toList.drop 0 = dktX0_isAllowedByHandingDown_0 := by decide +kernel
theorem dksX0_isAllowedByHandingDown_1 : cX0_isAllowedByHandingDown.data.toList.drop 24 = dktX0_isAllowedByHandingDown_1 := dk_seg dksX0_isAllowedByHandingDown_0 24 rfl rfl
theorem dX0_isAllowedByHandingDown_0 : decode cX0_isAllowedByHandingDown 0 = .ok (.aload 4, 2) := dk_25 4 (dk_at dksX0_isAllowedByHandingDown_0 0 rfl rfl)
theorem dX0_isAllowedByHandingDown_2 : decode cX0_isAllowedByHandingDown 2 = .ok (.iconst 0, 1) := dk_3 (dk_at dksX0_isAllowedByHandingDown_0 2 rfl rfl)
theorem dX0_isAllowedByHandingDown_3 : decode cX0_isAllowedByHandingDown 3 = .ok (.aload_n 0, 1) := dk_42 (dk_at dksX0_isAllowedByHandingDown_0 3 rfl rfl)
theorem dX0_isAllowedByHandingDown_4 : decode cX0_isAllowedByHandingDown 4 = .ok (.iload_n 1, 1) := dk_27 (dk_at dksX0_isAllowedByHandingDown_0 4 rfl rfl)
theorem dX0_isAllowedByHandingDown_5 : decode cX0_isAllowedByHandingDown 5 = .ok (.iload_n 2, 1) := dk_28 (dk_at dksX0_isAllowedByHandingDown_0 5 rfl rfl)
theorem dX0_isAllowedByHandingDown_6 : decode cX0_isAllowedByHandingDown 6 = .ok (.iload_n 3, 1) := dk_29 (dk_at dksX0_isAllowedByHandingDown_0 6 rfl rfl)
theorem dX0_isAllowedByHandingDown_7 : decode cX0_isAllowedByHandingDown 7 = .ok (.invokevirtual 149, 3) := dk_182 0 149 (dk_at dksX0_isAllowedByHandingDown_0 7 rfl rfl)
theorem dX0_isAllowedByHandingDown_10 : decode cX0_isAllowedByHandingDown 10 = .ok (.ifCond .eq 7, 3) := dk_153 0 7 (dk_at dksX0_isAllowedByHandingDown_0 10 rfl rfl)
theorem dX0_isAllowedByHandingDown_13 : decode cX0_isAllowedByHandingDown 13 = .ok (.lconst 1, 1) := dk_10 (dk_at dksX0_isAllowedByHandingDown_0 13 rfl rfl)
theorem dX0_isAllowedByHandingDown_14 : decode cX0_isAllowedByHandingDown 14 = .ok (.goto 4, 3) := dk_167 0 4 (dk_at dksX0_isAllowedByHandingDown_0 14 rfl rfl)
theorem dX0_isAllowedByHandingDown_17 : decode cX0_isAllowedByHandingDown 17 = .ok (.lconst 0, 1) := dk_9 (dk_at dksX0_isAllowedByHandingDown_0 17 rfl rfl)
theorem dX0_isAllowedByHandingDown_18 : decode cX0_isAllowedByHandingDown 18 = .ok (.lastore, 1) := dk_80 (dk_at dksX0_isAllowedByHandingDown_0 18 rfl rfl)
theorem dX0_isAllowedByHandingDown_19 : decode cX0_isAllowedByHandingDown 19 = .ok (.goto 11, 3) := dk_167 0 11 (dk_at dksX0_isAllowedByHandingDown_0 19 rfl rfl)
theorem dX0_isAllowedByHandingDown_22 : decode cX0_isAllowedByHandingDown 22 = .ok (.astore 5, 2) := dk_58 5 (dk_at dksX0_isAllowedByHandingDown_0 22 rfl rfl)
theorem dX0_isAllowedByHandingDown_24 : decode cX0_isAllowedByHandingDown 24 = .ok (.iconst 1, 1) := dk_4 (dk_at dksX0_isAllowedByHandingDown_1 0 rfl rfl)
theorem dX0_isAllowedByHandingDown_25 : decode cX0_isAllowedByHandingDown 25 = .ok (.ireturn, 1) := dk_172 (dk_at dksX0_isAllowedByHandingDown_1 1 rfl rfl)
theorem dX0_isAllowedByHandingDown_26 : decode cX0_isAllowedByHandingDown 26 = .ok (.astore 5, 2) := dk_58 5 (dk_at dksX0_isAllowedByHandingDown_1 2 rfl rfl)
theorem dX0_isAllowedByHandingDown_28 : decode cX0_isAllowedByHandingDown 28 = .ok (.iconst 2, 1) := dk_5 (dk_at dksX0_isAllowedByHandingDown_1 4 rfl rfl)
theorem dX0_isAllowedByHandingDown_29 : decode cX0_isAllowedByHandingDown 29 = .ok (.ireturn, 1) := dk_172 (dk_at dksX0_isAllowedByHandingDown_1 5 rfl rfl)
theorem dX0_isAllowedByHandingDown_30 : decode cX0_isAllowedByHandingDown 30 = .ok (.iconst 0, 1) := dk_3 (dk_at dksX0_isAllowedByHandingDown_1 6 rfl rfl)
theorem dX0_isAllowedByHandingDown_31 : decode cX0_isAllowedByHandingDown 31 = .ok (.ireturn, 1) := dk_172 (dk_at dksX0_isAllowedByHandingDown_1 7 rfl rfl)
abbrev cX0_rightsOf : ByteArray := method_45_code
def yX0_rightsOf : MethodName := ⟨RX0, "rightsOf", "(LPermissionDesk;II[J)I"⟩
def dkwX0_rightsOf_0 : List UInt8 := [45, 3, 42, 27, 28, 182, 0, 152, 133, 80, 167, 0, 7, 58, 4, 4, 172, 3, 172]
abbrev dktX0_rightsOf_0 : List UInt8 := dkwX0_rightsOf_0 ++ []
theorem dksX0_rightsOf_0 : cX0_rightsOf.data.toList.drop 0 = dktX0_rightsOf_0 := by decide +kernel
theorem dX0_rightsOf_0 : decode cX0_rightsOf 0 = .ok (.aload_n 3, 1) := dk_45 (dk_at dksX0_rightsOf_0 0 rfl rfl)
theorem dX0_rightsOf_1 : decode cX0_rightsOf 1 = .ok (.iconst 0, 1) := dk_3 (dk_at dksX0_rightsOf_0 1 rfl rfl)
theorem dX0_rightsOf_2 : decode cX0_rightsOf 2 = .ok (.aload_n 0, 1) := dk_42 (dk_at dksX0_rightsOf_0 2 rfl rfl)
theorem dX0_rightsOf_3 : decode cX0_rightsOf 3 = .ok (.iload_n 1, 1) := dk_27 (dk_at dksX0_rightsOf_0 3 rfl rfl)
theorem dX0_rightsOf_4 : decode cX0_rightsOf 4 = .ok (.iload_n 2, 1) := dk_28 (dk_at dksX0_rightsOf_0 4 rfl rfl)
theorem dX0_rightsOf_5 : decode cX0_rightsOf 5 = .ok (.invokevirtual 152, 3) := dk_182 0 152 (dk_at dksX0_rightsOf_0 5 rfl rfl)
theorem dX0_rightsOf_8 : decode cX0_rightsOf 8 = .ok (.i2l, 1) := dk_133 (dk_at dksX0_rightsOf_0 8 rfl rfl)
theorem dX0_rightsOf_9 : decode cX0_rightsOf 9 = .ok (.lastore, 1) := dk_80 (dk_at dksX0_rightsOf_0 9 rfl rfl)
theorem dX0_rightsOf_10 : decode cX0_rightsOf 10 = .ok (.goto 7, 3) := dk_167 0 7 (dk_at dksX0_rightsOf_0 10 rfl rfl)
theorem dX0_rightsOf_13 : decode cX0_rightsOf 13 = .ok (.astore 4, 2) := dk_58 4 (dk_at dksX0_rightsOf_0 13 rfl rfl)
theorem dX0_rightsOf_15 : decode cX0_rightsOf 15 = .ok (.iconst 1, 1) := dk_4 (dk_at dksX0_rightsOf_0 15 rfl rfl)
theorem dX0_rightsOf_16 : decode cX0_rightsOf 16 = .ok (.ireturn, 1) := dk_172 (dk_at dksX0_rightsOf_0 16 rfl rfl)
theorem dX0_rightsOf_17 : decode cX0_rightsOf 17 = .ok (.iconst 0, 1) := dk_3 (dk_at dksX0_rightsOf_0 17 rfl rfl)
theorem dX0_rightsOf_18 : decode cX0_rightsOf 18 = .ok (.ireturn, 1) := dk_172 (dk_at dksX0_rightsOf_0 18 rfl rfl)
abbrev cX0_decidingObject : ByteArray := method_46_code
def yX0_decidingObject : MethodName := ⟨RX0, "decidingObject", "(LPermissionDesk;III[J)I"⟩
def dkwX0_decidingObject_1 : List UInt8 := [172]
abbrev dktX0_decidingObject_1 : List UInt8 := dkwX0_decidingObject_1 ++ []
def dkwX0_decidingObject_0 : List UInt8 := [25, 4, 3, 42, 27, 28, 29, 182, 0, 155, 133, 80, 167, 0, 11, 58, 5, 4, 172, 58, 5, 5, 172, 3]
abbrev dktX0_decidingObject_0 : List UInt8 := dkwX0_decidingObject_0 ++ dktX0_decidingObject_1
theorem dksX0_decidingObject_0 : cX0_decidingObject.data.toList.drop 0 = dktX0_decidingObject_0 := by decide +kernel
theorem dksX0_decidingObject_1 : cX0_decidingObject.data.toList.drop 24 = dktX0_decidingObject_1 := dk_seg dksX0_decidingObject_0 24 rfl rfl
theorem dX0_decidingObject_0 : decode cX0_decidingObject 0 = .ok (.aload 4, 2) := dk_25 4 (dk_at dksX0_decidingObject_0 0 rfl rfl)
theorem dX0_decidingObject_2 : decode cX0_decidingObject 2 = .ok (.iconst 0, 1) := dk_3 (dk_at dksX0_decidingObject_0 2 rfl rfl)
theorem dX0_decidingObject_3 : decode cX0_decidingObject 3 = .ok (.aload_n 0, 1) := dk_42 (dk_at dksX0_decidingObject_0 3 rfl rfl)
theorem dX0_decidingObject_4 : decode cX0_decidingObject 4 = .ok (.iload_n 1, 1) := dk_27 (dk_at dksX0_decidingObject_0 4 rfl rfl)
theorem dX0_decidingObject_5 : decode cX0_decidingObject 5 = .ok (.iload_n 2, 1) := dk_28 (dk_at dksX0_decidingObject_0 5 rfl rfl)
theorem dX0_decidingObject_6 : decode cX0_decidingObject 6 = .ok (.iload_n 3, 1) := dk_29 (dk_at dksX0_decidingObject_0 6 rfl rfl)
theorem dX0_decidingObject_7 : decode cX0_decidingObject 7 = .ok (.invokevirtual 155, 3) := dk_182 0 155 (dk_at dksX0_decidingObject_0 7 rfl rfl)
theorem dX0_decidingObject_10 : decode cX0_decidingObject 10 = .ok (.i2l, 1) := dk_133 (dk_at dksX0_decidingObject_0 10 rfl rfl)
theorem dX0_decidingObject_11 : decode cX0_decidingObject 11 = .ok (.lastore, 1) := dk_80 (dk_at dksX0_decidingObject_0 11 rfl rfl)
theorem dX0_decidingObject_12 : decode cX0_decidingObject 12 = .ok (.goto 11, 3) := dk_167 0 11 (dk_at dksX0_decidingObject_0 12 rfl rfl)
theorem dX0_decidingObject_15 : decode cX0_decidingObject 15 = .ok (.astore 5, 2) := dk_58 5 (dk_at dksX0_decidingObject_0 15 rfl rfl)
theorem dX0_decidingObject_17 : decode cX0_decidingObject 17 = .ok (.iconst 1, 1) := dk_4 (dk_at dksX0_decidingObject_0 17 rfl rfl)
theorem dX0_decidingObject_18 : decode cX0_decidingObject 18 = .ok (.ireturn, 1) := dk_172 (dk_at dksX0_decidingObject_0 18 rfl rfl)
theorem dX0_decidingObject_19 : decode cX0_decidingObject 19 = .ok (.astore 5, 2) := dk_58 5 (dk_at dksX0_decidingObject_0 19 rfl rfl)
theorem dX0_decidingObject_21 : decode cX0_decidingObject 21 = .ok (.iconst 2, 1) := dk_5 (dk_at dksX0_decidingObject_0 21 rfl rfl)
theorem dX0_decidingObject_22 : decode cX0_decidingObject 22 = .ok (.ireturn, 1) := dk_172 (dk_at dksX0_decidingObject_0 22 rfl rfl)
theorem dX0_decidingObject_23 : decode cX0_decidingObject 23 = .ok (.iconst 0, 1) := dk_3 (dk_at dksX0_decidingObject_0 23 rfl rfl)
theorem dX0_decidingObject_24 : decode cX0_decidingObject 24 = .ok (.ireturn, 1) := dk_172 (dk_at dksX0_decidingObject_1 0 rfl rfl)
abbrev cX0_decidingEntry : ByteArray := method_47_code
def yX0_decidingEntry : MethodName := ⟨RX0, "decidingEntry", "(LPermissionDesk;III[J)I"⟩
def dkwX0_decidingEntry_1 : List UInt8 := [172]
abbrev dktX0_decidingEntry_1 : List UInt8 := dkwX0_decidingEntry_1 ++ []
def dkwX0_decidingEntry_0 : List UInt8 := [25, 4, 3, 42, 27, 28, 29, 182, 0, 158, 133, 80, 167, 0, 11, 58, 5, 4, 172, 58, 5, 5, 172, 3]
abbrev dktX0_decidingEntry_0 : List UInt8 := dkwX0_decidingEntry_0 ++ dktX0_decidingEntry_1
theorem dksX0_decidingEntry_0 : cX0_decidingEntry.data.toList.drop 0 = dktX0_decidingEntry_0 := by decide +kernel
theorem dksX0_decidingEntry_1 : cX0_decidingEntry.data.toList.drop 24 = dktX0_decidingEntry_1 := dk_seg dksX0_decidingEntry_0 24 rfl rfl
theorem dX0_decidingEntry_0 : decode cX0_decidingEntry 0 = .ok (.aload 4, 2) := dk_25 4 (dk_at dksX0_decidingEntry_0 0 rfl rfl)
theorem dX0_decidingEntry_2 : decode cX0_decidingEntry 2 = .ok (.iconst 0, 1) := dk_3 (dk_at dksX0_decidingEntry_0 2 rfl rfl)
theorem dX0_decidingEntry_3 : decode cX0_decidingEntry 3 = .ok (.aload_n 0, 1) := dk_42 (dk_at dksX0_decidingEntry_0 3 rfl rfl)
theorem dX0_decidingEntry_4 : decode cX0_decidingEntry 4 = .ok (.iload_n 1, 1) := dk_27 (dk_at dksX0_decidingEntry_0 4 rfl rfl)
theorem dX0_decidingEntry_5 : decode cX0_decidingEntry 5 = .ok (.iload_n 2, 1) := dk_28 (dk_at dksX0_decidingEntry_0 5 rfl rfl)
theorem dX0_decidingEntry_6 : decode cX0_decidingEntry 6 = .ok (.iload_n 3, 1) := dk_29 (dk_at dksX0_decidingEntry_0 6 rfl rfl)
theorem dX0_decidingEntry_7 : decode cX0_decidingEntry 7 = .ok (.invokevirtual 158, 3) := dk_182 0 158 (dk_at dksX0_decidingEntry_0 7 rfl rfl)
theorem dX0_decidingEntry_10 : decode cX0_decidingEntry 10 = .ok (.i2l, 1) := dk_133 (dk_at dksX0_decidingEntry_0 10 rfl rfl)
theorem dX0_decidingEntry_11 : decode cX0_decidingEntry 11 = .ok (.lastore, 1) := dk_80 (dk_at dksX0_decidingEntry_0 11 rfl rfl)
theorem dX0_decidingEntry_12 : decode cX0_decidingEntry 12 = .ok (.goto 11, 3) := dk_167 0 11 (dk_at dksX0_decidingEntry_0 12 rfl rfl)
theorem dX0_decidingEntry_15 : decode cX0_decidingEntry 15 = .ok (.astore 5, 2) := dk_58 5 (dk_at dksX0_decidingEntry_0 15 rfl rfl)
theorem dX0_decidingEntry_17 : decode cX0_decidingEntry 17 = .ok (.iconst 1, 1) := dk_4 (dk_at dksX0_decidingEntry_0 17 rfl rfl)
theorem dX0_decidingEntry_18 : decode cX0_decidingEntry 18 = .ok (.ireturn, 1) := dk_172 (dk_at dksX0_decidingEntry_0 18 rfl rfl)
theorem dX0_decidingEntry_19 : decode cX0_decidingEntry 19 = .ok (.astore 5, 2) := dk_58 5 (dk_at dksX0_decidingEntry_0 19 rfl rfl)
theorem dX0_decidingEntry_21 : decode cX0_decidingEntry 21 = .ok (.iconst 2, 1) := dk_5 (dk_at dksX0_decidingEntry_0 21 rfl rfl)
theorem dX0_decidingEntry_22 : decode cX0_decidingEntry 22 = .ok (.ireturn, 1) := dk_172 (dk_at dksX0_decidingEntry_0 22 rfl rfl)
theorem dX0_decidingEntry_23 : decode cX0_decidingEntry 23 = .ok (.iconst 0, 1) := dk_3 (dk_at dksX0_decidingEntry_0 23 rfl rfl)
theorem dX0_decidingEntry_24 : decode cX0_decidingEntry 24 = .ok (.ireturn, 1) := dk_172 (dk_at dksX0_decidingEntry_1 0 rfl rfl)
abbrev cX0_isStoppedByMask : ByteArray := method_48_code
def yX0_isStoppedByMask : MethodName := ⟨RX0, "isStoppedByMask", "(LPermissionDesk;III[J)I"⟩
def dkwX0_isStoppedByMask_1 : List UInt8 := [4, 172, 58, 5, 5, 172, 3, 172]
abbrev dktX0_isStoppedByMask_1 : List UInt8 := dkwX0_isStoppedByMask_1 ++ []
def dkwX0_isStoppedByMask_0 : List UInt8 := [25, 4, 3, 42, 27, 28, 29, 182, 0, 161, 153, 0, 7, 10, 167, 0, 4, 9, 80, 167, 0, 11, 58, 5]
abbrev dktX0_isStoppedByMask_0 : List UInt8 := dkwX0_isStoppedByMask_0 ++ dktX0_isStoppedByMask_1
theorem dksX0_isStoppedByMask_0 : cX0_isStoppedByMask.data.toList.drop 0 = dktX0_isStoppedByMask_0 := by decide +kernel
theorem dksX0_isStoppedByMask_1 : cX0_isStoppedByMask.data.toList.drop 24 = dktX0_isStoppedByMask_1 := dk_seg dksX0_isStoppedByMask_0 24 rfl rfl
theorem dX0_isStoppedByMask_0 : decode cX0_isStoppedByMask 0 = .ok (.aload 4, 2) := dk_25 4 (dk_at dksX0_isStoppedByMask_0 0 rfl rfl)
theorem dX0_isStoppedByMask_2 : decode cX0_isStoppedByMask 2 = .ok (.iconst 0, 1) := dk_3 (dk_at dksX0_isStoppedByMask_0 2 rfl rfl)
theorem dX0_isStoppedByMask_3 : decode cX0_isStoppedByMask 3 = .ok (.aload_n 0, 1) := dk_42 (dk_at dksX0_isStoppedByMask_0 3 rfl rfl)
theorem dX0_isStoppedByMask_4 : decode cX0_isStoppedByMask 4 = .ok (.iload_n 1, 1) := dk_27 (dk_at dksX0_isStoppedByMask_0 4 rfl rfl)
theorem dX0_isStoppedByMask_5 : decode cX0_isStoppedByMask 5 = .ok (.iload_n 2, 1) := dk_28 (dk_at dksX0_isStoppedByMask_0 5 rfl rfl)
theorem dX0_isStoppedByMask_6 : decode cX0_isStoppedByMask 6 = .ok (.iload_n 3, 1) := dk_29 (dk_at dksX0_isStoppedByMask_0 6 rfl rfl)
theorem dX0_isStoppedByMask_7 : decode cX0_isStoppedByMask 7 = .ok (.invokevirtual 161, 3) := dk_182 0 161 (dk_at dksX0_isStoppedByMask_0 7 rfl rfl)
theorem dX0_isStoppedByMask_10 : decode cX0_isStoppedByMask 10 = .ok (.ifCond .eq 7, 3) := dk_153 0 7 (dk_at dksX0_isStoppedByMask_0 10 rfl rfl)
theorem dX0_isStoppedByMask_13 : decode cX0_isStoppedByMask 13 = .ok (.lconst 1, 1) := dk_10 (dk_at dksX0_isStoppedByMask_0 13 rfl rfl)
theorem dX0_isStoppedByMask_14 : decode cX0_isStoppedByMask 14 = .ok (.goto 4, 3) := dk_167 0 4 (dk_at dksX0_isStoppedByMask_0 14 rfl rfl)
theorem dX0_isStoppedByMask_17 : decode cX0_isStoppedByMask 17 = .ok (.lconst 0, 1) := dk_9 (dk_at dksX0_isStoppedByMask_0 17 rfl rfl)
theorem dX0_isStoppedByMask_18 : decode cX0_isStoppedByMask 18 = .ok (.lastore, 1) := dk_80 (dk_at dksX0_isStoppedByMask_0 18 rfl rfl)
theorem dX0_isStoppedByMask_19 : decode cX0_isStoppedByMask 19 = .ok (.goto 11, 3) := dk_167 0 11 (dk_at dksX0_isStoppedByMask_0 19 rfl rfl)
theorem dX0_isStoppedByMask_22 : decode cX0_isStoppedByMask 22 = .ok (.astore 5, 2) := dk_58 5 (dk_at dksX0_isStoppedByMask_0 22 rfl rfl)
theorem dX0_isStoppedByMask_24 : decode cX0_isStoppedByMask 24 = .ok (.iconst 1, 1) := dk_4 (dk_at dksX0_isStoppedByMask_1 0 rfl rfl)
theorem dX0_isStoppedByMask_25 : decode cX0_isStoppedByMask 25 = .ok (.ireturn, 1) := dk_172 (dk_at dksX0_isStoppedByMask_1 1 rfl rfl)
theorem dX0_isStoppedByMask_26 : decode cX0_isStoppedByMask 26 = .ok (.astore 5, 2) := dk_58 5 (dk_at dksX0_isStoppedByMask_1 2 rfl rfl)
theorem dX0_isStoppedByMask_28 : decode cX0_isStoppedByMask 28 = .ok (.iconst 2, 1) := dk_5 (dk_at dksX0_isStoppedByMask_1 4 rfl rfl)
theorem dX0_isStoppedByMask_29 : decode cX0_isStoppedByMask 29 = .ok (.ireturn, 1) := dk_172 (dk_at dksX0_isStoppedByMask_1 5 rfl rfl)
theorem dX0_isStoppedByMask_30 : decode cX0_isStoppedByMask 30 = .ok (.iconst 0, 1) := dk_3 (dk_at dksX0_isStoppedByMask_1 6 rfl rfl)
theorem dX0_isStoppedByMask_31 : decode cX0_isStoppedByMask 31 = .ok (.ireturn, 1) := dk_172 (dk_at dksX0_isStoppedByMask_1 7 rfl rfl)
abbrev cX0_usersWith : ByteArray := method_49_code
def yX0_usersWith : MethodName := ⟨RX0, "usersWith", "(LPermissionDesk;II[J)I"⟩
def dkwX0_usersWith_0 : List UInt8 := [45, 3, 42, 27, 28, 182, 0, 164, 133, 80, 167, 0, 11, 58, 4, 4, 172, 58, 4, 5, 172, 3, 172]
abbrev dktX0_usersWith_0 : List UInt8 := dkwX0_usersWith_0 ++ []
theorem dksX0_usersWith_0 : cX0_usersWith.data.toList.drop 0 = dktX0_usersWith_0 := by decide +kernel
theorem dX0_usersWith_0 : decode cX0_usersWith 0 = .ok (.aload_n 3, 1) := dk_45 (dk_at dksX0_usersWith_0 0 rfl rfl)
theorem dX0_usersWith_1 : decode cX0_usersWith 1 = .ok (.iconst 0, 1) := dk_3 (dk_at dksX0_usersWith_0 1 rfl rfl)
theorem dX0_usersWith_2 : decode cX0_usersWith 2 = .ok (.aload_n 0, 1) := dk_42 (dk_at dksX0_usersWith_0 2 rfl rfl)
theorem dX0_usersWith_3 : decode cX0_usersWith 3 = .ok (.iload_n 1, 1) := dk_27 (dk_at dksX0_usersWith_0 3 rfl rfl)
theorem dX0_usersWith_4 : decode cX0_usersWith 4 = .ok (.iload_n 2, 1) := dk_28 (dk_at dksX0_usersWith_0 4 rfl rfl)
theorem dX0_usersWith_5 : decode cX0_usersWith 5 = .ok (.invokevirtual 164, 3) := dk_182 0 164 (dk_at dksX0_usersWith_0 5 rfl rfl)
theorem dX0_usersWith_8 : decode cX0_usersWith 8 = .ok (.i2l, 1) := dk_133 (dk_at dksX0_usersWith_0 8 rfl rfl)
theorem dX0_usersWith_9 : decode cX0_usersWith 9 = .ok (.lastore, 1) := dk_80 (dk_at dksX0_usersWith_0 9 rfl rfl)
theorem dX0_usersWith_10 : decode cX0_usersWith 10 = .ok (.goto 11, 3) := dk_167 0 11 (dk_at dksX0_usersWith_0 10 rfl rfl)
theorem dX0_usersWith_13 : decode cX0_usersWith 13 = .ok (.astore 4, 2) := dk_58 4 (dk_at dksX0_usersWith_0 13 rfl rfl)
theorem dX0_usersWith_15 : decode cX0_usersWith 15 = .ok (.iconst 1, 1) := dk_4 (dk_at dksX0_usersWith_0 15 rfl rfl)
theorem dX0_usersWith_16 : decode cX0_usersWith 16 = .ok (.ireturn, 1) := dk_172 (dk_at dksX0_usersWith_0 16 rfl rfl)
theorem dX0_usersWith_17 : decode cX0_usersWith 17 = .ok (.astore 4, 2) := dk_58 4 (dk_at dksX0_usersWith_0 17 rfl rfl)
theorem dX0_usersWith_19 : decode cX0_usersWith 19 = .ok (.iconst 2, 1) := dk_5 (dk_at dksX0_usersWith_0 19 rfl rfl)
theorem dX0_usersWith_20 : decode cX0_usersWith 20 = .ok (.ireturn, 1) := dk_172 (dk_at dksX0_usersWith_0 20 rfl rfl)
theorem dX0_usersWith_21 : decode cX0_usersWith 21 = .ok (.iconst 0, 1) := dk_3 (dk_at dksX0_usersWith_0 21 rfl rfl)
theorem dX0_usersWith_22 : decode cX0_usersWith 22 = .ok (.ireturn, 1) := dk_172 (dk_at dksX0_usersWith_0 22 rfl rfl)
abbrev cX0_rightsThrough : ByteArray := method_50_code
def yX0_rightsThrough : MethodName := ⟨RX0, "rightsThrough", "(LPermissionDesk;II[J)I"⟩
def dkwX0_rightsThrough_0 : List UInt8 := [45, 3, 42, 27, 28, 182, 0, 167, 133, 80, 167, 0, 7, 58, 4, 4, 172, 3, 172]
abbrev dktX0_rightsThrough_0 : List UInt8 := dkwX0_rightsThrough_0 ++ []
theorem dksX0_rightsThrough_0 : cX0_rightsThrough.data.toList.drop 0 = dktX0_rightsThrough_0 := by decide +kernel
theorem dX0_rightsThrough_0 : decode cX0_rightsThrough 0 = .ok (.aload_n 3, 1) := dk_45 (dk_at dksX0_rightsThrough_0 0 rfl rfl)
theorem dX0_rightsThrough_1 : decode cX0_rightsThrough 1 = .ok (.iconst 0, 1) := dk_3 (dk_at dksX0_rightsThrough_0 1 rfl rfl)
theorem dX0_rightsThrough_2 : decode cX0_rightsThrough 2 = .ok (.aload_n 0, 1) := dk_42 (dk_at dksX0_rightsThrough_0 2 rfl rfl)
theorem dX0_rightsThrough_3 : decode cX0_rightsThrough 3 = .ok (.iload_n 1, 1) := dk_27 (dk_at dksX0_rightsThrough_0 3 rfl rfl)
theorem dX0_rightsThrough_4 : decode cX0_rightsThrough 4 = .ok (.iload_n 2, 1) := dk_28 (dk_at dksX0_rightsThrough_0 4 rfl rfl)
theorem dX0_rightsThrough_5 : decode cX0_rightsThrough 5 = .ok (.invokevirtual 167, 3) := dk_182 0 167 (dk_at dksX0_rightsThrough_0 5 rfl rfl)
theorem dX0_rightsThrough_8 : decode cX0_rightsThrough 8 = .ok (.i2l, 1) := dk_133 (dk_at dksX0_rightsThrough_0 8 rfl rfl)
theorem dX0_rightsThrough_9 : decode cX0_rightsThrough 9 = .ok (.lastore, 1) := dk_80 (dk_at dksX0_rightsThrough_0 9 rfl rfl)
theorem dX0_rightsThrough_10 : decode cX0_rightsThrough 10 = .ok (.goto 7, 3) := dk_167 0 7 (dk_at dksX0_rightsThrough_0 10 rfl rfl)
theorem dX0_rightsThrough_13 : decode cX0_rightsThrough 13 = .ok (.astore 4, 2) := dk_58 4 (dk_at dksX0_rightsThrough_0 13 rfl rfl)
theorem dX0_rightsThrough_15 : decode cX0_rightsThrough 15 = .ok (.iconst 1, 1) := dk_4 (dk_at dksX0_rightsThrough_0 15 rfl rfl)
theorem dX0_rightsThrough_16 : decode cX0_rightsThrough 16 = .ok (.ireturn, 1) := dk_172 (dk_at dksX0_rightsThrough_0 16 rfl rfl)
theorem dX0_rightsThrough_17 : decode cX0_rightsThrough 17 = .ok (.iconst 0, 1) := dk_3 (dk_at dksX0_rightsThrough_0 17 rfl rfl)
theorem dX0_rightsThrough_18 : decode cX0_rightsThrough 18 = .ok (.ireturn, 1) := dk_172 (dk_at dksX0_rightsThrough_0 18 rfl rfl)
abbrev cX0_isNeedless : ByteArray := method_51_code
def yX0_isNeedless : MethodName := ⟨RX0, "isNeedless", "(LPermissionDesk;II[J)I"⟩
def dkwX0_isNeedless_1 : List UInt8 := [3, 172]
abbrev dktX0_isNeedless_1 : List UInt8 := dkwX0_isNeedless_1 ++ []
def dkwX0_isNeedless_0 : List UInt8 := [45, 3, 42, 27, 28, 182, 0, 170, 153, 0, 7, 10, 167, 0, 4, 9, 80, 167, 0, 7, 58, 4, 4, 172]
abbrev dktX0_isNeedless_0 : List UInt8 := dkwX0_isNeedless_0 ++ dktX0_isNeedless_1
theorem dksX0_isNeedless_0 : cX0_isNeedless.data.toList.drop 0 = dktX0_isNeedless_0 := by decide +kernel
theorem dksX0_isNeedless_1 : cX0_isNeedless.data.toList.drop 24 = dktX0_isNeedless_1 := dk_seg dksX0_isNeedless_0 24 rfl rfl
theorem dX0_isNeedless_0 : decode cX0_isNeedless 0 = .ok (.aload_n 3, 1) := dk_45 (dk_at dksX0_isNeedless_0 0 rfl rfl)
theorem dX0_isNeedless_1 : decode cX0_isNeedless 1 = .ok (.iconst 0, 1) := dk_3 (dk_at dksX0_isNeedless_0 1 rfl rfl)
theorem dX0_isNeedless_2 : decode cX0_isNeedless 2 = .ok (.aload_n 0, 1) := dk_42 (dk_at dksX0_isNeedless_0 2 rfl rfl)
theorem dX0_isNeedless_3 : decode cX0_isNeedless 3 = .ok (.iload_n 1, 1) := dk_27 (dk_at dksX0_isNeedless_0 3 rfl rfl)
theorem dX0_isNeedless_4 : decode cX0_isNeedless 4 = .ok (.iload_n 2, 1) := dk_28 (dk_at dksX0_isNeedless_0 4 rfl rfl)
theorem dX0_isNeedless_5 : decode cX0_isNeedless 5 = .ok (.invokevirtual 170, 3) := dk_182 0 170 (dk_at dksX0_isNeedless_0 5 rfl rfl)
theorem dX0_isNeedless_8 : decode cX0_isNeedless 8 = .ok (.ifCond .eq 7, 3) := dk_153 0 7 (dk_at dksX0_isNeedless_0 8 rfl rfl)
theorem dX0_isNeedless_11 : decode cX0_isNeedless 11 = .ok (.lconst 1, 1) := dk_10 (dk_at dksX0_isNeedless_0 11 rfl rfl)
theorem dX0_isNeedless_12 : decode cX0_isNeedless 12 = .ok (.goto 4, 3) := dk_167 0 4 (dk_at dksX0_isNeedless_0 12 rfl rfl)
theorem dX0_isNeedless_15 : decode cX0_isNeedless 15 = .ok (.lconst 0, 1) := dk_9 (dk_at dksX0_isNeedless_0 15 rfl rfl)
theorem dX0_isNeedless_16 : decode cX0_isNeedless 16 = .ok (.lastore, 1) := dk_80 (dk_at dksX0_isNeedless_0 16 rfl rfl)
theorem dX0_isNeedless_17 : decode cX0_isNeedless 17 = .ok (.goto 7, 3) := dk_167 0 7 (dk_at dksX0_isNeedless_0 17 rfl rfl)
theorem dX0_isNeedless_20 : decode cX0_isNeedless 20 = .ok (.astore 4, 2) := dk_58 4 (dk_at dksX0_isNeedless_0 20 rfl rfl)
theorem dX0_isNeedless_22 : decode cX0_isNeedless 22 = .ok (.iconst 1, 1) := dk_4 (dk_at dksX0_isNeedless_0 22 rfl rfl)
theorem dX0_isNeedless_23 : decode cX0_isNeedless 23 = .ok (.ireturn, 1) := dk_172 (dk_at dksX0_isNeedless_0 23 rfl rfl)
theorem dX0_isNeedless_24 : decode cX0_isNeedless 24 = .ok (.iconst 0, 1) := dk_3 (dk_at dksX0_isNeedless_1 0 rfl rfl)
theorem dX0_isNeedless_25 : decode cX0_isNeedless 25 = .ok (.ireturn, 1) := dk_172 (dk_at dksX0_isNeedless_1 1 rfl rfl)
abbrev cX0_userOfRequest : ByteArray := method_52_code
def yX0_userOfRequest : MethodName := ⟨RX0, "userOfRequest", "(LPermissionDesk;I[J)I"⟩
def dkwX0_userOfRequest_0 : List UInt8 := [44, 3, 42, 27, 182, 0, 173, 133, 80, 167, 0, 6, 78, 4, 172, 3, 172]
abbrev dktX0_userOfRequest_0 : List UInt8 := dkwX0_userOfRequest_0 ++ []
theorem dksX0_userOfRequest_0 : cX0_userOfRequest.data.toList.drop 0 = dktX0_userOfRequest_0 := by decide +kernel
theorem dX0_userOfRequest_0 : decode cX0_userOfRequest 0 = .ok (.aload_n 2, 1) := dk_44 (dk_at dksX0_userOfRequest_0 0 rfl rfl)
theorem dX0_userOfRequest_1 : decode cX0_userOfRequest 1 = .ok (.iconst 0, 1) := dk_3 (dk_at dksX0_userOfRequest_0 1 rfl rfl)
theorem dX0_userOfRequest_2 : decode cX0_userOfRequest 2 = .ok (.aload_n 0, 1) := dk_42 (dk_at dksX0_userOfRequest_0 2 rfl rfl)
theorem dX0_userOfRequest_3 : decode cX0_userOfRequest 3 = .ok (.iload_n 1, 1) := dk_27 (dk_at dksX0_userOfRequest_0 3 rfl rfl)
theorem dX0_userOfRequest_4 : decode cX0_userOfRequest 4 = .ok (.invokevirtual 173, 3) := dk_182 0 173 (dk_at dksX0_userOfRequest_0 4 rfl rfl)
theorem dX0_userOfRequest_7 : decode cX0_userOfRequest 7 = .ok (.i2l, 1) := dk_133 (dk_at dksX0_userOfRequest_0 7 rfl rfl)
theorem dX0_userOfRequest_8 : decode cX0_userOfRequest 8 = .ok (.lastore, 1) := dk_80 (dk_at dksX0_userOfRequest_0 8 rfl rfl)
theorem dX0_userOfRequest_9 : decode cX0_userOfRequest 9 = .ok (.goto 6, 3) := dk_167 0 6 (dk_at dksX0_userOfRequest_0 9 rfl rfl)
theorem dX0_userOfRequest_12 : decode cX0_userOfRequest 12 = .ok (.astore_n 3, 1) := dk_78 (dk_at dksX0_userOfRequest_0 12 rfl rfl)
theorem dX0_userOfRequest_13 : decode cX0_userOfRequest 13 = .ok (.iconst 1, 1) := dk_4 (dk_at dksX0_userOfRequest_0 13 rfl rfl)
theorem dX0_userOfRequest_14 : decode cX0_userOfRequest 14 = .ok (.ireturn, 1) := dk_172 (dk_at dksX0_userOfRequest_0 14 rfl rfl)
theorem dX0_userOfRequest_15 : decode cX0_userOfRequest 15 = .ok (.iconst 0, 1) := dk_3 (dk_at dksX0_userOfRequest_0 15 rfl rfl)
theorem dX0_userOfRequest_16 : decode cX0_userOfRequest 16 = .ok (.ireturn, 1) := dk_172 (dk_at dksX0_userOfRequest_0 16 rfl rfl)
abbrev cX0_objectOfRequest : ByteArray := method_53_code
def yX0_objectOfRequest : MethodName := ⟨RX0, "objectOfRequest", "(LPermissionDesk;I[J)I"⟩
def dkwX0_objectOfRequest_0 : List UInt8 := [44, 3, 42, 27, 182, 0, 176, 133, 80, 167, 0, 6, 78, 4, 172, 3, 172]
abbrev dktX0_objectOfRequest_0 : List UInt8 := dkwX0_objectOfRequest_0 ++ []
theorem dksX0_objectOfRequest_0 : cX0_objectOfRequest.data.toList.drop 0 = dktX0_objectOfRequest_0 := by decide +kernel
theorem dX0_objectOfRequest_0 : decode cX0_objectOfRequest 0 = .ok (.aload_n 2, 1) := dk_44 (dk_at dksX0_objectOfRequest_0 0 rfl rfl)
theorem dX0_objectOfRequest_1 : decode cX0_objectOfRequest 1 = .ok (.iconst 0, 1) := dk_3 (dk_at dksX0_objectOfRequest_0 1 rfl rfl)
theorem dX0_objectOfRequest_2 : decode cX0_objectOfRequest 2 = .ok (.aload_n 0, 1) := dk_42 (dk_at dksX0_objectOfRequest_0 2 rfl rfl)
theorem dX0_objectOfRequest_3 : decode cX0_objectOfRequest 3 = .ok (.iload_n 1, 1) := dk_27 (dk_at dksX0_objectOfRequest_0 3 rfl rfl)
theorem dX0_objectOfRequest_4 : decode cX0_objectOfRequest 4 = .ok (.invokevirtual 176, 3) := dk_182 0 176 (dk_at dksX0_objectOfRequest_0 4 rfl rfl)
theorem dX0_objectOfRequest_7 : decode cX0_objectOfRequest 7 = .ok (.i2l, 1) := dk_133 (dk_at dksX0_objectOfRequest_0 7 rfl rfl)
theorem dX0_objectOfRequest_8 : decode cX0_objectOfRequest 8 = .ok (.lastore, 1) := dk_80 (dk_at dksX0_objectOfRequest_0 8 rfl rfl)
theorem dX0_objectOfRequest_9 : decode cX0_objectOfRequest 9 = .ok (.goto 6, 3) := dk_167 0 6 (dk_at dksX0_objectOfRequest_0 9 rfl rfl)
theorem dX0_objectOfRequest_12 : decode cX0_objectOfRequest 12 = .ok (.astore_n 3, 1) := dk_78 (dk_at dksX0_objectOfRequest_0 12 rfl rfl)
theorem dX0_objectOfRequest_13 : decode cX0_objectOfRequest 13 = .ok (.iconst 1, 1) := dk_4 (dk_at dksX0_objectOfRequest_0 13 rfl rfl)
theorem dX0_objectOfRequest_14 : decode cX0_objectOfRequest 14 = .ok (.ireturn, 1) := dk_172 (dk_at dksX0_objectOfRequest_0 14 rfl rfl)
theorem dX0_objectOfRequest_15 : decode cX0_objectOfRequest 15 = .ok (.iconst 0, 1) := dk_3 (dk_at dksX0_objectOfRequest_0 15 rfl rfl)
theorem dX0_objectOfRequest_16 : decode cX0_objectOfRequest 16 = .ok (.ireturn, 1) := dk_172 (dk_at dksX0_objectOfRequest_0 16 rfl rfl)
abbrev cX0_wasAllowed : ByteArray := method_54_code
def yX0_wasAllowed : MethodName := ⟨RX0, "wasAllowed", "(LPermissionDesk;I[J)I"⟩
def dkwX0_wasAllowed_0 : List UInt8 := [44, 3, 42, 27, 182, 0, 179, 153, 0, 7, 10, 167, 0, 4, 9, 80, 167, 0, 6, 78, 4, 172, 3, 172]
abbrev dktX0_wasAllowed_0 : List UInt8 := dkwX0_wasAllowed_0 ++ []
theorem dksX0_wasAllowed_0 : cX0_wasAllowed.data.toList.drop 0 = dktX0_wasAllowed_0 := by decide +kernel
theorem dX0_wasAllowed_0 : decode cX0_wasAllowed 0 = .ok (.aload_n 2, 1) := dk_44 (dk_at dksX0_wasAllowed_0 0 rfl rfl)
theorem dX0_wasAllowed_1 : decode cX0_wasAllowed 1 = .ok (.iconst 0, 1) := dk_3 (dk_at dksX0_wasAllowed_0 1 rfl rfl)
theorem dX0_wasAllowed_2 : decode cX0_wasAllowed 2 = .ok (.aload_n 0, 1) := dk_42 (dk_at dksX0_wasAllowed_0 2 rfl rfl)
theorem dX0_wasAllowed_3 : decode cX0_wasAllowed 3 = .ok (.iload_n 1, 1) := dk_27 (dk_at dksX0_wasAllowed_0 3 rfl rfl)
theorem dX0_wasAllowed_4 : decode cX0_wasAllowed 4 = .ok (.invokevirtual 179, 3) := dk_182 0 179 (dk_at dksX0_wasAllowed_0 4 rfl rfl)
theorem dX0_wasAllowed_7 : decode cX0_wasAllowed 7 = .ok (.ifCond .eq 7, 3) := dk_153 0 7 (dk_at dksX0_wasAllowed_0 7 rfl rfl)
theorem dX0_wasAllowed_10 : decode cX0_wasAllowed 10 = .ok (.lconst 1, 1) := dk_10 (dk_at dksX0_wasAllowed_0 10 rfl rfl)
theorem dX0_wasAllowed_11 : decode cX0_wasAllowed 11 = .ok (.goto 4, 3) := dk_167 0 4 (dk_at dksX0_wasAllowed_0 11 rfl rfl)
theorem dX0_wasAllowed_14 : decode cX0_wasAllowed 14 = .ok (.lconst 0, 1) := dk_9 (dk_at dksX0_wasAllowed_0 14 rfl rfl)
theorem dX0_wasAllowed_15 : decode cX0_wasAllowed 15 = .ok (.lastore, 1) := dk_80 (dk_at dksX0_wasAllowed_0 15 rfl rfl)
theorem dX0_wasAllowed_16 : decode cX0_wasAllowed 16 = .ok (.goto 6, 3) := dk_167 0 6 (dk_at dksX0_wasAllowed_0 16 rfl rfl)
theorem dX0_wasAllowed_19 : decode cX0_wasAllowed 19 = .ok (.astore_n 3, 1) := dk_78 (dk_at dksX0_wasAllowed_0 19 rfl rfl)
theorem dX0_wasAllowed_20 : decode cX0_wasAllowed 20 = .ok (.iconst 1, 1) := dk_4 (dk_at dksX0_wasAllowed_0 20 rfl rfl)
theorem dX0_wasAllowed_21 : decode cX0_wasAllowed 21 = .ok (.ireturn, 1) := dk_172 (dk_at dksX0_wasAllowed_0 21 rfl rfl)
theorem dX0_wasAllowed_22 : decode cX0_wasAllowed 22 = .ok (.iconst 0, 1) := dk_3 (dk_at dksX0_wasAllowed_0 22 rfl rfl)
theorem dX0_wasAllowed_23 : decode cX0_wasAllowed 23 = .ok (.ireturn, 1) := dk_172 (dk_at dksX0_wasAllowed_0 23 rfl rfl)
abbrev cX0_undo : ByteArray := method_55_code
def yX0_undo : MethodName := ⟨RX0, "undo", "(LPermissionDesk;[J)I"⟩
def dkwX0_undo_0 : List UInt8 := [43, 3, 42, 182, 0, 182, 133, 80, 167, 0, 6, 77, 4, 172, 3, 172]
abbrev dktX0_undo_0 : List UInt8 := dkwX0_undo_0 ++ []
theorem dksX0_undo_0 : cX0_undo.data.toList.drop 0 = dktX0_undo_0 := by decide +kernel
theorem dX0_undo_0 : decode cX0_undo 0 = .ok (.aload_n 1, 1) := dk_43 (dk_at dksX0_undo_0 0 rfl rfl)
theorem dX0_undo_1 : decode cX0_undo 1 = .ok (.iconst 0, 1) := dk_3 (dk_at dksX0_undo_0 1 rfl rfl)
theorem dX0_undo_2 : decode cX0_undo 2 = .ok (.aload_n 0, 1) := dk_42 (dk_at dksX0_undo_0 2 rfl rfl)
theorem dX0_undo_3 : decode cX0_undo 3 = .ok (.invokevirtual 182, 3) := dk_182 0 182 (dk_at dksX0_undo_0 3 rfl rfl)
theorem dX0_undo_6 : decode cX0_undo 6 = .ok (.i2l, 1) := dk_133 (dk_at dksX0_undo_0 6 rfl rfl)
theorem dX0_undo_7 : decode cX0_undo 7 = .ok (.lastore, 1) := dk_80 (dk_at dksX0_undo_0 7 rfl rfl)
theorem dX0_undo_8 : decode cX0_undo 8 = .ok (.goto 6, 3) := dk_167 0 6 (dk_at dksX0_undo_0 8 rfl rfl)
theorem dX0_undo_11 : decode cX0_undo 11 = .ok (.astore_n 2, 1) := dk_77 (dk_at dksX0_undo_0 11 rfl rfl)
theorem dX0_undo_12 : decode cX0_undo 12 = .ok (.iconst 1, 1) := dk_4 (dk_at dksX0_undo_0 12 rfl rfl)
theorem dX0_undo_13 : decode cX0_undo 13 = .ok (.ireturn, 1) := dk_172 (dk_at dksX0_undo_0 13 rfl rfl)
theorem dX0_undo_14 : decode cX0_undo 14 = .ok (.iconst 0, 1) := dk_3 (dk_at dksX0_undo_0 14 rfl rfl)
theorem dX0_undo_15 : decode cX0_undo 15 = .ok (.ireturn, 1) := dk_172 (dk_at dksX0_undo_0 15 rfl rfl)
abbrev cX0_save : ByteArray := method_56_code
def yX0_save : MethodName := ⟨RX0, "save", "(LPermissionDesk;I[J)I"⟩
def dkwX0_save_0 : List UInt8 := [44, 3, 42, 27, 182, 0, 185, 133, 80, 167, 0, 6, 78, 4, 172, 3, 172]
abbrev dktX0_save_0 : List UInt8 := dkwX0_save_0 ++ []
theorem dksX0_save_0 : cX0_save.data.toList.drop 0 = dktX0_save_0 := by decide +kernel
theorem dX0_save_0 : decode cX0_save 0 = .ok (.aload_n 2, 1) := dk_44 (dk_at dksX0_save_0 0 rfl rfl)
theorem dX0_save_1 : decode cX0_save 1 = .ok (.iconst 0, 1) := dk_3 (dk_at dksX0_save_0 1 rfl rfl)
theorem dX0_save_2 : decode cX0_save 2 = .ok (.aload_n 0, 1) := dk_42 (dk_at dksX0_save_0 2 rfl rfl)
theorem dX0_save_3 : decode cX0_save 3 = .ok (.iload_n 1, 1) := dk_27 (dk_at dksX0_save_0 3 rfl rfl)
theorem dX0_save_4 : decode cX0_save 4 = .ok (.invokevirtual 185, 3) := dk_182 0 185 (dk_at dksX0_save_0 4 rfl rfl)
theorem dX0_save_7 : decode cX0_save 7 = .ok (.i2l, 1) := dk_133 (dk_at dksX0_save_0 7 rfl rfl)
theorem dX0_save_8 : decode cX0_save 8 = .ok (.lastore, 1) := dk_80 (dk_at dksX0_save_0 8 rfl rfl)
theorem dX0_save_9 : decode cX0_save 9 = .ok (.goto 6, 3) := dk_167 0 6 (dk_at dksX0_save_0 9 rfl rfl)
theorem dX0_save_12 : decode cX0_save 12 = .ok (.astore_n 3, 1) := dk_78 (dk_at dksX0_save_0 12 rfl rfl)
theorem dX0_save_13 : decode cX0_save 13 = .ok (.iconst 1, 1) := dk_4 (dk_at dksX0_save_0 13 rfl rfl)
theorem dX0_save_14 : decode cX0_save 14 = .ok (.ireturn, 1) := dk_172 (dk_at dksX0_save_0 14 rfl rfl)
theorem dX0_save_15 : decode cX0_save 15 = .ok (.iconst 0, 1) := dk_3 (dk_at dksX0_save_0 15 rfl rfl)
theorem dX0_save_16 : decode cX0_save 16 = .ok (.ireturn, 1) := dk_172 (dk_at dksX0_save_0 16 rfl rfl)
abbrev cX0_restore : ByteArray := method_57_code
def yX0_restore : MethodName := ⟨RX0, "restore", "(LPermissionDesk;I[J)I"⟩
def dkwX0_restore_0 : List UInt8 := [44, 3, 42, 27, 182, 0, 188, 133, 80, 167, 0, 9, 78, 4, 172, 78, 5, 172, 3, 172]
abbrev dktX0_restore_0 : List UInt8 := dkwX0_restore_0 ++ []
theorem dksX0_restore_0 : cX0_restore.data.toList.drop 0 = dktX0_restore_0 := by decide +kernel
theorem dX0_restore_0 : decode cX0_restore 0 = .ok (.aload_n 2, 1) := dk_44 (dk_at dksX0_restore_0 0 rfl rfl)
theorem dX0_restore_1 : decode cX0_restore 1 = .ok (.iconst 0, 1) := dk_3 (dk_at dksX0_restore_0 1 rfl rfl)
theorem dX0_restore_2 : decode cX0_restore 2 = .ok (.aload_n 0, 1) := dk_42 (dk_at dksX0_restore_0 2 rfl rfl)
theorem dX0_restore_3 : decode cX0_restore 3 = .ok (.iload_n 1, 1) := dk_27 (dk_at dksX0_restore_0 3 rfl rfl)
theorem dX0_restore_4 : decode cX0_restore 4 = .ok (.invokevirtual 188, 3) := dk_182 0 188 (dk_at dksX0_restore_0 4 rfl rfl)
theorem dX0_restore_7 : decode cX0_restore 7 = .ok (.i2l, 1) := dk_133 (dk_at dksX0_restore_0 7 rfl rfl)
theorem dX0_restore_8 : decode cX0_restore 8 = .ok (.lastore, 1) := dk_80 (dk_at dksX0_restore_0 8 rfl rfl)
theorem dX0_restore_9 : decode cX0_restore 9 = .ok (.goto 9, 3) := dk_167 0 9 (dk_at dksX0_restore_0 9 rfl rfl)
theorem dX0_restore_12 : decode cX0_restore 12 = .ok (.astore_n 3, 1) := dk_78 (dk_at dksX0_restore_0 12 rfl rfl)
theorem dX0_restore_13 : decode cX0_restore 13 = .ok (.iconst 1, 1) := dk_4 (dk_at dksX0_restore_0 13 rfl rfl)
theorem dX0_restore_14 : decode cX0_restore 14 = .ok (.ireturn, 1) := dk_172 (dk_at dksX0_restore_0 14 rfl rfl)
theorem dX0_restore_15 : decode cX0_restore 15 = .ok (.astore_n 3, 1) := dk_78 (dk_at dksX0_restore_0 15 rfl rfl)
theorem dX0_restore_16 : decode cX0_restore 16 = .ok (.iconst 2, 1) := dk_5 (dk_at dksX0_restore_0 16 rfl rfl)
theorem dX0_restore_17 : decode cX0_restore 17 = .ok (.ireturn, 1) := dk_172 (dk_at dksX0_restore_0 17 rfl rfl)
theorem dX0_restore_18 : decode cX0_restore 18 = .ok (.iconst 0, 1) := dk_3 (dk_at dksX0_restore_0 18 rfl rfl)
theorem dX0_restore_19 : decode cX0_restore 19 = .ok (.ireturn, 1) := dk_172 (dk_at dksX0_restore_0 19 rfl rfl)
theorem q80 : (Jvm.Cond.initialized "PermissionDeskLaw") ∈ lw_all := lw_g (lw_at lw_m1 0 rfl) rfl
theorem q121 : (Jvm.Cond.classLink "PermissionDeskLaw" (8 : Nat) "PermissionDesk") ∈ lw_all := lw_g (lw_at lw_m1 41 rfl) rfl
theorem q123 : (Jvm.Cond.methodLink "PermissionDeskLaw" (191 : Nat) ({ cls := "PermissionDesk", name := "<init>", desc := "()V" } : Jvm.MethodName)) ∈ lw_all := lw_g (lw_at lw_m1 43 rfl) rfl
theorem q308 : (Jvm.Cond.methodLink "PermissionDeskLaw" (271 : Nat) ({ cls := "PermissionDesk", name := "clear", desc := "()I" } : Jvm.MethodName)) ∈ lw_all := lw_g (lw_at lw_m1 228 rfl) rfl
theorem q661 : (Jvm.Cond.methodLink "PermissionDeskLaw" (275 : Nat) ({ cls := "PermissionDesk", name := "fault", desc := "()I" } : Jvm.MethodName)) ∈ lw_all := lw_g (lw_at lw_m3 101 rfl) rfl
theorem q895 : (Jvm.Cond.methodLink "PermissionDeskLaw" (288 : Nat) ({ cls := "PermissionDesk", name := "users", desc := "()I" } : Jvm.MethodName)) ∈ lw_all := lw_g (lw_at lw_m4 95 rfl) rfl
theorem q899 : (Jvm.Cond.methodLink "PermissionDeskLaw" (292 : Nat) ({ cls := "PermissionDesk", name := "groups", desc := "()I" } : Jvm.MethodName)) ∈ lw_all := lw_g (lw_at lw_m4 99 rfl) rfl
theorem q904 : (Jvm.Cond.methodLink "PermissionDeskLaw" (308 : Nat) ({ cls := "PermissionDesk", name := "objects", desc := "()I" } : Jvm.MethodName)) ∈ lw_all := lw_g (lw_at lw_m4 104 rfl) rfl
theorem q917 : (Jvm.Cond.methodLink "PermissionDeskLaw" (312 : Nat) ({ cls := "PermissionDesk", name := "isThere", desc := "(I)Z" } : Jvm.MethodName)) ∈ lw_all := lw_g (lw_at lw_m4 117 rfl) rfl
theorem q922 : (Jvm.Cond.methodLink "PermissionDeskLaw" (379 : Nat) ({ cls := "PermissionDesk", name := "allRights", desc := "()I" } : Jvm.MethodName)) ∈ lw_all := lw_g (lw_at lw_m4 122 rfl) rfl
theorem q975 : (Jvm.Cond.methodLink "PermissionDeskLaw" (383 : Nat) ({ cls := "PermissionDesk", name := "openness", desc := "()D" } : Jvm.MethodName)) ∈ lw_all := lw_g (lw_at lw_m4 175 rfl) rfl
theorem q979 : (Jvm.Cond.methodLink "PermissionDeskLaw" (388 : Nat) ({ cls := "PermissionDesk", name := "requests", desc := "()I" } : Jvm.MethodName)) ∈ lw_all := lw_g (lw_at lw_m4 179 rfl) rfl
theorem q983 : (Jvm.Cond.methodLink "PermissionDeskLaw" (392 : Nat) ({ cls := "PermissionDesk", name := "refusals", desc := "()I" } : Jvm.MethodName)) ∈ lw_all := lw_g (lw_at lw_m4 183 rfl) rfl
theorem q987 : (Jvm.Cond.methodLink "PermissionDeskLaw" (195 : Nat) ({ cls := "PermissionDeskLaw", name := "addUser", desc := "(LPermissionDesk;[J)I" } : Jvm.MethodName)) ∈ lw_all := lw_g (lw_at lw_m4 187 rfl) rfl
theorem q988 : (Jvm.Cond.static ({ cls := "PermissionDeskLaw", name := "addUser", desc := "(LPermissionDesk;[J)I" } : Jvm.MethodName)) ∈ lw_all := lw_g (lw_at lw_m4 188 rfl) rfl
theorem q989 : (Jvm.Cond.codeWith ({ cls := "PermissionDeskLaw", name := "addUser", desc := "(LPermissionDesk;[J)I" } : Jvm.MethodName) method_3_code (3 : Nat) (Option.some Jvm.ClassFile.FieldType.int) [((0 : Nat), (8 : Nat), (11 : Nat), (13 : Nat))]) ∈ lw_all := lw_g (lw_at lw_m4 189 rfl) rfl
theorem q990 : (Jvm.Cond.classLink "PermissionDeskLaw" (13 : Nat) "java/lang/IllegalStateException") ∈ lw_all := lw_g (lw_at lw_m4 190 rfl) rfl
theorem q991 : (Jvm.Cond.methodLink "PermissionDeskLaw" (7 : Nat) ({ cls := "PermissionDesk", name := "addUser", desc := "()I" } : Jvm.MethodName)) ∈ lw_all := lw_g (lw_at lw_m4 191 rfl) rfl
theorem q1203 : (Jvm.Cond.methodLink "PermissionDeskLaw" (204 : Nat) ({ cls := "PermissionDeskLaw", name := "addGroup", desc := "(LPermissionDesk;[J)I" } : Jvm.MethodName)) ∈ lw_all := lw_g (lw_at lw_m5 163 rfl) rfl
theorem q1204 : (Jvm.Cond.static ({ cls := "PermissionDeskLaw", name := "addGroup", desc := "(LPermissionDesk;[J)I" } : Jvm.MethodName)) ∈ lw_all := lw_g (lw_at lw_m5 164 rfl) rfl
theorem q1205 : (Jvm.Cond.codeWith ({ cls := "PermissionDeskLaw", name := "addGroup", desc := "(LPermissionDesk;[J)I" } : Jvm.MethodName) method_4_code (3 : Nat) (Option.some Jvm.ClassFile.FieldType.int) [((0 : Nat), (8 : Nat), (11 : Nat), (13 : Nat))]) ∈ lw_all := lw_g (lw_at lw_m5 165 rfl) rfl
theorem q1206 : (Jvm.Cond.methodLink "PermissionDeskLaw" (15 : Nat) ({ cls := "PermissionDesk", name := "addGroup", desc := "()I" } : Jvm.MethodName)) ∈ lw_all := lw_g (lw_at lw_m5 166 rfl) rfl
theorem q1213 : (Jvm.Cond.methodLink "PermissionDeskLaw" (207 : Nat) ({ cls := "PermissionDeskLaw", name := "join", desc := "(LPermissionDesk;II[J)I" } : Jvm.MethodName)) ∈ lw_all := lw_g (lw_at lw_m5 173 rfl) rfl
theorem q1214 : (Jvm.Cond.static ({ cls := "PermissionDeskLaw", name := "join", desc := "(LPermissionDesk;II[J)I" } : Jvm.MethodName)) ∈ lw_all := lw_g (lw_at lw_m5 174 rfl) rfl
theorem q1215 : (Jvm.Cond.codeWith ({ cls := "PermissionDeskLaw", name := "join", desc := "(LPermissionDesk;II[J)I" } : Jvm.MethodName) method_5_code (5 : Nat) (Option.some Jvm.ClassFile.FieldType.int) [((0 : Nat), (10 : Nat), (13 : Nat), (22 : Nat)), ((0 : Nat), (10 : Nat), (17 : Nat), (13 : Nat))]) ∈ lw_all := lw_g (lw_at lw_m5 175 rfl) rfl
theorem q1216 : (Jvm.Cond.classLink "PermissionDeskLaw" (22 : Nat) "java/lang/IndexOutOfBoundsException") ∈ lw_all := lw_g (lw_at lw_m5 176 rfl) rfl
theorem q1219 : (Jvm.Cond.methodLink "PermissionDeskLaw" (18 : Nat) ({ cls := "PermissionDesk", name := "join", desc := "(II)I" } : Jvm.MethodName)) ∈ lw_all := lw_g (lw_at lw_m5 179 rfl) rfl
theorem q1249 : (Jvm.Cond.methodLink "PermissionDeskLaw" (211 : Nat) ({ cls := "PermissionDeskLaw", name := "leave", desc := "(LPermissionDesk;II[J)I" } : Jvm.MethodName)) ∈ lw_all := lw_g (lw_at lw_m5 209 rfl) rfl
theorem q1250 : (Jvm.Cond.static ({ cls := "PermissionDeskLaw", name := "leave", desc := "(LPermissionDesk;II[J)I" } : Jvm.MethodName)) ∈ lw_all := lw_g (lw_at lw_m5 210 rfl) rfl
theorem q1251 : (Jvm.Cond.codeWith ({ cls := "PermissionDeskLaw", name := "leave", desc := "(LPermissionDesk;II[J)I" } : Jvm.MethodName) method_6_code (5 : Nat) (Option.some Jvm.ClassFile.FieldType.int) [((0 : Nat), (10 : Nat), (13 : Nat), (22 : Nat)), ((0 : Nat), (10 : Nat), (17 : Nat), (13 : Nat))]) ∈ lw_all := lw_g (lw_at lw_m5 211 rfl) rfl
theorem q1252 : (Jvm.Cond.methodLink "PermissionDeskLaw" (24 : Nat) ({ cls := "PermissionDesk", name := "leave", desc := "(II)I" } : Jvm.MethodName)) ∈ lw_all := lw_g (lw_at lw_m5 212 rfl) rfl
theorem q1260 : (Jvm.Cond.methodLink "PermissionDeskLaw" (214 : Nat) ({ cls := "PermissionDeskLaw", name := "nest", desc := "(LPermissionDesk;II[J)I" } : Jvm.MethodName)) ∈ lw_all := lw_g (lw_at lw_m5 220 rfl) rfl
theorem q1261 : (Jvm.Cond.static ({ cls := "PermissionDeskLaw", name := "nest", desc := "(LPermissionDesk;II[J)I" } : Jvm.MethodName)) ∈ lw_all := lw_g (lw_at lw_m5 221 rfl) rfl
theorem q1262 : (Jvm.Cond.codeWith ({ cls := "PermissionDeskLaw", name := "nest", desc := "(LPermissionDesk;II[J)I" } : Jvm.MethodName) method_7_code (5 : Nat) (Option.some Jvm.ClassFile.FieldType.int) [((0 : Nat), (10 : Nat), (13 : Nat), (22 : Nat)), ((0 : Nat), (10 : Nat), (17 : Nat), (13 : Nat))]) ∈ lw_all := lw_g (lw_at lw_m5 222 rfl) rfl
theorem q1263 : (Jvm.Cond.methodLink "PermissionDeskLaw" (27 : Nat) ({ cls := "PermissionDesk", name := "nest", desc := "(II)I" } : Jvm.MethodName)) ∈ lw_all := lw_g (lw_at lw_m5 223 rfl) rfl
theorem q1275 : (Jvm.Cond.methodLink "PermissionDeskLaw" (217 : Nat) ({ cls := "PermissionDeskLaw", name := "unnest", desc := "(LPermissionDesk;II[J)I" } : Jvm.MethodName)) ∈ lw_all := lw_g (lw_at lw_m5 235 rfl) rfl
theorem q1276 : (Jvm.Cond.static ({ cls := "PermissionDeskLaw", name := "unnest", desc := "(LPermissionDesk;II[J)I" } : Jvm.MethodName)) ∈ lw_all := lw_g (lw_at lw_m5 236 rfl) rfl
theorem q1277 : (Jvm.Cond.codeWith ({ cls := "PermissionDeskLaw", name := "unnest", desc := "(LPermissionDesk;II[J)I" } : Jvm.MethodName) method_8_code (5 : Nat) (Option.some Jvm.ClassFile.FieldType.int) [((0 : Nat), (10 : Nat), (13 : Nat), (22 : Nat)), ((0 : Nat), (10 : Nat), (17 : Nat), (13 : Nat))]) ∈ lw_all := lw_g (lw_at lw_m5 237 rfl) rfl
theorem q1278 : (Jvm.Cond.methodLink "PermissionDeskLaw" (30 : Nat) ({ cls := "PermissionDesk", name := "unnest", desc := "(II)I" } : Jvm.MethodName)) ∈ lw_all := lw_g (lw_at lw_m5 238 rfl) rfl
theorem q1286 : (Jvm.Cond.methodLink "PermissionDeskLaw" (220 : Nat) ({ cls := "PermissionDeskLaw", name := "make", desc := "(LPermissionDesk;II[J)I" } : Jvm.MethodName)) ∈ lw_all := lw_g (lw_at lw_m6 6 rfl) rfl
theorem q1287 : (Jvm.Cond.static ({ cls := "PermissionDeskLaw", name := "make", desc := "(LPermissionDesk;II[J)I" } : Jvm.MethodName)) ∈ lw_all := lw_g (lw_at lw_m6 7 rfl) rfl
theorem q1288 : (Jvm.Cond.codeWith ({ cls := "PermissionDeskLaw", name := "make", desc := "(LPermissionDesk;II[J)I" } : Jvm.MethodName) method_9_code (5 : Nat) (Option.some Jvm.ClassFile.FieldType.int) [((0 : Nat), (10 : Nat), (13 : Nat), (22 : Nat)), ((0 : Nat), (10 : Nat), (17 : Nat), (13 : Nat))]) ∈ lw_all := lw_g (lw_at lw_m6 8 rfl) rfl
theorem q1289 : (Jvm.Cond.methodLink "PermissionDeskLaw" (33 : Nat) ({ cls := "PermissionDesk", name := "make", desc := "(II)I" } : Jvm.MethodName)) ∈ lw_all := lw_g (lw_at lw_m6 9 rfl) rfl
theorem q1298 : (Jvm.Cond.methodLink "PermissionDeskLaw" (223 : Nat) ({ cls := "PermissionDeskLaw", name := "remove", desc := "(LPermissionDesk;I[J)I" } : Jvm.MethodName)) ∈ lw_all := lw_g (lw_at lw_m6 18 rfl) rfl
theorem q1299 : (Jvm.Cond.static ({ cls := "PermissionDeskLaw", name := "remove", desc := "(LPermissionDesk;I[J)I" } : Jvm.MethodName)) ∈ lw_all := lw_g (lw_at lw_m6 19 rfl) rfl
theorem q1300 : (Jvm.Cond.codeWith ({ cls := "PermissionDeskLaw", name := "remove", desc := "(LPermissionDesk;I[J)I" } : Jvm.MethodName) method_10_code (4 : Nat) (Option.some Jvm.ClassFile.FieldType.int) [((0 : Nat), (9 : Nat), (12 : Nat), (22 : Nat)), ((0 : Nat), (9 : Nat), (15 : Nat), (13 : Nat))]) ∈ lw_all := lw_g (lw_at lw_m6 20 rfl) rfl
theorem q1301 : (Jvm.Cond.methodLink "PermissionDeskLaw" (36 : Nat) ({ cls := "PermissionDesk", name := "remove", desc := "(I)I" } : Jvm.MethodName)) ∈ lw_all := lw_g (lw_at lw_m6 21 rfl) rfl
theorem q1318 : (Jvm.Cond.methodLink "PermissionDeskLaw" (227 : Nat) ({ cls := "PermissionDeskLaw", name := "move", desc := "(LPermissionDesk;II[J)I" } : Jvm.MethodName)) ∈ lw_all := lw_g (lw_at lw_m6 38 rfl) rfl
theorem q1319 : (Jvm.Cond.static ({ cls := "PermissionDeskLaw", name := "move", desc := "(LPermissionDesk;II[J)I" } : Jvm.MethodName)) ∈ lw_all := lw_g (lw_at lw_m6 39 rfl) rfl
theorem q1320 : (Jvm.Cond.codeWith ({ cls := "PermissionDeskLaw", name := "move", desc := "(LPermissionDesk;II[J)I" } : Jvm.MethodName) method_11_code (5 : Nat) (Option.some Jvm.ClassFile.FieldType.int) [((0 : Nat), (10 : Nat), (13 : Nat), (22 : Nat)), ((0 : Nat), (10 : Nat), (17 : Nat), (13 : Nat))]) ∈ lw_all := lw_g (lw_at lw_m6 40 rfl) rfl
theorem q1321 : (Jvm.Cond.methodLink "PermissionDeskLaw" (40 : Nat) ({ cls := "PermissionDesk", name := "move", desc := "(II)I" } : Jvm.MethodName)) ∈ lw_all := lw_g (lw_at lw_m6 41 rfl) rfl
theorem q1329 : (Jvm.Cond.methodLink "PermissionDeskLaw" (230 : Nat) ({ cls := "PermissionDeskLaw", name := "giveTo", desc := "(LPermissionDesk;II[J)I" } : Jvm.MethodName)) ∈ lw_all := lw_g (lw_at lw_m6 49 rfl) rfl
theorem q1330 : (Jvm.Cond.static ({ cls := "PermissionDeskLaw", name := "giveTo", desc := "(LPermissionDesk;II[J)I" } : Jvm.MethodName)) ∈ lw_all := lw_g (lw_at lw_m6 50 rfl) rfl
theorem q1331 : (Jvm.Cond.codeWith ({ cls := "PermissionDeskLaw", name := "giveTo", desc := "(LPermissionDesk;II[J)I" } : Jvm.MethodName) method_12_code (5 : Nat) (Option.some Jvm.ClassFile.FieldType.int) [((0 : Nat), (10 : Nat), (13 : Nat), (22 : Nat))]) ∈ lw_all := lw_g (lw_at lw_m6 51 rfl) rfl
theorem q1332 : (Jvm.Cond.methodLink "PermissionDeskLaw" (43 : Nat) ({ cls := "PermissionDesk", name := "giveTo", desc := "(II)I" } : Jvm.MethodName)) ∈ lw_all := lw_g (lw_at lw_m6 52 rfl) rfl
theorem q1336 : (Jvm.Cond.methodLink "PermissionDeskLaw" (233 : Nat) ({ cls := "PermissionDeskLaw", name := "setMask", desc := "(LPermissionDesk;II[J)I" } : Jvm.MethodName)) ∈ lw_all := lw_g (lw_at lw_m6 56 rfl) rfl
theorem q1337 : (Jvm.Cond.static ({ cls := "PermissionDeskLaw", name := "setMask", desc := "(LPermissionDesk;II[J)I" } : Jvm.MethodName)) ∈ lw_all := lw_g (lw_at lw_m6 57 rfl) rfl
theorem q1338 : (Jvm.Cond.codeWith ({ cls := "PermissionDeskLaw", name := "setMask", desc := "(LPermissionDesk;II[J)I" } : Jvm.MethodName) method_13_code (5 : Nat) (Option.some Jvm.ClassFile.FieldType.int) [((0 : Nat), (10 : Nat), (13 : Nat), (22 : Nat)), ((0 : Nat), (10 : Nat), (17 : Nat), (49 : Nat))]) ∈ lw_all := lw_g (lw_at lw_m6 58 rfl) rfl
theorem q1339 : (Jvm.Cond.classLink "PermissionDeskLaw" (49 : Nat) "java/lang/IllegalArgumentException") ∈ lw_all := lw_g (lw_at lw_m6 59 rfl) rfl
theorem q1340 : (Jvm.Cond.methodLink "PermissionDeskLaw" (46 : Nat) ({ cls := "PermissionDesk", name := "setMask", desc := "(II)I" } : Jvm.MethodName)) ∈ lw_all := lw_g (lw_at lw_m6 60 rfl) rfl
theorem q1357 : (Jvm.Cond.methodLink "PermissionDeskLaw" (236 : Nat) ({ cls := "PermissionDeskLaw", name := "setInheriting", desc := "(LPermissionDesk;IZ[J)I" } : Jvm.MethodName)) ∈ lw_all := lw_g (lw_at lw_m6 77 rfl) rfl
theorem q1358 : (Jvm.Cond.static ({ cls := "PermissionDeskLaw", name := "setInheriting", desc := "(LPermissionDesk;IZ[J)I" } : Jvm.MethodName)) ∈ lw_all := lw_g (lw_at lw_m6 78 rfl) rfl
theorem q1359 : (Jvm.Cond.codeWith ({ cls := "PermissionDeskLaw", name := "setInheriting", desc := "(LPermissionDesk;IZ[J)I" } : Jvm.MethodName) method_14_code (5 : Nat) (Option.some Jvm.ClassFile.FieldType.int) [((0 : Nat), (17 : Nat), (20 : Nat), (22 : Nat))]) ∈ lw_all := lw_g (lw_at lw_m6 79 rfl) rfl
theorem q1360 : (Jvm.Cond.methodLink "PermissionDeskLaw" (51 : Nat) ({ cls := "PermissionDesk", name := "setInheriting", desc := "(IZ)Z" } : Jvm.MethodName)) ∈ lw_all := lw_g (lw_at lw_m6 80 rfl) rfl
theorem q1364 : (Jvm.Cond.methodLink "PermissionDeskLaw" (240 : Nat) ({ cls := "PermissionDeskLaw", name := "addForUser", desc := "(LPermissionDesk;IIIZZ[J)I" } : Jvm.MethodName)) ∈ lw_all := lw_g (lw_at lw_m6 84 rfl) rfl
theorem q1365 : (Jvm.Cond.static ({ cls := "PermissionDeskLaw", name := "addForUser", desc := "(LPermissionDesk;IIIZZ[J)I" } : Jvm.MethodName)) ∈ lw_all := lw_g (lw_at lw_m6 85 rfl) rfl
theorem q1366 : (Jvm.Cond.codeWith ({ cls := "PermissionDeskLaw", name := "addForUser", desc := "(LPermissionDesk;IIIZZ[J)I" } : Jvm.MethodName) method_15_code (8 : Nat) (Option.some Jvm.ClassFile.FieldType.int) [((0 : Nat), (16 : Nat), (19 : Nat), (22 : Nat)), ((0 : Nat), (16 : Nat), (23 : Nat), (49 : Nat)), ((0 : Nat), (16 : Nat), (27 : Nat), (13 : Nat))]) ∈ lw_all := lw_g (lw_at lw_m6 86 rfl) rfl
theorem q1367 : (Jvm.Cond.methodLink "PermissionDeskLaw" (55 : Nat) ({ cls := "PermissionDesk", name := "addForUser", desc := "(IIIZZ)I" } : Jvm.MethodName)) ∈ lw_all := lw_g (lw_at lw_m6 87 rfl) rfl
theorem q1402 : (Jvm.Cond.methodLink "PermissionDeskLaw" (244 : Nat) ({ cls := "PermissionDeskLaw", name := "addForGroup", desc := "(LPermissionDesk;IIIZZ[J)I" } : Jvm.MethodName)) ∈ lw_all := lw_g (lw_at lw_m6 122 rfl) rfl
theorem q1403 : (Jvm.Cond.static ({ cls := "PermissionDeskLaw", name := "addForGroup", desc := "(LPermissionDesk;IIIZZ[J)I" } : Jvm.MethodName)) ∈ lw_all := lw_g (lw_at lw_m6 123 rfl) rfl
theorem q1404 : (Jvm.Cond.codeWith ({ cls := "PermissionDeskLaw", name := "addForGroup", desc := "(LPermissionDesk;IIIZZ[J)I" } : Jvm.MethodName) method_16_code (8 : Nat) (Option.some Jvm.ClassFile.FieldType.int) [((0 : Nat), (16 : Nat), (19 : Nat), (22 : Nat)), ((0 : Nat), (16 : Nat), (23 : Nat), (49 : Nat)), ((0 : Nat), (16 : Nat), (27 : Nat), (13 : Nat))]) ∈ lw_all := lw_g (lw_at lw_m6 124 rfl) rfl
theorem q1405 : (Jvm.Cond.methodLink "PermissionDeskLaw" (59 : Nat) ({ cls := "PermissionDesk", name := "addForGroup", desc := "(IIIZZ)I" } : Jvm.MethodName)) ∈ lw_all := lw_g (lw_at lw_m6 125 rfl) rfl
theorem q1409 : (Jvm.Cond.methodLink "PermissionDeskLaw" (247 : Nat) ({ cls := "PermissionDeskLaw", name := "addForOwner", desc := "(LPermissionDesk;IIZZ[J)I" } : Jvm.MethodName)) ∈ lw_all := lw_g (lw_at lw_m6 129 rfl) rfl
theorem q1410 : (Jvm.Cond.static ({ cls := "PermissionDeskLaw", name := "addForOwner", desc := "(LPermissionDesk;IIZZ[J)I" } : Jvm.MethodName)) ∈ lw_all := lw_g (lw_at lw_m6 130 rfl) rfl
theorem q1411 : (Jvm.Cond.codeWith ({ cls := "PermissionDeskLaw", name := "addForOwner", desc := "(LPermissionDesk;IIZZ[J)I" } : Jvm.MethodName) method_17_code (7 : Nat) (Option.some Jvm.ClassFile.FieldType.int) [((0 : Nat), (14 : Nat), (17 : Nat), (22 : Nat)), ((0 : Nat), (14 : Nat), (21 : Nat), (49 : Nat)), ((0 : Nat), (14 : Nat), (25 : Nat), (13 : Nat))]) ∈ lw_all := lw_g (lw_at lw_m6 131 rfl) rfl
theorem q1412 : (Jvm.Cond.methodLink "PermissionDeskLaw" (62 : Nat) ({ cls := "PermissionDesk", name := "addForOwner", desc := "(IIZZ)I" } : Jvm.MethodName)) ∈ lw_all := lw_g (lw_at lw_m6 132 rfl) rfl
theorem q1420 : (Jvm.Cond.methodLink "PermissionDeskLaw" (251 : Nat) ({ cls := "PermissionDeskLaw", name := "addForAll", desc := "(LPermissionDesk;IIZZ[J)I" } : Jvm.MethodName)) ∈ lw_all := lw_g (lw_at lw_m6 140 rfl) rfl
theorem q1421 : (Jvm.Cond.static ({ cls := "PermissionDeskLaw", name := "addForAll", desc := "(LPermissionDesk;IIZZ[J)I" } : Jvm.MethodName)) ∈ lw_all := lw_g (lw_at lw_m6 141 rfl) rfl
theorem q1422 : (Jvm.Cond.codeWith ({ cls := "PermissionDeskLaw", name := "addForAll", desc := "(LPermissionDesk;IIZZ[J)I" } : Jvm.MethodName) method_18_code (7 : Nat) (Option.some Jvm.ClassFile.FieldType.int) [((0 : Nat), (14 : Nat), (17 : Nat), (22 : Nat)), ((0 : Nat), (14 : Nat), (21 : Nat), (49 : Nat)), ((0 : Nat), (14 : Nat), (25 : Nat), (13 : Nat))]) ∈ lw_all := lw_g (lw_at lw_m6 142 rfl) rfl
theorem q1423 : (Jvm.Cond.methodLink "PermissionDeskLaw" (66 : Nat) ({ cls := "PermissionDesk", name := "addForAll", desc := "(IIZZ)I" } : Jvm.MethodName)) ∈ lw_all := lw_g (lw_at lw_m6 143 rfl) rfl
theorem q1427 : (Jvm.Cond.methodLink "PermissionDeskLaw" (254 : Nat) ({ cls := "PermissionDeskLaw", name := "removeEntry", desc := "(LPermissionDesk;II[J)I" } : Jvm.MethodName)) ∈ lw_all := lw_g (lw_at lw_m6 147 rfl) rfl
theorem q1428 : (Jvm.Cond.static ({ cls := "PermissionDeskLaw", name := "removeEntry", desc := "(LPermissionDesk;II[J)I" } : Jvm.MethodName)) ∈ lw_all := lw_g (lw_at lw_m6 148 rfl) rfl
theorem q1429 : (Jvm.Cond.codeWith ({ cls := "PermissionDeskLaw", name := "removeEntry", desc := "(LPermissionDesk;II[J)I" } : Jvm.MethodName) method_19_code (5 : Nat) (Option.some Jvm.ClassFile.FieldType.int) [((0 : Nat), (10 : Nat), (13 : Nat), (22 : Nat))]) ∈ lw_all := lw_g (lw_at lw_m6 149 rfl) rfl
theorem q1430 : (Jvm.Cond.methodLink "PermissionDeskLaw" (69 : Nat) ({ cls := "PermissionDesk", name := "removeEntry", desc := "(II)I" } : Jvm.MethodName)) ∈ lw_all := lw_g (lw_at lw_m6 150 rfl) rfl
theorem q1456 : (Jvm.Cond.methodLink "PermissionDeskLaw" (257 : Nat) ({ cls := "PermissionDeskLaw", name := "moveEntry", desc := "(LPermissionDesk;III[J)I" } : Jvm.MethodName)) ∈ lw_all := lw_g (lw_at lw_m6 176 rfl) rfl
theorem q1457 : (Jvm.Cond.static ({ cls := "PermissionDeskLaw", name := "moveEntry", desc := "(LPermissionDesk;III[J)I" } : Jvm.MethodName)) ∈ lw_all := lw_g (lw_at lw_m6 177 rfl) rfl
theorem q1458 : (Jvm.Cond.codeWith ({ cls := "PermissionDeskLaw", name := "moveEntry", desc := "(LPermissionDesk;III[J)I" } : Jvm.MethodName) method_20_code (6 : Nat) (Option.some Jvm.ClassFile.FieldType.int) [((0 : Nat), (12 : Nat), (15 : Nat), (22 : Nat))]) ∈ lw_all := lw_g (lw_at lw_m6 178 rfl) rfl
theorem q1459 : (Jvm.Cond.methodLink "PermissionDeskLaw" (72 : Nat) ({ cls := "PermissionDesk", name := "moveEntry", desc := "(III)I" } : Jvm.MethodName)) ∈ lw_all := lw_g (lw_at lw_m6 179 rfl) rfl
theorem q1472 : (Jvm.Cond.methodLink "PermissionDeskLaw" (261 : Nat) ({ cls := "PermissionDeskLaw", name := "ask", desc := "(LPermissionDesk;III[J)I" } : Jvm.MethodName)) ∈ lw_all := lw_g (lw_at lw_m6 192 rfl) rfl
theorem q1473 : (Jvm.Cond.static ({ cls := "PermissionDeskLaw", name := "ask", desc := "(LPermissionDesk;III[J)I" } : Jvm.MethodName)) ∈ lw_all := lw_g (lw_at lw_m6 193 rfl) rfl
theorem q1474 : (Jvm.Cond.codeWith ({ cls := "PermissionDeskLaw", name := "ask", desc := "(LPermissionDesk;III[J)I" } : Jvm.MethodName) method_21_code (6 : Nat) (Option.some Jvm.ClassFile.FieldType.int) [((0 : Nat), (19 : Nat), (22 : Nat), (22 : Nat)), ((0 : Nat), (19 : Nat), (26 : Nat), (49 : Nat))]) ∈ lw_all := lw_g (lw_at lw_m6 194 rfl) rfl
theorem q1475 : (Jvm.Cond.methodLink "PermissionDeskLaw" (76 : Nat) ({ cls := "PermissionDesk", name := "ask", desc := "(III)Z" } : Jvm.MethodName)) ∈ lw_all := lw_g (lw_at lw_m6 195 rfl) rfl
theorem q1522 : (Jvm.Cond.methodLink "PermissionDeskLaw" (264 : Nat) ({ cls := "PermissionDeskLaw", name := "share", desc := "(LPermissionDesk;IIII[J)I" } : Jvm.MethodName)) ∈ lw_all := lw_g (lw_at lw_m7 2 rfl) rfl
theorem q1523 : (Jvm.Cond.static ({ cls := "PermissionDeskLaw", name := "share", desc := "(LPermissionDesk;IIII[J)I" } : Jvm.MethodName)) ∈ lw_all := lw_g (lw_at lw_m7 3 rfl) rfl
theorem q1524 : (Jvm.Cond.codeWith ({ cls := "PermissionDeskLaw", name := "share", desc := "(LPermissionDesk;IIII[J)I" } : Jvm.MethodName) method_22_code (7 : Nat) (Option.some Jvm.ClassFile.FieldType.int) [((0 : Nat), (14 : Nat), (17 : Nat), (22 : Nat)), ((0 : Nat), (14 : Nat), (21 : Nat), (49 : Nat)), ((0 : Nat), (14 : Nat), (25 : Nat), (13 : Nat))]) ∈ lw_all := lw_g (lw_at lw_m7 4 rfl) rfl
theorem q1525 : (Jvm.Cond.methodLink "PermissionDeskLaw" (80 : Nat) ({ cls := "PermissionDesk", name := "share", desc := "(IIII)I" } : Jvm.MethodName)) ∈ lw_all := lw_g (lw_at lw_m7 5 rfl) rfl
theorem q1536 : (Jvm.Cond.methodLink "PermissionDeskLaw" (268 : Nat) ({ cls := "PermissionDeskLaw", name := "append", desc := "(LPermissionDesk;I[J)I" } : Jvm.MethodName)) ∈ lw_all := lw_g (lw_at lw_m7 16 rfl) rfl
theorem q1537 : (Jvm.Cond.static ({ cls := "PermissionDeskLaw", name := "append", desc := "(LPermissionDesk;I[J)I" } : Jvm.MethodName)) ∈ lw_all := lw_g (lw_at lw_m7 17 rfl) rfl
theorem q1538 : (Jvm.Cond.codeWith ({ cls := "PermissionDeskLaw", name := "append", desc := "(LPermissionDesk;I[J)I" } : Jvm.MethodName) method_23_code (4 : Nat) (Option.some Jvm.ClassFile.FieldType.int) [((0 : Nat), (9 : Nat), (12 : Nat), (49 : Nat)), ((0 : Nat), (9 : Nat), (15 : Nat), (13 : Nat))]) ∈ lw_all := lw_g (lw_at lw_m7 18 rfl) rfl
theorem q1539 : (Jvm.Cond.methodLink "PermissionDeskLaw" (84 : Nat) ({ cls := "PermissionDesk", name := "append", desc := "(I)I" } : Jvm.MethodName)) ∈ lw_all := lw_g (lw_at lw_m7 19 rfl) rfl
theorem q1560 : (Jvm.Cond.methodLink "PermissionDeskLaw" (279 : Nat) ({ cls := "PermissionDeskLaw", name := "loadEntries", desc := "(LPermissionDesk;[J)I" } : Jvm.MethodName)) ∈ lw_all := lw_g (lw_at lw_m7 40 rfl) rfl
theorem q1561 : (Jvm.Cond.static ({ cls := "PermissionDeskLaw", name := "loadEntries", desc := "(LPermissionDesk;[J)I" } : Jvm.MethodName)) ∈ lw_all := lw_g (lw_at lw_m7 41 rfl) rfl
theorem q1562 : (Jvm.Cond.codeWith ({ cls := "PermissionDeskLaw", name := "loadEntries", desc := "(LPermissionDesk;[J)I" } : Jvm.MethodName) method_24_code (3 : Nat) (Option.some Jvm.ClassFile.FieldType.int) [((0 : Nat), (8 : Nat), (11 : Nat), (13 : Nat))]) ∈ lw_all := lw_g (lw_at lw_m7 42 rfl) rfl
theorem q1563 : (Jvm.Cond.methodLink "PermissionDeskLaw" (87 : Nat) ({ cls := "PermissionDesk", name := "loadEntries", desc := "()I" } : Jvm.MethodName)) ∈ lw_all := lw_g (lw_at lw_m7 43 rfl) rfl
theorem q1728 : (Jvm.Cond.methodLink "PermissionDeskLaw" (282 : Nat) ({ cls := "PermissionDeskLaw", name := "writeEntries", desc := "(LPermissionDesk;I[J)I" } : Jvm.MethodName)) ∈ lw_all := lw_g (lw_at lw_m7 208 rfl) rfl
theorem q1729 : (Jvm.Cond.static ({ cls := "PermissionDeskLaw", name := "writeEntries", desc := "(LPermissionDesk;I[J)I" } : Jvm.MethodName)) ∈ lw_all := lw_g (lw_at lw_m7 209 rfl) rfl
theorem q1730 : (Jvm.Cond.codeWith ({ cls := "PermissionDeskLaw", name := "writeEntries", desc := "(LPermissionDesk;I[J)I" } : Jvm.MethodName) method_25_code (4 : Nat) (Option.some Jvm.ClassFile.FieldType.int) [((0 : Nat), (9 : Nat), (12 : Nat), (22 : Nat))]) ∈ lw_all := lw_g (lw_at lw_m7 210 rfl) rfl
theorem q1731 : (Jvm.Cond.methodLink "PermissionDeskLaw" (90 : Nat) ({ cls := "PermissionDesk", name := "writeEntries", desc := "(I)I" } : Jvm.MethodName)) ∈ lw_all := lw_g (lw_at lw_m7 211 rfl) rfl
theorem q1744 : (Jvm.Cond.methodLink "PermissionDeskLaw" (285 : Nat) ({ cls := "PermissionDeskLaw", name := "codeAt", desc := "(LPermissionDesk;I[J)I" } : Jvm.MethodName)) ∈ lw_all := lw_g (lw_at lw_m7 224 rfl) rfl
theorem q1745 : (Jvm.Cond.static ({ cls := "PermissionDeskLaw", name := "codeAt", desc := "(LPermissionDesk;I[J)I" } : Jvm.MethodName)) ∈ lw_all := lw_g (lw_at lw_m7 225 rfl) rfl
theorem q1746 : (Jvm.Cond.codeWith ({ cls := "PermissionDeskLaw", name := "codeAt", desc := "(LPermissionDesk;I[J)I" } : Jvm.MethodName) method_26_code (4 : Nat) (Option.some Jvm.ClassFile.FieldType.int) [((0 : Nat), (9 : Nat), (12 : Nat), (49 : Nat))]) ∈ lw_all := lw_g (lw_at lw_m7 226 rfl) rfl
theorem q1747 : (Jvm.Cond.methodLink "PermissionDeskLaw" (93 : Nat) ({ cls := "PermissionDesk", name := "codeAt", desc := "(I)I" } : Jvm.MethodName)) ∈ lw_all := lw_g (lw_at lw_m7 227 rfl) rfl
theorem q1752 : (Jvm.Cond.methodLink "PermissionDeskLaw" (296 : Nat) ({ cls := "PermissionDeskLaw", name := "isMember", desc := "(LPermissionDesk;II[J)I" } : Jvm.MethodName)) ∈ lw_all := lw_g (lw_at lw_m7 232 rfl) rfl
theorem q1753 : (Jvm.Cond.static ({ cls := "PermissionDeskLaw", name := "isMember", desc := "(LPermissionDesk;II[J)I" } : Jvm.MethodName)) ∈ lw_all := lw_g (lw_at lw_m7 233 rfl) rfl
theorem q1754 : (Jvm.Cond.codeWith ({ cls := "PermissionDeskLaw", name := "isMember", desc := "(LPermissionDesk;II[J)I" } : Jvm.MethodName) method_27_code (5 : Nat) (Option.some Jvm.ClassFile.FieldType.int) [((0 : Nat), (17 : Nat), (20 : Nat), (22 : Nat))]) ∈ lw_all := lw_g (lw_at lw_m7 234 rfl) rfl
theorem q1755 : (Jvm.Cond.methodLink "PermissionDeskLaw" (96 : Nat) ({ cls := "PermissionDesk", name := "isMember", desc := "(II)Z" } : Jvm.MethodName)) ∈ lw_all := lw_g (lw_at lw_m7 235 rfl) rfl
theorem q1761 : (Jvm.Cond.methodLink "PermissionDeskLaw" (299 : Nat) ({ cls := "PermissionDeskLaw", name := "isNested", desc := "(LPermissionDesk;II[J)I" } : Jvm.MethodName)) ∈ lw_all := lw_g (lw_at lw_m8 1 rfl) rfl
theorem q1762 : (Jvm.Cond.static ({ cls := "PermissionDeskLaw", name := "isNested", desc := "(LPermissionDesk;II[J)I" } : Jvm.MethodName)) ∈ lw_all := lw_g (lw_at lw_m8 2 rfl) rfl
theorem q1763 : (Jvm.Cond.codeWith ({ cls := "PermissionDeskLaw", name := "isNested", desc := "(LPermissionDesk;II[J)I" } : Jvm.MethodName) method_28_code (5 : Nat) (Option.some Jvm.ClassFile.FieldType.int) [((0 : Nat), (17 : Nat), (20 : Nat), (22 : Nat))]) ∈ lw_all := lw_g (lw_at lw_m8 3 rfl) rfl
theorem q1764 : (Jvm.Cond.methodLink "PermissionDeskLaw" (100 : Nat) ({ cls := "PermissionDesk", name := "isNested", desc := "(II)Z" } : Jvm.MethodName)) ∈ lw_all := lw_g (lw_at lw_m8 4 rfl) rfl
theorem q1768 : (Jvm.Cond.methodLink "PermissionDeskLaw" (302 : Nat) ({ cls := "PermissionDeskLaw", name := "belongs", desc := "(LPermissionDesk;II[J)I" } : Jvm.MethodName)) ∈ lw_all := lw_g (lw_at lw_m8 8 rfl) rfl
theorem q1769 : (Jvm.Cond.static ({ cls := "PermissionDeskLaw", name := "belongs", desc := "(LPermissionDesk;II[J)I" } : Jvm.MethodName)) ∈ lw_all := lw_g (lw_at lw_m8 9 rfl) rfl
theorem q1770 : (Jvm.Cond.codeWith ({ cls := "PermissionDeskLaw", name := "belongs", desc := "(LPermissionDesk;II[J)I" } : Jvm.MethodName) method_29_code (5 : Nat) (Option.some Jvm.ClassFile.FieldType.int) [((0 : Nat), (17 : Nat), (20 : Nat), (22 : Nat))]) ∈ lw_all := lw_g (lw_at lw_m8 10 rfl) rfl
theorem q1771 : (Jvm.Cond.methodLink "PermissionDeskLaw" (103 : Nat) ({ cls := "PermissionDesk", name := "belongs", desc := "(II)Z" } : Jvm.MethodName)) ∈ lw_all := lw_g (lw_at lw_m8 11 rfl) rfl
theorem q1776 : (Jvm.Cond.methodLink "PermissionDeskLaw" (305 : Nat) ({ cls := "PermissionDeskLaw", name := "belongsByMembers", desc := "(LPermissionDesk;II[J)I" } : Jvm.MethodName)) ∈ lw_all := lw_g (lw_at lw_m8 16 rfl) rfl
theorem q1777 : (Jvm.Cond.static ({ cls := "PermissionDeskLaw", name := "belongsByMembers", desc := "(LPermissionDesk;II[J)I" } : Jvm.MethodName)) ∈ lw_all := lw_g (lw_at lw_m8 17 rfl) rfl
theorem q1778 : (Jvm.Cond.codeWith ({ cls := "PermissionDeskLaw", name := "belongsByMembers", desc := "(LPermissionDesk;II[J)I" } : Jvm.MethodName) method_30_code (5 : Nat) (Option.some Jvm.ClassFile.FieldType.int) [((0 : Nat), (17 : Nat), (20 : Nat), (22 : Nat))]) ∈ lw_all := lw_g (lw_at lw_m8 18 rfl) rfl
theorem q1779 : (Jvm.Cond.methodLink "PermissionDeskLaw" (106 : Nat) ({ cls := "PermissionDesk", name := "belongsByMembers", desc := "(II)Z" } : Jvm.MethodName)) ∈ lw_all := lw_g (lw_at lw_m8 19 rfl) rfl
theorem q1784 : (Jvm.Cond.methodLink "PermissionDeskLaw" (316 : Nat) ({ cls := "PermissionDeskLaw", name := "parentOf", desc := "(LPermissionDesk;I[J)I" } : Jvm.MethodName)) ∈ lw_all := lw_g (lw_at lw_m8 24 rfl) rfl
theorem q1785 : (Jvm.Cond.static ({ cls := "PermissionDeskLaw", name := "parentOf", desc := "(LPermissionDesk;I[J)I" } : Jvm.MethodName)) ∈ lw_all := lw_g (lw_at lw_m8 25 rfl) rfl
theorem q1786 : (Jvm.Cond.codeWith ({ cls := "PermissionDeskLaw", name := "parentOf", desc := "(LPermissionDesk;I[J)I" } : Jvm.MethodName) method_31_code (4 : Nat) (Option.some Jvm.ClassFile.FieldType.int) [((0 : Nat), (9 : Nat), (12 : Nat), (22 : Nat))]) ∈ lw_all := lw_g (lw_at lw_m8 26 rfl) rfl
theorem q1787 : (Jvm.Cond.methodLink "PermissionDeskLaw" (109 : Nat) ({ cls := "PermissionDesk", name := "parentOf", desc := "(I)I" } : Jvm.MethodName)) ∈ lw_all := lw_g (lw_at lw_m8 27 rfl) rfl
theorem q1795 : (Jvm.Cond.methodLink "PermissionDeskLaw" (319 : Nat) ({ cls := "PermissionDeskLaw", name := "ownerOf", desc := "(LPermissionDesk;I[J)I" } : Jvm.MethodName)) ∈ lw_all := lw_g (lw_at lw_m8 35 rfl) rfl
theorem q1796 : (Jvm.Cond.static ({ cls := "PermissionDeskLaw", name := "ownerOf", desc := "(LPermissionDesk;I[J)I" } : Jvm.MethodName)) ∈ lw_all := lw_g (lw_at lw_m8 36 rfl) rfl
theorem q1797 : (Jvm.Cond.codeWith ({ cls := "PermissionDeskLaw", name := "ownerOf", desc := "(LPermissionDesk;I[J)I" } : Jvm.MethodName) method_32_code (4 : Nat) (Option.some Jvm.ClassFile.FieldType.int) [((0 : Nat), (9 : Nat), (12 : Nat), (22 : Nat))]) ∈ lw_all := lw_g (lw_at lw_m8 37 rfl) rfl
theorem q1798 : (Jvm.Cond.methodLink "PermissionDeskLaw" (112 : Nat) ({ cls := "PermissionDesk", name := "ownerOf", desc := "(I)I" } : Jvm.MethodName)) ∈ lw_all := lw_g (lw_at lw_m8 38 rfl) rfl
theorem q1802 : (Jvm.Cond.methodLink "PermissionDeskLaw" (322 : Nat) ({ cls := "PermissionDeskLaw", name := "maskOf", desc := "(LPermissionDesk;I[J)I" } : Jvm.MethodName)) ∈ lw_all := lw_g (lw_at lw_m8 42 rfl) rfl
theorem q1803 : (Jvm.Cond.static ({ cls := "PermissionDeskLaw", name := "maskOf", desc := "(LPermissionDesk;I[J)I" } : Jvm.MethodName)) ∈ lw_all := lw_g (lw_at lw_m8 43 rfl) rfl
theorem q1804 : (Jvm.Cond.codeWith ({ cls := "PermissionDeskLaw", name := "maskOf", desc := "(LPermissionDesk;I[J)I" } : Jvm.MethodName) method_33_code (4 : Nat) (Option.some Jvm.ClassFile.FieldType.int) [((0 : Nat), (9 : Nat), (12 : Nat), (22 : Nat))]) ∈ lw_all := lw_g (lw_at lw_m8 44 rfl) rfl
theorem q1805 : (Jvm.Cond.methodLink "PermissionDeskLaw" (115 : Nat) ({ cls := "PermissionDesk", name := "maskOf", desc := "(I)I" } : Jvm.MethodName)) ∈ lw_all := lw_g (lw_at lw_m8 45 rfl) rfl
theorem q1809 : (Jvm.Cond.methodLink "PermissionDeskLaw" (325 : Nat) ({ cls := "PermissionDeskLaw", name := "isInheriting", desc := "(LPermissionDesk;I[J)I" } : Jvm.MethodName)) ∈ lw_all := lw_g (lw_at lw_m8 49 rfl) rfl
theorem q1810 : (Jvm.Cond.static ({ cls := "PermissionDeskLaw", name := "isInheriting", desc := "(LPermissionDesk;I[J)I" } : Jvm.MethodName)) ∈ lw_all := lw_g (lw_at lw_m8 50 rfl) rfl
theorem q1811 : (Jvm.Cond.codeWith ({ cls := "PermissionDeskLaw", name := "isInheriting", desc := "(LPermissionDesk;I[J)I" } : Jvm.MethodName) method_34_code (4 : Nat) (Option.some Jvm.ClassFile.FieldType.int) [((0 : Nat), (16 : Nat), (19 : Nat), (22 : Nat))]) ∈ lw_all := lw_g (lw_at lw_m8 51 rfl) rfl
theorem q1812 : (Jvm.Cond.methodLink "PermissionDeskLaw" (118 : Nat) ({ cls := "PermissionDesk", name := "isInheriting", desc := "(I)Z" } : Jvm.MethodName)) ∈ lw_all := lw_g (lw_at lw_m8 52 rfl) rfl
theorem q1816 : (Jvm.Cond.methodLink "PermissionDeskLaw" (328 : Nat) ({ cls := "PermissionDeskLaw", name := "below", desc := "(LPermissionDesk;I[J)I" } : Jvm.MethodName)) ∈ lw_all := lw_g (lw_at lw_m8 56 rfl) rfl
theorem q1817 : (Jvm.Cond.static ({ cls := "PermissionDeskLaw", name := "below", desc := "(LPermissionDesk;I[J)I" } : Jvm.MethodName)) ∈ lw_all := lw_g (lw_at lw_m8 57 rfl) rfl
theorem q1818 : (Jvm.Cond.codeWith ({ cls := "PermissionDeskLaw", name := "below", desc := "(LPermissionDesk;I[J)I" } : Jvm.MethodName) method_35_code (4 : Nat) (Option.some Jvm.ClassFile.FieldType.int) [((0 : Nat), (9 : Nat), (12 : Nat), (22 : Nat))]) ∈ lw_all := lw_g (lw_at lw_m8 58 rfl) rfl
theorem q1819 : (Jvm.Cond.methodLink "PermissionDeskLaw" (122 : Nat) ({ cls := "PermissionDesk", name := "below", desc := "(I)I" } : Jvm.MethodName)) ∈ lw_all := lw_g (lw_at lw_m8 59 rfl) rfl
theorem q1824 : (Jvm.Cond.methodLink "PermissionDeskLaw" (331 : Nat) ({ cls := "PermissionDeskLaw", name := "entriesOf", desc := "(LPermissionDesk;I[J)I" } : Jvm.MethodName)) ∈ lw_all := lw_g (lw_at lw_m8 64 rfl) rfl
theorem q1825 : (Jvm.Cond.static ({ cls := "PermissionDeskLaw", name := "entriesOf", desc := "(LPermissionDesk;I[J)I" } : Jvm.MethodName)) ∈ lw_all := lw_g (lw_at lw_m8 65 rfl) rfl
theorem q1826 : (Jvm.Cond.codeWith ({ cls := "PermissionDeskLaw", name := "entriesOf", desc := "(LPermissionDesk;I[J)I" } : Jvm.MethodName) method_36_code (4 : Nat) (Option.some Jvm.ClassFile.FieldType.int) [((0 : Nat), (9 : Nat), (12 : Nat), (22 : Nat))]) ∈ lw_all := lw_g (lw_at lw_m8 66 rfl) rfl
theorem q1827 : (Jvm.Cond.methodLink "PermissionDeskLaw" (125 : Nat) ({ cls := "PermissionDesk", name := "entriesOf", desc := "(I)I" } : Jvm.MethodName)) ∈ lw_all := lw_g (lw_at lw_m8 67 rfl) rfl
theorem q1831 : (Jvm.Cond.methodLink "PermissionDeskLaw" (334 : Nat) ({ cls := "PermissionDeskLaw", name := "isAllowing", desc := "(LPermissionDesk;II[J)I" } : Jvm.MethodName)) ∈ lw_all := lw_g (lw_at lw_m8 71 rfl) rfl
theorem q1832 : (Jvm.Cond.static ({ cls := "PermissionDeskLaw", name := "isAllowing", desc := "(LPermissionDesk;II[J)I" } : Jvm.MethodName)) ∈ lw_all := lw_g (lw_at lw_m8 72 rfl) rfl
theorem q1833 : (Jvm.Cond.codeWith ({ cls := "PermissionDeskLaw", name := "isAllowing", desc := "(LPermissionDesk;II[J)I" } : Jvm.MethodName) method_37_code (5 : Nat) (Option.some Jvm.ClassFile.FieldType.int) [((0 : Nat), (17 : Nat), (20 : Nat), (22 : Nat))]) ∈ lw_all := lw_g (lw_at lw_m8 73 rfl) rfl
theorem q1834 : (Jvm.Cond.methodLink "PermissionDeskLaw" (128 : Nat) ({ cls := "PermissionDesk", name := "isAllowing", desc := "(II)Z" } : Jvm.MethodName)) ∈ lw_all := lw_g (lw_at lw_m8 74 rfl) rfl
theorem q1842 : (Jvm.Cond.methodLink "PermissionDeskLaw" (337 : Nat) ({ cls := "PermissionDeskLaw", name := "rightsOfEntry", desc := "(LPermissionDesk;II[J)I" } : Jvm.MethodName)) ∈ lw_all := lw_g (lw_at lw_m8 82 rfl) rfl
theorem q1843 : (Jvm.Cond.static ({ cls := "PermissionDeskLaw", name := "rightsOfEntry", desc := "(LPermissionDesk;II[J)I" } : Jvm.MethodName)) ∈ lw_all := lw_g (lw_at lw_m8 83 rfl) rfl
theorem q1844 : (Jvm.Cond.codeWith ({ cls := "PermissionDeskLaw", name := "rightsOfEntry", desc := "(LPermissionDesk;II[J)I" } : Jvm.MethodName) method_38_code (5 : Nat) (Option.some Jvm.ClassFile.FieldType.int) [((0 : Nat), (10 : Nat), (13 : Nat), (22 : Nat))]) ∈ lw_all := lw_g (lw_at lw_m8 84 rfl) rfl
theorem q1845 : (Jvm.Cond.methodLink "PermissionDeskLaw" (131 : Nat) ({ cls := "PermissionDesk", name := "rightsOfEntry", desc := "(II)I" } : Jvm.MethodName)) ∈ lw_all := lw_g (lw_at lw_m8 85 rfl) rfl
theorem q1849 : (Jvm.Cond.methodLink "PermissionDeskLaw" (340 : Nat) ({ cls := "PermissionDeskLaw", name := "userOfEntry", desc := "(LPermissionDesk;II[J)I" } : Jvm.MethodName)) ∈ lw_all := lw_g (lw_at lw_m8 89 rfl) rfl
theorem q1850 : (Jvm.Cond.static ({ cls := "PermissionDeskLaw", name := "userOfEntry", desc := "(LPermissionDesk;II[J)I" } : Jvm.MethodName)) ∈ lw_all := lw_g (lw_at lw_m8 90 rfl) rfl
theorem q1851 : (Jvm.Cond.codeWith ({ cls := "PermissionDeskLaw", name := "userOfEntry", desc := "(LPermissionDesk;II[J)I" } : Jvm.MethodName) method_39_code (5 : Nat) (Option.some Jvm.ClassFile.FieldType.int) [((0 : Nat), (10 : Nat), (13 : Nat), (22 : Nat))]) ∈ lw_all := lw_g (lw_at lw_m8 91 rfl) rfl
theorem q1852 : (Jvm.Cond.methodLink "PermissionDeskLaw" (134 : Nat) ({ cls := "PermissionDesk", name := "userOfEntry", desc := "(II)I" } : Jvm.MethodName)) ∈ lw_all := lw_g (lw_at lw_m8 92 rfl) rfl
theorem q1857 : (Jvm.Cond.methodLink "PermissionDeskLaw" (343 : Nat) ({ cls := "PermissionDeskLaw", name := "groupOfEntry", desc := "(LPermissionDesk;II[J)I" } : Jvm.MethodName)) ∈ lw_all := lw_g (lw_at lw_m8 97 rfl) rfl
theorem q1858 : (Jvm.Cond.static ({ cls := "PermissionDeskLaw", name := "groupOfEntry", desc := "(LPermissionDesk;II[J)I" } : Jvm.MethodName)) ∈ lw_all := lw_g (lw_at lw_m8 98 rfl) rfl
theorem q1859 : (Jvm.Cond.codeWith ({ cls := "PermissionDeskLaw", name := "groupOfEntry", desc := "(LPermissionDesk;II[J)I" } : Jvm.MethodName) method_40_code (5 : Nat) (Option.some Jvm.ClassFile.FieldType.int) [((0 : Nat), (10 : Nat), (13 : Nat), (22 : Nat))]) ∈ lw_all := lw_g (lw_at lw_m8 99 rfl) rfl
theorem q1860 : (Jvm.Cond.methodLink "PermissionDeskLaw" (137 : Nat) ({ cls := "PermissionDesk", name := "groupOfEntry", desc := "(II)I" } : Jvm.MethodName)) ∈ lw_all := lw_g (lw_at lw_m8 100 rfl) rfl
theorem q1864 : (Jvm.Cond.methodLink "PermissionDeskLaw" (346 : Nat) ({ cls := "PermissionDeskLaw", name := "isForOwner", desc := "(LPermissionDesk;II[J)I" } : Jvm.MethodName)) ∈ lw_all := lw_g (lw_at lw_m8 104 rfl) rfl
theorem q1865 : (Jvm.Cond.static ({ cls := "PermissionDeskLaw", name := "isForOwner", desc := "(LPermissionDesk;II[J)I" } : Jvm.MethodName)) ∈ lw_all := lw_g (lw_at lw_m8 105 rfl) rfl
theorem q1866 : (Jvm.Cond.codeWith ({ cls := "PermissionDeskLaw", name := "isForOwner", desc := "(LPermissionDesk;II[J)I" } : Jvm.MethodName) method_41_code (5 : Nat) (Option.some Jvm.ClassFile.FieldType.int) [((0 : Nat), (17 : Nat), (20 : Nat), (22 : Nat))]) ∈ lw_all := lw_g (lw_at lw_m8 106 rfl) rfl
theorem q1867 : (Jvm.Cond.methodLink "PermissionDeskLaw" (140 : Nat) ({ cls := "PermissionDesk", name := "isForOwner", desc := "(II)Z" } : Jvm.MethodName)) ∈ lw_all := lw_g (lw_at lw_m8 107 rfl) rfl
theorem q1871 : (Jvm.Cond.methodLink "PermissionDeskLaw" (349 : Nat) ({ cls := "PermissionDeskLaw", name := "isForBelow", desc := "(LPermissionDesk;II[J)I" } : Jvm.MethodName)) ∈ lw_all := lw_g (lw_at lw_m8 111 rfl) rfl
theorem q1872 : (Jvm.Cond.static ({ cls := "PermissionDeskLaw", name := "isForBelow", desc := "(LPermissionDesk;II[J)I" } : Jvm.MethodName)) ∈ lw_all := lw_g (lw_at lw_m8 112 rfl) rfl
theorem q1873 : (Jvm.Cond.codeWith ({ cls := "PermissionDeskLaw", name := "isForBelow", desc := "(LPermissionDesk;II[J)I" } : Jvm.MethodName) method_42_code (5 : Nat) (Option.some Jvm.ClassFile.FieldType.int) [((0 : Nat), (17 : Nat), (20 : Nat), (22 : Nat))]) ∈ lw_all := lw_g (lw_at lw_m8 113 rfl) rfl
theorem q1874 : (Jvm.Cond.methodLink "PermissionDeskLaw" (143 : Nat) ({ cls := "PermissionDesk", name := "isForBelow", desc := "(II)Z" } : Jvm.MethodName)) ∈ lw_all := lw_g (lw_at lw_m8 114 rfl) rfl
theorem q1878 : (Jvm.Cond.methodLink "PermissionDeskLaw" (352 : Nat) ({ cls := "PermissionDeskLaw", name := "isAllowed", desc := "(LPermissionDesk;III[J)I" } : Jvm.MethodName)) ∈ lw_all := lw_g (lw_at lw_m8 118 rfl) rfl
theorem q1879 : (Jvm.Cond.static ({ cls := "PermissionDeskLaw", name := "isAllowed", desc := "(LPermissionDesk;III[J)I" } : Jvm.MethodName)) ∈ lw_all := lw_g (lw_at lw_m8 119 rfl) rfl
theorem q1880 : (Jvm.Cond.codeWith ({ cls := "PermissionDeskLaw", name := "isAllowed", desc := "(LPermissionDesk;III[J)I" } : Jvm.MethodName) method_43_code (6 : Nat) (Option.some Jvm.ClassFile.FieldType.int) [((0 : Nat), (19 : Nat), (22 : Nat), (22 : Nat)), ((0 : Nat), (19 : Nat), (26 : Nat), (49 : Nat))]) ∈ lw_all := lw_g (lw_at lw_m8 120 rfl) rfl
theorem q1881 : (Jvm.Cond.methodLink "PermissionDeskLaw" (146 : Nat) ({ cls := "PermissionDesk", name := "isAllowed", desc := "(III)Z" } : Jvm.MethodName)) ∈ lw_all := lw_g (lw_at lw_m8 121 rfl) rfl
theorem q1890 : (Jvm.Cond.methodLink "PermissionDeskLaw" (355 : Nat) ({ cls := "PermissionDeskLaw", name := "isAllowedByHandingDown", desc := "(LPermissionDesk;III[J)I" } : Jvm.MethodName)) ∈ lw_all := lw_g (lw_at lw_m8 130 rfl) rfl
theorem q1891 : (Jvm.Cond.static ({ cls := "PermissionDeskLaw", name := "isAllowedByHandingDown", desc := "(LPermissionDesk;III[J)I" } : Jvm.MethodName)) ∈ lw_all := lw_g (lw_at lw_m8 131 rfl) rfl
theorem q1892 : (Jvm.Cond.codeWith ({ cls := "PermissionDeskLaw", name := "isAllowedByHandingDown", desc := "(LPermissionDesk;III[J)I" } : Jvm.MethodName) method_44_code (6 : Nat) (Option.some Jvm.ClassFile.FieldType.int) [((0 : Nat), (19 : Nat), (22 : Nat), (22 : Nat)), ((0 : Nat), (19 : Nat), (26 : Nat), (49 : Nat))]) ∈ lw_all := lw_g (lw_at lw_m8 132 rfl) rfl
theorem q1893 : (Jvm.Cond.methodLink "PermissionDeskLaw" (149 : Nat) ({ cls := "PermissionDesk", name := "isAllowedByHandingDown", desc := "(III)Z" } : Jvm.MethodName)) ∈ lw_all := lw_g (lw_at lw_m8 133 rfl) rfl
theorem q1906 : (Jvm.Cond.methodLink "PermissionDeskLaw" (358 : Nat) ({ cls := "PermissionDeskLaw", name := "rightsOf", desc := "(LPermissionDesk;II[J)I" } : Jvm.MethodName)) ∈ lw_all := lw_g (lw_at lw_m8 146 rfl) rfl
theorem q1907 : (Jvm.Cond.static ({ cls := "PermissionDeskLaw", name := "rightsOf", desc := "(LPermissionDesk;II[J)I" } : Jvm.MethodName)) ∈ lw_all := lw_g (lw_at lw_m8 147 rfl) rfl
theorem q1908 : (Jvm.Cond.codeWith ({ cls := "PermissionDeskLaw", name := "rightsOf", desc := "(LPermissionDesk;II[J)I" } : Jvm.MethodName) method_45_code (5 : Nat) (Option.some Jvm.ClassFile.FieldType.int) [((0 : Nat), (10 : Nat), (13 : Nat), (22 : Nat))]) ∈ lw_all := lw_g (lw_at lw_m8 148 rfl) rfl
theorem q1909 : (Jvm.Cond.methodLink "PermissionDeskLaw" (152 : Nat) ({ cls := "PermissionDesk", name := "rightsOf", desc := "(II)I" } : Jvm.MethodName)) ∈ lw_all := lw_g (lw_at lw_m8 149 rfl) rfl
theorem q1914 : (Jvm.Cond.methodLink "PermissionDeskLaw" (361 : Nat) ({ cls := "PermissionDeskLaw", name := "decidingObject", desc := "(LPermissionDesk;III[J)I" } : Jvm.MethodName)) ∈ lw_all := lw_g (lw_at lw_m8 154 rfl) rfl
theorem q1915 : (Jvm.Cond.static ({ cls := "PermissionDeskLaw", name := "decidingObject", desc := "(LPermissionDesk;III[J)I" } : Jvm.MethodName)) ∈ lw_all := lw_g (lw_at lw_m8 155 rfl) rfl
theorem q1916 : (Jvm.Cond.codeWith ({ cls := "PermissionDeskLaw", name := "decidingObject", desc := "(LPermissionDesk;III[J)I" } : Jvm.MethodName) method_46_code (6 : Nat) (Option.some Jvm.ClassFile.FieldType.int) [((0 : Nat), (12 : Nat), (15 : Nat), (22 : Nat)), ((0 : Nat), (12 : Nat), (19 : Nat), (49 : Nat))]) ∈ lw_all := lw_g (lw_at lw_m8 156 rfl) rfl
theorem q1917 : (Jvm.Cond.methodLink "PermissionDeskLaw" (155 : Nat) ({ cls := "PermissionDesk", name := "decidingObject", desc := "(III)I" } : Jvm.MethodName)) ∈ lw_all := lw_g (lw_at lw_m8 157 rfl) rfl
theorem q1922 : (Jvm.Cond.methodLink "PermissionDeskLaw" (364 : Nat) ({ cls := "PermissionDeskLaw", name := "decidingEntry", desc := "(LPermissionDesk;III[J)I" } : Jvm.MethodName)) ∈ lw_all := lw_g (lw_at lw_m8 162 rfl) rfl
theorem q1923 : (Jvm.Cond.static ({ cls := "PermissionDeskLaw", name := "decidingEntry", desc := "(LPermissionDesk;III[J)I" } : Jvm.MethodName)) ∈ lw_all := lw_g (lw_at lw_m8 163 rfl) rfl
theorem q1924 : (Jvm.Cond.codeWith ({ cls := "PermissionDeskLaw", name := "decidingEntry", desc := "(LPermissionDesk;III[J)I" } : Jvm.MethodName) method_47_code (6 : Nat) (Option.some Jvm.ClassFile.FieldType.int) [((0 : Nat), (12 : Nat), (15 : Nat), (22 : Nat)), ((0 : Nat), (12 : Nat), (19 : Nat), (49 : Nat))]) ∈ lw_all := lw_g (lw_at lw_m8 164 rfl) rfl
theorem q1925 : (Jvm.Cond.methodLink "PermissionDeskLaw" (158 : Nat) ({ cls := "PermissionDesk", name := "decidingEntry", desc := "(III)I" } : Jvm.MethodName)) ∈ lw_all := lw_g (lw_at lw_m8 165 rfl) rfl
theorem q1929 : (Jvm.Cond.methodLink "PermissionDeskLaw" (367 : Nat) ({ cls := "PermissionDeskLaw", name := "isStoppedByMask", desc := "(LPermissionDesk;III[J)I" } : Jvm.MethodName)) ∈ lw_all := lw_g (lw_at lw_m8 169 rfl) rfl
theorem q1930 : (Jvm.Cond.static ({ cls := "PermissionDeskLaw", name := "isStoppedByMask", desc := "(LPermissionDesk;III[J)I" } : Jvm.MethodName)) ∈ lw_all := lw_g (lw_at lw_m8 170 rfl) rfl
theorem q1931 : (Jvm.Cond.codeWith ({ cls := "PermissionDeskLaw", name := "isStoppedByMask", desc := "(LPermissionDesk;III[J)I" } : Jvm.MethodName) method_48_code (6 : Nat) (Option.some Jvm.ClassFile.FieldType.int) [((0 : Nat), (19 : Nat), (22 : Nat), (22 : Nat)), ((0 : Nat), (19 : Nat), (26 : Nat), (49 : Nat))]) ∈ lw_all := lw_g (lw_at lw_m8 171 rfl) rfl
theorem q1932 : (Jvm.Cond.methodLink "PermissionDeskLaw" (161 : Nat) ({ cls := "PermissionDesk", name := "isStoppedByMask", desc := "(III)Z" } : Jvm.MethodName)) ∈ lw_all := lw_g (lw_at lw_m8 172 rfl) rfl
theorem q1940 : (Jvm.Cond.methodLink "PermissionDeskLaw" (370 : Nat) ({ cls := "PermissionDeskLaw", name := "usersWith", desc := "(LPermissionDesk;II[J)I" } : Jvm.MethodName)) ∈ lw_all := lw_g (lw_at lw_m8 180 rfl) rfl
theorem q1941 : (Jvm.Cond.static ({ cls := "PermissionDeskLaw", name := "usersWith", desc := "(LPermissionDesk;II[J)I" } : Jvm.MethodName)) ∈ lw_all := lw_g (lw_at lw_m8 181 rfl) rfl
theorem q1942 : (Jvm.Cond.codeWith ({ cls := "PermissionDeskLaw", name := "usersWith", desc := "(LPermissionDesk;II[J)I" } : Jvm.MethodName) method_49_code (5 : Nat) (Option.some Jvm.ClassFile.FieldType.int) [((0 : Nat), (10 : Nat), (13 : Nat), (22 : Nat)), ((0 : Nat), (10 : Nat), (17 : Nat), (49 : Nat))]) ∈ lw_all := lw_g (lw_at lw_m8 182 rfl) rfl
theorem q1943 : (Jvm.Cond.methodLink "PermissionDeskLaw" (164 : Nat) ({ cls := "PermissionDesk", name := "usersWith", desc := "(II)I" } : Jvm.MethodName)) ∈ lw_all := lw_g (lw_at lw_m8 183 rfl) rfl
theorem q1951 : (Jvm.Cond.methodLink "PermissionDeskLaw" (373 : Nat) ({ cls := "PermissionDeskLaw", name := "rightsThrough", desc := "(LPermissionDesk;II[J)I" } : Jvm.MethodName)) ∈ lw_all := lw_g (lw_at lw_m8 191 rfl) rfl
theorem q1952 : (Jvm.Cond.static ({ cls := "PermissionDeskLaw", name := "rightsThrough", desc := "(LPermissionDesk;II[J)I" } : Jvm.MethodName)) ∈ lw_all := lw_g (lw_at lw_m8 192 rfl) rfl
theorem q1953 : (Jvm.Cond.codeWith ({ cls := "PermissionDeskLaw", name := "rightsThrough", desc := "(LPermissionDesk;II[J)I" } : Jvm.MethodName) method_50_code (5 : Nat) (Option.some Jvm.ClassFile.FieldType.int) [((0 : Nat), (10 : Nat), (13 : Nat), (22 : Nat))]) ∈ lw_all := lw_g (lw_at lw_m8 193 rfl) rfl
theorem q1954 : (Jvm.Cond.methodLink "PermissionDeskLaw" (167 : Nat) ({ cls := "PermissionDesk", name := "rightsThrough", desc := "(II)I" } : Jvm.MethodName)) ∈ lw_all := lw_g (lw_at lw_m8 194 rfl) rfl
theorem q1963 : (Jvm.Cond.methodLink "PermissionDeskLaw" (376 : Nat) ({ cls := "PermissionDeskLaw", name := "isNeedless", desc := "(LPermissionDesk;II[J)I" } : Jvm.MethodName)) ∈ lw_all := lw_g (lw_at lw_m8 203 rfl) rfl
theorem q1964 : (Jvm.Cond.static ({ cls := "PermissionDeskLaw", name := "isNeedless", desc := "(LPermissionDesk;II[J)I" } : Jvm.MethodName)) ∈ lw_all := lw_g (lw_at lw_m8 204 rfl) rfl
theorem q1965 : (Jvm.Cond.codeWith ({ cls := "PermissionDeskLaw", name := "isNeedless", desc := "(LPermissionDesk;II[J)I" } : Jvm.MethodName) method_51_code (5 : Nat) (Option.some Jvm.ClassFile.FieldType.int) [((0 : Nat), (17 : Nat), (20 : Nat), (22 : Nat))]) ∈ lw_all := lw_g (lw_at lw_m8 205 rfl) rfl
theorem q1966 : (Jvm.Cond.methodLink "PermissionDeskLaw" (170 : Nat) ({ cls := "PermissionDesk", name := "isNeedless", desc := "(II)Z" } : Jvm.MethodName)) ∈ lw_all := lw_g (lw_at lw_m8 206 rfl) rfl
theorem q1975 : (Jvm.Cond.methodLink "PermissionDeskLaw" (396 : Nat) ({ cls := "PermissionDeskLaw", name := "userOfRequest", desc := "(LPermissionDesk;I[J)I" } : Jvm.MethodName)) ∈ lw_all := lw_g (lw_at lw_m8 215 rfl) rfl
theorem q1976 : (Jvm.Cond.static ({ cls := "PermissionDeskLaw", name := "userOfRequest", desc := "(LPermissionDesk;I[J)I" } : Jvm.MethodName)) ∈ lw_all := lw_g (lw_at lw_m8 216 rfl) rfl
theorem q1977 : (Jvm.Cond.codeWith ({ cls := "PermissionDeskLaw", name := "userOfRequest", desc := "(LPermissionDesk;I[J)I" } : Jvm.MethodName) method_52_code (4 : Nat) (Option.some Jvm.ClassFile.FieldType.int) [((0 : Nat), (9 : Nat), (12 : Nat), (22 : Nat))]) ∈ lw_all := lw_g (lw_at lw_m8 217 rfl) rfl
theorem q1978 : (Jvm.Cond.methodLink "PermissionDeskLaw" (173 : Nat) ({ cls := "PermissionDesk", name := "userOfRequest", desc := "(I)I" } : Jvm.MethodName)) ∈ lw_all := lw_g (lw_at lw_m8 218 rfl) rfl
theorem q1999 : (Jvm.Cond.methodLink "PermissionDeskLaw" (399 : Nat) ({ cls := "PermissionDeskLaw", name := "objectOfRequest", desc := "(LPermissionDesk;I[J)I" } : Jvm.MethodName)) ∈ lw_all := lw_g (lw_at lw_m8 239 rfl) rfl
theorem q2000 : (Jvm.Cond.static ({ cls := "PermissionDeskLaw", name := "objectOfRequest", desc := "(LPermissionDesk;I[J)I" } : Jvm.MethodName)) ∈ lw_all := lw_g (lw_at lw_m9 0 rfl) rfl
theorem q2001 : (Jvm.Cond.codeWith ({ cls := "PermissionDeskLaw", name := "objectOfRequest", desc := "(LPermissionDesk;I[J)I" } : Jvm.MethodName) method_53_code (4 : Nat) (Option.some Jvm.ClassFile.FieldType.int) [((0 : Nat), (9 : Nat), (12 : Nat), (22 : Nat))]) ∈ lw_all := lw_g (lw_at lw_m9 1 rfl) rfl
theorem q2002 : (Jvm.Cond.methodLink "PermissionDeskLaw" (176 : Nat) ({ cls := "PermissionDesk", name := "objectOfRequest", desc := "(I)I" } : Jvm.MethodName)) ∈ lw_all := lw_g (lw_at lw_m9 2 rfl) rfl
theorem q2006 : (Jvm.Cond.methodLink "PermissionDeskLaw" (402 : Nat) ({ cls := "PermissionDeskLaw", name := "wasAllowed", desc := "(LPermissionDesk;I[J)I" } : Jvm.MethodName)) ∈ lw_all := lw_g (lw_at lw_m9 6 rfl) rfl
theorem q2007 : (Jvm.Cond.static ({ cls := "PermissionDeskLaw", name := "wasAllowed", desc := "(LPermissionDesk;I[J)I" } : Jvm.MethodName)) ∈ lw_all := lw_g (lw_at lw_m9 7 rfl) rfl
theorem q2008 : (Jvm.Cond.codeWith ({ cls := "PermissionDeskLaw", name := "wasAllowed", desc := "(LPermissionDesk;I[J)I" } : Jvm.MethodName) method_54_code (4 : Nat) (Option.some Jvm.ClassFile.FieldType.int) [((0 : Nat), (16 : Nat), (19 : Nat), (22 : Nat))]) ∈ lw_all := lw_g (lw_at lw_m9 8 rfl) rfl
theorem q2009 : (Jvm.Cond.methodLink "PermissionDeskLaw" (179 : Nat) ({ cls := "PermissionDesk", name := "wasAllowed", desc := "(I)Z" } : Jvm.MethodName)) ∈ lw_all := lw_g (lw_at lw_m9 9 rfl) rfl
theorem q2013 : (Jvm.Cond.methodLink "PermissionDeskLaw" (405 : Nat) ({ cls := "PermissionDeskLaw", name := "undo", desc := "(LPermissionDesk;[J)I" } : Jvm.MethodName)) ∈ lw_all := lw_g (lw_at lw_m9 13 rfl) rfl
theorem q2014 : (Jvm.Cond.static ({ cls := "PermissionDeskLaw", name := "undo", desc := "(LPermissionDesk;[J)I" } : Jvm.MethodName)) ∈ lw_all := lw_g (lw_at lw_m9 14 rfl) rfl
theorem q2015 : (Jvm.Cond.codeWith ({ cls := "PermissionDeskLaw", name := "undo", desc := "(LPermissionDesk;[J)I" } : Jvm.MethodName) method_55_code (3 : Nat) (Option.some Jvm.ClassFile.FieldType.int) [((0 : Nat), (8 : Nat), (11 : Nat), (13 : Nat))]) ∈ lw_all := lw_g (lw_at lw_m9 15 rfl) rfl
theorem q2016 : (Jvm.Cond.methodLink "PermissionDeskLaw" (182 : Nat) ({ cls := "PermissionDesk", name := "undo", desc := "()I" } : Jvm.MethodName)) ∈ lw_all := lw_g (lw_at lw_m9 16 rfl) rfl
theorem q2032 : (Jvm.Cond.methodLink "PermissionDeskLaw" (408 : Nat) ({ cls := "PermissionDeskLaw", name := "save", desc := "(LPermissionDesk;I[J)I" } : Jvm.MethodName)) ∈ lw_all := lw_g (lw_at lw_m9 32 rfl) rfl
theorem q2033 : (Jvm.Cond.static ({ cls := "PermissionDeskLaw", name := "save", desc := "(LPermissionDesk;I[J)I" } : Jvm.MethodName)) ∈ lw_all := lw_g (lw_at lw_m9 33 rfl) rfl
theorem q2034 : (Jvm.Cond.codeWith ({ cls := "PermissionDeskLaw", name := "save", desc := "(LPermissionDesk;I[J)I" } : Jvm.MethodName) method_56_code (4 : Nat) (Option.some Jvm.ClassFile.FieldType.int) [((0 : Nat), (9 : Nat), (12 : Nat), (49 : Nat))]) ∈ lw_all := lw_g (lw_at lw_m9 34 rfl) rfl
theorem q2035 : (Jvm.Cond.methodLink "PermissionDeskLaw" (185 : Nat) ({ cls := "PermissionDesk", name := "save", desc := "(I)I" } : Jvm.MethodName)) ∈ lw_all := lw_g (lw_at lw_m9 35 rfl) rfl
theorem q2039 : (Jvm.Cond.methodLink "PermissionDeskLaw" (411 : Nat) ({ cls := "PermissionDeskLaw", name := "restore", desc := "(LPermissionDesk;I[J)I" } : Jvm.MethodName)) ∈ lw_all := lw_g (lw_at lw_m9 39 rfl) rfl
theorem q2040 : (Jvm.Cond.static ({ cls := "PermissionDeskLaw", name := "restore", desc := "(LPermissionDesk;I[J)I" } : Jvm.MethodName)) ∈ lw_all := lw_g (lw_at lw_m9 40 rfl) rfl
theorem q2041 : (Jvm.Cond.codeWith ({ cls := "PermissionDeskLaw", name := "restore", desc := "(LPermissionDesk;I[J)I" } : Jvm.MethodName) method_57_code (4 : Nat) (Option.some Jvm.ClassFile.FieldType.int) [((0 : Nat), (9 : Nat), (12 : Nat), (49 : Nat)), ((0 : Nat), (9 : Nat), (15 : Nat), (13 : Nat))]) ∈ lw_all := lw_g (lw_at lw_m9 41 rfl) rfl
theorem q2042 : (Jvm.Cond.methodLink "PermissionDeskLaw" (188 : Nat) ({ cls := "PermissionDesk", name := "restore", desc := "(I)I" } : Jvm.MethodName)) ∈ lw_all := lw_g (lw_at lw_m9 42 rfl) rfl
theorem q2046 : (Jvm.Cond.classLink "PermissionDeskLaw" (192 : Nat) "PermissionDeskModel") ∈ lw_all := lw_g (lw_at lw_m9 46 rfl) rfl
theorem q2048 : (Jvm.Cond.methodLink "PermissionDeskLaw" (194 : Nat) ({ cls := "PermissionDeskModel", name := "<init>", desc := "()V" } : Jvm.MethodName)) ∈ lw_all := lw_g (lw_at lw_m9 48 rfl) rfl
theorem q2105 : (Jvm.Cond.methodLink "PermissionDeskLaw" (201 : Nat) ({ cls := "PermissionDeskModel", name := "thrown", desc := "()I" } : Jvm.MethodName)) ∈ lw_all := lw_g (lw_at lw_m9 105 rfl) rfl
theorem q2109 : (Jvm.Cond.methodLink "PermissionDeskLaw" (200 : Nat) ({ cls := "PermissionDeskModel", name := "addUser", desc := "()I" } : Jvm.MethodName)) ∈ lw_all := lw_g (lw_at lw_m9 109 rfl) rfl
theorem q2121 : (Jvm.Cond.methodLink "PermissionDeskLaw" (206 : Nat) ({ cls := "PermissionDeskModel", name := "addGroup", desc := "()I" } : Jvm.MethodName)) ∈ lw_all := lw_g (lw_at lw_m9 121 rfl) rfl
theorem q2125 : (Jvm.Cond.methodLink "PermissionDeskLaw" (210 : Nat) ({ cls := "PermissionDeskModel", name := "join", desc := "(II)I" } : Jvm.MethodName)) ∈ lw_all := lw_g (lw_at lw_m9 125 rfl) rfl
theorem q2155 : (Jvm.Cond.methodLink "PermissionDeskLaw" (213 : Nat) ({ cls := "PermissionDeskModel", name := "leave", desc := "(II)I" } : Jvm.MethodName)) ∈ lw_all := lw_g (lw_at lw_m9 155 rfl) rfl
theorem q2159 : (Jvm.Cond.methodLink "PermissionDeskLaw" (216 : Nat) ({ cls := "PermissionDeskModel", name := "nest", desc := "(II)I" } : Jvm.MethodName)) ∈ lw_all := lw_g (lw_at lw_m9 159 rfl) rfl
theorem q2163 : (Jvm.Cond.methodLink "PermissionDeskLaw" (219 : Nat) ({ cls := "PermissionDeskModel", name := "unnest", desc := "(II)I" } : Jvm.MethodName)) ∈ lw_all := lw_g (lw_at lw_m9 163 rfl) rfl
theorem q2167 : (Jvm.Cond.methodLink "PermissionDeskLaw" (222 : Nat) ({ cls := "PermissionDeskModel", name := "make", desc := "(II)I" } : Jvm.MethodName)) ∈ lw_all := lw_g (lw_at lw_m9 167 rfl) rfl
theorem q2183 : (Jvm.Cond.methodLink "PermissionDeskLaw" (226 : Nat) ({ cls := "PermissionDeskModel", name := "remove", desc := "(I)I" } : Jvm.MethodName)) ∈ lw_all := lw_g (lw_at lw_m9 183 rfl) rfl
theorem q2195 : (Jvm.Cond.methodLink "PermissionDeskLaw" (229 : Nat) ({ cls := "PermissionDeskModel", name := "move", desc := "(II)I" } : Jvm.MethodName)) ∈ lw_all := lw_g (lw_at lw_m9 195 rfl) rfl
theorem q2199 : (Jvm.Cond.methodLink "PermissionDeskLaw" (232 : Nat) ({ cls := "PermissionDeskModel", name := "giveTo", desc := "(II)I" } : Jvm.MethodName)) ∈ lw_all := lw_g (lw_at lw_m9 199 rfl) rfl
theorem q2203 : (Jvm.Cond.methodLink "PermissionDeskLaw" (235 : Nat) ({ cls := "PermissionDeskModel", name := "setMask", desc := "(II)I" } : Jvm.MethodName)) ∈ lw_all := lw_g (lw_at lw_m9 203 rfl) rfl
theorem q2207 : (Jvm.Cond.methodLink "PermissionDeskLaw" (239 : Nat) ({ cls := "PermissionDeskModel", name := "setInheriting", desc := "(IZ)Z" } : Jvm.MethodName)) ∈ lw_all := lw_g (lw_at lw_m9 207 rfl) rfl
theorem q2211 : (Jvm.Cond.methodLink "PermissionDeskLaw" (243 : Nat) ({ cls := "PermissionDeskModel", name := "addForUser", desc := "(IIIZZ)I" } : Jvm.MethodName)) ∈ lw_all := lw_g (lw_at lw_m9 211 rfl) rfl
theorem q2229 : (Jvm.Cond.methodLink "PermissionDeskLaw" (246 : Nat) ({ cls := "PermissionDeskModel", name := "addForGroup", desc := "(IIIZZ)I" } : Jvm.MethodName)) ∈ lw_all := lw_g (lw_at lw_m9 229 rfl) rfl
theorem q2233 : (Jvm.Cond.methodLink "PermissionDeskLaw" (250 : Nat) ({ cls := "PermissionDeskModel", name := "addForOwner", desc := "(IIZZ)I" } : Jvm.MethodName)) ∈ lw_all := lw_g (lw_at lw_m9 233 rfl) rfl
theorem q2237 : (Jvm.Cond.methodLink "PermissionDeskLaw" (253 : Nat) ({ cls := "PermissionDeskModel", name := "addForAll", desc := "(IIZZ)I" } : Jvm.MethodName)) ∈ lw_all := lw_g (lw_at lw_m9 237 rfl) rfl
theorem q2241 : (Jvm.Cond.methodLink "PermissionDeskLaw" (256 : Nat) ({ cls := "PermissionDeskModel", name := "removeEntry", desc := "(II)I" } : Jvm.MethodName)) ∈ lw_all := lw_g (lw_at lw_m10 1 rfl) rfl
theorem q2253 : (Jvm.Cond.methodLink "PermissionDeskLaw" (260 : Nat) ({ cls := "PermissionDeskModel", name := "moveEntry", desc := "(III)I" } : Jvm.MethodName)) ∈ lw_all := lw_g (lw_at lw_m10 13 rfl) rfl
theorem q2301 : (Jvm.Cond.methodLink "PermissionDeskLaw" (263 : Nat) ({ cls := "PermissionDeskModel", name := "ask", desc := "(III)Z" } : Jvm.MethodName)) ∈ lw_all := lw_g (lw_at lw_m10 61 rfl) rfl
theorem q2308 : (Jvm.Cond.methodLink "PermissionDeskLaw" (267 : Nat) ({ cls := "PermissionDeskModel", name := "share", desc := "(IIII)I" } : Jvm.MethodName)) ∈ lw_all := lw_g (lw_at lw_m10 68 rfl) rfl
theorem q2312 : (Jvm.Cond.methodLink "PermissionDeskLaw" (270 : Nat) ({ cls := "PermissionDeskModel", name := "append", desc := "(I)I" } : Jvm.MethodName)) ∈ lw_all := lw_g (lw_at lw_m10 72 rfl) rfl
theorem q2316 : (Jvm.Cond.methodLink "PermissionDeskLaw" (274 : Nat) ({ cls := "PermissionDeskModel", name := "clear", desc := "()I" } : Jvm.MethodName)) ∈ lw_all := lw_g (lw_at lw_m10 76 rfl) rfl
theorem q2320 : (Jvm.Cond.methodLink "PermissionDeskLaw" (278 : Nat) ({ cls := "PermissionDeskModel", name := "fault", desc := "()I" } : Jvm.MethodName)) ∈ lw_all := lw_g (lw_at lw_m10 80 rfl) rfl
theorem q2348 : (Jvm.Cond.methodLink "PermissionDeskLaw" (281 : Nat) ({ cls := "PermissionDeskModel", name := "loadEntries", desc := "()I" } : Jvm.MethodName)) ∈ lw_all := lw_g (lw_at lw_m10 108 rfl) rfl
theorem q2356 : (Jvm.Cond.methodLink "PermissionDeskLaw" (284 : Nat) ({ cls := "PermissionDeskModel", name := "writeEntries", desc := "(I)I" } : Jvm.MethodName)) ∈ lw_all := lw_g (lw_at lw_m10 116 rfl) rfl
theorem q2376 : (Jvm.Cond.methodLink "PermissionDeskLaw" (287 : Nat) ({ cls := "PermissionDeskModel", name := "codeAt", desc := "(I)I" } : Jvm.MethodName)) ∈ lw_all := lw_g (lw_at lw_m10 136 rfl) rfl
theorem q2380 : (Jvm.Cond.methodLink "PermissionDeskLaw" (291 : Nat) ({ cls := "PermissionDeskModel", name := "users", desc := "()I" } : Jvm.MethodName)) ∈ lw_all := lw_g (lw_at lw_m10 140 rfl) rfl
theorem q2384 : (Jvm.Cond.methodLink "PermissionDeskLaw" (295 : Nat) ({ cls := "PermissionDeskModel", name := "groups", desc := "()I" } : Jvm.MethodName)) ∈ lw_all := lw_g (lw_at lw_m10 144 rfl) rfl
theorem q2388 : (Jvm.Cond.methodLink "PermissionDeskLaw" (298 : Nat) ({ cls := "PermissionDeskModel", name := "isMember", desc := "(II)Z" } : Jvm.MethodName)) ∈ lw_all := lw_g (lw_at lw_m10 148 rfl) rfl
theorem q2392 : (Jvm.Cond.methodLink "PermissionDeskLaw" (301 : Nat) ({ cls := "PermissionDeskModel", name := "isNested", desc := "(II)Z" } : Jvm.MethodName)) ∈ lw_all := lw_g (lw_at lw_m10 152 rfl) rfl
theorem q2396 : (Jvm.Cond.methodLink "PermissionDeskLaw" (304 : Nat) ({ cls := "PermissionDeskModel", name := "belongs", desc := "(II)Z" } : Jvm.MethodName)) ∈ lw_all := lw_g (lw_at lw_m10 156 rfl) rfl
theorem q2404 : (Jvm.Cond.methodLink "PermissionDeskLaw" (307 : Nat) ({ cls := "PermissionDeskModel", name := "belongsByMembers", desc := "(II)Z" } : Jvm.MethodName)) ∈ lw_all := lw_g (lw_at lw_m10 164 rfl) rfl
theorem q2408 : (Jvm.Cond.methodLink "PermissionDeskLaw" (311 : Nat) ({ cls := "PermissionDeskModel", name := "objects", desc := "()I" } : Jvm.MethodName)) ∈ lw_all := lw_g (lw_at lw_m10 168 rfl) rfl
theorem q2412 : (Jvm.Cond.methodLink "PermissionDeskLaw" (315 : Nat) ({ cls := "PermissionDeskModel", name := "isThere", desc := "(I)Z" } : Jvm.MethodName)) ∈ lw_all := lw_g (lw_at lw_m10 172 rfl) rfl
theorem q2416 : (Jvm.Cond.methodLink "PermissionDeskLaw" (318 : Nat) ({ cls := "PermissionDeskModel", name := "parentOf", desc := "(I)I" } : Jvm.MethodName)) ∈ lw_all := lw_g (lw_at lw_m10 176 rfl) rfl
theorem q2424 : (Jvm.Cond.methodLink "PermissionDeskLaw" (321 : Nat) ({ cls := "PermissionDeskModel", name := "ownerOf", desc := "(I)I" } : Jvm.MethodName)) ∈ lw_all := lw_g (lw_at lw_m10 184 rfl) rfl
theorem q2428 : (Jvm.Cond.methodLink "PermissionDeskLaw" (324 : Nat) ({ cls := "PermissionDeskModel", name := "maskOf", desc := "(I)I" } : Jvm.MethodName)) ∈ lw_all := lw_g (lw_at lw_m10 188 rfl) rfl
theorem q2432 : (Jvm.Cond.methodLink "PermissionDeskLaw" (327 : Nat) ({ cls := "PermissionDeskModel", name := "isInheriting", desc := "(I)Z" } : Jvm.MethodName)) ∈ lw_all := lw_g (lw_at lw_m10 192 rfl) rfl
theorem q2436 : (Jvm.Cond.methodLink "PermissionDeskLaw" (330 : Nat) ({ cls := "PermissionDeskModel", name := "below", desc := "(I)I" } : Jvm.MethodName)) ∈ lw_all := lw_g (lw_at lw_m10 196 rfl) rfl
theorem q2440 : (Jvm.Cond.methodLink "PermissionDeskLaw" (333 : Nat) ({ cls := "PermissionDeskModel", name := "entriesOf", desc := "(I)I" } : Jvm.MethodName)) ∈ lw_all := lw_g (lw_at lw_m10 200 rfl) rfl
theorem q2444 : (Jvm.Cond.methodLink "PermissionDeskLaw" (336 : Nat) ({ cls := "PermissionDeskModel", name := "isAllowing", desc := "(II)Z" } : Jvm.MethodName)) ∈ lw_all := lw_g (lw_at lw_m10 204 rfl) rfl
theorem q2452 : (Jvm.Cond.methodLink "PermissionDeskLaw" (339 : Nat) ({ cls := "PermissionDeskModel", name := "rightsOfEntry", desc := "(II)I" } : Jvm.MethodName)) ∈ lw_all := lw_g (lw_at lw_m10 212 rfl) rfl
theorem q2456 : (Jvm.Cond.methodLink "PermissionDeskLaw" (342 : Nat) ({ cls := "PermissionDeskModel", name := "userOfEntry", desc := "(II)I" } : Jvm.MethodName)) ∈ lw_all := lw_g (lw_at lw_m10 216 rfl) rfl
theorem q2464 : (Jvm.Cond.methodLink "PermissionDeskLaw" (345 : Nat) ({ cls := "PermissionDeskModel", name := "groupOfEntry", desc := "(II)I" } : Jvm.MethodName)) ∈ lw_all := lw_g (lw_at lw_m10 224 rfl) rfl
theorem q2468 : (Jvm.Cond.methodLink "PermissionDeskLaw" (348 : Nat) ({ cls := "PermissionDeskModel", name := "isForOwner", desc := "(II)Z" } : Jvm.MethodName)) ∈ lw_all := lw_g (lw_at lw_m10 228 rfl) rfl
theorem q2472 : (Jvm.Cond.methodLink "PermissionDeskLaw" (351 : Nat) ({ cls := "PermissionDeskModel", name := "isForBelow", desc := "(II)Z" } : Jvm.MethodName)) ∈ lw_all := lw_g (lw_at lw_m10 232 rfl) rfl
theorem q2476 : (Jvm.Cond.methodLink "PermissionDeskLaw" (354 : Nat) ({ cls := "PermissionDeskModel", name := "isAllowed", desc := "(III)Z" } : Jvm.MethodName)) ∈ lw_all := lw_g (lw_at lw_m10 236 rfl) rfl
theorem q2484 : (Jvm.Cond.methodLink "PermissionDeskLaw" (357 : Nat) ({ cls := "PermissionDeskModel", name := "isAllowedByHandingDown", desc := "(III)Z" } : Jvm.MethodName)) ∈ lw_all := lw_g (lw_at lw_m11 4 rfl) rfl
theorem q2488 : (Jvm.Cond.methodLink "PermissionDeskLaw" (360 : Nat) ({ cls := "PermissionDeskModel", name := "rightsOf", desc := "(II)I" } : Jvm.MethodName)) ∈ lw_all := lw_g (lw_at lw_m11 8 rfl) rfl
theorem q2492 : (Jvm.Cond.methodLink "PermissionDeskLaw" (363 : Nat) ({ cls := "PermissionDeskModel", name := "decidingObject", desc := "(III)I" } : Jvm.MethodName)) ∈ lw_all := lw_g (lw_at lw_m11 12 rfl) rfl
theorem q2496 : (Jvm.Cond.methodLink "PermissionDeskLaw" (366 : Nat) ({ cls := "PermissionDeskModel", name := "decidingEntry", desc := "(III)I" } : Jvm.MethodName)) ∈ lw_all := lw_g (lw_at lw_m11 16 rfl) rfl
theorem q2500 : (Jvm.Cond.methodLink "PermissionDeskLaw" (369 : Nat) ({ cls := "PermissionDeskModel", name := "isStoppedByMask", desc := "(III)Z" } : Jvm.MethodName)) ∈ lw_all := lw_g (lw_at lw_m11 20 rfl) rfl
theorem q2504 : (Jvm.Cond.methodLink "PermissionDeskLaw" (372 : Nat) ({ cls := "PermissionDeskModel", name := "usersWith", desc := "(II)I" } : Jvm.MethodName)) ∈ lw_all := lw_g (lw_at lw_m11 24 rfl) rfl
theorem q2508 : (Jvm.Cond.methodLink "PermissionDeskLaw" (375 : Nat) ({ cls := "PermissionDeskModel", name := "rightsThrough", desc := "(II)I" } : Jvm.MethodName)) ∈ lw_all := lw_g (lw_at lw_m11 28 rfl) rfl
theorem q2516 : (Jvm.Cond.methodLink "PermissionDeskLaw" (378 : Nat) ({ cls := "PermissionDeskModel", name := "isNeedless", desc := "(II)Z" } : Jvm.MethodName)) ∈ lw_all := lw_g (lw_at lw_m11 36 rfl) rfl
theorem q2520 : (Jvm.Cond.methodLink "PermissionDeskLaw" (382 : Nat) ({ cls := "PermissionDeskModel", name := "allRights", desc := "()I" } : Jvm.MethodName)) ∈ lw_all := lw_g (lw_at lw_m11 40 rfl) rfl
theorem q2531 : (Jvm.Cond.methodLink "PermissionDeskLaw" (387 : Nat) ({ cls := "PermissionDeskModel", name := "openness", desc := "()D" } : Jvm.MethodName)) ∈ lw_all := lw_g (lw_at lw_m11 51 rfl) rfl
theorem q2535 : (Jvm.Cond.methodLink "PermissionDeskLaw" (391 : Nat) ({ cls := "PermissionDeskModel", name := "requests", desc := "()I" } : Jvm.MethodName)) ∈ lw_all := lw_g (lw_at lw_m11 55 rfl) rfl
theorem q2539 : (Jvm.Cond.methodLink "PermissionDeskLaw" (395 : Nat) ({ cls := "PermissionDeskModel", name := "refusals", desc := "()I" } : Jvm.MethodName)) ∈ lw_all := lw_g (lw_at lw_m11 59 rfl) rfl
theorem q2543 : (Jvm.Cond.methodLink "PermissionDeskLaw" (398 : Nat) ({ cls := "PermissionDeskModel", name := "userOfRequest", desc := "(I)I" } : Jvm.MethodName)) ∈ lw_all := lw_g (lw_at lw_m11 63 rfl) rfl
theorem q2551 : (Jvm.Cond.methodLink "PermissionDeskLaw" (401 : Nat) ({ cls := "PermissionDeskModel", name := "objectOfRequest", desc := "(I)I" } : Jvm.MethodName)) ∈ lw_all := lw_g (lw_at lw_m11 71 rfl) rfl
theorem q2555 : (Jvm.Cond.methodLink "PermissionDeskLaw" (404 : Nat) ({ cls := "PermissionDeskModel", name := "wasAllowed", desc := "(I)Z" } : Jvm.MethodName)) ∈ lw_all := lw_g (lw_at lw_m11 75 rfl) rfl
theorem q2559 : (Jvm.Cond.methodLink "PermissionDeskLaw" (407 : Nat) ({ cls := "PermissionDeskModel", name := "undo", desc := "()I" } : Jvm.MethodName)) ∈ lw_all := lw_g (lw_at lw_m11 79 rfl) rfl
theorem q2563 : (Jvm.Cond.methodLink "PermissionDeskLaw" (410 : Nat) ({ cls := "PermissionDeskModel", name := "save", desc := "(I)I" } : Jvm.MethodName)) ∈ lw_all := lw_g (lw_at lw_m11 83 rfl) rfl
theorem q2567 : (Jvm.Cond.methodLink "PermissionDeskLaw" (413 : Nat) ({ cls := "PermissionDeskModel", name := "restore", desc := "(I)I" } : Jvm.MethodName)) ∈ lw_all := lw_g (lw_at lw_m11 87 rfl) rfl
