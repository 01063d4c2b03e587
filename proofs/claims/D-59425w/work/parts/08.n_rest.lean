/-! PermissionDesk$Unread -/
set_option maxRecDepth 100000
def RX10 : String := "PermissionDesk$Unread"
def TX10 : u_T := fun k => match k with
  | 0 => ("java/lang/Throwable", "cause", "Ljava/lang/Throwable;", false)
  | 1 => ("java/lang/Throwable", "stackTrace", "[Ljava/lang/StackTraceElement;", false)
  | 2 => ("java/lang/Throwable", "suppressedExceptions", "Ljava/util/List;", false)
  | 3 => ("java/lang/Throwable", "detailMessage", "Ljava/lang/String;", false)
  | 4 => ("java/lang/Throwable", "backtrace", "Ljava/lang/Object;", false)
  | 5 => ("java/lang/Throwable", "depth", "I", false)
  | _ => ("PermissionDesk$Unread", "at", "I", true)
def tyX10 : Nat → FieldType := fun k => match k with
  | 0 => .object "java/lang/Throwable"
  | 1 => .array (.object "java/lang/StackTraceElement")
  | 2 => .object "java/util/List"
  | 3 => .object "java/lang/String"
  | 4 => .object "java/lang/Object"
  | 5 => .int
  | _ => .int
abbrev wsX100 : List Cond := u_ws RX10 TX10 7
theorem nmX10 : ∀ a, a < 7 → ∀ b, b < 7 → a ≠ b → (TX10 a).2.1 ≠ (TX10 b).2.1 := by decide +kernel
theorem tyX10_ok : ∀ k, k < 7 → parseFieldDescriptor (TX10 k).2.2.1 = some (tyX10 k) := by decide +kernel
abbrev cX10_init : ByteArray := prog_12_method_1_code
def yX10_init : MethodName := ⟨RX10, "<init>", "(I)V"⟩
def dkwX10_init_0 : List UInt8 := [42, 183, 0, 1, 42, 27, 181, 0, 7, 177]
abbrev dktX10_init_0 : List UInt8 := dkwX10_init_0 ++ []
theorem dksX10_init_0 : cX10_init.data.toList.drop 0 = dktX10_init_0 := by decide +kernel
theorem dX10_init_0 : decode cX10_init 0 = .ok (.aload_n 0, 1) := dk_42 (dk_at dksX10_init_0 0 rfl rfl)
theorem dX10_init_1 : decode cX10_init 1 = .ok (.invokespecial 1, 3) := dk_183 0 1 (dk_at dksX10_init_0 1 rfl rfl)
theorem dX10_init_4 : decode cX10_init 4 = .ok (.aload_n 0, 1) := dk_42 (dk_at dksX10_init_0 4 rfl rfl)
theorem dX10_init_5 : decode cX10_init 5 = .ok (.iload_n 1, 1) := dk_27 (dk_at dksX10_init_0 5 rfl rfl)
theorem dX10_init_6 : decode cX10_init 6 = .ok (.putfield 7, 3) := dk_181 0 7 (dk_at dksX10_init_0 6 rfl rfl)
theorem dX10_init_9 : decode cX10_init 9 = .ok (.return_, 1) := dk_177 (dk_at dksX10_init_0 9 rfl rfl)
theorem q118 : (Jvm.Cond.initialized "PermissionDesk$Unread") ∈ lw_all := lw_g (lw_at lw_m1 38 rfl) rfl
theorem q543 : (Jvm.Cond.selects "PermissionDesk$Unread" ({ cls := "java/lang/Throwable", name := "fillInStackTrace", desc := "()Ljava/lang/Throwable;" } : Jvm.MethodName) ({ cls := "java/lang/Throwable", name := "fillInStackTrace", desc := "()Ljava/lang/Throwable;" } : Jvm.MethodName)) ∈ lw_all := lw_g (lw_at lw_m2 223 rfl) rfl
theorem q713 : (Jvm.Cond.instantiable "PermissionDesk$Unread" (7 : Nat)) ∈ lw_all := lw_g (lw_at lw_m3 153 rfl) rfl
theorem q714 : (Jvm.Cond.castable "PermissionDesk$Unread" "PermissionDesk$Unread") ∈ lw_tbl := lw_at lw_m3 154 rfl
theorem q715 : (Jvm.Cond.selects "PermissionDesk$Unread" ({ cls := "java/lang/Throwable", name := "fillInStackTrace", desc := "(I)Ljava/lang/Throwable;" } : Jvm.MethodName) ({ cls := "java/lang/Throwable", name := "fillInStackTrace", desc := "(I)Ljava/lang/Throwable;" } : Jvm.MethodName)) ∈ lw_all := lw_g (lw_at lw_m3 155 rfl) rfl
theorem q716 : (Jvm.Cond.lays "PermissionDesk$Unread" "java/lang/Throwable" "cause" "Ljava/lang/Throwable;") ∈ lw_all := lw_g (lw_at lw_m3 156 rfl) rfl
theorem q717 : (Jvm.Cond.lays "PermissionDesk$Unread" "java/lang/Throwable" "stackTrace" "[Ljava/lang/StackTraceElement;") ∈ lw_all := lw_g (lw_at lw_m3 157 rfl) rfl
theorem q718 : (Jvm.Cond.lays "PermissionDesk$Unread" "java/lang/Throwable" "suppressedExceptions" "Ljava/util/List;") ∈ lw_all := lw_g (lw_at lw_m3 158 rfl) rfl
theorem q719 : (Jvm.Cond.lays "PermissionDesk$Unread" "java/lang/Throwable" "detailMessage" "Ljava/lang/String;") ∈ lw_all := lw_g (lw_at lw_m3 159 rfl) rfl
theorem q720 : (Jvm.Cond.lays "PermissionDesk$Unread" "java/lang/Throwable" "backtrace" "Ljava/lang/Object;") ∈ lw_all := lw_g (lw_at lw_m3 160 rfl) rfl
theorem q722 : (Jvm.Cond.instanceMethod ({ cls := "PermissionDesk$Unread", name := "<init>", desc := "(I)V" } : Jvm.MethodName)) ∈ lw_all := lw_g (lw_at lw_m3 162 rfl) rfl
theorem q723 : (Jvm.Cond.code ({ cls := "PermissionDesk$Unread", name := "<init>", desc := "(I)V" } : Jvm.MethodName) prog_12_method_1_code (2 : Nat) (Option.none : Option Jvm.ClassFile.FieldType)) ∈ lw_all := lw_g (lw_at lw_m3 163 rfl) rfl
theorem q724 : (Jvm.Cond.methodLink "PermissionDesk$Unread" (1 : Nat) ({ cls := "java/lang/Exception", name := "<init>", desc := "()V" } : Jvm.MethodName)) ∈ lw_all := lw_g (lw_at lw_m3 164 rfl) rfl
theorem q728 : (Jvm.Cond.fieldLink "PermissionDesk$Unread" (7 : Nat) "PermissionDesk$Unread" "at" "I") ∈ lw_all := lw_g (lw_at lw_m3 168 rfl) rfl
theorem q730 : (Jvm.Cond.laysFinal "PermissionDesk$Unread" "PermissionDesk$Unread" "at" "I") ∈ lw_all := lw_g (lw_at lw_m3 170 rfl) rfl
theorem q731 : (Jvm.Cond.soleField "PermissionDesk$Unread" "at") ∈ lw_all := lw_g (lw_at lw_m3 171 rfl) rfl
theorem q732 : (Jvm.Cond.lays "PermissionDesk$Unread" "java/lang/Throwable" "depth" "I") ∈ lw_all := lw_g (lw_at lw_m3 172 rfl) rfl
theorem q733 : (Jvm.Cond.superclass "PermissionDesk$Unread" "java/lang/Exception") ∈ lw_all := lw_g (lw_at lw_m3 173 rfl) rfl
theorem q872 : (Jvm.Cond.selects "PermissionDesk$Unread" ({ cls := "java/lang/Object", name := "getClass", desc := "()Ljava/lang/Class;" } : Jvm.MethodName) ({ cls := "java/lang/Object", name := "getClass", desc := "()Ljava/lang/Class;" } : Jvm.MethodName)) ∈ lw_all := lw_g (lw_at lw_m4 72 rfl) rfl
theorem q1652 : (Jvm.Cond.selects "PermissionDesk$Unread" ({ cls := "java/lang/Throwable", name := "getLocalizedMessage", desc := "()Ljava/lang/String;" } : Jvm.MethodName) ({ cls := "java/lang/Throwable", name := "getLocalizedMessage", desc := "()Ljava/lang/String;" } : Jvm.MethodName)) ∈ lw_all := lw_g (lw_at lw_m7 132 rfl) rfl
theorem q1664 : (Jvm.Cond.selects "PermissionDesk$Unread" ({ cls := "java/lang/Throwable", name := "getMessage", desc := "()Ljava/lang/String;" } : Jvm.MethodName) ({ cls := "java/lang/Throwable", name := "getMessage", desc := "()Ljava/lang/String;" } : Jvm.MethodName)) ∈ lw_all := lw_g (lw_at lw_m7 144 rfl) rfl
theorem q1681 : (Jvm.Cond.selects "PermissionDesk$Unread" ({ cls := "java/lang/Object", name := "toString", desc := "()Ljava/lang/String;" } : Jvm.MethodName) ({ cls := "java/lang/Throwable", name := "toString", desc := "()Ljava/lang/String;" } : Jvm.MethodName)) ∈ lw_all := lw_g (lw_at lw_m7 161 rfl) rfl
theorem q2610 : (Jvm.Cond.castable "PermissionDesk$Unread" "java/lang/Object") ∈ lw_tbl := lw_at lw_m11 130 rfl
theorem in_X10 : ∀ w ∈ wsX100, w ∈ lw_all := lw_in wsX100 [716, 717, 718, 719, 720, 732, 730] (by decide +kernel) (by decide +kernel)

/-! PermissionDesk$Absent -/
set_option maxRecDepth 100000
def RX11 : String := "PermissionDesk$Absent"
def TX11 : u_T := fun k => match k with
  | 0 => ("java/lang/Throwable", "cause", "Ljava/lang/Throwable;", false)
  | 1 => ("java/lang/Throwable", "stackTrace", "[Ljava/lang/StackTraceElement;", false)
  | 2 => ("java/lang/Throwable", "suppressedExceptions", "Ljava/util/List;", false)
  | 3 => ("java/lang/Throwable", "detailMessage", "Ljava/lang/String;", false)
  | 4 => ("java/lang/Throwable", "backtrace", "Ljava/lang/Object;", false)
  | _ => ("java/lang/Throwable", "depth", "I", false)
def tyX11 : Nat → FieldType := fun k => match k with
  | 0 => .object "java/lang/Throwable"
  | 1 => .array (.object "java/lang/StackTraceElement")
  | 2 => .object "java/util/List"
  | 3 => .object "java/lang/String"
  | 4 => .object "java/lang/Object"
  | _ => .int
abbrev wsX110 : List Cond := u_ws RX11 TX11 6
theorem nmX11 : ∀ a, a < 6 → ∀ b, b < 6 → a ≠ b → (TX11 a).2.1 ≠ (TX11 b).2.1 := by decide +kernel
theorem tyX11_ok : ∀ k, k < 6 → parseFieldDescriptor (TX11 k).2.2.1 = some (tyX11 k) := by decide +kernel
abbrev cX11_init : ByteArray := prog_2_method_1_code
def yX11_init : MethodName := ⟨RX11, "<init>", "()V"⟩
theorem dX11_init_0 : decode cX11_init 0 = .ok (.aload_n 0, 1) := by decide +kernel
theorem dX11_init_1 : decode cX11_init 1 = .ok (.invokespecial 1, 3) := by decide +kernel
theorem dX11_init_4 : decode cX11_init 4 = .ok (.return_, 1) := by decide +kernel
theorem q119 : (Jvm.Cond.initialized "PermissionDesk$Absent") ∈ lw_all := lw_g (lw_at lw_m1 39 rfl) rfl
theorem q541 : (Jvm.Cond.selects "PermissionDesk$Absent" ({ cls := "java/lang/Throwable", name := "fillInStackTrace", desc := "()Ljava/lang/Throwable;" } : Jvm.MethodName) ({ cls := "java/lang/Throwable", name := "fillInStackTrace", desc := "()Ljava/lang/Throwable;" } : Jvm.MethodName)) ∈ lw_all := lw_g (lw_at lw_m2 221 rfl) rfl
theorem q863 : (Jvm.Cond.selects "PermissionDesk$Absent" ({ cls := "java/lang/Object", name := "getClass", desc := "()Ljava/lang/Class;" } : Jvm.MethodName) ({ cls := "java/lang/Object", name := "getClass", desc := "()Ljava/lang/Class;" } : Jvm.MethodName)) ∈ lw_all := lw_g (lw_at lw_m4 63 rfl) rfl
theorem q1591 : (Jvm.Cond.instantiable "PermissionDesk$Absent" (6 : Nat)) ∈ lw_all := lw_g (lw_at lw_m7 71 rfl) rfl
theorem q1592 : (Jvm.Cond.castable "PermissionDesk$Absent" "PermissionDesk$Absent") ∈ lw_tbl := lw_at lw_m7 72 rfl
theorem q1593 : (Jvm.Cond.selects "PermissionDesk$Absent" ({ cls := "java/lang/Throwable", name := "fillInStackTrace", desc := "(I)Ljava/lang/Throwable;" } : Jvm.MethodName) ({ cls := "java/lang/Throwable", name := "fillInStackTrace", desc := "(I)Ljava/lang/Throwable;" } : Jvm.MethodName)) ∈ lw_all := lw_g (lw_at lw_m7 73 rfl) rfl
theorem q1594 : (Jvm.Cond.lays "PermissionDesk$Absent" "java/lang/Throwable" "cause" "Ljava/lang/Throwable;") ∈ lw_all := lw_g (lw_at lw_m7 74 rfl) rfl
theorem q1595 : (Jvm.Cond.lays "PermissionDesk$Absent" "java/lang/Throwable" "stackTrace" "[Ljava/lang/StackTraceElement;") ∈ lw_all := lw_g (lw_at lw_m7 75 rfl) rfl
theorem q1596 : (Jvm.Cond.lays "PermissionDesk$Absent" "java/lang/Throwable" "suppressedExceptions" "Ljava/util/List;") ∈ lw_all := lw_g (lw_at lw_m7 76 rfl) rfl
theorem q1597 : (Jvm.Cond.lays "PermissionDesk$Absent" "java/lang/Throwable" "detailMessage" "Ljava/lang/String;") ∈ lw_all := lw_g (lw_at lw_m7 77 rfl) rfl
theorem q1598 : (Jvm.Cond.lays "PermissionDesk$Absent" "java/lang/Throwable" "backtrace" "Ljava/lang/Object;") ∈ lw_all := lw_g (lw_at lw_m7 78 rfl) rfl
theorem q1600 : (Jvm.Cond.instanceMethod ({ cls := "PermissionDesk$Absent", name := "<init>", desc := "()V" } : Jvm.MethodName)) ∈ lw_all := lw_g (lw_at lw_m7 80 rfl) rfl
theorem q1601 : (Jvm.Cond.code ({ cls := "PermissionDesk$Absent", name := "<init>", desc := "()V" } : Jvm.MethodName) prog_2_method_1_code (1 : Nat) (Option.none : Option Jvm.ClassFile.FieldType)) ∈ lw_all := lw_g (lw_at lw_m7 81 rfl) rfl
theorem q1602 : (Jvm.Cond.methodLink "PermissionDesk$Absent" (1 : Nat) ({ cls := "java/lang/Exception", name := "<init>", desc := "()V" } : Jvm.MethodName)) ∈ lw_all := lw_g (lw_at lw_m7 82 rfl) rfl
theorem q1603 : (Jvm.Cond.lays "PermissionDesk$Absent" "java/lang/Throwable" "depth" "I") ∈ lw_all := lw_g (lw_at lw_m7 83 rfl) rfl
theorem q1604 : (Jvm.Cond.superclass "PermissionDesk$Absent" "java/lang/Exception") ∈ lw_all := lw_g (lw_at lw_m7 84 rfl) rfl
theorem q1643 : (Jvm.Cond.selects "PermissionDesk$Absent" ({ cls := "java/lang/Object", name := "toString", desc := "()Ljava/lang/String;" } : Jvm.MethodName) ({ cls := "java/lang/Throwable", name := "toString", desc := "()Ljava/lang/String;" } : Jvm.MethodName)) ∈ lw_all := lw_g (lw_at lw_m7 123 rfl) rfl
theorem q1650 : (Jvm.Cond.selects "PermissionDesk$Absent" ({ cls := "java/lang/Throwable", name := "getLocalizedMessage", desc := "()Ljava/lang/String;" } : Jvm.MethodName) ({ cls := "java/lang/Throwable", name := "getLocalizedMessage", desc := "()Ljava/lang/String;" } : Jvm.MethodName)) ∈ lw_all := lw_g (lw_at lw_m7 130 rfl) rfl
theorem q1662 : (Jvm.Cond.selects "PermissionDesk$Absent" ({ cls := "java/lang/Throwable", name := "getMessage", desc := "()Ljava/lang/String;" } : Jvm.MethodName) ({ cls := "java/lang/Throwable", name := "getMessage", desc := "()Ljava/lang/String;" } : Jvm.MethodName)) ∈ lw_all := lw_g (lw_at lw_m7 142 rfl) rfl
theorem q2611 : (Jvm.Cond.castable "PermissionDesk$Absent" "java/lang/Object") ∈ lw_tbl := lw_at lw_m11 131 rfl
theorem in_X11 : ∀ w ∈ wsX110, w ∈ lw_all := lw_in wsX110 [1594, 1595, 1596, 1597, 1598, 1603] (by decide +kernel) (by decide +kernel)

/-! PermissionDesk$Unloaded -/
set_option maxRecDepth 100000
def RX12 : String := "PermissionDesk$Unloaded"
def TX12 : u_T := fun k => match k with
  | 0 => ("java/lang/Throwable", "cause", "Ljava/lang/Throwable;", false)
  | 1 => ("java/lang/Throwable", "stackTrace", "[Ljava/lang/StackTraceElement;", false)
  | 2 => ("java/lang/Throwable", "suppressedExceptions", "Ljava/util/List;", false)
  | 3 => ("java/lang/Throwable", "detailMessage", "Ljava/lang/String;", false)
  | 4 => ("java/lang/Throwable", "backtrace", "Ljava/lang/Object;", false)
  | _ => ("java/lang/Throwable", "depth", "I", false)
def tyX12 : Nat → FieldType := fun k => match k with
  | 0 => .object "java/lang/Throwable"
  | 1 => .array (.object "java/lang/StackTraceElement")
  | 2 => .object "java/util/List"
  | 3 => .object "java/lang/String"
  | 4 => .object "java/lang/Object"
  | _ => .int
abbrev wsX120 : List Cond := u_ws RX12 TX12 6
theorem nmX12 : ∀ a, a < 6 → ∀ b, b < 6 → a ≠ b → (TX12 a).2.1 ≠ (TX12 b).2.1 := by decide +kernel
theorem tyX12_ok : ∀ k, k < 6 → parseFieldDescriptor (TX12 k).2.2.1 = some (tyX12 k) := by decide +kernel
abbrev cX12_init : ByteArray := prog_11_method_1_code
def yX12_init : MethodName := ⟨RX12, "<init>", "(Ljava/lang/Exception;)V"⟩
def dkwX12_init_0 : List UInt8 := [42, 183, 0, 1, 42, 43, 182, 0, 7, 87, 177]
abbrev dktX12_init_0 : List UInt8 := dkwX12_init_0 ++ []
theorem dksX12_init_0 : cX12_init.data.toList.drop 0 = dktX12_init_0 := by decide +kernel
theorem dX12_init_0 : decode cX12_init 0 = .ok (.aload_n 0, 1) := dk_42 (dk_at dksX12_init_0 0 rfl rfl)
theorem dX12_init_1 : decode cX12_init 1 = .ok (.invokespecial 1, 3) := dk_183 0 1 (dk_at dksX12_init_0 1 rfl rfl)
theorem dX12_init_4 : decode cX12_init 4 = .ok (.aload_n 0, 1) := dk_42 (dk_at dksX12_init_0 4 rfl rfl)
theorem dX12_init_5 : decode cX12_init 5 = .ok (.aload_n 1, 1) := dk_43 (dk_at dksX12_init_0 5 rfl rfl)
theorem dX12_init_6 : decode cX12_init 6 = .ok (.invokevirtual 7, 3) := dk_182 0 7 (dk_at dksX12_init_0 6 rfl rfl)
theorem dX12_init_9 : decode cX12_init 9 = .ok (.pop, 1) := dk_87 (dk_at dksX12_init_0 9 rfl rfl)
theorem dX12_init_10 : decode cX12_init 10 = .ok (.return_, 1) := dk_177 (dk_at dksX12_init_0 10 rfl rfl)
abbrev cX12_isOfText : ByteArray := prog_11_method_2_code
def yX12_isOfText : MethodName := ⟨RX12, "isOfText", "()Z"⟩
def dkwX12_isOfText_0 : List UInt8 := [42, 182, 0, 13, 193, 0, 17, 172]
abbrev dktX12_isOfText_0 : List UInt8 := dkwX12_isOfText_0 ++ []
theorem dksX12_isOfText_0 : cX12_isOfText.data.toList.drop 0 = dktX12_isOfText_0 := by decide +kernel
theorem dX12_isOfText_0 : decode cX12_isOfText 0 = .ok (.aload_n 0, 1) := dk_42 (dk_at dksX12_isOfText_0 0 rfl rfl)
theorem dX12_isOfText_1 : decode cX12_isOfText 1 = .ok (.invokevirtual 13, 3) := dk_182 0 13 (dk_at dksX12_isOfText_0 1 rfl rfl)
theorem dX12_isOfText_4 : decode cX12_isOfText 4 = .ok (.instanceof 17, 3) := dk_193 0 17 (dk_at dksX12_isOfText_0 4 rfl rfl)
theorem dX12_isOfText_7 : decode cX12_isOfText 7 = .ok (.ireturn, 1) := dk_172 (dk_at dksX12_isOfText_0 7 rfl rfl)
theorem q120 : (Jvm.Cond.initialized "PermissionDesk$Unloaded") ∈ lw_all := lw_g (lw_at lw_m1 40 rfl) rfl
theorem q542 : (Jvm.Cond.selects "PermissionDesk$Unloaded" ({ cls := "java/lang/Throwable", name := "fillInStackTrace", desc := "()Ljava/lang/Throwable;" } : Jvm.MethodName) ({ cls := "java/lang/Throwable", name := "fillInStackTrace", desc := "()Ljava/lang/Throwable;" } : Jvm.MethodName)) ∈ lw_all := lw_g (lw_at lw_m2 222 rfl) rfl
theorem q871 : (Jvm.Cond.selects "PermissionDesk$Unloaded" ({ cls := "java/lang/Object", name := "getClass", desc := "()Ljava/lang/Class;" } : Jvm.MethodName) ({ cls := "java/lang/Object", name := "getClass", desc := "()Ljava/lang/Class;" } : Jvm.MethodName)) ∈ lw_all := lw_g (lw_at lw_m4 71 rfl) rfl
theorem q1611 : (Jvm.Cond.instantiable "PermissionDesk$Unloaded" (6 : Nat)) ∈ lw_all := lw_g (lw_at lw_m7 91 rfl) rfl
theorem q1612 : (Jvm.Cond.castable "PermissionDesk$Unloaded" "PermissionDesk$Unloaded") ∈ lw_tbl := lw_at lw_m7 92 rfl
theorem q1613 : (Jvm.Cond.selects "PermissionDesk$Unloaded" ({ cls := "java/lang/Throwable", name := "fillInStackTrace", desc := "(I)Ljava/lang/Throwable;" } : Jvm.MethodName) ({ cls := "java/lang/Throwable", name := "fillInStackTrace", desc := "(I)Ljava/lang/Throwable;" } : Jvm.MethodName)) ∈ lw_all := lw_g (lw_at lw_m7 93 rfl) rfl
theorem q1614 : (Jvm.Cond.lays "PermissionDesk$Unloaded" "java/lang/Throwable" "cause" "Ljava/lang/Throwable;") ∈ lw_all := lw_g (lw_at lw_m7 94 rfl) rfl
theorem q1615 : (Jvm.Cond.lays "PermissionDesk$Unloaded" "java/lang/Throwable" "stackTrace" "[Ljava/lang/StackTraceElement;") ∈ lw_all := lw_g (lw_at lw_m7 95 rfl) rfl
theorem q1616 : (Jvm.Cond.lays "PermissionDesk$Unloaded" "java/lang/Throwable" "suppressedExceptions" "Ljava/util/List;") ∈ lw_all := lw_g (lw_at lw_m7 96 rfl) rfl
theorem q1617 : (Jvm.Cond.lays "PermissionDesk$Unloaded" "java/lang/Throwable" "detailMessage" "Ljava/lang/String;") ∈ lw_all := lw_g (lw_at lw_m7 97 rfl) rfl
theorem q1618 : (Jvm.Cond.lays "PermissionDesk$Unloaded" "java/lang/Throwable" "backtrace" "Ljava/lang/Object;") ∈ lw_all := lw_g (lw_at lw_m7 98 rfl) rfl
theorem q1620 : (Jvm.Cond.instanceMethod ({ cls := "PermissionDesk$Unloaded", name := "<init>", desc := "(Ljava/lang/Exception;)V" } : Jvm.MethodName)) ∈ lw_all := lw_g (lw_at lw_m7 100 rfl) rfl
theorem q1621 : (Jvm.Cond.code ({ cls := "PermissionDesk$Unloaded", name := "<init>", desc := "(Ljava/lang/Exception;)V" } : Jvm.MethodName) prog_11_method_1_code (2 : Nat) (Option.none : Option Jvm.ClassFile.FieldType)) ∈ lw_all := lw_g (lw_at lw_m7 101 rfl) rfl
theorem q1622 : (Jvm.Cond.methodLink "PermissionDesk$Unloaded" (1 : Nat) ({ cls := "java/lang/Exception", name := "<init>", desc := "()V" } : Jvm.MethodName)) ∈ lw_all := lw_g (lw_at lw_m7 102 rfl) rfl
theorem q1623 : (Jvm.Cond.methodLink "PermissionDesk$Unloaded" (7 : Nat) ({ cls := "PermissionDesk$Unloaded", name := "initCause", desc := "(Ljava/lang/Throwable;)Ljava/lang/Throwable;" } : Jvm.MethodName)) ∈ lw_all := lw_g (lw_at lw_m7 103 rfl) rfl
theorem q1624 : (Jvm.Cond.sameMethod "PermissionDesk$Unloaded" "java/lang/Throwable" "initCause" "(Ljava/lang/Throwable;)Ljava/lang/Throwable;") ∈ lw_all := lw_g (lw_at lw_m7 104 rfl) rfl
theorem q1626 : (Jvm.Cond.selects "PermissionDesk$Unloaded" ({ cls := "PermissionDesk$Unloaded", name := "initCause", desc := "(Ljava/lang/Throwable;)Ljava/lang/Throwable;" } : Jvm.MethodName) ({ cls := "java/lang/Throwable", name := "initCause", desc := "(Ljava/lang/Throwable;)Ljava/lang/Throwable;" } : Jvm.MethodName)) ∈ lw_all := lw_g (lw_at lw_m7 106 rfl) rfl
theorem q1651 : (Jvm.Cond.selects "PermissionDesk$Unloaded" ({ cls := "java/lang/Throwable", name := "getLocalizedMessage", desc := "()Ljava/lang/String;" } : Jvm.MethodName) ({ cls := "java/lang/Throwable", name := "getLocalizedMessage", desc := "()Ljava/lang/String;" } : Jvm.MethodName)) ∈ lw_all := lw_g (lw_at lw_m7 131 rfl) rfl
theorem q1663 : (Jvm.Cond.selects "PermissionDesk$Unloaded" ({ cls := "java/lang/Throwable", name := "getMessage", desc := "()Ljava/lang/String;" } : Jvm.MethodName) ({ cls := "java/lang/Throwable", name := "getMessage", desc := "()Ljava/lang/String;" } : Jvm.MethodName)) ∈ lw_all := lw_g (lw_at lw_m7 143 rfl) rfl
theorem q1680 : (Jvm.Cond.selects "PermissionDesk$Unloaded" ({ cls := "java/lang/Object", name := "toString", desc := "()Ljava/lang/String;" } : Jvm.MethodName) ({ cls := "java/lang/Throwable", name := "toString", desc := "()Ljava/lang/String;" } : Jvm.MethodName)) ∈ lw_all := lw_g (lw_at lw_m7 160 rfl) rfl
theorem q1710 : (Jvm.Cond.lays "PermissionDesk$Unloaded" "java/lang/Throwable" "depth" "I") ∈ lw_all := lw_g (lw_at lw_m7 190 rfl) rfl
theorem q1711 : (Jvm.Cond.superclass "PermissionDesk$Unloaded" "java/lang/Exception") ∈ lw_all := lw_g (lw_at lw_m7 191 rfl) rfl
theorem q1713 : (Jvm.Cond.instanceMethod ({ cls := "PermissionDesk$Unloaded", name := "isOfText", desc := "()Z" } : Jvm.MethodName)) ∈ lw_all := lw_g (lw_at lw_m7 193 rfl) rfl
theorem q1714 : (Jvm.Cond.selects "PermissionDesk$Unloaded" ({ cls := "PermissionDesk$Unloaded", name := "isOfText", desc := "()Z" } : Jvm.MethodName) ({ cls := "PermissionDesk$Unloaded", name := "isOfText", desc := "()Z" } : Jvm.MethodName)) ∈ lw_all := lw_g (lw_at lw_m7 194 rfl) rfl
theorem q1715 : (Jvm.Cond.code ({ cls := "PermissionDesk$Unloaded", name := "isOfText", desc := "()Z" } : Jvm.MethodName) prog_11_method_2_code (1 : Nat) (Option.some Jvm.ClassFile.FieldType.boolean)) ∈ lw_all := lw_g (lw_at lw_m7 195 rfl) rfl
theorem q1716 : (Jvm.Cond.methodLink "PermissionDesk$Unloaded" (13 : Nat) ({ cls := "PermissionDesk$Unloaded", name := "getCause", desc := "()Ljava/lang/Throwable;" } : Jvm.MethodName)) ∈ lw_all := lw_g (lw_at lw_m7 196 rfl) rfl
theorem q1717 : (Jvm.Cond.sameMethod "PermissionDesk$Unloaded" "java/lang/Throwable" "getCause" "()Ljava/lang/Throwable;") ∈ lw_all := lw_g (lw_at lw_m7 197 rfl) rfl
theorem q1719 : (Jvm.Cond.selects "PermissionDesk$Unloaded" ({ cls := "PermissionDesk$Unloaded", name := "getCause", desc := "()Ljava/lang/Throwable;" } : Jvm.MethodName) ({ cls := "java/lang/Throwable", name := "getCause", desc := "()Ljava/lang/Throwable;" } : Jvm.MethodName)) ∈ lw_all := lw_g (lw_at lw_m7 199 rfl) rfl
theorem q1722 : (Jvm.Cond.classLink "PermissionDesk$Unloaded" (17 : Nat) "PermissionDesk$Unread") ∈ lw_all := lw_g (lw_at lw_m7 202 rfl) rfl
theorem q2612 : (Jvm.Cond.castable "PermissionDesk$Unloaded" "java/lang/Object") ∈ lw_tbl := lw_at lw_m11 132 rfl
theorem in_X12 : ∀ w ∈ wsX120, w ∈ lw_all := lw_in wsX120 [1614, 1615, 1616, 1617, 1618, 1710] (by decide +kernel) (by decide +kernel)

/-! PermissionDesk$Land -/
set_option maxRecDepth 100000
def RX2 : String := "PermissionDesk$Land"
def TX2 : u_T := fun k => match k with
  | 0 => ("PermissionDesk$Land", "users", "I", false)
  | 1 => ("PermissionDesk$Land", "teams", "Ljava/util/ArrayList;", true)
  | 2 => ("PermissionDesk$Land", "things", "[LPermissionDesk$Thing;", true)
  | 3 => ("PermissionDesk$Land", "log", "Ljava/util/LinkedList;", true)
  | 4 => ("PermissionDesk$Land", "requests", "I", false)
  | _ => ("PermissionDesk$Land", "refusals", "I", false)
def tyX2 : Nat → FieldType := fun k => match k with
  | 0 => .int
  | 1 => .object "java/util/ArrayList"
  | 2 => .array (.object "PermissionDesk$Thing")
  | 3 => .object "java/util/LinkedList"
  | 4 => .int
  | _ => .int
abbrev wsX20 : List Cond := u_ws RX2 TX2 6
theorem nmX2 : ∀ a, a < 6 → ∀ b, b < 6 → a ≠ b → (TX2 a).2.1 ≠ (TX2 b).2.1 := by decide +kernel
theorem tyX2_ok : ∀ k, k < 6 → parseFieldDescriptor (TX2 k).2.2.1 = some (tyX2 k) := by decide +kernel
abbrev cX2_fresh : ByteArray := prog_4_method_2_code
def yX2_fresh : MethodName := ⟨RX2, "fresh", "()LPermissionDesk$Land;"⟩
def dkwX2_fresh_0 : List UInt8 := [187, 0, 10, 89, 183, 0, 35, 75, 42, 180, 0, 24, 3, 187, 0, 22, 89, 3, 183, 0, 36, 83, 42, 176]
abbrev dktX2_fresh_0 : List UInt8 := dkwX2_fresh_0 ++ []
theorem dksX2_fresh_0 : cX2_fresh.data.toList.drop 0 = dktX2_fresh_0 := by decide +kernel
theorem dX2_fresh_0 : decode cX2_fresh 0 = .ok (.new 10, 3) := dk_187 0 10 (dk_at dksX2_fresh_0 0 rfl rfl)
theorem dX2_fresh_3 : decode cX2_fresh 3 = .ok (.dup, 1) := dk_89 (dk_at dksX2_fresh_0 3 rfl rfl)
theorem dX2_fresh_4 : decode cX2_fresh 4 = .ok (.invokespecial 35, 3) := dk_183 0 35 (dk_at dksX2_fresh_0 4 rfl rfl)
theorem dX2_fresh_7 : decode cX2_fresh 7 = .ok (.astore_n 0, 1) := dk_75 (dk_at dksX2_fresh_0 7 rfl rfl)
theorem dX2_fresh_8 : decode cX2_fresh 8 = .ok (.aload_n 0, 1) := dk_42 (dk_at dksX2_fresh_0 8 rfl rfl)
theorem dX2_fresh_9 : decode cX2_fresh 9 = .ok (.getfield 24, 3) := dk_180 0 24 (dk_at dksX2_fresh_0 9 rfl rfl)
theorem dX2_fresh_12 : decode cX2_fresh 12 = .ok (.iconst 0, 1) := dk_3 (dk_at dksX2_fresh_0 12 rfl rfl)
theorem dX2_fresh_13 : decode cX2_fresh 13 = .ok (.new 22, 3) := dk_187 0 22 (dk_at dksX2_fresh_0 13 rfl rfl)
theorem dX2_fresh_16 : decode cX2_fresh 16 = .ok (.dup, 1) := dk_89 (dk_at dksX2_fresh_0 16 rfl rfl)
theorem dX2_fresh_17 : decode cX2_fresh 17 = .ok (.iconst 0, 1) := dk_3 (dk_at dksX2_fresh_0 17 rfl rfl)
theorem dX2_fresh_18 : decode cX2_fresh 18 = .ok (.invokespecial 36, 3) := dk_183 0 36 (dk_at dksX2_fresh_0 18 rfl rfl)
theorem dX2_fresh_21 : decode cX2_fresh 21 = .ok (.aastore, 1) := dk_83 (dk_at dksX2_fresh_0 21 rfl rfl)
theorem dX2_fresh_22 : decode cX2_fresh 22 = .ok (.aload_n 0, 1) := dk_42 (dk_at dksX2_fresh_0 22 rfl rfl)
theorem dX2_fresh_23 : decode cX2_fresh 23 = .ok (.areturn, 1) := dk_176 (dk_at dksX2_fresh_0 23 rfl rfl)
abbrev cX2_init : ByteArray := prog_4_method_1_code
def yX2_init : MethodName := ⟨RX2, "<init>", "()V"⟩
def dkwX2_init_1 : List UInt8 := [189, 0, 22, 181, 0, 24, 42, 187, 0, 28, 89, 183, 0, 30, 181, 0, 31, 177]
abbrev dktX2_init_1 : List UInt8 := dkwX2_init_1 ++ []
def dkwX2_init_0 : List UInt8 := [42, 183, 0, 3, 42, 4, 181, 0, 9, 42, 187, 0, 15, 89, 183, 0, 17, 181, 0, 18, 42, 16, 20]
abbrev dktX2_init_0 : List UInt8 := dkwX2_init_0 ++ dktX2_init_1
theorem dksX2_init_0 : cX2_init.data.toList.drop 0 = dktX2_init_0 := by decide +kernel
theorem dksX2_init_1 : cX2_init.data.toList.drop 23 = dktX2_init_1 := dk_seg dksX2_init_0 23 rfl rfl
theorem dX2_init_0 : decode cX2_init 0 = .ok (.aload_n 0, 1) := dk_42 (dk_at dksX2_init_0 0 rfl rfl)
theorem dX2_init_1 : decode cX2_init 1 = .ok (.invokespecial 3, 3) := dk_183 0 3 (dk_at dksX2_init_0 1 rfl rfl)
theorem dX2_init_4 : decode cX2_init 4 = .ok (.aload_n 0, 1) := dk_42 (dk_at dksX2_init_0 4 rfl rfl)
theorem dX2_init_5 : decode cX2_init 5 = .ok (.iconst 1, 1) := dk_4 (dk_at dksX2_init_0 5 rfl rfl)
theorem dX2_init_6 : decode cX2_init 6 = .ok (.putfield 9, 3) := dk_181 0 9 (dk_at dksX2_init_0 6 rfl rfl)
theorem dX2_init_9 : decode cX2_init 9 = .ok (.aload_n 0, 1) := dk_42 (dk_at dksX2_init_0 9 rfl rfl)
theorem dX2_init_10 : decode cX2_init 10 = .ok (.new 15, 3) := dk_187 0 15 (dk_at dksX2_init_0 10 rfl rfl)
theorem dX2_init_13 : decode cX2_init 13 = .ok (.dup, 1) := dk_89 (dk_at dksX2_init_0 13 rfl rfl)
theorem dX2_init_14 : decode cX2_init 14 = .ok (.invokespecial 17, 3) := dk_183 0 17 (dk_at dksX2_init_0 14 rfl rfl)
theorem dX2_init_17 : decode cX2_init 17 = .ok (.putfield 18, 3) := dk_181 0 18 (dk_at dksX2_init_0 17 rfl rfl)
theorem dX2_init_20 : decode cX2_init 20 = .ok (.aload_n 0, 1) := dk_42 (dk_at dksX2_init_0 20 rfl rfl)
theorem dX2_init_21 : decode cX2_init 21 = .ok (.bipush 20, 2) := dk_16 20 (dk_at dksX2_init_0 21 rfl rfl)
theorem dX2_init_23 : decode cX2_init 23 = .ok (.anewarray 22, 3) := dk_189 0 22 (dk_at dksX2_init_1 0 rfl rfl)
theorem dX2_init_26 : decode cX2_init 26 = .ok (.putfield 24, 3) := dk_181 0 24 (dk_at dksX2_init_1 3 rfl rfl)
theorem dX2_init_29 : decode cX2_init 29 = .ok (.aload_n 0, 1) := dk_42 (dk_at dksX2_init_1 6 rfl rfl)
theorem dX2_init_30 : decode cX2_init 30 = .ok (.new 28, 3) := dk_187 0 28 (dk_at dksX2_init_1 7 rfl rfl)
theorem dX2_init_33 : decode cX2_init 33 = .ok (.dup, 1) := dk_89 (dk_at dksX2_init_1 10 rfl rfl)
theorem dX2_init_34 : decode cX2_init 34 = .ok (.invokespecial 30, 3) := dk_183 0 30 (dk_at dksX2_init_1 11 rfl rfl)
theorem dX2_init_37 : decode cX2_init 37 = .ok (.putfield 31, 3) := dk_181 0 31 (dk_at dksX2_init_1 14 rfl rfl)
theorem dX2_init_40 : decode cX2_init 40 = .ok (.return_, 1) := dk_177 (dk_at dksX2_init_1 17 rfl rfl)
abbrev cX2_belongs : ByteArray := prog_4_method_9_code
def yX2_belongs : MethodName := ⟨RX2, "belongs", "(II)Z"⟩
def dkwX2_belongs_4 : List UInt8 := [120, 167, 0, 4, 3, 128, 62, 132, 5, 1, 167, 255, 216, 167, 255, 201, 29, 28, 184, 0, 99, 172]
abbrev dktX2_belongs_4 : List UInt8 := dkwX2_belongs_4 ++ []
def dkwX2_belongs_3 : List UInt8 := [182, 0, 84, 162, 0, 34, 29, 42, 21, 5, 182, 0, 92, 180, 0, 96, 29, 126, 153, 0, 10, 4, 21, 5]
abbrev dktX2_belongs_3 : List UInt8 := dkwX2_belongs_3 ++ dktX2_belongs_4
def dkwX2_belongs_2 : List UInt8 := [167, 255, 214, 3, 54, 4, 29, 21, 4, 159, 0, 55, 29, 54, 4, 3, 54, 5, 21, 5, 42, 180, 0, 18]
abbrev dktX2_belongs_2 : List UInt8 := dkwX2_belongs_2 ++ dktX2_belongs_3
def dkwX2_belongs_1 : List UInt8 := [180, 0, 106, 27, 184, 0, 99, 153, 0, 10, 4, 21, 4, 120, 167, 0, 4, 3, 128, 62, 132, 4, 1]
abbrev dktX2_belongs_1 : List UInt8 := dkwX2_belongs_1 ++ dktX2_belongs_2
def dkwX2_belongs_0 : List UInt8 := [3, 62, 3, 54, 4, 21, 4, 42, 180, 0, 18, 182, 0, 84, 162, 0, 36, 29, 42, 21, 4, 182, 0, 92]
abbrev dktX2_belongs_0 : List UInt8 := dkwX2_belongs_0 ++ dktX2_belongs_1
theorem dksX2_belongs_0 : cX2_belongs.data.toList.drop 0 = dktX2_belongs_0 := by decide +kernel
theorem dksX2_belongs_1 : cX2_belongs.data.toList.drop 24 = dktX2_belongs_1 := dk_seg dksX2_belongs_0 24 rfl rfl
theorem dksX2_belongs_2 : cX2_belongs.data.toList.drop 47 = dktX2_belongs_2 := dk_seg dksX2_belongs_1 23 rfl rfl
theorem dksX2_belongs_3 : cX2_belongs.data.toList.drop 71 = dktX2_belongs_3 := dk_seg dksX2_belongs_2 24 rfl rfl
theorem dksX2_belongs_4 : cX2_belongs.data.toList.drop 95 = dktX2_belongs_4 := dk_seg dksX2_belongs_3 24 rfl rfl
theorem dX2_belongs_0 : decode cX2_belongs 0 = .ok (.iconst 0, 1) := dk_3 (dk_at dksX2_belongs_0 0 rfl rfl)
theorem dX2_belongs_1 : decode cX2_belongs 1 = .ok (.istore_n 3, 1) := dk_62 (dk_at dksX2_belongs_0 1 rfl rfl)
theorem dX2_belongs_2 : decode cX2_belongs 2 = .ok (.iconst 0, 1) := dk_3 (dk_at dksX2_belongs_0 2 rfl rfl)
theorem dX2_belongs_3 : decode cX2_belongs 3 = .ok (.istore 4, 2) := dk_54 4 (dk_at dksX2_belongs_0 3 rfl rfl)
theorem dX2_belongs_5 : decode cX2_belongs 5 = .ok (.iload 4, 2) := dk_21 4 (dk_at dksX2_belongs_0 5 rfl rfl)
theorem dX2_belongs_7 : decode cX2_belongs 7 = .ok (.aload_n 0, 1) := dk_42 (dk_at dksX2_belongs_0 7 rfl rfl)
theorem dX2_belongs_8 : decode cX2_belongs 8 = .ok (.getfield 18, 3) := dk_180 0 18 (dk_at dksX2_belongs_0 8 rfl rfl)
theorem dX2_belongs_11 : decode cX2_belongs 11 = .ok (.invokevirtual 84, 3) := dk_182 0 84 (dk_at dksX2_belongs_0 11 rfl rfl)
theorem dX2_belongs_14 : decode cX2_belongs 14 = .ok (.if_icmp .ge 36, 3) := dk_162 0 36 (dk_at dksX2_belongs_0 14 rfl rfl)
theorem dX2_belongs_17 : decode cX2_belongs 17 = .ok (.iload_n 3, 1) := dk_29 (dk_at dksX2_belongs_0 17 rfl rfl)
theorem dX2_belongs_18 : decode cX2_belongs 18 = .ok (.aload_n 0, 1) := dk_42 (dk_at dksX2_belongs_0 18 rfl rfl)
theorem dX2_belongs_19 : decode cX2_belongs 19 = .ok (.iload 4, 2) := dk_21 4 (dk_at dksX2_belongs_0 19 rfl rfl)
theorem dX2_belongs_21 : decode cX2_belongs 21 = .ok (.invokevirtual 92, 3) := dk_182 0 92 (dk_at dksX2_belongs_0 21 rfl rfl)
theorem dX2_belongs_24 : decode cX2_belongs 24 = .ok (.getfield 106, 3) := dk_180 0 106 (dk_at dksX2_belongs_1 0 rfl rfl)
theorem dX2_belongs_27 : decode cX2_belongs 27 = .ok (.iload_n 1, 1) := dk_27 (dk_at dksX2_belongs_1 3 rfl rfl)
theorem dX2_belongs_28 : decode cX2_belongs 28 = .ok (.invokestatic 99, 3) := dk_184 0 99 (dk_at dksX2_belongs_1 4 rfl rfl)
theorem dX2_belongs_31 : decode cX2_belongs 31 = .ok (.ifCond .eq 10, 3) := dk_153 0 10 (dk_at dksX2_belongs_1 7 rfl rfl)
theorem dX2_belongs_34 : decode cX2_belongs 34 = .ok (.iconst 1, 1) := dk_4 (dk_at dksX2_belongs_1 10 rfl rfl)
theorem dX2_belongs_35 : decode cX2_belongs 35 = .ok (.iload 4, 2) := dk_21 4 (dk_at dksX2_belongs_1 11 rfl rfl)
theorem dX2_belongs_37 : decode cX2_belongs 37 = .ok (.ishl, 1) := dk_120 (dk_at dksX2_belongs_1 13 rfl rfl)
theorem dX2_belongs_38 : decode cX2_belongs 38 = .ok (.goto 4, 3) := dk_167 0 4 (dk_at dksX2_belongs_1 14 rfl rfl)
theorem dX2_belongs_41 : decode cX2_belongs 41 = .ok (.iconst 0, 1) := dk_3 (dk_at dksX2_belongs_1 17 rfl rfl)
theorem dX2_belongs_42 : decode cX2_belongs 42 = .ok (.ior, 1) := dk_128 (dk_at dksX2_belongs_1 18 rfl rfl)
theorem dX2_belongs_43 : decode cX2_belongs 43 = .ok (.istore_n 3, 1) := dk_62 (dk_at dksX2_belongs_1 19 rfl rfl)
theorem dX2_belongs_44 : decode cX2_belongs 44 = .ok (.iinc 4 1, 3) := dk_132 4 1 (dk_at dksX2_belongs_1 20 rfl rfl)
theorem dX2_belongs_47 : decode cX2_belongs 47 = .ok (.goto (-42), 3) := dk_167 255 214 (dk_at dksX2_belongs_2 0 rfl rfl)
theorem dX2_belongs_50 : decode cX2_belongs 50 = .ok (.iconst 0, 1) := dk_3 (dk_at dksX2_belongs_2 3 rfl rfl)
theorem dX2_belongs_51 : decode cX2_belongs 51 = .ok (.istore 4, 2) := dk_54 4 (dk_at dksX2_belongs_2 4 rfl rfl)
theorem dX2_belongs_53 : decode cX2_belongs 53 = .ok (.iload_n 3, 1) := dk_29 (dk_at dksX2_belongs_2 6 rfl rfl)
theorem dX2_belongs_54 : decode cX2_belongs 54 = .ok (.iload 4, 2) := dk_21 4 (dk_at dksX2_belongs_2 7 rfl rfl)
theorem dX2_belongs_56 : decode cX2_belongs 56 = .ok (.if_icmp .eq 55, 3) := dk_159 0 55 (dk_at dksX2_belongs_2 9 rfl rfl)
theorem dX2_belongs_59 : decode cX2_belongs 59 = .ok (.iload_n 3, 1) := dk_29 (dk_at dksX2_belongs_2 12 rfl rfl)
theorem dX2_belongs_60 : decode cX2_belongs 60 = .ok (.istore 4, 2) := dk_54 4 (dk_at dksX2_belongs_2 13 rfl rfl)
theorem dX2_belongs_62 : decode cX2_belongs 62 = .ok (.iconst 0, 1) := dk_3 (dk_at dksX2_belongs_2 15 rfl rfl)
theorem dX2_belongs_63 : decode cX2_belongs 63 = .ok (.istore 5, 2) := dk_54 5 (dk_at dksX2_belongs_2 16 rfl rfl)
theorem dX2_belongs_65 : decode cX2_belongs 65 = .ok (.iload 5, 2) := dk_21 5 (dk_at dksX2_belongs_2 18 rfl rfl)
theorem dX2_belongs_67 : decode cX2_belongs 67 = .ok (.aload_n 0, 1) := dk_42 (dk_at dksX2_belongs_2 20 rfl rfl)
theorem dX2_belongs_68 : decode cX2_belongs 68 = .ok (.getfield 18, 3) := dk_180 0 18 (dk_at dksX2_belongs_2 21 rfl rfl)
theorem dX2_belongs_71 : decode cX2_belongs 71 = .ok (.invokevirtual 84, 3) := dk_182 0 84 (dk_at dksX2_belongs_3 0 rfl rfl)
theorem dX2_belongs_74 : decode cX2_belongs 74 = .ok (.if_icmp .ge 34, 3) := dk_162 0 34 (dk_at dksX2_belongs_3 3 rfl rfl)
theorem dX2_belongs_77 : decode cX2_belongs 77 = .ok (.iload_n 3, 1) := dk_29 (dk_at dksX2_belongs_3 6 rfl rfl)
theorem dX2_belongs_78 : decode cX2_belongs 78 = .ok (.aload_n 0, 1) := dk_42 (dk_at dksX2_belongs_3 7 rfl rfl)
theorem dX2_belongs_79 : decode cX2_belongs 79 = .ok (.iload 5, 2) := dk_21 5 (dk_at dksX2_belongs_3 8 rfl rfl)
theorem dX2_belongs_81 : decode cX2_belongs 81 = .ok (.invokevirtual 92, 3) := dk_182 0 92 (dk_at dksX2_belongs_3 10 rfl rfl)
theorem dX2_belongs_84 : decode cX2_belongs 84 = .ok (.getfield 96, 3) := dk_180 0 96 (dk_at dksX2_belongs_3 13 rfl rfl)
theorem dX2_belongs_87 : decode cX2_belongs 87 = .ok (.iload_n 3, 1) := dk_29 (dk_at dksX2_belongs_3 16 rfl rfl)
theorem dX2_belongs_88 : decode cX2_belongs 88 = .ok (.iand, 1) := dk_126 (dk_at dksX2_belongs_3 17 rfl rfl)
theorem dX2_belongs_89 : decode cX2_belongs 89 = .ok (.ifCond .eq 10, 3) := dk_153 0 10 (dk_at dksX2_belongs_3 18 rfl rfl)
theorem dX2_belongs_92 : decode cX2_belongs 92 = .ok (.iconst 1, 1) := dk_4 (dk_at dksX2_belongs_3 21 rfl rfl)
theorem dX2_belongs_93 : decode cX2_belongs 93 = .ok (.iload 5, 2) := dk_21 5 (dk_at dksX2_belongs_3 22 rfl rfl)
theorem dX2_belongs_95 : decode cX2_belongs 95 = .ok (.ishl, 1) := dk_120 (dk_at dksX2_belongs_4 0 rfl rfl)
theorem dX2_belongs_96 : decode cX2_belongs 96 = .ok (.goto 4, 3) := dk_167 0 4 (dk_at dksX2_belongs_4 1 rfl rfl)
theorem dX2_belongs_99 : decode cX2_belongs 99 = .ok (.iconst 0, 1) := dk_3 (dk_at dksX2_belongs_4 4 rfl rfl)
theorem dX2_belongs_100 : decode cX2_belongs 100 = .ok (.ior, 1) := dk_128 (dk_at dksX2_belongs_4 5 rfl rfl)
theorem dX2_belongs_101 : decode cX2_belongs 101 = .ok (.istore_n 3, 1) := dk_62 (dk_at dksX2_belongs_4 6 rfl rfl)
theorem dX2_belongs_102 : decode cX2_belongs 102 = .ok (.iinc 5 1, 3) := dk_132 5 1 (dk_at dksX2_belongs_4 7 rfl rfl)
theorem dX2_belongs_105 : decode cX2_belongs 105 = .ok (.goto (-40), 3) := dk_167 255 216 (dk_at dksX2_belongs_4 10 rfl rfl)
theorem dX2_belongs_108 : decode cX2_belongs 108 = .ok (.goto (-55), 3) := dk_167 255 201 (dk_at dksX2_belongs_4 13 rfl rfl)
theorem dX2_belongs_111 : decode cX2_belongs 111 = .ok (.iload_n 3, 1) := dk_29 (dk_at dksX2_belongs_4 16 rfl rfl)
theorem dX2_belongs_112 : decode cX2_belongs 112 = .ok (.iload_n 2, 1) := dk_28 (dk_at dksX2_belongs_4 17 rfl rfl)
theorem dX2_belongs_113 : decode cX2_belongs 113 = .ok (.invokestatic 99, 3) := dk_184 0 99 (dk_at dksX2_belongs_4 18 rfl rfl)
theorem dX2_belongs_116 : decode cX2_belongs 116 = .ok (.ireturn, 1) := dk_172 (dk_at dksX2_belongs_4 21 rfl rfl)
abbrev cX2_team : ByteArray := prog_4_method_7_code
def yX2_team : MethodName := ⟨RX2, "team", "(I)LPermissionDesk$Team;"⟩
def dkwX2_team_0 : List UInt8 := [42, 180, 0, 18, 27, 182, 0, 88, 192, 0, 53, 176]
abbrev dktX2_team_0 : List UInt8 := dkwX2_team_0 ++ []
theorem dksX2_team_0 : cX2_team.data.toList.drop 0 = dktX2_team_0 := by decide +kernel
theorem dX2_team_0 : decode cX2_team 0 = .ok (.aload_n 0, 1) := dk_42 (dk_at dksX2_team_0 0 rfl rfl)
theorem dX2_team_1 : decode cX2_team 1 = .ok (.getfield 18, 3) := dk_180 0 18 (dk_at dksX2_team_0 1 rfl rfl)
theorem dX2_team_4 : decode cX2_team 4 = .ok (.iload_n 1, 1) := dk_27 (dk_at dksX2_team_0 4 rfl rfl)
theorem dX2_team_5 : decode cX2_team 5 = .ok (.invokevirtual 88, 3) := dk_182 0 88 (dk_at dksX2_team_0 5 rfl rfl)
theorem dX2_team_8 : decode cX2_team 8 = .ok (.checkcast 53, 3) := dk_192 0 53 (dk_at dksX2_team_0 8 rfl rfl)
theorem dX2_team_11 : decode cX2_team 11 = .ok (.areturn, 1) := dk_176 (dk_at dksX2_team_0 11 rfl rfl)
abbrev cX2_objects : ByteArray := prog_4_method_15_code
def yX2_objects : MethodName := ⟨RX2, "objects", "()I"⟩
def dkwX2_objects_1 : List UInt8 := [96, 60, 132, 2, 1, 167, 255, 231, 27, 172]
abbrev dktX2_objects_1 : List UInt8 := dkwX2_objects_1 ++ []
def dkwX2_objects_0 : List UInt8 := [3, 60, 3, 61, 28, 16, 20, 162, 0, 25, 27, 42, 28, 182, 0, 63, 153, 0, 7, 4, 167, 0, 4, 3]
abbrev dktX2_objects_0 : List UInt8 := dkwX2_objects_0 ++ dktX2_objects_1
theorem dksX2_objects_0 : cX2_objects.data.toList.drop 0 = dktX2_objects_0 := by decide +kernel
theorem dksX2_objects_1 : cX2_objects.data.toList.drop 24 = dktX2_objects_1 := dk_seg dksX2_objects_0 24 rfl rfl
theorem dX2_objects_0 : decode cX2_objects 0 = .ok (.iconst 0, 1) := dk_3 (dk_at dksX2_objects_0 0 rfl rfl)
theorem dX2_objects_1 : decode cX2_objects 1 = .ok (.istore_n 1, 1) := dk_60 (dk_at dksX2_objects_0 1 rfl rfl)
theorem dX2_objects_2 : decode cX2_objects 2 = .ok (.iconst 0, 1) := dk_3 (dk_at dksX2_objects_0 2 rfl rfl)
theorem dX2_objects_3 : decode cX2_objects 3 = .ok (.istore_n 2, 1) := dk_61 (dk_at dksX2_objects_0 3 rfl rfl)
theorem dX2_objects_4 : decode cX2_objects 4 = .ok (.iload_n 2, 1) := dk_28 (dk_at dksX2_objects_0 4 rfl rfl)
theorem dX2_objects_5 : decode cX2_objects 5 = .ok (.bipush 20, 2) := dk_16 20 (dk_at dksX2_objects_0 5 rfl rfl)
theorem dX2_objects_7 : decode cX2_objects 7 = .ok (.if_icmp .ge 25, 3) := dk_162 0 25 (dk_at dksX2_objects_0 7 rfl rfl)
theorem dX2_objects_10 : decode cX2_objects 10 = .ok (.iload_n 1, 1) := dk_27 (dk_at dksX2_objects_0 10 rfl rfl)
theorem dX2_objects_11 : decode cX2_objects 11 = .ok (.aload_n 0, 1) := dk_42 (dk_at dksX2_objects_0 11 rfl rfl)
theorem dX2_objects_12 : decode cX2_objects 12 = .ok (.iload_n 2, 1) := dk_28 (dk_at dksX2_objects_0 12 rfl rfl)
theorem dX2_objects_13 : decode cX2_objects 13 = .ok (.invokevirtual 63, 3) := dk_182 0 63 (dk_at dksX2_objects_0 13 rfl rfl)
theorem dX2_objects_16 : decode cX2_objects 16 = .ok (.ifCond .eq 7, 3) := dk_153 0 7 (dk_at dksX2_objects_0 16 rfl rfl)
theorem dX2_objects_19 : decode cX2_objects 19 = .ok (.iconst 1, 1) := dk_4 (dk_at dksX2_objects_0 19 rfl rfl)
theorem dX2_objects_20 : decode cX2_objects 20 = .ok (.goto 4, 3) := dk_167 0 4 (dk_at dksX2_objects_0 20 rfl rfl)
theorem dX2_objects_23 : decode cX2_objects 23 = .ok (.iconst 0, 1) := dk_3 (dk_at dksX2_objects_0 23 rfl rfl)
theorem dX2_objects_24 : decode cX2_objects 24 = .ok (.iadd, 1) := dk_96 (dk_at dksX2_objects_1 0 rfl rfl)
theorem dX2_objects_25 : decode cX2_objects 25 = .ok (.istore_n 1, 1) := dk_60 (dk_at dksX2_objects_1 1 rfl rfl)
theorem dX2_objects_26 : decode cX2_objects 26 = .ok (.iinc 2 1, 3) := dk_132 2 1 (dk_at dksX2_objects_1 2 rfl rfl)
theorem dX2_objects_29 : decode cX2_objects 29 = .ok (.goto (-25), 3) := dk_167 255 231 (dk_at dksX2_objects_1 5 rfl rfl)
theorem dX2_objects_32 : decode cX2_objects 32 = .ok (.iload_n 1, 1) := dk_27 (dk_at dksX2_objects_1 8 rfl rfl)
theorem dX2_objects_33 : decode cX2_objects 33 = .ok (.ireturn, 1) := dk_172 (dk_at dksX2_objects_1 9 rfl rfl)
abbrev cX2_has : ByteArray := prog_4_method_4_code
def yX2_has : MethodName := ⟨RX2, "has", "(I)Z"⟩
def dkwX2_has_1 : List UInt8 := [172]
abbrev dktX2_has_1 : List UInt8 := dkwX2_has_1 ++ []
def dkwX2_has_0 : List UInt8 := [27, 3, 16, 19, 184, 0, 80, 153, 0, 16, 42, 180, 0, 24, 27, 50, 198, 0, 7, 4, 167, 0, 4, 3]
abbrev dktX2_has_0 : List UInt8 := dkwX2_has_0 ++ dktX2_has_1
theorem dksX2_has_0 : cX2_has.data.toList.drop 0 = dktX2_has_0 := by decide +kernel
theorem dksX2_has_1 : cX2_has.data.toList.drop 24 = dktX2_has_1 := dk_seg dksX2_has_0 24 rfl rfl
theorem dX2_has_0 : decode cX2_has 0 = .ok (.iload_n 1, 1) := dk_27 (dk_at dksX2_has_0 0 rfl rfl)
theorem dX2_has_1 : decode cX2_has 1 = .ok (.iconst 0, 1) := dk_3 (dk_at dksX2_has_0 1 rfl rfl)
theorem dX2_has_2 : decode cX2_has 2 = .ok (.bipush 19, 2) := dk_16 19 (dk_at dksX2_has_0 2 rfl rfl)
theorem dX2_has_4 : decode cX2_has 4 = .ok (.invokestatic 80, 3) := dk_184 0 80 (dk_at dksX2_has_0 4 rfl rfl)
theorem dX2_has_7 : decode cX2_has 7 = .ok (.ifCond .eq 16, 3) := dk_153 0 16 (dk_at dksX2_has_0 7 rfl rfl)
theorem dX2_has_10 : decode cX2_has 10 = .ok (.aload_n 0, 1) := dk_42 (dk_at dksX2_has_0 10 rfl rfl)
theorem dX2_has_11 : decode cX2_has 11 = .ok (.getfield 24, 3) := dk_180 0 24 (dk_at dksX2_has_0 11 rfl rfl)
theorem dX2_has_14 : decode cX2_has 14 = .ok (.iload_n 1, 1) := dk_27 (dk_at dksX2_has_0 14 rfl rfl)
theorem dX2_has_15 : decode cX2_has 15 = .ok (.aaload, 1) := dk_50 (dk_at dksX2_has_0 15 rfl rfl)
theorem dX2_has_16 : decode cX2_has 16 = .ok (.ifnull 7, 3) := dk_198 0 7 (dk_at dksX2_has_0 16 rfl rfl)
theorem dX2_has_19 : decode cX2_has 19 = .ok (.iconst 1, 1) := dk_4 (dk_at dksX2_has_0 19 rfl rfl)
theorem dX2_has_20 : decode cX2_has 20 = .ok (.goto 4, 3) := dk_167 0 4 (dk_at dksX2_has_0 20 rfl rfl)
theorem dX2_has_23 : decode cX2_has 23 = .ok (.iconst 0, 1) := dk_3 (dk_at dksX2_has_0 23 rfl rfl)
theorem dX2_has_24 : decode cX2_has 24 = .ok (.ireturn, 1) := dk_172 (dk_at dksX2_has_1 0 rfl rfl)
abbrev cX2_allRights : ByteArray := prog_4_method_36_code
def yX2_allRights : MethodName := ⟨RX2, "allRights", "()I"⟩
def dkwX2_allRights_2 : List UInt8 := [132, 2, 1, 167, 255, 211, 27, 172]
abbrev dktX2_allRights_2 : List UInt8 := dkwX2_allRights_2 ++ []
def dkwX2_allRights_1 : List UInt8 := [182, 0, 63, 153, 0, 21, 27, 42, 29, 28, 182, 0, 202, 184, 0, 115, 96, 60, 132, 3, 1, 167, 255, 225]
abbrev dktX2_allRights_1 : List UInt8 := dkwX2_allRights_1 ++ dktX2_allRights_2
def dkwX2_allRights_0 : List UInt8 := [3, 60, 3, 61, 28, 16, 20, 162, 0, 45, 3, 62, 29, 42, 180, 0, 9, 162, 0, 29, 42, 28]
abbrev dktX2_allRights_0 : List UInt8 := dkwX2_allRights_0 ++ dktX2_allRights_1
theorem dksX2_allRights_0 : cX2_allRights.data.toList.drop 0 = dktX2_allRights_0 := by decide +kernel
theorem dksX2_allRights_1 : cX2_allRights.data.toList.drop 22 = dktX2_allRights_1 := dk_seg dksX2_allRights_0 22 rfl rfl
theorem dksX2_allRights_2 : cX2_allRights.data.toList.drop 46 = dktX2_allRights_2 := dk_seg dksX2_allRights_1 24 rfl rfl
theorem dX2_allRights_0 : decode cX2_allRights 0 = .ok (.iconst 0, 1) := dk_3 (dk_at dksX2_allRights_0 0 rfl rfl)
theorem dX2_allRights_1 : decode cX2_allRights 1 = .ok (.istore_n 1, 1) := dk_60 (dk_at dksX2_allRights_0 1 rfl rfl)
theorem dX2_allRights_2 : decode cX2_allRights 2 = .ok (.iconst 0, 1) := dk_3 (dk_at dksX2_allRights_0 2 rfl rfl)
theorem dX2_allRights_3 : decode cX2_allRights 3 = .ok (.istore_n 2, 1) := dk_61 (dk_at dksX2_allRights_0 3 rfl rfl)
theorem dX2_allRights_4 : decode cX2_allRights 4 = .ok (.iload_n 2, 1) := dk_28 (dk_at dksX2_allRights_0 4 rfl rfl)
theorem dX2_allRights_5 : decode cX2_allRights 5 = .ok (.bipush 20, 2) := dk_16 20 (dk_at dksX2_allRights_0 5 rfl rfl)
theorem dX2_allRights_7 : decode cX2_allRights 7 = .ok (.if_icmp .ge 45, 3) := dk_162 0 45 (dk_at dksX2_allRights_0 7 rfl rfl)
theorem dX2_allRights_10 : decode cX2_allRights 10 = .ok (.iconst 0, 1) := dk_3 (dk_at dksX2_allRights_0 10 rfl rfl)
theorem dX2_allRights_11 : decode cX2_allRights 11 = .ok (.istore_n 3, 1) := dk_62 (dk_at dksX2_allRights_0 11 rfl rfl)
theorem dX2_allRights_12 : decode cX2_allRights 12 = .ok (.iload_n 3, 1) := dk_29 (dk_at dksX2_allRights_0 12 rfl rfl)
theorem dX2_allRights_13 : decode cX2_allRights 13 = .ok (.aload_n 0, 1) := dk_42 (dk_at dksX2_allRights_0 13 rfl rfl)
theorem dX2_allRights_14 : decode cX2_allRights 14 = .ok (.getfield 9, 3) := dk_180 0 9 (dk_at dksX2_allRights_0 14 rfl rfl)
theorem dX2_allRights_17 : decode cX2_allRights 17 = .ok (.if_icmp .ge 29, 3) := dk_162 0 29 (dk_at dksX2_allRights_0 17 rfl rfl)
theorem dX2_allRights_20 : decode cX2_allRights 20 = .ok (.aload_n 0, 1) := dk_42 (dk_at dksX2_allRights_0 20 rfl rfl)
theorem dX2_allRights_21 : decode cX2_allRights 21 = .ok (.iload_n 2, 1) := dk_28 (dk_at dksX2_allRights_0 21 rfl rfl)
theorem dX2_allRights_22 : decode cX2_allRights 22 = .ok (.invokevirtual 63, 3) := dk_182 0 63 (dk_at dksX2_allRights_1 0 rfl rfl)
theorem dX2_allRights_25 : decode cX2_allRights 25 = .ok (.ifCond .eq 21, 3) := dk_153 0 21 (dk_at dksX2_allRights_1 3 rfl rfl)
theorem dX2_allRights_28 : decode cX2_allRights 28 = .ok (.iload_n 1, 1) := dk_27 (dk_at dksX2_allRights_1 6 rfl rfl)
theorem dX2_allRights_29 : decode cX2_allRights 29 = .ok (.aload_n 0, 1) := dk_42 (dk_at dksX2_allRights_1 7 rfl rfl)
theorem dX2_allRights_30 : decode cX2_allRights 30 = .ok (.iload_n 3, 1) := dk_29 (dk_at dksX2_allRights_1 8 rfl rfl)
theorem dX2_allRights_31 : decode cX2_allRights 31 = .ok (.iload_n 2, 1) := dk_28 (dk_at dksX2_allRights_1 9 rfl rfl)
theorem dX2_allRights_32 : decode cX2_allRights 32 = .ok (.invokevirtual 202, 3) := dk_182 0 202 (dk_at dksX2_allRights_1 10 rfl rfl)
theorem dX2_allRights_35 : decode cX2_allRights 35 = .ok (.invokestatic 115, 3) := dk_184 0 115 (dk_at dksX2_allRights_1 13 rfl rfl)
theorem dX2_allRights_38 : decode cX2_allRights 38 = .ok (.iadd, 1) := dk_96 (dk_at dksX2_allRights_1 16 rfl rfl)
theorem dX2_allRights_39 : decode cX2_allRights 39 = .ok (.istore_n 1, 1) := dk_60 (dk_at dksX2_allRights_1 17 rfl rfl)
theorem dX2_allRights_40 : decode cX2_allRights 40 = .ok (.iinc 3 1, 3) := dk_132 3 1 (dk_at dksX2_allRights_1 18 rfl rfl)
theorem dX2_allRights_43 : decode cX2_allRights 43 = .ok (.goto (-31), 3) := dk_167 255 225 (dk_at dksX2_allRights_1 21 rfl rfl)
theorem dX2_allRights_46 : decode cX2_allRights 46 = .ok (.iinc 2 1, 3) := dk_132 2 1 (dk_at dksX2_allRights_2 0 rfl rfl)
theorem dX2_allRights_49 : decode cX2_allRights 49 = .ok (.goto (-45), 3) := dk_167 255 211 (dk_at dksX2_allRights_2 3 rfl rfl)
theorem dX2_allRights_52 : decode cX2_allRights 52 = .ok (.iload_n 1, 1) := dk_27 (dk_at dksX2_allRights_2 6 rfl rfl)
theorem dX2_allRights_53 : decode cX2_allRights 53 = .ok (.ireturn, 1) := dk_172 (dk_at dksX2_allRights_2 7 rfl rfl)
abbrev cX2_rights : ByteArray := prog_4_method_31_code
def yX2_rights : MethodName := ⟨RX2, "rights", "(II)I"⟩
def dkwX2_rights_1 : List UInt8 := [21, 4, 120, 167, 0, 4, 3, 128, 62, 132, 4, 1, 167, 255, 225, 29, 172]
abbrev dktX2_rights_1 : List UInt8 := dkwX2_rights_1 ++ []
def dkwX2_rights_0 : List UInt8 := [3, 62, 3, 54, 4, 21, 4, 7, 162, 0, 31, 29, 42, 27, 28, 21, 4, 182, 0, 188, 153, 0, 10, 4]
abbrev dktX2_rights_0 : List UInt8 := dkwX2_rights_0 ++ dktX2_rights_1
theorem dksX2_rights_0 : cX2_rights.data.toList.drop 0 = dktX2_rights_0 := by decide +kernel
theorem dksX2_rights_1 : cX2_rights.data.toList.drop 24 = dktX2_rights_1 := dk_seg dksX2_rights_0 24 rfl rfl
theorem dX2_rights_0 : decode cX2_rights 0 = .ok (.iconst 0, 1) := dk_3 (dk_at dksX2_rights_0 0 rfl rfl)
theorem dX2_rights_1 : decode cX2_rights 1 = .ok (.istore_n 3, 1) := dk_62 (dk_at dksX2_rights_0 1 rfl rfl)
theorem dX2_rights_2 : decode cX2_rights 2 = .ok (.iconst 0, 1) := dk_3 (dk_at dksX2_rights_0 2 rfl rfl)
theorem dX2_rights_3 : decode cX2_rights 3 = .ok (.istore 4, 2) := dk_54 4 (dk_at dksX2_rights_0 3 rfl rfl)
theorem dX2_rights_5 : decode cX2_rights 5 = .ok (.iload 4, 2) := dk_21 4 (dk_at dksX2_rights_0 5 rfl rfl)
theorem dX2_rights_7 : decode cX2_rights 7 = .ok (.iconst 4, 1) := dk_7 (dk_at dksX2_rights_0 7 rfl rfl)
theorem dX2_rights_8 : decode cX2_rights 8 = .ok (.if_icmp .ge 31, 3) := dk_162 0 31 (dk_at dksX2_rights_0 8 rfl rfl)
theorem dX2_rights_11 : decode cX2_rights 11 = .ok (.iload_n 3, 1) := dk_29 (dk_at dksX2_rights_0 11 rfl rfl)
theorem dX2_rights_12 : decode cX2_rights 12 = .ok (.aload_n 0, 1) := dk_42 (dk_at dksX2_rights_0 12 rfl rfl)
theorem dX2_rights_13 : decode cX2_rights 13 = .ok (.iload_n 1, 1) := dk_27 (dk_at dksX2_rights_0 13 rfl rfl)
theorem dX2_rights_14 : decode cX2_rights 14 = .ok (.iload_n 2, 1) := dk_28 (dk_at dksX2_rights_0 14 rfl rfl)
theorem dX2_rights_15 : decode cX2_rights 15 = .ok (.iload 4, 2) := dk_21 4 (dk_at dksX2_rights_0 15 rfl rfl)
theorem dX2_rights_17 : decode cX2_rights 17 = .ok (.invokevirtual 188, 3) := dk_182 0 188 (dk_at dksX2_rights_0 17 rfl rfl)
theorem dX2_rights_20 : decode cX2_rights 20 = .ok (.ifCond .eq 10, 3) := dk_153 0 10 (dk_at dksX2_rights_0 20 rfl rfl)
theorem dX2_rights_23 : decode cX2_rights 23 = .ok (.iconst 1, 1) := dk_4 (dk_at dksX2_rights_0 23 rfl rfl)
theorem dX2_rights_24 : decode cX2_rights 24 = .ok (.iload 4, 2) := dk_21 4 (dk_at dksX2_rights_1 0 rfl rfl)
theorem dX2_rights_26 : decode cX2_rights 26 = .ok (.ishl, 1) := dk_120 (dk_at dksX2_rights_1 2 rfl rfl)
theorem dX2_rights_27 : decode cX2_rights 27 = .ok (.goto 4, 3) := dk_167 0 4 (dk_at dksX2_rights_1 3 rfl rfl)
theorem dX2_rights_30 : decode cX2_rights 30 = .ok (.iconst 0, 1) := dk_3 (dk_at dksX2_rights_1 6 rfl rfl)
theorem dX2_rights_31 : decode cX2_rights 31 = .ok (.ior, 1) := dk_128 (dk_at dksX2_rights_1 7 rfl rfl)
theorem dX2_rights_32 : decode cX2_rights 32 = .ok (.istore_n 3, 1) := dk_62 (dk_at dksX2_rights_1 8 rfl rfl)
theorem dX2_rights_33 : decode cX2_rights 33 = .ok (.iinc 4 1, 3) := dk_132 4 1 (dk_at dksX2_rights_1 9 rfl rfl)
theorem dX2_rights_36 : decode cX2_rights 36 = .ok (.goto (-31), 3) := dk_167 255 225 (dk_at dksX2_rights_1 12 rfl rfl)
theorem dX2_rights_39 : decode cX2_rights 39 = .ok (.iload_n 3, 1) := dk_29 (dk_at dksX2_rights_1 15 rfl rfl)
theorem dX2_rights_40 : decode cX2_rights 40 = .ok (.ireturn, 1) := dk_172 (dk_at dksX2_rights_1 16 rfl rfl)
abbrev cX2_isAllowed : ByteArray := prog_4_method_29_code
def yX2_isAllowed : MethodName := ⟨RX2, "isAllowed", "(III)Z"⟩
def dkwX2_isAllowed_1 : List UInt8 := [153, 0, 17, 42, 27, 28, 29, 182, 0, 185, 153, 0, 7, 4, 167, 0, 4, 3, 172]
abbrev dktX2_isAllowed_1 : List UInt8 := dkwX2_isAllowed_1 ++ []
def dkwX2_isAllowed_0 : List UInt8 := [42, 27, 28, 29, 182, 0, 179, 154, 0, 29, 42, 180, 0, 24, 28, 50, 180, 0, 182, 29, 184, 0, 99]
abbrev dktX2_isAllowed_0 : List UInt8 := dkwX2_isAllowed_0 ++ dktX2_isAllowed_1
theorem dksX2_isAllowed_0 : cX2_isAllowed.data.toList.drop 0 = dktX2_isAllowed_0 := by decide +kernel
theorem dksX2_isAllowed_1 : cX2_isAllowed.data.toList.drop 23 = dktX2_isAllowed_1 := dk_seg dksX2_isAllowed_0 23 rfl rfl
theorem dX2_isAllowed_0 : decode cX2_isAllowed 0 = .ok (.aload_n 0, 1) := dk_42 (dk_at dksX2_isAllowed_0 0 rfl rfl)
theorem dX2_isAllowed_1 : decode cX2_isAllowed 1 = .ok (.iload_n 1, 1) := dk_27 (dk_at dksX2_isAllowed_0 1 rfl rfl)
theorem dX2_isAllowed_2 : decode cX2_isAllowed 2 = .ok (.iload_n 2, 1) := dk_28 (dk_at dksX2_isAllowed_0 2 rfl rfl)
theorem dX2_isAllowed_3 : decode cX2_isAllowed 3 = .ok (.iload_n 3, 1) := dk_29 (dk_at dksX2_isAllowed_0 3 rfl rfl)
theorem dX2_isAllowed_4 : decode cX2_isAllowed 4 = .ok (.invokevirtual 179, 3) := dk_182 0 179 (dk_at dksX2_isAllowed_0 4 rfl rfl)
theorem dX2_isAllowed_7 : decode cX2_isAllowed 7 = .ok (.ifCond .ne 29, 3) := dk_154 0 29 (dk_at dksX2_isAllowed_0 7 rfl rfl)
theorem dX2_isAllowed_10 : decode cX2_isAllowed 10 = .ok (.aload_n 0, 1) := dk_42 (dk_at dksX2_isAllowed_0 10 rfl rfl)
theorem dX2_isAllowed_11 : decode cX2_isAllowed 11 = .ok (.getfield 24, 3) := dk_180 0 24 (dk_at dksX2_isAllowed_0 11 rfl rfl)
theorem dX2_isAllowed_14 : decode cX2_isAllowed 14 = .ok (.iload_n 2, 1) := dk_28 (dk_at dksX2_isAllowed_0 14 rfl rfl)
theorem dX2_isAllowed_15 : decode cX2_isAllowed 15 = .ok (.aaload, 1) := dk_50 (dk_at dksX2_isAllowed_0 15 rfl rfl)
theorem dX2_isAllowed_16 : decode cX2_isAllowed 16 = .ok (.getfield 182, 3) := dk_180 0 182 (dk_at dksX2_isAllowed_0 16 rfl rfl)
theorem dX2_isAllowed_19 : decode cX2_isAllowed 19 = .ok (.iload_n 3, 1) := dk_29 (dk_at dksX2_isAllowed_0 19 rfl rfl)
theorem dX2_isAllowed_20 : decode cX2_isAllowed 20 = .ok (.invokestatic 99, 3) := dk_184 0 99 (dk_at dksX2_isAllowed_0 20 rfl rfl)
theorem dX2_isAllowed_23 : decode cX2_isAllowed 23 = .ok (.ifCond .eq 17, 3) := dk_153 0 17 (dk_at dksX2_isAllowed_1 0 rfl rfl)
theorem dX2_isAllowed_26 : decode cX2_isAllowed 26 = .ok (.aload_n 0, 1) := dk_42 (dk_at dksX2_isAllowed_1 3 rfl rfl)
theorem dX2_isAllowed_27 : decode cX2_isAllowed 27 = .ok (.iload_n 1, 1) := dk_27 (dk_at dksX2_isAllowed_1 4 rfl rfl)
theorem dX2_isAllowed_28 : decode cX2_isAllowed 28 = .ok (.iload_n 2, 1) := dk_28 (dk_at dksX2_isAllowed_1 5 rfl rfl)
theorem dX2_isAllowed_29 : decode cX2_isAllowed 29 = .ok (.iload_n 3, 1) := dk_29 (dk_at dksX2_isAllowed_1 6 rfl rfl)
theorem dX2_isAllowed_30 : decode cX2_isAllowed 30 = .ok (.invokevirtual 185, 3) := dk_182 0 185 (dk_at dksX2_isAllowed_1 7 rfl rfl)
theorem dX2_isAllowed_33 : decode cX2_isAllowed 33 = .ok (.ifCond .eq 7, 3) := dk_153 0 7 (dk_at dksX2_isAllowed_1 10 rfl rfl)
theorem dX2_isAllowed_36 : decode cX2_isAllowed 36 = .ok (.iconst 1, 1) := dk_4 (dk_at dksX2_isAllowed_1 13 rfl rfl)
theorem dX2_isAllowed_37 : decode cX2_isAllowed 37 = .ok (.goto 4, 3) := dk_167 0 4 (dk_at dksX2_isAllowed_1 14 rfl rfl)
theorem dX2_isAllowed_40 : decode cX2_isAllowed 40 = .ok (.iconst 0, 1) := dk_3 (dk_at dksX2_isAllowed_1 17 rfl rfl)
theorem dX2_isAllowed_41 : decode cX2_isAllowed 41 = .ok (.ireturn, 1) := dk_172 (dk_at dksX2_isAllowed_1 18 rfl rfl)
abbrev cX2_isAllowedAnyway : ByteArray := prog_4_method_27_code
def yX2_isAllowedAnyway : MethodName := ⟨RX2, "isAllowedAnyway", "(III)Z"⟩
def dkwX2_isAllowedAnyway_1 : List UInt8 := [167, 0, 4, 3, 172]
abbrev dktX2_isAllowedAnyway_1 : List UInt8 := dkwX2_isAllowedAnyway_1 ++ []
def dkwX2_isAllowedAnyway_0 : List UInt8 := [27, 153, 0, 21, 29, 6, 160, 0, 20, 42, 180, 0, 24, 28, 50, 180, 0, 162, 27, 160, 0, 7, 4]
abbrev dktX2_isAllowedAnyway_0 : List UInt8 := dkwX2_isAllowedAnyway_0 ++ dktX2_isAllowedAnyway_1
theorem dksX2_isAllowedAnyway_0 : cX2_isAllowedAnyway.data.toList.drop 0 = dktX2_isAllowedAnyway_0 := by decide +kernel
theorem dksX2_isAllowedAnyway_1 : cX2_isAllowedAnyway.data.toList.drop 23 = dktX2_isAllowedAnyway_1 := dk_seg dksX2_isAllowedAnyway_0 23 rfl rfl
theorem dX2_isAllowedAnyway_0 : decode cX2_isAllowedAnyway 0 = .ok (.iload_n 1, 1) := dk_27 (dk_at dksX2_isAllowedAnyway_0 0 rfl rfl)
theorem dX2_isAllowedAnyway_1 : decode cX2_isAllowedAnyway 1 = .ok (.ifCond .eq 21, 3) := dk_153 0 21 (dk_at dksX2_isAllowedAnyway_0 1 rfl rfl)
theorem dX2_isAllowedAnyway_4 : decode cX2_isAllowedAnyway 4 = .ok (.iload_n 3, 1) := dk_29 (dk_at dksX2_isAllowedAnyway_0 4 rfl rfl)
theorem dX2_isAllowedAnyway_5 : decode cX2_isAllowedAnyway 5 = .ok (.iconst 3, 1) := dk_6 (dk_at dksX2_isAllowedAnyway_0 5 rfl rfl)
theorem dX2_isAllowedAnyway_6 : decode cX2_isAllowedAnyway 6 = .ok (.if_icmp .ne 20, 3) := dk_160 0 20 (dk_at dksX2_isAllowedAnyway_0 6 rfl rfl)
theorem dX2_isAllowedAnyway_9 : decode cX2_isAllowedAnyway 9 = .ok (.aload_n 0, 1) := dk_42 (dk_at dksX2_isAllowedAnyway_0 9 rfl rfl)
theorem dX2_isAllowedAnyway_10 : decode cX2_isAllowedAnyway 10 = .ok (.getfield 24, 3) := dk_180 0 24 (dk_at dksX2_isAllowedAnyway_0 10 rfl rfl)
theorem dX2_isAllowedAnyway_13 : decode cX2_isAllowedAnyway 13 = .ok (.iload_n 2, 1) := dk_28 (dk_at dksX2_isAllowedAnyway_0 13 rfl rfl)
theorem dX2_isAllowedAnyway_14 : decode cX2_isAllowedAnyway 14 = .ok (.aaload, 1) := dk_50 (dk_at dksX2_isAllowedAnyway_0 14 rfl rfl)
theorem dX2_isAllowedAnyway_15 : decode cX2_isAllowedAnyway 15 = .ok (.getfield 162, 3) := dk_180 0 162 (dk_at dksX2_isAllowedAnyway_0 15 rfl rfl)
theorem dX2_isAllowedAnyway_18 : decode cX2_isAllowedAnyway 18 = .ok (.iload_n 1, 1) := dk_27 (dk_at dksX2_isAllowedAnyway_0 18 rfl rfl)
theorem dX2_isAllowedAnyway_19 : decode cX2_isAllowedAnyway 19 = .ok (.if_icmp .ne 7, 3) := dk_160 0 7 (dk_at dksX2_isAllowedAnyway_0 19 rfl rfl)
theorem dX2_isAllowedAnyway_22 : decode cX2_isAllowedAnyway 22 = .ok (.iconst 1, 1) := dk_4 (dk_at dksX2_isAllowedAnyway_0 22 rfl rfl)
theorem dX2_isAllowedAnyway_23 : decode cX2_isAllowedAnyway 23 = .ok (.goto 4, 3) := dk_167 0 4 (dk_at dksX2_isAllowedAnyway_1 0 rfl rfl)
theorem dX2_isAllowedAnyway_26 : decode cX2_isAllowedAnyway 26 = .ok (.iconst 0, 1) := dk_3 (dk_at dksX2_isAllowedAnyway_1 3 rfl rfl)
theorem dX2_isAllowedAnyway_27 : decode cX2_isAllowedAnyway 27 = .ok (.ireturn, 1) := dk_172 (dk_at dksX2_isAllowedAnyway_1 4 rfl rfl)
abbrev cX2_isAllowedByEntry : ByteArray := prog_4_method_28_code
def yX2_isAllowedByEntry : MethodName := ⟨RX2, "isAllowedByEntry", "(III)Z"⟩
def dkwX2_isAllowedByEntry_1 : List UInt8 := [112, 182, 0, 151, 180, 0, 176, 153, 0, 7, 4, 167, 0, 4, 3, 172]
abbrev dktX2_isAllowedByEntry_1 : List UInt8 := dkwX2_isAllowedByEntry_1 ++ []
def dkwX2_isAllowedByEntry_0 : List UInt8 := [42, 27, 28, 29, 182, 0, 172, 54, 4, 21, 4, 155, 0, 27, 42, 21, 4, 16, 8, 108, 21, 4, 16, 8]
abbrev dktX2_isAllowedByEntry_0 : List UInt8 := dkwX2_isAllowedByEntry_0 ++ dktX2_isAllowedByEntry_1
theorem dksX2_isAllowedByEntry_0 : cX2_isAllowedByEntry.data.toList.drop 0 = dktX2_isAllowedByEntry_0 := by decide +kernel
theorem dksX2_isAllowedByEntry_1 : cX2_isAllowedByEntry.data.toList.drop 24 = dktX2_isAllowedByEntry_1 := dk_seg dksX2_isAllowedByEntry_0 24 rfl rfl
theorem dX2_isAllowedByEntry_0 : decode cX2_isAllowedByEntry 0 = .ok (.aload_n 0, 1) := dk_42 (dk_at dksX2_isAllowedByEntry_0 0 rfl rfl)
theorem dX2_isAllowedByEntry_1 : decode cX2_isAllowedByEntry 1 = .ok (.iload_n 1, 1) := dk_27 (dk_at dksX2_isAllowedByEntry_0 1 rfl rfl)
theorem dX2_isAllowedByEntry_2 : decode cX2_isAllowedByEntry 2 = .ok (.iload_n 2, 1) := dk_28 (dk_at dksX2_isAllowedByEntry_0 2 rfl rfl)
theorem dX2_isAllowedByEntry_3 : decode cX2_isAllowedByEntry 3 = .ok (.iload_n 3, 1) := dk_29 (dk_at dksX2_isAllowedByEntry_0 3 rfl rfl)
theorem dX2_isAllowedByEntry_4 : decode cX2_isAllowedByEntry 4 = .ok (.invokevirtual 172, 3) := dk_182 0 172 (dk_at dksX2_isAllowedByEntry_0 4 rfl rfl)
theorem dX2_isAllowedByEntry_7 : decode cX2_isAllowedByEntry 7 = .ok (.istore 4, 2) := dk_54 4 (dk_at dksX2_isAllowedByEntry_0 7 rfl rfl)
theorem dX2_isAllowedByEntry_9 : decode cX2_isAllowedByEntry 9 = .ok (.iload 4, 2) := dk_21 4 (dk_at dksX2_isAllowedByEntry_0 9 rfl rfl)
theorem dX2_isAllowedByEntry_11 : decode cX2_isAllowedByEntry 11 = .ok (.ifCond .lt 27, 3) := dk_155 0 27 (dk_at dksX2_isAllowedByEntry_0 11 rfl rfl)
theorem dX2_isAllowedByEntry_14 : decode cX2_isAllowedByEntry 14 = .ok (.aload_n 0, 1) := dk_42 (dk_at dksX2_isAllowedByEntry_0 14 rfl rfl)
theorem dX2_isAllowedByEntry_15 : decode cX2_isAllowedByEntry 15 = .ok (.iload 4, 2) := dk_21 4 (dk_at dksX2_isAllowedByEntry_0 15 rfl rfl)
theorem dX2_isAllowedByEntry_17 : decode cX2_isAllowedByEntry 17 = .ok (.bipush 8, 2) := dk_16 8 (dk_at dksX2_isAllowedByEntry_0 17 rfl rfl)
theorem dX2_isAllowedByEntry_19 : decode cX2_isAllowedByEntry 19 = .ok (.idiv, 1) := dk_108 (dk_at dksX2_isAllowedByEntry_0 19 rfl rfl)
theorem dX2_isAllowedByEntry_20 : decode cX2_isAllowedByEntry 20 = .ok (.iload 4, 2) := dk_21 4 (dk_at dksX2_isAllowedByEntry_0 20 rfl rfl)
theorem dX2_isAllowedByEntry_22 : decode cX2_isAllowedByEntry 22 = .ok (.bipush 8, 2) := dk_16 8 (dk_at dksX2_isAllowedByEntry_0 22 rfl rfl)
theorem dX2_isAllowedByEntry_24 : decode cX2_isAllowedByEntry 24 = .ok (.irem, 1) := dk_112 (dk_at dksX2_isAllowedByEntry_1 0 rfl rfl)
theorem dX2_isAllowedByEntry_25 : decode cX2_isAllowedByEntry 25 = .ok (.invokevirtual 151, 3) := dk_182 0 151 (dk_at dksX2_isAllowedByEntry_1 1 rfl rfl)
theorem dX2_isAllowedByEntry_28 : decode cX2_isAllowedByEntry 28 = .ok (.getfield 176, 3) := dk_180 0 176 (dk_at dksX2_isAllowedByEntry_1 4 rfl rfl)
theorem dX2_isAllowedByEntry_31 : decode cX2_isAllowedByEntry 31 = .ok (.ifCond .eq 7, 3) := dk_153 0 7 (dk_at dksX2_isAllowedByEntry_1 7 rfl rfl)
theorem dX2_isAllowedByEntry_34 : decode cX2_isAllowedByEntry 34 = .ok (.iconst 1, 1) := dk_4 (dk_at dksX2_isAllowedByEntry_1 10 rfl rfl)
theorem dX2_isAllowedByEntry_35 : decode cX2_isAllowedByEntry 35 = .ok (.goto 4, 3) := dk_167 0 4 (dk_at dksX2_isAllowedByEntry_1 11 rfl rfl)
theorem dX2_isAllowedByEntry_38 : decode cX2_isAllowedByEntry 38 = .ok (.iconst 0, 1) := dk_3 (dk_at dksX2_isAllowedByEntry_1 14 rfl rfl)
theorem dX2_isAllowedByEntry_39 : decode cX2_isAllowedByEntry 39 = .ok (.ireturn, 1) := dk_172 (dk_at dksX2_isAllowedByEntry_1 15 rfl rfl)
abbrev cX2_deciding : ByteArray := prog_4_method_26_code
def yX2_deciding : MethodName := ⟨RX2, "deciding", "(III)I"⟩
def dkwX2_deciding_3 : List UInt8 := [21, 5, 172]
abbrev dktX2_deciding_3 : List UInt8 := dkwX2_deciding_3 ++ []
def dkwX2_deciding_2 : List UInt8 := [21, 4, 29, 3, 182, 0, 165, 54, 5, 42, 180, 0, 24, 21, 6, 50, 182, 0, 169, 54, 6, 167, 255, 221]
abbrev dktX2_deciding_2 : List UInt8 := dkwX2_deciding_2 ++ dktX2_deciding_3
def dkwX2_deciding_1 : List UInt8 := [180, 0, 24, 28, 50, 182, 0, 169, 54, 6, 21, 6, 155, 0, 36, 21, 5, 156, 0, 31, 42, 21, 6, 27]
abbrev dktX2_deciding_1 : List UInt8 := dkwX2_deciding_1 ++ dktX2_deciding_2
def dkwX2_deciding_0 : List UInt8 := [42, 180, 0, 24, 28, 50, 180, 0, 162, 54, 4, 42, 28, 27, 21, 4, 29, 4, 182, 0, 165, 54, 5, 42]
abbrev dktX2_deciding_0 : List UInt8 := dkwX2_deciding_0 ++ dktX2_deciding_1
theorem dksX2_deciding_0 : cX2_deciding.data.toList.drop 0 = dktX2_deciding_0 := by decide +kernel
theorem dksX2_deciding_1 : cX2_deciding.data.toList.drop 24 = dktX2_deciding_1 := dk_seg dksX2_deciding_0 24 rfl rfl
theorem dksX2_deciding_2 : cX2_deciding.data.toList.drop 48 = dktX2_deciding_2 := dk_seg dksX2_deciding_1 24 rfl rfl
theorem dksX2_deciding_3 : cX2_deciding.data.toList.drop 72 = dktX2_deciding_3 := dk_seg dksX2_deciding_2 24 rfl rfl
theorem dX2_deciding_0 : decode cX2_deciding 0 = .ok (.aload_n 0, 1) := dk_42 (dk_at dksX2_deciding_0 0 rfl rfl)
theorem dX2_deciding_1 : decode cX2_deciding 1 = .ok (.getfield 24, 3) := dk_180 0 24 (dk_at dksX2_deciding_0 1 rfl rfl)
theorem dX2_deciding_4 : decode cX2_deciding 4 = .ok (.iload_n 2, 1) := dk_28 (dk_at dksX2_deciding_0 4 rfl rfl)
theorem dX2_deciding_5 : decode cX2_deciding 5 = .ok (.aaload, 1) := dk_50 (dk_at dksX2_deciding_0 5 rfl rfl)
theorem dX2_deciding_6 : decode cX2_deciding 6 = .ok (.getfield 162, 3) := dk_180 0 162 (dk_at dksX2_deciding_0 6 rfl rfl)
theorem dX2_deciding_9 : decode cX2_deciding 9 = .ok (.istore 4, 2) := dk_54 4 (dk_at dksX2_deciding_0 9 rfl rfl)
theorem dX2_deciding_11 : decode cX2_deciding 11 = .ok (.aload_n 0, 1) := dk_42 (dk_at dksX2_deciding_0 11 rfl rfl)
theorem dX2_deciding_12 : decode cX2_deciding 12 = .ok (.iload_n 2, 1) := dk_28 (dk_at dksX2_deciding_0 12 rfl rfl)
theorem dX2_deciding_13 : decode cX2_deciding 13 = .ok (.iload_n 1, 1) := dk_27 (dk_at dksX2_deciding_0 13 rfl rfl)
theorem dX2_deciding_14 : decode cX2_deciding 14 = .ok (.iload 4, 2) := dk_21 4 (dk_at dksX2_deciding_0 14 rfl rfl)
theorem dX2_deciding_16 : decode cX2_deciding 16 = .ok (.iload_n 3, 1) := dk_29 (dk_at dksX2_deciding_0 16 rfl rfl)
theorem dX2_deciding_17 : decode cX2_deciding 17 = .ok (.iconst 1, 1) := dk_4 (dk_at dksX2_deciding_0 17 rfl rfl)
theorem dX2_deciding_18 : decode cX2_deciding 18 = .ok (.invokevirtual 165, 3) := dk_182 0 165 (dk_at dksX2_deciding_0 18 rfl rfl)
theorem dX2_deciding_21 : decode cX2_deciding 21 = .ok (.istore 5, 2) := dk_54 5 (dk_at dksX2_deciding_0 21 rfl rfl)
theorem dX2_deciding_23 : decode cX2_deciding 23 = .ok (.aload_n 0, 1) := dk_42 (dk_at dksX2_deciding_0 23 rfl rfl)
theorem dX2_deciding_24 : decode cX2_deciding 24 = .ok (.getfield 24, 3) := dk_180 0 24 (dk_at dksX2_deciding_1 0 rfl rfl)
theorem dX2_deciding_27 : decode cX2_deciding 27 = .ok (.iload_n 2, 1) := dk_28 (dk_at dksX2_deciding_1 3 rfl rfl)
theorem dX2_deciding_28 : decode cX2_deciding 28 = .ok (.aaload, 1) := dk_50 (dk_at dksX2_deciding_1 4 rfl rfl)
theorem dX2_deciding_29 : decode cX2_deciding 29 = .ok (.invokevirtual 169, 3) := dk_182 0 169 (dk_at dksX2_deciding_1 5 rfl rfl)
theorem dX2_deciding_32 : decode cX2_deciding 32 = .ok (.istore 6, 2) := dk_54 6 (dk_at dksX2_deciding_1 8 rfl rfl)
theorem dX2_deciding_34 : decode cX2_deciding 34 = .ok (.iload 6, 2) := dk_21 6 (dk_at dksX2_deciding_1 10 rfl rfl)
theorem dX2_deciding_36 : decode cX2_deciding 36 = .ok (.ifCond .lt 36, 3) := dk_155 0 36 (dk_at dksX2_deciding_1 12 rfl rfl)
theorem dX2_deciding_39 : decode cX2_deciding 39 = .ok (.iload 5, 2) := dk_21 5 (dk_at dksX2_deciding_1 15 rfl rfl)
theorem dX2_deciding_41 : decode cX2_deciding 41 = .ok (.ifCond .ge 31, 3) := dk_156 0 31 (dk_at dksX2_deciding_1 17 rfl rfl)
theorem dX2_deciding_44 : decode cX2_deciding 44 = .ok (.aload_n 0, 1) := dk_42 (dk_at dksX2_deciding_1 20 rfl rfl)
theorem dX2_deciding_45 : decode cX2_deciding 45 = .ok (.iload 6, 2) := dk_21 6 (dk_at dksX2_deciding_1 21 rfl rfl)
theorem dX2_deciding_47 : decode cX2_deciding 47 = .ok (.iload_n 1, 1) := dk_27 (dk_at dksX2_deciding_1 23 rfl rfl)
theorem dX2_deciding_48 : decode cX2_deciding 48 = .ok (.iload 4, 2) := dk_21 4 (dk_at dksX2_deciding_2 0 rfl rfl)
theorem dX2_deciding_50 : decode cX2_deciding 50 = .ok (.iload_n 3, 1) := dk_29 (dk_at dksX2_deciding_2 2 rfl rfl)
theorem dX2_deciding_51 : decode cX2_deciding 51 = .ok (.iconst 0, 1) := dk_3 (dk_at dksX2_deciding_2 3 rfl rfl)
theorem dX2_deciding_52 : decode cX2_deciding 52 = .ok (.invokevirtual 165, 3) := dk_182 0 165 (dk_at dksX2_deciding_2 4 rfl rfl)
theorem dX2_deciding_55 : decode cX2_deciding 55 = .ok (.istore 5, 2) := dk_54 5 (dk_at dksX2_deciding_2 7 rfl rfl)
theorem dX2_deciding_57 : decode cX2_deciding 57 = .ok (.aload_n 0, 1) := dk_42 (dk_at dksX2_deciding_2 9 rfl rfl)
theorem dX2_deciding_58 : decode cX2_deciding 58 = .ok (.getfield 24, 3) := dk_180 0 24 (dk_at dksX2_deciding_2 10 rfl rfl)
theorem dX2_deciding_61 : decode cX2_deciding 61 = .ok (.iload 6, 2) := dk_21 6 (dk_at dksX2_deciding_2 13 rfl rfl)
theorem dX2_deciding_63 : decode cX2_deciding 63 = .ok (.aaload, 1) := dk_50 (dk_at dksX2_deciding_2 15 rfl rfl)
theorem dX2_deciding_64 : decode cX2_deciding 64 = .ok (.invokevirtual 169, 3) := dk_182 0 169 (dk_at dksX2_deciding_2 16 rfl rfl)
theorem dX2_deciding_67 : decode cX2_deciding 67 = .ok (.istore 6, 2) := dk_54 6 (dk_at dksX2_deciding_2 19 rfl rfl)
theorem dX2_deciding_69 : decode cX2_deciding 69 = .ok (.goto (-35), 3) := dk_167 255 221 (dk_at dksX2_deciding_2 21 rfl rfl)
theorem dX2_deciding_72 : decode cX2_deciding 72 = .ok (.iload 5, 2) := dk_21 5 (dk_at dksX2_deciding_3 0 rfl rfl)
theorem dX2_deciding_74 : decode cX2_deciding 74 = .ok (.ireturn, 1) := dk_172 (dk_at dksX2_deciding_3 2 rfl rfl)
abbrev cX2_first : ByteArray := prog_4_method_25_code
def yX2_first : MethodName := ⟨RX2, "first", "(IIIIZ)I"⟩
def dkwX2_first_2 : List UInt8 := [21, 4, 182, 0, 158, 153, 0, 11, 16, 8, 27, 104, 21, 6, 96, 172, 132, 6, 1, 167, 255, 193, 2, 172]
abbrev dktX2_first_2 : List UInt8 := dkwX2_first_2 ++ []
def dkwX2_first_1 : List UInt8 := [182, 0, 151, 58, 7, 21, 5, 154, 0, 11, 25, 7, 180, 0, 155, 153, 0, 24, 25, 7, 42, 28, 29]
abbrev dktX2_first_1 : List UInt8 := dkwX2_first_1 ++ dktX2_first_2
def dkwX2_first_0 : List UInt8 := [3, 54, 6, 21, 6, 42, 180, 0, 24, 27, 50, 180, 0, 133, 182, 0, 84, 162, 0, 52, 42, 27, 21, 6]
abbrev dktX2_first_0 : List UInt8 := dkwX2_first_0 ++ dktX2_first_1
theorem dksX2_first_0 : cX2_first.data.toList.drop 0 = dktX2_first_0 := by decide +kernel
theorem dksX2_first_1 : cX2_first.data.toList.drop 24 = dktX2_first_1 := dk_seg dksX2_first_0 24 rfl rfl
theorem dksX2_first_2 : cX2_first.data.toList.drop 47 = dktX2_first_2 := dk_seg dksX2_first_1 23 rfl rfl
theorem dX2_first_0 : decode cX2_first 0 = .ok (.iconst 0, 1) := dk_3 (dk_at dksX2_first_0 0 rfl rfl)
theorem dX2_first_1 : decode cX2_first 1 = .ok (.istore 6, 2) := dk_54 6 (dk_at dksX2_first_0 1 rfl rfl)
theorem dX2_first_3 : decode cX2_first 3 = .ok (.iload 6, 2) := dk_21 6 (dk_at dksX2_first_0 3 rfl rfl)
theorem dX2_first_5 : decode cX2_first 5 = .ok (.aload_n 0, 1) := dk_42 (dk_at dksX2_first_0 5 rfl rfl)
theorem dX2_first_6 : decode cX2_first 6 = .ok (.getfield 24, 3) := dk_180 0 24 (dk_at dksX2_first_0 6 rfl rfl)
theorem dX2_first_9 : decode cX2_first 9 = .ok (.iload_n 1, 1) := dk_27 (dk_at dksX2_first_0 9 rfl rfl)
theorem dX2_first_10 : decode cX2_first 10 = .ok (.aaload, 1) := dk_50 (dk_at dksX2_first_0 10 rfl rfl)
theorem dX2_first_11 : decode cX2_first 11 = .ok (.getfield 133, 3) := dk_180 0 133 (dk_at dksX2_first_0 11 rfl rfl)
theorem dX2_first_14 : decode cX2_first 14 = .ok (.invokevirtual 84, 3) := dk_182 0 84 (dk_at dksX2_first_0 14 rfl rfl)
theorem dX2_first_17 : decode cX2_first 17 = .ok (.if_icmp .ge 52, 3) := dk_162 0 52 (dk_at dksX2_first_0 17 rfl rfl)
theorem dX2_first_20 : decode cX2_first 20 = .ok (.aload_n 0, 1) := dk_42 (dk_at dksX2_first_0 20 rfl rfl)
theorem dX2_first_21 : decode cX2_first 21 = .ok (.iload_n 1, 1) := dk_27 (dk_at dksX2_first_0 21 rfl rfl)
theorem dX2_first_22 : decode cX2_first 22 = .ok (.iload 6, 2) := dk_21 6 (dk_at dksX2_first_0 22 rfl rfl)
theorem dX2_first_24 : decode cX2_first 24 = .ok (.invokevirtual 151, 3) := dk_182 0 151 (dk_at dksX2_first_1 0 rfl rfl)
theorem dX2_first_27 : decode cX2_first 27 = .ok (.astore 7, 2) := dk_58 7 (dk_at dksX2_first_1 3 rfl rfl)
theorem dX2_first_29 : decode cX2_first 29 = .ok (.iload 5, 2) := dk_21 5 (dk_at dksX2_first_1 5 rfl rfl)
theorem dX2_first_31 : decode cX2_first 31 = .ok (.ifCond .ne 11, 3) := dk_154 0 11 (dk_at dksX2_first_1 7 rfl rfl)
theorem dX2_first_34 : decode cX2_first 34 = .ok (.aload 7, 2) := dk_25 7 (dk_at dksX2_first_1 10 rfl rfl)
theorem dX2_first_36 : decode cX2_first 36 = .ok (.getfield 155, 3) := dk_180 0 155 (dk_at dksX2_first_1 12 rfl rfl)
theorem dX2_first_39 : decode cX2_first 39 = .ok (.ifCond .eq 24, 3) := dk_153 0 24 (dk_at dksX2_first_1 15 rfl rfl)
theorem dX2_first_42 : decode cX2_first 42 = .ok (.aload 7, 2) := dk_25 7 (dk_at dksX2_first_1 18 rfl rfl)
theorem dX2_first_44 : decode cX2_first 44 = .ok (.aload_n 0, 1) := dk_42 (dk_at dksX2_first_1 20 rfl rfl)
theorem dX2_first_45 : decode cX2_first 45 = .ok (.iload_n 2, 1) := dk_28 (dk_at dksX2_first_1 21 rfl rfl)
theorem dX2_first_46 : decode cX2_first 46 = .ok (.iload_n 3, 1) := dk_29 (dk_at dksX2_first_1 22 rfl rfl)
theorem dX2_first_47 : decode cX2_first 47 = .ok (.iload 4, 2) := dk_21 4 (dk_at dksX2_first_2 0 rfl rfl)
theorem dX2_first_49 : decode cX2_first 49 = .ok (.invokevirtual 158, 3) := dk_182 0 158 (dk_at dksX2_first_2 2 rfl rfl)
theorem dX2_first_52 : decode cX2_first 52 = .ok (.ifCond .eq 11, 3) := dk_153 0 11 (dk_at dksX2_first_2 5 rfl rfl)
theorem dX2_first_55 : decode cX2_first 55 = .ok (.bipush 8, 2) := dk_16 8 (dk_at dksX2_first_2 8 rfl rfl)
theorem dX2_first_57 : decode cX2_first 57 = .ok (.iload_n 1, 1) := dk_27 (dk_at dksX2_first_2 10 rfl rfl)
theorem dX2_first_58 : decode cX2_first 58 = .ok (.imul, 1) := dk_104 (dk_at dksX2_first_2 11 rfl rfl)
theorem dX2_first_59 : decode cX2_first 59 = .ok (.iload 6, 2) := dk_21 6 (dk_at dksX2_first_2 12 rfl rfl)
theorem dX2_first_61 : decode cX2_first 61 = .ok (.iadd, 1) := dk_96 (dk_at dksX2_first_2 14 rfl rfl)
theorem dX2_first_62 : decode cX2_first 62 = .ok (.ireturn, 1) := dk_172 (dk_at dksX2_first_2 15 rfl rfl)
theorem dX2_first_63 : decode cX2_first 63 = .ok (.iinc 6 1, 3) := dk_132 6 1 (dk_at dksX2_first_2 16 rfl rfl)
theorem dX2_first_66 : decode cX2_first 66 = .ok (.goto (-63), 3) := dk_167 255 193 (dk_at dksX2_first_2 19 rfl rfl)
theorem dX2_first_69 : decode cX2_first 69 = .ok (.iconst (-1), 1) := dk_2 (dk_at dksX2_first_2 22 rfl rfl)
theorem dX2_first_70 : decode cX2_first 70 = .ok (.ireturn, 1) := dk_172 (dk_at dksX2_first_2 23 rfl rfl)
abbrev cX2_entry : ByteArray := prog_4_method_24_code
def yX2_entry : MethodName := ⟨RX2, "entry", "(II)LPermissionDesk$Entry;"⟩
def dkwX2_entry_0 : List UInt8 := [42, 180, 0, 24, 27, 50, 180, 0, 133, 28, 182, 0, 88, 192, 0, 145, 176]
abbrev dktX2_entry_0 : List UInt8 := dkwX2_entry_0 ++ []
theorem dksX2_entry_0 : cX2_entry.data.toList.drop 0 = dktX2_entry_0 := by decide +kernel
theorem dX2_entry_0 : decode cX2_entry 0 = .ok (.aload_n 0, 1) := dk_42 (dk_at dksX2_entry_0 0 rfl rfl)
theorem dX2_entry_1 : decode cX2_entry 1 = .ok (.getfield 24, 3) := dk_180 0 24 (dk_at dksX2_entry_0 1 rfl rfl)
theorem dX2_entry_4 : decode cX2_entry 4 = .ok (.iload_n 1, 1) := dk_27 (dk_at dksX2_entry_0 4 rfl rfl)
theorem dX2_entry_5 : decode cX2_entry 5 = .ok (.aaload, 1) := dk_50 (dk_at dksX2_entry_0 5 rfl rfl)
theorem dX2_entry_6 : decode cX2_entry 6 = .ok (.getfield 133, 3) := dk_180 0 133 (dk_at dksX2_entry_0 6 rfl rfl)
theorem dX2_entry_9 : decode cX2_entry 9 = .ok (.iload_n 2, 1) := dk_28 (dk_at dksX2_entry_0 9 rfl rfl)
theorem dX2_entry_10 : decode cX2_entry 10 = .ok (.invokevirtual 88, 3) := dk_182 0 88 (dk_at dksX2_entry_0 10 rfl rfl)
theorem dX2_entry_13 : decode cX2_entry 13 = .ok (.checkcast 145, 3) := dk_192 0 145 (dk_at dksX2_entry_0 13 rfl rfl)
theorem dX2_entry_16 : decode cX2_entry 16 = .ok (.areturn, 1) := dk_176 (dk_at dksX2_entry_0 16 rfl rfl)
abbrev cX2_copy : ByteArray := prog_4_method_3_code
def yX2_copy : MethodName := ⟨RX2, "copy", "()LPermissionDesk$Land;"⟩
def dkwX2_copy_5 : List UInt8 := [42, 180, 0, 77, 181, 0, 77, 43, 176]
abbrev dktX2_copy_5 : List UInt8 := dkwX2_copy_5 ++ []
def dkwX2_copy_4 : List UInt8 := [167, 255, 220, 43, 180, 0, 31, 42, 180, 0, 31, 182, 0, 70, 87, 43, 42, 180, 0, 74, 181, 0, 74, 43]
abbrev dktX2_copy_4 : List UInt8 := dkwX2_copy_4 ++ dktX2_copy_5
def dkwX2_copy_3 : List UInt8 := [28, 182, 0, 63, 153, 0, 15, 42, 180, 0, 24, 28, 50, 182, 0, 67, 167, 0, 4, 1, 83, 132, 2, 1]
abbrev dktX2_copy_3 : List UInt8 := dkwX2_copy_3 ++ dktX2_copy_4
def dkwX2_copy_2 : List UInt8 := [182, 0, 55, 182, 0, 59, 87, 167, 255, 225, 3, 61, 28, 16, 20, 162, 0, 36, 43, 180, 0, 24, 28, 42]
abbrev dktX2_copy_2 : List UInt8 := dkwX2_copy_2 ++ dktX2_copy_3
def dkwX2_copy_1 : List UInt8 := [44, 185, 0, 43, 1, 0, 153, 0, 28, 44, 185, 0, 49, 1, 0, 192, 0, 53, 78, 43, 180, 0, 18, 45]
abbrev dktX2_copy_1 : List UInt8 := dkwX2_copy_1 ++ dktX2_copy_2
def dkwX2_copy_0 : List UInt8 := [187, 0, 10, 89, 183, 0, 35, 76, 43, 42, 180, 0, 9, 181, 0, 9, 42, 180, 0, 18, 182, 0, 39, 77]
abbrev dktX2_copy_0 : List UInt8 := dkwX2_copy_0 ++ dktX2_copy_1
theorem dksX2_copy_0 : cX2_copy.data.toList.drop 0 = dktX2_copy_0 := by decide +kernel
theorem dksX2_copy_1 : cX2_copy.data.toList.drop 24 = dktX2_copy_1 := dk_seg dksX2_copy_0 24 rfl rfl
theorem dksX2_copy_2 : cX2_copy.data.toList.drop 48 = dktX2_copy_2 := dk_seg dksX2_copy_1 24 rfl rfl
theorem dksX2_copy_3 : cX2_copy.data.toList.drop 72 = dktX2_copy_3 := dk_seg dksX2_copy_2 24 rfl rfl
theorem dksX2_copy_4 : cX2_copy.data.toList.drop 96 = dktX2_copy_4 := dk_seg dksX2_copy_3 24 rfl rfl
theorem dksX2_copy_5 : cX2_copy.data.toList.drop 120 = dktX2_copy_5 := dk_seg dksX2_copy_4 24 rfl rfl
theorem dX2_copy_0 : decode cX2_copy 0 = .ok (.new 10, 3) := dk_187 0 10 (dk_at dksX2_copy_0 0 rfl rfl)
theorem dX2_copy_3 : decode cX2_copy 3 = .ok (.dup, 1) := dk_89 (dk_at dksX2_copy_0 3 rfl rfl)
theorem dX2_copy_4 : decode cX2_copy 4 = .ok (.invokespecial 35, 3) := dk_183 0 35 (dk_at dksX2_copy_0 4 rfl rfl)
theorem dX2_copy_7 : decode cX2_copy 7 = .ok (.astore_n 1, 1) := dk_76 (dk_at dksX2_copy_0 7 rfl rfl)
theorem dX2_copy_8 : decode cX2_copy 8 = .ok (.aload_n 1, 1) := dk_43 (dk_at dksX2_copy_0 8 rfl rfl)
theorem dX2_copy_9 : decode cX2_copy 9 = .ok (.aload_n 0, 1) := dk_42 (dk_at dksX2_copy_0 9 rfl rfl)
theorem dX2_copy_10 : decode cX2_copy 10 = .ok (.getfield 9, 3) := dk_180 0 9 (dk_at dksX2_copy_0 10 rfl rfl)
theorem dX2_copy_13 : decode cX2_copy 13 = .ok (.putfield 9, 3) := dk_181 0 9 (dk_at dksX2_copy_0 13 rfl rfl)
theorem dX2_copy_16 : decode cX2_copy 16 = .ok (.aload_n 0, 1) := dk_42 (dk_at dksX2_copy_0 16 rfl rfl)
theorem dX2_copy_17 : decode cX2_copy 17 = .ok (.getfield 18, 3) := dk_180 0 18 (dk_at dksX2_copy_0 17 rfl rfl)
theorem dX2_copy_20 : decode cX2_copy 20 = .ok (.invokevirtual 39, 3) := dk_182 0 39 (dk_at dksX2_copy_0 20 rfl rfl)
theorem dX2_copy_23 : decode cX2_copy 23 = .ok (.astore_n 2, 1) := dk_77 (dk_at dksX2_copy_0 23 rfl rfl)
theorem dX2_copy_24 : decode cX2_copy 24 = .ok (.aload_n 2, 1) := dk_44 (dk_at dksX2_copy_1 0 rfl rfl)
theorem dX2_copy_25 : decode cX2_copy 25 = .ok (.invokeinterface 43 1, 5) := by decide +kernel
theorem dX2_copy_30 : decode cX2_copy 30 = .ok (.ifCond .eq 28, 3) := dk_153 0 28 (dk_at dksX2_copy_1 6 rfl rfl)
theorem dX2_copy_33 : decode cX2_copy 33 = .ok (.aload_n 2, 1) := dk_44 (dk_at dksX2_copy_1 9 rfl rfl)
theorem dX2_copy_34 : decode cX2_copy 34 = .ok (.invokeinterface 49 1, 5) := by decide +kernel
theorem dX2_copy_39 : decode cX2_copy 39 = .ok (.checkcast 53, 3) := dk_192 0 53 (dk_at dksX2_copy_1 15 rfl rfl)
theorem dX2_copy_42 : decode cX2_copy 42 = .ok (.astore_n 3, 1) := dk_78 (dk_at dksX2_copy_1 18 rfl rfl)
theorem dX2_copy_43 : decode cX2_copy 43 = .ok (.aload_n 1, 1) := dk_43 (dk_at dksX2_copy_1 19 rfl rfl)
theorem dX2_copy_44 : decode cX2_copy 44 = .ok (.getfield 18, 3) := dk_180 0 18 (dk_at dksX2_copy_1 20 rfl rfl)
theorem dX2_copy_47 : decode cX2_copy 47 = .ok (.aload_n 3, 1) := dk_45 (dk_at dksX2_copy_1 23 rfl rfl)
theorem dX2_copy_48 : decode cX2_copy 48 = .ok (.invokevirtual 55, 3) := dk_182 0 55 (dk_at dksX2_copy_2 0 rfl rfl)
theorem dX2_copy_51 : decode cX2_copy 51 = .ok (.invokevirtual 59, 3) := dk_182 0 59 (dk_at dksX2_copy_2 3 rfl rfl)
theorem dX2_copy_54 : decode cX2_copy 54 = .ok (.pop, 1) := dk_87 (dk_at dksX2_copy_2 6 rfl rfl)
theorem dX2_copy_55 : decode cX2_copy 55 = .ok (.goto (-31), 3) := dk_167 255 225 (dk_at dksX2_copy_2 7 rfl rfl)
theorem dX2_copy_58 : decode cX2_copy 58 = .ok (.iconst 0, 1) := dk_3 (dk_at dksX2_copy_2 10 rfl rfl)
theorem dX2_copy_59 : decode cX2_copy 59 = .ok (.istore_n 2, 1) := dk_61 (dk_at dksX2_copy_2 11 rfl rfl)
theorem dX2_copy_60 : decode cX2_copy 60 = .ok (.iload_n 2, 1) := dk_28 (dk_at dksX2_copy_2 12 rfl rfl)
theorem dX2_copy_61 : decode cX2_copy 61 = .ok (.bipush 20, 2) := dk_16 20 (dk_at dksX2_copy_2 13 rfl rfl)
theorem dX2_copy_63 : decode cX2_copy 63 = .ok (.if_icmp .ge 36, 3) := dk_162 0 36 (dk_at dksX2_copy_2 15 rfl rfl)
theorem dX2_copy_66 : decode cX2_copy 66 = .ok (.aload_n 1, 1) := dk_43 (dk_at dksX2_copy_2 18 rfl rfl)
theorem dX2_copy_67 : decode cX2_copy 67 = .ok (.getfield 24, 3) := dk_180 0 24 (dk_at dksX2_copy_2 19 rfl rfl)
theorem dX2_copy_70 : decode cX2_copy 70 = .ok (.iload_n 2, 1) := dk_28 (dk_at dksX2_copy_2 22 rfl rfl)
theorem dX2_copy_71 : decode cX2_copy 71 = .ok (.aload_n 0, 1) := dk_42 (dk_at dksX2_copy_2 23 rfl rfl)
theorem dX2_copy_72 : decode cX2_copy 72 = .ok (.iload_n 2, 1) := dk_28 (dk_at dksX2_copy_3 0 rfl rfl)
theorem dX2_copy_73 : decode cX2_copy 73 = .ok (.invokevirtual 63, 3) := dk_182 0 63 (dk_at dksX2_copy_3 1 rfl rfl)
theorem dX2_copy_76 : decode cX2_copy 76 = .ok (.ifCond .eq 15, 3) := dk_153 0 15 (dk_at dksX2_copy_3 4 rfl rfl)
theorem dX2_copy_79 : decode cX2_copy 79 = .ok (.aload_n 0, 1) := dk_42 (dk_at dksX2_copy_3 7 rfl rfl)
theorem dX2_copy_80 : decode cX2_copy 80 = .ok (.getfield 24, 3) := dk_180 0 24 (dk_at dksX2_copy_3 8 rfl rfl)
theorem dX2_copy_83 : decode cX2_copy 83 = .ok (.iload_n 2, 1) := dk_28 (dk_at dksX2_copy_3 11 rfl rfl)
theorem dX2_copy_84 : decode cX2_copy 84 = .ok (.aaload, 1) := dk_50 (dk_at dksX2_copy_3 12 rfl rfl)
theorem dX2_copy_85 : decode cX2_copy 85 = .ok (.invokevirtual 67, 3) := dk_182 0 67 (dk_at dksX2_copy_3 13 rfl rfl)
theorem dX2_copy_88 : decode cX2_copy 88 = .ok (.goto 4, 3) := dk_167 0 4 (dk_at dksX2_copy_3 16 rfl rfl)
theorem dX2_copy_91 : decode cX2_copy 91 = .ok (.aconst_null, 1) := dk_1 (dk_at dksX2_copy_3 19 rfl rfl)
theorem dX2_copy_92 : decode cX2_copy 92 = .ok (.aastore, 1) := dk_83 (dk_at dksX2_copy_3 20 rfl rfl)
theorem dX2_copy_93 : decode cX2_copy 93 = .ok (.iinc 2 1, 3) := dk_132 2 1 (dk_at dksX2_copy_3 21 rfl rfl)
theorem dX2_copy_96 : decode cX2_copy 96 = .ok (.goto (-36), 3) := dk_167 255 220 (dk_at dksX2_copy_4 0 rfl rfl)
theorem dX2_copy_99 : decode cX2_copy 99 = .ok (.aload_n 1, 1) := dk_43 (dk_at dksX2_copy_4 3 rfl rfl)
theorem dX2_copy_100 : decode cX2_copy 100 = .ok (.getfield 31, 3) := dk_180 0 31 (dk_at dksX2_copy_4 4 rfl rfl)
theorem dX2_copy_103 : decode cX2_copy 103 = .ok (.aload_n 0, 1) := dk_42 (dk_at dksX2_copy_4 7 rfl rfl)
theorem dX2_copy_104 : decode cX2_copy 104 = .ok (.getfield 31, 3) := dk_180 0 31 (dk_at dksX2_copy_4 8 rfl rfl)
theorem dX2_copy_107 : decode cX2_copy 107 = .ok (.invokevirtual 70, 3) := dk_182 0 70 (dk_at dksX2_copy_4 11 rfl rfl)
theorem dX2_copy_110 : decode cX2_copy 110 = .ok (.pop, 1) := dk_87 (dk_at dksX2_copy_4 14 rfl rfl)
theorem dX2_copy_111 : decode cX2_copy 111 = .ok (.aload_n 1, 1) := dk_43 (dk_at dksX2_copy_4 15 rfl rfl)
theorem dX2_copy_112 : decode cX2_copy 112 = .ok (.aload_n 0, 1) := dk_42 (dk_at dksX2_copy_4 16 rfl rfl)
theorem dX2_copy_113 : decode cX2_copy 113 = .ok (.getfield 74, 3) := dk_180 0 74 (dk_at dksX2_copy_4 17 rfl rfl)
theorem dX2_copy_116 : decode cX2_copy 116 = .ok (.putfield 74, 3) := dk_181 0 74 (dk_at dksX2_copy_4 20 rfl rfl)
theorem dX2_copy_119 : decode cX2_copy 119 = .ok (.aload_n 1, 1) := dk_43 (dk_at dksX2_copy_4 23 rfl rfl)
theorem dX2_copy_120 : decode cX2_copy 120 = .ok (.aload_n 0, 1) := dk_42 (dk_at dksX2_copy_5 0 rfl rfl)
theorem dX2_copy_121 : decode cX2_copy 121 = .ok (.getfield 77, 3) := dk_180 0 77 (dk_at dksX2_copy_5 1 rfl rfl)
theorem dX2_copy_124 : decode cX2_copy 124 = .ok (.putfield 77, 3) := dk_181 0 77 (dk_at dksX2_copy_5 4 rfl rfl)
theorem dX2_copy_127 : decode cX2_copy 127 = .ok (.aload_n 1, 1) := dk_43 (dk_at dksX2_copy_5 7 rfl rfl)
theorem dX2_copy_128 : decode cX2_copy 128 = .ok (.areturn, 1) := dk_176 (dk_at dksX2_copy_5 8 rfl rfl)
abbrev cX2_hasUser : ByteArray := prog_4_method_5_code
def yX2_hasUser : MethodName := ⟨RX2, "hasUser", "(I)Z"⟩
def dkwX2_hasUser_0 : List UInt8 := [27, 3, 42, 180, 0, 9, 4, 100, 184, 0, 80, 172]
abbrev dktX2_hasUser_0 : List UInt8 := dkwX2_hasUser_0 ++ []
theorem dksX2_hasUser_0 : cX2_hasUser.data.toList.drop 0 = dktX2_hasUser_0 := by decide +kernel
theorem dX2_hasUser_0 : decode cX2_hasUser 0 = .ok (.iload_n 1, 1) := dk_27 (dk_at dksX2_hasUser_0 0 rfl rfl)
theorem dX2_hasUser_1 : decode cX2_hasUser 1 = .ok (.iconst 0, 1) := dk_3 (dk_at dksX2_hasUser_0 1 rfl rfl)
theorem dX2_hasUser_2 : decode cX2_hasUser 2 = .ok (.aload_n 0, 1) := dk_42 (dk_at dksX2_hasUser_0 2 rfl rfl)
theorem dX2_hasUser_3 : decode cX2_hasUser 3 = .ok (.getfield 9, 3) := dk_180 0 9 (dk_at dksX2_hasUser_0 3 rfl rfl)
theorem dX2_hasUser_6 : decode cX2_hasUser 6 = .ok (.iconst 1, 1) := dk_4 (dk_at dksX2_hasUser_0 6 rfl rfl)
theorem dX2_hasUser_7 : decode cX2_hasUser 7 = .ok (.isub, 1) := dk_100 (dk_at dksX2_hasUser_0 7 rfl rfl)
theorem dX2_hasUser_8 : decode cX2_hasUser 8 = .ok (.invokestatic 80, 3) := dk_184 0 80 (dk_at dksX2_hasUser_0 8 rfl rfl)
theorem dX2_hasUser_11 : decode cX2_hasUser 11 = .ok (.ireturn, 1) := dk_172 (dk_at dksX2_hasUser_0 11 rfl rfl)
abbrev cX2_hasGroup : ByteArray := prog_4_method_6_code
def yX2_hasGroup : MethodName := ⟨RX2, "hasGroup", "(I)Z"⟩
def dkwX2_hasGroup_0 : List UInt8 := [27, 3, 42, 180, 0, 18, 182, 0, 84, 4, 100, 184, 0, 80, 172]
abbrev dktX2_hasGroup_0 : List UInt8 := dkwX2_hasGroup_0 ++ []
theorem dksX2_hasGroup_0 : cX2_hasGroup.data.toList.drop 0 = dktX2_hasGroup_0 := by decide +kernel
theorem dX2_hasGroup_0 : decode cX2_hasGroup 0 = .ok (.iload_n 1, 1) := dk_27 (dk_at dksX2_hasGroup_0 0 rfl rfl)
theorem dX2_hasGroup_1 : decode cX2_hasGroup 1 = .ok (.iconst 0, 1) := dk_3 (dk_at dksX2_hasGroup_0 1 rfl rfl)
theorem dX2_hasGroup_2 : decode cX2_hasGroup 2 = .ok (.aload_n 0, 1) := dk_42 (dk_at dksX2_hasGroup_0 2 rfl rfl)
theorem dX2_hasGroup_3 : decode cX2_hasGroup 3 = .ok (.getfield 18, 3) := dk_180 0 18 (dk_at dksX2_hasGroup_0 3 rfl rfl)
theorem dX2_hasGroup_6 : decode cX2_hasGroup 6 = .ok (.invokevirtual 84, 3) := dk_182 0 84 (dk_at dksX2_hasGroup_0 6 rfl rfl)
theorem dX2_hasGroup_9 : decode cX2_hasGroup 9 = .ok (.iconst 1, 1) := dk_4 (dk_at dksX2_hasGroup_0 9 rfl rfl)
theorem dX2_hasGroup_10 : decode cX2_hasGroup 10 = .ok (.isub, 1) := dk_100 (dk_at dksX2_hasGroup_0 10 rfl rfl)
theorem dX2_hasGroup_11 : decode cX2_hasGroup 11 = .ok (.invokestatic 80, 3) := dk_184 0 80 (dk_at dksX2_hasGroup_0 11 rfl rfl)
theorem dX2_hasGroup_14 : decode cX2_hasGroup 14 = .ok (.ireturn, 1) := dk_172 (dk_at dksX2_hasGroup_0 14 rfl rfl)
abbrev cX2_joins : ByteArray := prog_4_method_11_code
def yX2_joins : MethodName := ⟨RX2, "joins", "(II)I"⟩
def dkwX2_joins_1 : List UInt8 := [28, 182, 0, 92, 89, 180, 0, 106, 4, 27, 120, 128, 181, 0, 106, 42, 28, 182, 0, 107, 184, 0, 115, 172]
abbrev dktX2_joins_1 : List UInt8 := dkwX2_joins_1 ++ []
def dkwX2_joins_0 : List UInt8 := [42, 28, 182, 0, 92, 180, 0, 106, 27, 184, 0, 99, 154, 0, 7, 4, 167, 0, 4, 3, 184, 0, 111, 42]
abbrev dktX2_joins_0 : List UInt8 := dkwX2_joins_0 ++ dktX2_joins_1
theorem dksX2_joins_0 : cX2_joins.data.toList.drop 0 = dktX2_joins_0 := by decide +kernel
theorem dksX2_joins_1 : cX2_joins.data.toList.drop 24 = dktX2_joins_1 := dk_seg dksX2_joins_0 24 rfl rfl
theorem dX2_joins_0 : decode cX2_joins 0 = .ok (.aload_n 0, 1) := dk_42 (dk_at dksX2_joins_0 0 rfl rfl)
theorem dX2_joins_1 : decode cX2_joins 1 = .ok (.iload_n 2, 1) := dk_28 (dk_at dksX2_joins_0 1 rfl rfl)
theorem dX2_joins_2 : decode cX2_joins 2 = .ok (.invokevirtual 92, 3) := dk_182 0 92 (dk_at dksX2_joins_0 2 rfl rfl)
theorem dX2_joins_5 : decode cX2_joins 5 = .ok (.getfield 106, 3) := dk_180 0 106 (dk_at dksX2_joins_0 5 rfl rfl)
theorem dX2_joins_8 : decode cX2_joins 8 = .ok (.iload_n 1, 1) := dk_27 (dk_at dksX2_joins_0 8 rfl rfl)
theorem dX2_joins_9 : decode cX2_joins 9 = .ok (.invokestatic 99, 3) := dk_184 0 99 (dk_at dksX2_joins_0 9 rfl rfl)
theorem dX2_joins_12 : decode cX2_joins 12 = .ok (.ifCond .ne 7, 3) := dk_154 0 7 (dk_at dksX2_joins_0 12 rfl rfl)
theorem dX2_joins_15 : decode cX2_joins 15 = .ok (.iconst 1, 1) := dk_4 (dk_at dksX2_joins_0 15 rfl rfl)
theorem dX2_joins_16 : decode cX2_joins 16 = .ok (.goto 4, 3) := dk_167 0 4 (dk_at dksX2_joins_0 16 rfl rfl)
theorem dX2_joins_19 : decode cX2_joins 19 = .ok (.iconst 0, 1) := dk_3 (dk_at dksX2_joins_0 19 rfl rfl)
theorem dX2_joins_20 : decode cX2_joins 20 = .ok (.invokestatic 111, 3) := dk_184 0 111 (dk_at dksX2_joins_0 20 rfl rfl)
theorem dX2_joins_23 : decode cX2_joins 23 = .ok (.aload_n 0, 1) := dk_42 (dk_at dksX2_joins_0 23 rfl rfl)
theorem dX2_joins_24 : decode cX2_joins 24 = .ok (.iload_n 2, 1) := dk_28 (dk_at dksX2_joins_1 0 rfl rfl)
theorem dX2_joins_25 : decode cX2_joins 25 = .ok (.invokevirtual 92, 3) := dk_182 0 92 (dk_at dksX2_joins_1 1 rfl rfl)
theorem dX2_joins_28 : decode cX2_joins 28 = .ok (.dup, 1) := dk_89 (dk_at dksX2_joins_1 4 rfl rfl)
theorem dX2_joins_29 : decode cX2_joins 29 = .ok (.getfield 106, 3) := dk_180 0 106 (dk_at dksX2_joins_1 5 rfl rfl)
theorem dX2_joins_32 : decode cX2_joins 32 = .ok (.iconst 1, 1) := dk_4 (dk_at dksX2_joins_1 8 rfl rfl)
theorem dX2_joins_33 : decode cX2_joins 33 = .ok (.iload_n 1, 1) := dk_27 (dk_at dksX2_joins_1 9 rfl rfl)
theorem dX2_joins_34 : decode cX2_joins 34 = .ok (.ishl, 1) := dk_120 (dk_at dksX2_joins_1 10 rfl rfl)
theorem dX2_joins_35 : decode cX2_joins 35 = .ok (.ior, 1) := dk_128 (dk_at dksX2_joins_1 11 rfl rfl)
theorem dX2_joins_36 : decode cX2_joins 36 = .ok (.putfield 106, 3) := dk_181 0 106 (dk_at dksX2_joins_1 12 rfl rfl)
theorem dX2_joins_39 : decode cX2_joins 39 = .ok (.aload_n 0, 1) := dk_42 (dk_at dksX2_joins_1 15 rfl rfl)
theorem dX2_joins_40 : decode cX2_joins 40 = .ok (.iload_n 2, 1) := dk_28 (dk_at dksX2_joins_1 16 rfl rfl)
theorem dX2_joins_41 : decode cX2_joins 41 = .ok (.invokevirtual 107, 3) := dk_182 0 107 (dk_at dksX2_joins_1 17 rfl rfl)
theorem dX2_joins_44 : decode cX2_joins 44 = .ok (.invokestatic 115, 3) := dk_184 0 115 (dk_at dksX2_joins_1 20 rfl rfl)
theorem dX2_joins_47 : decode cX2_joins 47 = .ok (.ireturn, 1) := dk_172 (dk_at dksX2_joins_1 23 rfl rfl)
abbrev cX2_belonging : ByteArray := prog_4_method_10_code
def yX2_belonging : MethodName := ⟨RX2, "belonging", "(I)I"⟩
def dkwX2_belonging_2 : List UInt8 := [61, 132, 3, 1, 167, 255, 215, 28, 172]
abbrev dktX2_belonging_2 : List UInt8 := dkwX2_belonging_2 ++ []
def dkwX2_belonging_1 : List UInt8 := [27, 182, 0, 92, 180, 0, 96, 29, 184, 0, 99, 153, 0, 11, 42, 29, 182, 0, 107, 167, 0, 4, 3, 128]
abbrev dktX2_belonging_1 : List UInt8 := dkwX2_belonging_1 ++ dktX2_belonging_2
def dkwX2_belonging_0 : List UInt8 := [42, 27, 182, 0, 92, 180, 0, 106, 61, 3, 62, 29, 42, 180, 0, 18, 182, 0, 84, 162, 0, 36, 28, 42]
abbrev dktX2_belonging_0 : List UInt8 := dkwX2_belonging_0 ++ dktX2_belonging_1
theorem dksX2_belonging_0 : cX2_belonging.data.toList.drop 0 = dktX2_belonging_0 := by decide +kernel
theorem dksX2_belonging_1 : cX2_belonging.data.toList.drop 24 = dktX2_belonging_1 := dk_seg dksX2_belonging_0 24 rfl rfl
theorem dksX2_belonging_2 : cX2_belonging.data.toList.drop 48 = dktX2_belonging_2 := dk_seg dksX2_belonging_1 24 rfl rfl
theorem dX2_belonging_0 : decode cX2_belonging 0 = .ok (.aload_n 0, 1) := dk_42 (dk_at dksX2_belonging_0 0 rfl rfl)
theorem dX2_belonging_1 : decode cX2_belonging 1 = .ok (.iload_n 1, 1) := dk_27 (dk_at dksX2_belonging_0 1 rfl rfl)
theorem dX2_belonging_2 : decode cX2_belonging 2 = .ok (.invokevirtual 92, 3) := dk_182 0 92 (dk_at dksX2_belonging_0 2 rfl rfl)
theorem dX2_belonging_5 : decode cX2_belonging 5 = .ok (.getfield 106, 3) := dk_180 0 106 (dk_at dksX2_belonging_0 5 rfl rfl)
theorem dX2_belonging_8 : decode cX2_belonging 8 = .ok (.istore_n 2, 1) := dk_61 (dk_at dksX2_belonging_0 8 rfl rfl)
theorem dX2_belonging_9 : decode cX2_belonging 9 = .ok (.iconst 0, 1) := dk_3 (dk_at dksX2_belonging_0 9 rfl rfl)
theorem dX2_belonging_10 : decode cX2_belonging 10 = .ok (.istore_n 3, 1) := dk_62 (dk_at dksX2_belonging_0 10 rfl rfl)
theorem dX2_belonging_11 : decode cX2_belonging 11 = .ok (.iload_n 3, 1) := dk_29 (dk_at dksX2_belonging_0 11 rfl rfl)
theorem dX2_belonging_12 : decode cX2_belonging 12 = .ok (.aload_n 0, 1) := dk_42 (dk_at dksX2_belonging_0 12 rfl rfl)
theorem dX2_belonging_13 : decode cX2_belonging 13 = .ok (.getfield 18, 3) := dk_180 0 18 (dk_at dksX2_belonging_0 13 rfl rfl)
theorem dX2_belonging_16 : decode cX2_belonging 16 = .ok (.invokevirtual 84, 3) := dk_182 0 84 (dk_at dksX2_belonging_0 16 rfl rfl)
theorem dX2_belonging_19 : decode cX2_belonging 19 = .ok (.if_icmp .ge 36, 3) := dk_162 0 36 (dk_at dksX2_belonging_0 19 rfl rfl)
theorem dX2_belonging_22 : decode cX2_belonging 22 = .ok (.iload_n 2, 1) := dk_28 (dk_at dksX2_belonging_0 22 rfl rfl)
theorem dX2_belonging_23 : decode cX2_belonging 23 = .ok (.aload_n 0, 1) := dk_42 (dk_at dksX2_belonging_0 23 rfl rfl)
theorem dX2_belonging_24 : decode cX2_belonging 24 = .ok (.iload_n 1, 1) := dk_27 (dk_at dksX2_belonging_1 0 rfl rfl)
theorem dX2_belonging_25 : decode cX2_belonging 25 = .ok (.invokevirtual 92, 3) := dk_182 0 92 (dk_at dksX2_belonging_1 1 rfl rfl)
theorem dX2_belonging_28 : decode cX2_belonging 28 = .ok (.getfield 96, 3) := dk_180 0 96 (dk_at dksX2_belonging_1 4 rfl rfl)
theorem dX2_belonging_31 : decode cX2_belonging 31 = .ok (.iload_n 3, 1) := dk_29 (dk_at dksX2_belonging_1 7 rfl rfl)
theorem dX2_belonging_32 : decode cX2_belonging 32 = .ok (.invokestatic 99, 3) := dk_184 0 99 (dk_at dksX2_belonging_1 8 rfl rfl)
theorem dX2_belonging_35 : decode cX2_belonging 35 = .ok (.ifCond .eq 11, 3) := dk_153 0 11 (dk_at dksX2_belonging_1 11 rfl rfl)
theorem dX2_belonging_38 : decode cX2_belonging 38 = .ok (.aload_n 0, 1) := dk_42 (dk_at dksX2_belonging_1 14 rfl rfl)
theorem dX2_belonging_39 : decode cX2_belonging 39 = .ok (.iload_n 3, 1) := dk_29 (dk_at dksX2_belonging_1 15 rfl rfl)
theorem dX2_belonging_40 : decode cX2_belonging 40 = .ok (.invokevirtual 107, 3) := dk_182 0 107 (dk_at dksX2_belonging_1 16 rfl rfl)
theorem dX2_belonging_43 : decode cX2_belonging 43 = .ok (.goto 4, 3) := dk_167 0 4 (dk_at dksX2_belonging_1 19 rfl rfl)
theorem dX2_belonging_46 : decode cX2_belonging 46 = .ok (.iconst 0, 1) := dk_3 (dk_at dksX2_belonging_1 22 rfl rfl)
theorem dX2_belonging_47 : decode cX2_belonging 47 = .ok (.ior, 1) := dk_128 (dk_at dksX2_belonging_1 23 rfl rfl)
theorem dX2_belonging_48 : decode cX2_belonging 48 = .ok (.istore_n 2, 1) := dk_61 (dk_at dksX2_belonging_2 0 rfl rfl)
theorem dX2_belonging_49 : decode cX2_belonging 49 = .ok (.iinc 3 1, 3) := dk_132 3 1 (dk_at dksX2_belonging_2 1 rfl rfl)
theorem dX2_belonging_52 : decode cX2_belonging 52 = .ok (.goto (-41), 3) := dk_167 255 215 (dk_at dksX2_belonging_2 4 rfl rfl)
theorem dX2_belonging_55 : decode cX2_belonging 55 = .ok (.iload_n 2, 1) := dk_28 (dk_at dksX2_belonging_2 7 rfl rfl)
theorem dX2_belonging_56 : decode cX2_belonging 56 = .ok (.ireturn, 1) := dk_172 (dk_at dksX2_belonging_2 8 rfl rfl)
abbrev cX2_leaves : ByteArray := prog_4_method_12_code
def yX2_leaves : MethodName := ⟨RX2, "leaves", "(II)I"⟩
def dkwX2_leaves_1 : List UInt8 := [4, 27, 120, 2, 130, 126, 181, 0, 106, 42, 28, 182, 0, 107, 184, 0, 115, 172]
abbrev dktX2_leaves_1 : List UInt8 := dkwX2_leaves_1 ++ []
def dkwX2_leaves_0 : List UInt8 := [42, 28, 182, 0, 92, 180, 0, 106, 27, 184, 0, 99, 184, 0, 111, 42, 28, 182, 0, 92, 89, 180, 0, 106]
abbrev dktX2_leaves_0 : List UInt8 := dkwX2_leaves_0 ++ dktX2_leaves_1
theorem dksX2_leaves_0 : cX2_leaves.data.toList.drop 0 = dktX2_leaves_0 := by decide +kernel
theorem dksX2_leaves_1 : cX2_leaves.data.toList.drop 24 = dktX2_leaves_1 := dk_seg dksX2_leaves_0 24 rfl rfl
theorem dX2_leaves_0 : decode cX2_leaves 0 = .ok (.aload_n 0, 1) := dk_42 (dk_at dksX2_leaves_0 0 rfl rfl)
theorem dX2_leaves_1 : decode cX2_leaves 1 = .ok (.iload_n 2, 1) := dk_28 (dk_at dksX2_leaves_0 1 rfl rfl)
theorem dX2_leaves_2 : decode cX2_leaves 2 = .ok (.invokevirtual 92, 3) := dk_182 0 92 (dk_at dksX2_leaves_0 2 rfl rfl)
theorem dX2_leaves_5 : decode cX2_leaves 5 = .ok (.getfield 106, 3) := dk_180 0 106 (dk_at dksX2_leaves_0 5 rfl rfl)
theorem dX2_leaves_8 : decode cX2_leaves 8 = .ok (.iload_n 1, 1) := dk_27 (dk_at dksX2_leaves_0 8 rfl rfl)
theorem dX2_leaves_9 : decode cX2_leaves 9 = .ok (.invokestatic 99, 3) := dk_184 0 99 (dk_at dksX2_leaves_0 9 rfl rfl)
theorem dX2_leaves_12 : decode cX2_leaves 12 = .ok (.invokestatic 111, 3) := dk_184 0 111 (dk_at dksX2_leaves_0 12 rfl rfl)
theorem dX2_leaves_15 : decode cX2_leaves 15 = .ok (.aload_n 0, 1) := dk_42 (dk_at dksX2_leaves_0 15 rfl rfl)
theorem dX2_leaves_16 : decode cX2_leaves 16 = .ok (.iload_n 2, 1) := dk_28 (dk_at dksX2_leaves_0 16 rfl rfl)
theorem dX2_leaves_17 : decode cX2_leaves 17 = .ok (.invokevirtual 92, 3) := dk_182 0 92 (dk_at dksX2_leaves_0 17 rfl rfl)
theorem dX2_leaves_20 : decode cX2_leaves 20 = .ok (.dup, 1) := dk_89 (dk_at dksX2_leaves_0 20 rfl rfl)
theorem dX2_leaves_21 : decode cX2_leaves 21 = .ok (.getfield 106, 3) := dk_180 0 106 (dk_at dksX2_leaves_0 21 rfl rfl)
theorem dX2_leaves_24 : decode cX2_leaves 24 = .ok (.iconst 1, 1) := dk_4 (dk_at dksX2_leaves_1 0 rfl rfl)
theorem dX2_leaves_25 : decode cX2_leaves 25 = .ok (.iload_n 1, 1) := dk_27 (dk_at dksX2_leaves_1 1 rfl rfl)
theorem dX2_leaves_26 : decode cX2_leaves 26 = .ok (.ishl, 1) := dk_120 (dk_at dksX2_leaves_1 2 rfl rfl)
theorem dX2_leaves_27 : decode cX2_leaves 27 = .ok (.iconst (-1), 1) := dk_2 (dk_at dksX2_leaves_1 3 rfl rfl)
theorem dX2_leaves_28 : decode cX2_leaves 28 = .ok (.ixor, 1) := dk_130 (dk_at dksX2_leaves_1 4 rfl rfl)
theorem dX2_leaves_29 : decode cX2_leaves 29 = .ok (.iand, 1) := dk_126 (dk_at dksX2_leaves_1 5 rfl rfl)
theorem dX2_leaves_30 : decode cX2_leaves 30 = .ok (.putfield 106, 3) := dk_181 0 106 (dk_at dksX2_leaves_1 6 rfl rfl)
theorem dX2_leaves_33 : decode cX2_leaves 33 = .ok (.aload_n 0, 1) := dk_42 (dk_at dksX2_leaves_1 9 rfl rfl)
theorem dX2_leaves_34 : decode cX2_leaves 34 = .ok (.iload_n 2, 1) := dk_28 (dk_at dksX2_leaves_1 10 rfl rfl)
theorem dX2_leaves_35 : decode cX2_leaves 35 = .ok (.invokevirtual 107, 3) := dk_182 0 107 (dk_at dksX2_leaves_1 11 rfl rfl)
theorem dX2_leaves_38 : decode cX2_leaves 38 = .ok (.invokestatic 115, 3) := dk_184 0 115 (dk_at dksX2_leaves_1 14 rfl rfl)
theorem dX2_leaves_41 : decode cX2_leaves 41 = .ok (.ireturn, 1) := dk_172 (dk_at dksX2_leaves_1 17 rfl rfl)
abbrev cX2_nests : ByteArray := prog_4_method_13_code
def yX2_nests : MethodName := ⟨RX2, "nests", "(II)I"⟩
def dkwX2_nests_2 : List UInt8 := [27, 120, 128, 181, 0, 96, 42, 28, 182, 0, 107, 184, 0, 115, 172]
abbrev dktX2_nests_2 : List UInt8 := dkwX2_nests_2 ++ []
def dkwX2_nests_1 : List UInt8 := [182, 0, 103, 154, 0, 7, 4, 167, 0, 4, 3, 184, 0, 111, 42, 28, 182, 0, 92, 89, 180, 0, 96, 4]
abbrev dktX2_nests_1 : List UInt8 := dkwX2_nests_1 ++ dktX2_nests_2
def dkwX2_nests_0 : List UInt8 := [27, 28, 159, 0, 31, 42, 28, 182, 0, 92, 180, 0, 96, 27, 184, 0, 99, 154, 0, 16, 42, 28, 27]
abbrev dktX2_nests_0 : List UInt8 := dkwX2_nests_0 ++ dktX2_nests_1
theorem dksX2_nests_0 : cX2_nests.data.toList.drop 0 = dktX2_nests_0 := by decide +kernel
theorem dksX2_nests_1 : cX2_nests.data.toList.drop 23 = dktX2_nests_1 := dk_seg dksX2_nests_0 23 rfl rfl
theorem dksX2_nests_2 : cX2_nests.data.toList.drop 47 = dktX2_nests_2 := dk_seg dksX2_nests_1 24 rfl rfl
theorem dX2_nests_0 : decode cX2_nests 0 = .ok (.iload_n 1, 1) := dk_27 (dk_at dksX2_nests_0 0 rfl rfl)
theorem dX2_nests_1 : decode cX2_nests 1 = .ok (.iload_n 2, 1) := dk_28 (dk_at dksX2_nests_0 1 rfl rfl)
theorem dX2_nests_2 : decode cX2_nests 2 = .ok (.if_icmp .eq 31, 3) := dk_159 0 31 (dk_at dksX2_nests_0 2 rfl rfl)
theorem dX2_nests_5 : decode cX2_nests 5 = .ok (.aload_n 0, 1) := dk_42 (dk_at dksX2_nests_0 5 rfl rfl)
theorem dX2_nests_6 : decode cX2_nests 6 = .ok (.iload_n 2, 1) := dk_28 (dk_at dksX2_nests_0 6 rfl rfl)
theorem dX2_nests_7 : decode cX2_nests 7 = .ok (.invokevirtual 92, 3) := dk_182 0 92 (dk_at dksX2_nests_0 7 rfl rfl)
theorem dX2_nests_10 : decode cX2_nests 10 = .ok (.getfield 96, 3) := dk_180 0 96 (dk_at dksX2_nests_0 10 rfl rfl)
theorem dX2_nests_13 : decode cX2_nests 13 = .ok (.iload_n 1, 1) := dk_27 (dk_at dksX2_nests_0 13 rfl rfl)
theorem dX2_nests_14 : decode cX2_nests 14 = .ok (.invokestatic 99, 3) := dk_184 0 99 (dk_at dksX2_nests_0 14 rfl rfl)
theorem dX2_nests_17 : decode cX2_nests 17 = .ok (.ifCond .ne 16, 3) := dk_154 0 16 (dk_at dksX2_nests_0 17 rfl rfl)
theorem dX2_nests_20 : decode cX2_nests 20 = .ok (.aload_n 0, 1) := dk_42 (dk_at dksX2_nests_0 20 rfl rfl)
theorem dX2_nests_21 : decode cX2_nests 21 = .ok (.iload_n 2, 1) := dk_28 (dk_at dksX2_nests_0 21 rfl rfl)
theorem dX2_nests_22 : decode cX2_nests 22 = .ok (.iload_n 1, 1) := dk_27 (dk_at dksX2_nests_0 22 rfl rfl)
theorem dX2_nests_23 : decode cX2_nests 23 = .ok (.invokevirtual 103, 3) := dk_182 0 103 (dk_at dksX2_nests_1 0 rfl rfl)
theorem dX2_nests_26 : decode cX2_nests 26 = .ok (.ifCond .ne 7, 3) := dk_154 0 7 (dk_at dksX2_nests_1 3 rfl rfl)
theorem dX2_nests_29 : decode cX2_nests 29 = .ok (.iconst 1, 1) := dk_4 (dk_at dksX2_nests_1 6 rfl rfl)
theorem dX2_nests_30 : decode cX2_nests 30 = .ok (.goto 4, 3) := dk_167 0 4 (dk_at dksX2_nests_1 7 rfl rfl)
theorem dX2_nests_33 : decode cX2_nests 33 = .ok (.iconst 0, 1) := dk_3 (dk_at dksX2_nests_1 10 rfl rfl)
theorem dX2_nests_34 : decode cX2_nests 34 = .ok (.invokestatic 111, 3) := dk_184 0 111 (dk_at dksX2_nests_1 11 rfl rfl)
theorem dX2_nests_37 : decode cX2_nests 37 = .ok (.aload_n 0, 1) := dk_42 (dk_at dksX2_nests_1 14 rfl rfl)
theorem dX2_nests_38 : decode cX2_nests 38 = .ok (.iload_n 2, 1) := dk_28 (dk_at dksX2_nests_1 15 rfl rfl)
theorem dX2_nests_39 : decode cX2_nests 39 = .ok (.invokevirtual 92, 3) := dk_182 0 92 (dk_at dksX2_nests_1 16 rfl rfl)
theorem dX2_nests_42 : decode cX2_nests 42 = .ok (.dup, 1) := dk_89 (dk_at dksX2_nests_1 19 rfl rfl)
theorem dX2_nests_43 : decode cX2_nests 43 = .ok (.getfield 96, 3) := dk_180 0 96 (dk_at dksX2_nests_1 20 rfl rfl)
theorem dX2_nests_46 : decode cX2_nests 46 = .ok (.iconst 1, 1) := dk_4 (dk_at dksX2_nests_1 23 rfl rfl)
theorem dX2_nests_47 : decode cX2_nests 47 = .ok (.iload_n 1, 1) := dk_27 (dk_at dksX2_nests_2 0 rfl rfl)
theorem dX2_nests_48 : decode cX2_nests 48 = .ok (.ishl, 1) := dk_120 (dk_at dksX2_nests_2 1 rfl rfl)
theorem dX2_nests_49 : decode cX2_nests 49 = .ok (.ior, 1) := dk_128 (dk_at dksX2_nests_2 2 rfl rfl)
theorem dX2_nests_50 : decode cX2_nests 50 = .ok (.putfield 96, 3) := dk_181 0 96 (dk_at dksX2_nests_2 3 rfl rfl)
theorem dX2_nests_53 : decode cX2_nests 53 = .ok (.aload_n 0, 1) := dk_42 (dk_at dksX2_nests_2 6 rfl rfl)
theorem dX2_nests_54 : decode cX2_nests 54 = .ok (.iload_n 2, 1) := dk_28 (dk_at dksX2_nests_2 7 rfl rfl)
theorem dX2_nests_55 : decode cX2_nests 55 = .ok (.invokevirtual 107, 3) := dk_182 0 107 (dk_at dksX2_nests_2 8 rfl rfl)
theorem dX2_nests_58 : decode cX2_nests 58 = .ok (.invokestatic 115, 3) := dk_184 0 115 (dk_at dksX2_nests_2 11 rfl rfl)
theorem dX2_nests_61 : decode cX2_nests 61 = .ok (.ireturn, 1) := dk_172 (dk_at dksX2_nests_2 14 rfl rfl)
abbrev cX2_isWithin : ByteArray := prog_4_method_8_code
def yX2_isWithin : MethodName := ⟨RX2, "isWithin", "(II)Z"⟩
def dkwX2_isWithin_3 : List UInt8 := [167, 255, 205, 29, 172]
abbrev dktX2_isWithin_3 : List UInt8 := dkwX2_isWithin_3 ++ []
def dkwX2_isWithin_2 : List UInt8 := [153, 0, 17, 42, 27, 21, 4, 182, 0, 103, 153, 0, 7, 4, 167, 0, 4, 3, 62, 132, 4, 1]
abbrev dktX2_isWithin_2 : List UInt8 := dkwX2_isWithin_2 ++ dktX2_isWithin_3
def dkwX2_isWithin_1 : List UInt8 := [182, 0, 84, 162, 0, 45, 29, 154, 0, 41, 42, 28, 182, 0, 92, 180, 0, 96, 21, 4, 184, 0, 99]
abbrev dktX2_isWithin_1 : List UInt8 := dkwX2_isWithin_1 ++ dktX2_isWithin_2
def dkwX2_isWithin_0 : List UInt8 := [42, 28, 182, 0, 92, 180, 0, 96, 27, 184, 0, 99, 62, 3, 54, 4, 21, 4, 42, 180, 0, 18]
abbrev dktX2_isWithin_0 : List UInt8 := dkwX2_isWithin_0 ++ dktX2_isWithin_1
theorem dksX2_isWithin_0 : cX2_isWithin.data.toList.drop 0 = dktX2_isWithin_0 := by decide +kernel
theorem dksX2_isWithin_1 : cX2_isWithin.data.toList.drop 22 = dktX2_isWithin_1 := dk_seg dksX2_isWithin_0 22 rfl rfl
theorem dksX2_isWithin_2 : cX2_isWithin.data.toList.drop 45 = dktX2_isWithin_2 := dk_seg dksX2_isWithin_1 23 rfl rfl
theorem dksX2_isWithin_3 : cX2_isWithin.data.toList.drop 67 = dktX2_isWithin_3 := dk_seg dksX2_isWithin_2 22 rfl rfl
theorem dX2_isWithin_0 : decode cX2_isWithin 0 = .ok (.aload_n 0, 1) := dk_42 (dk_at dksX2_isWithin_0 0 rfl rfl)
theorem dX2_isWithin_1 : decode cX2_isWithin 1 = .ok (.iload_n 2, 1) := dk_28 (dk_at dksX2_isWithin_0 1 rfl rfl)
theorem dX2_isWithin_2 : decode cX2_isWithin 2 = .ok (.invokevirtual 92, 3) := dk_182 0 92 (dk_at dksX2_isWithin_0 2 rfl rfl)
theorem dX2_isWithin_5 : decode cX2_isWithin 5 = .ok (.getfield 96, 3) := dk_180 0 96 (dk_at dksX2_isWithin_0 5 rfl rfl)
theorem dX2_isWithin_8 : decode cX2_isWithin 8 = .ok (.iload_n 1, 1) := dk_27 (dk_at dksX2_isWithin_0 8 rfl rfl)
theorem dX2_isWithin_9 : decode cX2_isWithin 9 = .ok (.invokestatic 99, 3) := dk_184 0 99 (dk_at dksX2_isWithin_0 9 rfl rfl)
theorem dX2_isWithin_12 : decode cX2_isWithin 12 = .ok (.istore_n 3, 1) := dk_62 (dk_at dksX2_isWithin_0 12 rfl rfl)
theorem dX2_isWithin_13 : decode cX2_isWithin 13 = .ok (.iconst 0, 1) := dk_3 (dk_at dksX2_isWithin_0 13 rfl rfl)
theorem dX2_isWithin_14 : decode cX2_isWithin 14 = .ok (.istore 4, 2) := dk_54 4 (dk_at dksX2_isWithin_0 14 rfl rfl)
theorem dX2_isWithin_16 : decode cX2_isWithin 16 = .ok (.iload 4, 2) := dk_21 4 (dk_at dksX2_isWithin_0 16 rfl rfl)
theorem dX2_isWithin_18 : decode cX2_isWithin 18 = .ok (.aload_n 0, 1) := dk_42 (dk_at dksX2_isWithin_0 18 rfl rfl)
theorem dX2_isWithin_19 : decode cX2_isWithin 19 = .ok (.getfield 18, 3) := dk_180 0 18 (dk_at dksX2_isWithin_0 19 rfl rfl)
theorem dX2_isWithin_22 : decode cX2_isWithin 22 = .ok (.invokevirtual 84, 3) := dk_182 0 84 (dk_at dksX2_isWithin_1 0 rfl rfl)
theorem dX2_isWithin_25 : decode cX2_isWithin 25 = .ok (.if_icmp .ge 45, 3) := dk_162 0 45 (dk_at dksX2_isWithin_1 3 rfl rfl)
theorem dX2_isWithin_28 : decode cX2_isWithin 28 = .ok (.iload_n 3, 1) := dk_29 (dk_at dksX2_isWithin_1 6 rfl rfl)
theorem dX2_isWithin_29 : decode cX2_isWithin 29 = .ok (.ifCond .ne 41, 3) := dk_154 0 41 (dk_at dksX2_isWithin_1 7 rfl rfl)
theorem dX2_isWithin_32 : decode cX2_isWithin 32 = .ok (.aload_n 0, 1) := dk_42 (dk_at dksX2_isWithin_1 10 rfl rfl)
theorem dX2_isWithin_33 : decode cX2_isWithin 33 = .ok (.iload_n 2, 1) := dk_28 (dk_at dksX2_isWithin_1 11 rfl rfl)
theorem dX2_isWithin_34 : decode cX2_isWithin 34 = .ok (.invokevirtual 92, 3) := dk_182 0 92 (dk_at dksX2_isWithin_1 12 rfl rfl)
theorem dX2_isWithin_37 : decode cX2_isWithin 37 = .ok (.getfield 96, 3) := dk_180 0 96 (dk_at dksX2_isWithin_1 15 rfl rfl)
theorem dX2_isWithin_40 : decode cX2_isWithin 40 = .ok (.iload 4, 2) := dk_21 4 (dk_at dksX2_isWithin_1 18 rfl rfl)
theorem dX2_isWithin_42 : decode cX2_isWithin 42 = .ok (.invokestatic 99, 3) := dk_184 0 99 (dk_at dksX2_isWithin_1 20 rfl rfl)
theorem dX2_isWithin_45 : decode cX2_isWithin 45 = .ok (.ifCond .eq 17, 3) := dk_153 0 17 (dk_at dksX2_isWithin_2 0 rfl rfl)
theorem dX2_isWithin_48 : decode cX2_isWithin 48 = .ok (.aload_n 0, 1) := dk_42 (dk_at dksX2_isWithin_2 3 rfl rfl)
theorem dX2_isWithin_49 : decode cX2_isWithin 49 = .ok (.iload_n 1, 1) := dk_27 (dk_at dksX2_isWithin_2 4 rfl rfl)
theorem dX2_isWithin_50 : decode cX2_isWithin 50 = .ok (.iload 4, 2) := dk_21 4 (dk_at dksX2_isWithin_2 5 rfl rfl)
theorem dX2_isWithin_52 : decode cX2_isWithin 52 = .ok (.invokevirtual 103, 3) := dk_182 0 103 (dk_at dksX2_isWithin_2 7 rfl rfl)
theorem dX2_isWithin_55 : decode cX2_isWithin 55 = .ok (.ifCond .eq 7, 3) := dk_153 0 7 (dk_at dksX2_isWithin_2 10 rfl rfl)
theorem dX2_isWithin_58 : decode cX2_isWithin 58 = .ok (.iconst 1, 1) := dk_4 (dk_at dksX2_isWithin_2 13 rfl rfl)
theorem dX2_isWithin_59 : decode cX2_isWithin 59 = .ok (.goto 4, 3) := dk_167 0 4 (dk_at dksX2_isWithin_2 14 rfl rfl)
theorem dX2_isWithin_62 : decode cX2_isWithin 62 = .ok (.iconst 0, 1) := dk_3 (dk_at dksX2_isWithin_2 17 rfl rfl)
theorem dX2_isWithin_63 : decode cX2_isWithin 63 = .ok (.istore_n 3, 1) := dk_62 (dk_at dksX2_isWithin_2 18 rfl rfl)
theorem dX2_isWithin_64 : decode cX2_isWithin 64 = .ok (.iinc 4 1, 3) := dk_132 4 1 (dk_at dksX2_isWithin_2 19 rfl rfl)
theorem dX2_isWithin_67 : decode cX2_isWithin 67 = .ok (.goto (-51), 3) := dk_167 255 205 (dk_at dksX2_isWithin_3 0 rfl rfl)
theorem dX2_isWithin_70 : decode cX2_isWithin 70 = .ok (.iload_n 3, 1) := dk_29 (dk_at dksX2_isWithin_3 3 rfl rfl)
theorem dX2_isWithin_71 : decode cX2_isWithin 71 = .ok (.ireturn, 1) := dk_172 (dk_at dksX2_isWithin_3 4 rfl rfl)
abbrev cX2_unnests : ByteArray := prog_4_method_14_code
def yX2_unnests : MethodName := ⟨RX2, "unnests", "(II)I"⟩
def dkwX2_unnests_1 : List UInt8 := [4, 27, 120, 2, 130, 126, 181, 0, 96, 42, 28, 182, 0, 107, 184, 0, 115, 172]
abbrev dktX2_unnests_1 : List UInt8 := dkwX2_unnests_1 ++ []
def dkwX2_unnests_0 : List UInt8 := [42, 28, 182, 0, 92, 180, 0, 96, 27, 184, 0, 99, 184, 0, 111, 42, 28, 182, 0, 92, 89, 180, 0, 96]
abbrev dktX2_unnests_0 : List UInt8 := dkwX2_unnests_0 ++ dktX2_unnests_1
theorem dksX2_unnests_0 : cX2_unnests.data.toList.drop 0 = dktX2_unnests_0 := by decide +kernel
theorem dksX2_unnests_1 : cX2_unnests.data.toList.drop 24 = dktX2_unnests_1 := dk_seg dksX2_unnests_0 24 rfl rfl
theorem dX2_unnests_0 : decode cX2_unnests 0 = .ok (.aload_n 0, 1) := dk_42 (dk_at dksX2_unnests_0 0 rfl rfl)
theorem dX2_unnests_1 : decode cX2_unnests 1 = .ok (.iload_n 2, 1) := dk_28 (dk_at dksX2_unnests_0 1 rfl rfl)
theorem dX2_unnests_2 : decode cX2_unnests 2 = .ok (.invokevirtual 92, 3) := dk_182 0 92 (dk_at dksX2_unnests_0 2 rfl rfl)
theorem dX2_unnests_5 : decode cX2_unnests 5 = .ok (.getfield 96, 3) := dk_180 0 96 (dk_at dksX2_unnests_0 5 rfl rfl)
theorem dX2_unnests_8 : decode cX2_unnests 8 = .ok (.iload_n 1, 1) := dk_27 (dk_at dksX2_unnests_0 8 rfl rfl)
theorem dX2_unnests_9 : decode cX2_unnests 9 = .ok (.invokestatic 99, 3) := dk_184 0 99 (dk_at dksX2_unnests_0 9 rfl rfl)
theorem dX2_unnests_12 : decode cX2_unnests 12 = .ok (.invokestatic 111, 3) := dk_184 0 111 (dk_at dksX2_unnests_0 12 rfl rfl)
theorem dX2_unnests_15 : decode cX2_unnests 15 = .ok (.aload_n 0, 1) := dk_42 (dk_at dksX2_unnests_0 15 rfl rfl)
theorem dX2_unnests_16 : decode cX2_unnests 16 = .ok (.iload_n 2, 1) := dk_28 (dk_at dksX2_unnests_0 16 rfl rfl)
theorem dX2_unnests_17 : decode cX2_unnests 17 = .ok (.invokevirtual 92, 3) := dk_182 0 92 (dk_at dksX2_unnests_0 17 rfl rfl)
theorem dX2_unnests_20 : decode cX2_unnests 20 = .ok (.dup, 1) := dk_89 (dk_at dksX2_unnests_0 20 rfl rfl)
theorem dX2_unnests_21 : decode cX2_unnests 21 = .ok (.getfield 96, 3) := dk_180 0 96 (dk_at dksX2_unnests_0 21 rfl rfl)
theorem dX2_unnests_24 : decode cX2_unnests 24 = .ok (.iconst 1, 1) := dk_4 (dk_at dksX2_unnests_1 0 rfl rfl)
theorem dX2_unnests_25 : decode cX2_unnests 25 = .ok (.iload_n 1, 1) := dk_27 (dk_at dksX2_unnests_1 1 rfl rfl)
theorem dX2_unnests_26 : decode cX2_unnests 26 = .ok (.ishl, 1) := dk_120 (dk_at dksX2_unnests_1 2 rfl rfl)
theorem dX2_unnests_27 : decode cX2_unnests 27 = .ok (.iconst (-1), 1) := dk_2 (dk_at dksX2_unnests_1 3 rfl rfl)
theorem dX2_unnests_28 : decode cX2_unnests 28 = .ok (.ixor, 1) := dk_130 (dk_at dksX2_unnests_1 4 rfl rfl)
theorem dX2_unnests_29 : decode cX2_unnests 29 = .ok (.iand, 1) := dk_126 (dk_at dksX2_unnests_1 5 rfl rfl)
theorem dX2_unnests_30 : decode cX2_unnests 30 = .ok (.putfield 96, 3) := dk_181 0 96 (dk_at dksX2_unnests_1 6 rfl rfl)
theorem dX2_unnests_33 : decode cX2_unnests 33 = .ok (.aload_n 0, 1) := dk_42 (dk_at dksX2_unnests_1 9 rfl rfl)
theorem dX2_unnests_34 : decode cX2_unnests 34 = .ok (.iload_n 2, 1) := dk_28 (dk_at dksX2_unnests_1 10 rfl rfl)
theorem dX2_unnests_35 : decode cX2_unnests 35 = .ok (.invokevirtual 107, 3) := dk_182 0 107 (dk_at dksX2_unnests_1 11 rfl rfl)
theorem dX2_unnests_38 : decode cX2_unnests 38 = .ok (.invokestatic 115, 3) := dk_184 0 115 (dk_at dksX2_unnests_1 14 rfl rfl)
theorem dX2_unnests_41 : decode cX2_unnests 41 = .ok (.ireturn, 1) := dk_172 (dk_at dksX2_unnests_1 17 rfl rfl)
abbrev cX2_makes : ByteArray := prog_4_method_18_code
def yX2_makes : MethodName := ⟨RX2, "makes", "(II)I"⟩
def dkwX2_makes_2 : List UInt8 := [183, 0, 124, 83, 29, 172]
abbrev dktX2_makes_2 : List UInt8 := dkwX2_makes_2 ++ []
def dkwX2_makes_1 : List UInt8 := [16, 20, 162, 0, 7, 4, 167, 0, 4, 3, 184, 0, 111, 42, 180, 0, 24, 29, 187, 0, 22, 89, 27, 28]
abbrev dktX2_makes_1 : List UInt8 := dkwX2_makes_1 ++ dktX2_makes_2
def dkwX2_makes_0 : List UInt8 := [3, 62, 29, 16, 20, 162, 0, 17, 42, 29, 182, 0, 63, 153, 0, 9, 132, 3, 1, 167, 255, 239, 29]
abbrev dktX2_makes_0 : List UInt8 := dkwX2_makes_0 ++ dktX2_makes_1
theorem dksX2_makes_0 : cX2_makes.data.toList.drop 0 = dktX2_makes_0 := by decide +kernel
theorem dksX2_makes_1 : cX2_makes.data.toList.drop 23 = dktX2_makes_1 := dk_seg dksX2_makes_0 23 rfl rfl
theorem dksX2_makes_2 : cX2_makes.data.toList.drop 47 = dktX2_makes_2 := dk_seg dksX2_makes_1 24 rfl rfl
theorem dX2_makes_0 : decode cX2_makes 0 = .ok (.iconst 0, 1) := dk_3 (dk_at dksX2_makes_0 0 rfl rfl)
theorem dX2_makes_1 : decode cX2_makes 1 = .ok (.istore_n 3, 1) := dk_62 (dk_at dksX2_makes_0 1 rfl rfl)
theorem dX2_makes_2 : decode cX2_makes 2 = .ok (.iload_n 3, 1) := dk_29 (dk_at dksX2_makes_0 2 rfl rfl)
theorem dX2_makes_3 : decode cX2_makes 3 = .ok (.bipush 20, 2) := dk_16 20 (dk_at dksX2_makes_0 3 rfl rfl)
theorem dX2_makes_5 : decode cX2_makes 5 = .ok (.if_icmp .ge 17, 3) := dk_162 0 17 (dk_at dksX2_makes_0 5 rfl rfl)
theorem dX2_makes_8 : decode cX2_makes 8 = .ok (.aload_n 0, 1) := dk_42 (dk_at dksX2_makes_0 8 rfl rfl)
theorem dX2_makes_9 : decode cX2_makes 9 = .ok (.iload_n 3, 1) := dk_29 (dk_at dksX2_makes_0 9 rfl rfl)
theorem dX2_makes_10 : decode cX2_makes 10 = .ok (.invokevirtual 63, 3) := dk_182 0 63 (dk_at dksX2_makes_0 10 rfl rfl)
theorem dX2_makes_13 : decode cX2_makes 13 = .ok (.ifCond .eq 9, 3) := dk_153 0 9 (dk_at dksX2_makes_0 13 rfl rfl)
theorem dX2_makes_16 : decode cX2_makes 16 = .ok (.iinc 3 1, 3) := dk_132 3 1 (dk_at dksX2_makes_0 16 rfl rfl)
theorem dX2_makes_19 : decode cX2_makes 19 = .ok (.goto (-17), 3) := dk_167 255 239 (dk_at dksX2_makes_0 19 rfl rfl)
theorem dX2_makes_22 : decode cX2_makes 22 = .ok (.iload_n 3, 1) := dk_29 (dk_at dksX2_makes_0 22 rfl rfl)
theorem dX2_makes_23 : decode cX2_makes 23 = .ok (.bipush 20, 2) := dk_16 20 (dk_at dksX2_makes_1 0 rfl rfl)
theorem dX2_makes_25 : decode cX2_makes 25 = .ok (.if_icmp .ge 7, 3) := dk_162 0 7 (dk_at dksX2_makes_1 2 rfl rfl)
theorem dX2_makes_28 : decode cX2_makes 28 = .ok (.iconst 1, 1) := dk_4 (dk_at dksX2_makes_1 5 rfl rfl)
theorem dX2_makes_29 : decode cX2_makes 29 = .ok (.goto 4, 3) := dk_167 0 4 (dk_at dksX2_makes_1 6 rfl rfl)
theorem dX2_makes_32 : decode cX2_makes 32 = .ok (.iconst 0, 1) := dk_3 (dk_at dksX2_makes_1 9 rfl rfl)
theorem dX2_makes_33 : decode cX2_makes 33 = .ok (.invokestatic 111, 3) := dk_184 0 111 (dk_at dksX2_makes_1 10 rfl rfl)
theorem dX2_makes_36 : decode cX2_makes 36 = .ok (.aload_n 0, 1) := dk_42 (dk_at dksX2_makes_1 13 rfl rfl)
theorem dX2_makes_37 : decode cX2_makes 37 = .ok (.getfield 24, 3) := dk_180 0 24 (dk_at dksX2_makes_1 14 rfl rfl)
theorem dX2_makes_40 : decode cX2_makes 40 = .ok (.iload_n 3, 1) := dk_29 (dk_at dksX2_makes_1 17 rfl rfl)
theorem dX2_makes_41 : decode cX2_makes 41 = .ok (.new 22, 3) := dk_187 0 22 (dk_at dksX2_makes_1 18 rfl rfl)
theorem dX2_makes_44 : decode cX2_makes 44 = .ok (.dup, 1) := dk_89 (dk_at dksX2_makes_1 21 rfl rfl)
theorem dX2_makes_45 : decode cX2_makes 45 = .ok (.iload_n 1, 1) := dk_27 (dk_at dksX2_makes_1 22 rfl rfl)
theorem dX2_makes_46 : decode cX2_makes 46 = .ok (.iload_n 2, 1) := dk_28 (dk_at dksX2_makes_1 23 rfl rfl)
theorem dX2_makes_47 : decode cX2_makes 47 = .ok (.invokespecial 124, 3) := dk_183 0 124 (dk_at dksX2_makes_2 0 rfl rfl)
theorem dX2_makes_50 : decode cX2_makes 50 = .ok (.aastore, 1) := dk_83 (dk_at dksX2_makes_2 3 rfl rfl)
theorem dX2_makes_51 : decode cX2_makes 51 = .ok (.iload_n 3, 1) := dk_29 (dk_at dksX2_makes_2 4 rfl rfl)
theorem dX2_makes_52 : decode cX2_makes 52 = .ok (.ireturn, 1) := dk_172 (dk_at dksX2_makes_2 5 rfl rfl)
abbrev cX2_removes : ByteArray := prog_4_method_19_code
def yX2_removes : MethodName := ⟨RX2, "removes", "(I)I"⟩
def dkwX2_removes_1 : List UInt8 := [27, 1, 83, 42, 182, 0, 130, 172]
abbrev dktX2_removes_1 : List UInt8 := dkwX2_removes_1 ++ []
def dkwX2_removes_0 : List UInt8 := [27, 153, 0, 15, 42, 27, 182, 0, 127, 154, 0, 7, 4, 167, 0, 4, 3, 184, 0, 111, 42, 180, 0, 24]
abbrev dktX2_removes_0 : List UInt8 := dkwX2_removes_0 ++ dktX2_removes_1
theorem dksX2_removes_0 : cX2_removes.data.toList.drop 0 = dktX2_removes_0 := by decide +kernel
theorem dksX2_removes_1 : cX2_removes.data.toList.drop 24 = dktX2_removes_1 := dk_seg dksX2_removes_0 24 rfl rfl
theorem dX2_removes_0 : decode cX2_removes 0 = .ok (.iload_n 1, 1) := dk_27 (dk_at dksX2_removes_0 0 rfl rfl)
theorem dX2_removes_1 : decode cX2_removes 1 = .ok (.ifCond .eq 15, 3) := dk_153 0 15 (dk_at dksX2_removes_0 1 rfl rfl)
theorem dX2_removes_4 : decode cX2_removes 4 = .ok (.aload_n 0, 1) := dk_42 (dk_at dksX2_removes_0 4 rfl rfl)
theorem dX2_removes_5 : decode cX2_removes 5 = .ok (.iload_n 1, 1) := dk_27 (dk_at dksX2_removes_0 5 rfl rfl)
theorem dX2_removes_6 : decode cX2_removes 6 = .ok (.invokevirtual 127, 3) := dk_182 0 127 (dk_at dksX2_removes_0 6 rfl rfl)
theorem dX2_removes_9 : decode cX2_removes 9 = .ok (.ifCond .ne 7, 3) := dk_154 0 7 (dk_at dksX2_removes_0 9 rfl rfl)
theorem dX2_removes_12 : decode cX2_removes 12 = .ok (.iconst 1, 1) := dk_4 (dk_at dksX2_removes_0 12 rfl rfl)
theorem dX2_removes_13 : decode cX2_removes 13 = .ok (.goto 4, 3) := dk_167 0 4 (dk_at dksX2_removes_0 13 rfl rfl)
theorem dX2_removes_16 : decode cX2_removes 16 = .ok (.iconst 0, 1) := dk_3 (dk_at dksX2_removes_0 16 rfl rfl)
theorem dX2_removes_17 : decode cX2_removes 17 = .ok (.invokestatic 111, 3) := dk_184 0 111 (dk_at dksX2_removes_0 17 rfl rfl)
theorem dX2_removes_20 : decode cX2_removes 20 = .ok (.aload_n 0, 1) := dk_42 (dk_at dksX2_removes_0 20 rfl rfl)
theorem dX2_removes_21 : decode cX2_removes 21 = .ok (.getfield 24, 3) := dk_180 0 24 (dk_at dksX2_removes_0 21 rfl rfl)
theorem dX2_removes_24 : decode cX2_removes 24 = .ok (.iload_n 1, 1) := dk_27 (dk_at dksX2_removes_1 0 rfl rfl)
theorem dX2_removes_25 : decode cX2_removes 25 = .ok (.aconst_null, 1) := dk_1 (dk_at dksX2_removes_1 1 rfl rfl)
theorem dX2_removes_26 : decode cX2_removes 26 = .ok (.aastore, 1) := dk_83 (dk_at dksX2_removes_1 2 rfl rfl)
theorem dX2_removes_27 : decode cX2_removes 27 = .ok (.aload_n 0, 1) := dk_42 (dk_at dksX2_removes_1 3 rfl rfl)
theorem dX2_removes_28 : decode cX2_removes 28 = .ok (.invokevirtual 130, 3) := dk_182 0 130 (dk_at dksX2_removes_1 4 rfl rfl)
theorem dX2_removes_31 : decode cX2_removes 31 = .ok (.ireturn, 1) := dk_172 (dk_at dksX2_removes_1 7 rfl rfl)
abbrev cX2_below : ByteArray := prog_4_method_17_code
def yX2_below : MethodName := ⟨RX2, "below", "(I)I"⟩
def dkwX2_below_1 : List UInt8 := [182, 0, 121, 153, 0, 7, 4, 167, 0, 4, 3, 96, 61, 132, 3, 1, 167, 255, 222, 28, 172]
abbrev dktX2_below_1 : List UInt8 := dkwX2_below_1 ++ []
def dkwX2_below_0 : List UInt8 := [3, 61, 3, 62, 29, 16, 20, 162, 0, 34, 28, 42, 29, 182, 0, 63, 153, 0, 16, 42, 29, 27]
abbrev dktX2_below_0 : List UInt8 := dkwX2_below_0 ++ dktX2_below_1
theorem dksX2_below_0 : cX2_below.data.toList.drop 0 = dktX2_below_0 := by decide +kernel
theorem dksX2_below_1 : cX2_below.data.toList.drop 22 = dktX2_below_1 := dk_seg dksX2_below_0 22 rfl rfl
theorem dX2_below_0 : decode cX2_below 0 = .ok (.iconst 0, 1) := dk_3 (dk_at dksX2_below_0 0 rfl rfl)
theorem dX2_below_1 : decode cX2_below 1 = .ok (.istore_n 2, 1) := dk_61 (dk_at dksX2_below_0 1 rfl rfl)
theorem dX2_below_2 : decode cX2_below 2 = .ok (.iconst 0, 1) := dk_3 (dk_at dksX2_below_0 2 rfl rfl)
theorem dX2_below_3 : decode cX2_below 3 = .ok (.istore_n 3, 1) := dk_62 (dk_at dksX2_below_0 3 rfl rfl)
theorem dX2_below_4 : decode cX2_below 4 = .ok (.iload_n 3, 1) := dk_29 (dk_at dksX2_below_0 4 rfl rfl)
theorem dX2_below_5 : decode cX2_below 5 = .ok (.bipush 20, 2) := dk_16 20 (dk_at dksX2_below_0 5 rfl rfl)
theorem dX2_below_7 : decode cX2_below 7 = .ok (.if_icmp .ge 34, 3) := dk_162 0 34 (dk_at dksX2_below_0 7 rfl rfl)
theorem dX2_below_10 : decode cX2_below 10 = .ok (.iload_n 2, 1) := dk_28 (dk_at dksX2_below_0 10 rfl rfl)
theorem dX2_below_11 : decode cX2_below 11 = .ok (.aload_n 0, 1) := dk_42 (dk_at dksX2_below_0 11 rfl rfl)
theorem dX2_below_12 : decode cX2_below 12 = .ok (.iload_n 3, 1) := dk_29 (dk_at dksX2_below_0 12 rfl rfl)
theorem dX2_below_13 : decode cX2_below 13 = .ok (.invokevirtual 63, 3) := dk_182 0 63 (dk_at dksX2_below_0 13 rfl rfl)
theorem dX2_below_16 : decode cX2_below 16 = .ok (.ifCond .eq 16, 3) := dk_153 0 16 (dk_at dksX2_below_0 16 rfl rfl)
theorem dX2_below_19 : decode cX2_below 19 = .ok (.aload_n 0, 1) := dk_42 (dk_at dksX2_below_0 19 rfl rfl)
theorem dX2_below_20 : decode cX2_below 20 = .ok (.iload_n 3, 1) := dk_29 (dk_at dksX2_below_0 20 rfl rfl)
theorem dX2_below_21 : decode cX2_below 21 = .ok (.iload_n 1, 1) := dk_27 (dk_at dksX2_below_0 21 rfl rfl)
theorem dX2_below_22 : decode cX2_below 22 = .ok (.invokevirtual 121, 3) := dk_182 0 121 (dk_at dksX2_below_1 0 rfl rfl)
theorem dX2_below_25 : decode cX2_below 25 = .ok (.ifCond .eq 7, 3) := dk_153 0 7 (dk_at dksX2_below_1 3 rfl rfl)
theorem dX2_below_28 : decode cX2_below 28 = .ok (.iconst 1, 1) := dk_4 (dk_at dksX2_below_1 6 rfl rfl)
theorem dX2_below_29 : decode cX2_below 29 = .ok (.goto 4, 3) := dk_167 0 4 (dk_at dksX2_below_1 7 rfl rfl)
theorem dX2_below_32 : decode cX2_below 32 = .ok (.iconst 0, 1) := dk_3 (dk_at dksX2_below_1 10 rfl rfl)
theorem dX2_below_33 : decode cX2_below 33 = .ok (.iadd, 1) := dk_96 (dk_at dksX2_below_1 11 rfl rfl)
theorem dX2_below_34 : decode cX2_below 34 = .ok (.istore_n 2, 1) := dk_61 (dk_at dksX2_below_1 12 rfl rfl)
theorem dX2_below_35 : decode cX2_below 35 = .ok (.iinc 3 1, 3) := dk_132 3 1 (dk_at dksX2_below_1 13 rfl rfl)
theorem dX2_below_38 : decode cX2_below 38 = .ok (.goto (-34), 3) := dk_167 255 222 (dk_at dksX2_below_1 16 rfl rfl)
theorem dX2_below_41 : decode cX2_below 41 = .ok (.iload_n 2, 1) := dk_28 (dk_at dksX2_below_1 19 rfl rfl)
theorem dX2_below_42 : decode cX2_below 42 = .ok (.ireturn, 1) := dk_172 (dk_at dksX2_below_1 20 rfl rfl)
abbrev cX2_isBelow : ByteArray := prog_4_method_16_code
def yX2_isBelow : MethodName := ⟨RX2, "isBelow", "(II)Z"⟩
def dkwX2_isBelow_2 : List UInt8 := [167, 255, 223, 29, 172]
abbrev dktX2_isBelow_2 : List UInt8 := dkwX2_isBelow_2 ++ []
def dkwX2_isBelow_1 : List UInt8 := [28, 160, 0, 7, 4, 167, 0, 4, 3, 62, 42, 180, 0, 24, 21, 4, 50, 180, 0, 118, 54, 4]
abbrev dktX2_isBelow_1 : List UInt8 := dkwX2_isBelow_1 ++ dktX2_isBelow_2
def dkwX2_isBelow_0 : List UInt8 := [3, 62, 42, 180, 0, 24, 27, 50, 180, 0, 118, 54, 4, 21, 4, 155, 0, 34, 29, 154, 0, 9, 21, 4]
abbrev dktX2_isBelow_0 : List UInt8 := dkwX2_isBelow_0 ++ dktX2_isBelow_1
theorem dksX2_isBelow_0 : cX2_isBelow.data.toList.drop 0 = dktX2_isBelow_0 := by decide +kernel
theorem dksX2_isBelow_1 : cX2_isBelow.data.toList.drop 24 = dktX2_isBelow_1 := dk_seg dksX2_isBelow_0 24 rfl rfl
theorem dksX2_isBelow_2 : cX2_isBelow.data.toList.drop 46 = dktX2_isBelow_2 := dk_seg dksX2_isBelow_1 22 rfl rfl
theorem dX2_isBelow_0 : decode cX2_isBelow 0 = .ok (.iconst 0, 1) := dk_3 (dk_at dksX2_isBelow_0 0 rfl rfl)
theorem dX2_isBelow_1 : decode cX2_isBelow 1 = .ok (.istore_n 3, 1) := dk_62 (dk_at dksX2_isBelow_0 1 rfl rfl)
theorem dX2_isBelow_2 : decode cX2_isBelow 2 = .ok (.aload_n 0, 1) := dk_42 (dk_at dksX2_isBelow_0 2 rfl rfl)
theorem dX2_isBelow_3 : decode cX2_isBelow 3 = .ok (.getfield 24, 3) := dk_180 0 24 (dk_at dksX2_isBelow_0 3 rfl rfl)
theorem dX2_isBelow_6 : decode cX2_isBelow 6 = .ok (.iload_n 1, 1) := dk_27 (dk_at dksX2_isBelow_0 6 rfl rfl)
theorem dX2_isBelow_7 : decode cX2_isBelow 7 = .ok (.aaload, 1) := dk_50 (dk_at dksX2_isBelow_0 7 rfl rfl)
theorem dX2_isBelow_8 : decode cX2_isBelow 8 = .ok (.getfield 118, 3) := dk_180 0 118 (dk_at dksX2_isBelow_0 8 rfl rfl)
theorem dX2_isBelow_11 : decode cX2_isBelow 11 = .ok (.istore 4, 2) := dk_54 4 (dk_at dksX2_isBelow_0 11 rfl rfl)
theorem dX2_isBelow_13 : decode cX2_isBelow 13 = .ok (.iload 4, 2) := dk_21 4 (dk_at dksX2_isBelow_0 13 rfl rfl)
theorem dX2_isBelow_15 : decode cX2_isBelow 15 = .ok (.ifCond .lt 34, 3) := dk_155 0 34 (dk_at dksX2_isBelow_0 15 rfl rfl)
theorem dX2_isBelow_18 : decode cX2_isBelow 18 = .ok (.iload_n 3, 1) := dk_29 (dk_at dksX2_isBelow_0 18 rfl rfl)
theorem dX2_isBelow_19 : decode cX2_isBelow 19 = .ok (.ifCond .ne 9, 3) := dk_154 0 9 (dk_at dksX2_isBelow_0 19 rfl rfl)
theorem dX2_isBelow_22 : decode cX2_isBelow 22 = .ok (.iload 4, 2) := dk_21 4 (dk_at dksX2_isBelow_0 22 rfl rfl)
theorem dX2_isBelow_24 : decode cX2_isBelow 24 = .ok (.iload_n 2, 1) := dk_28 (dk_at dksX2_isBelow_1 0 rfl rfl)
theorem dX2_isBelow_25 : decode cX2_isBelow 25 = .ok (.if_icmp .ne 7, 3) := dk_160 0 7 (dk_at dksX2_isBelow_1 1 rfl rfl)
theorem dX2_isBelow_28 : decode cX2_isBelow 28 = .ok (.iconst 1, 1) := dk_4 (dk_at dksX2_isBelow_1 4 rfl rfl)
theorem dX2_isBelow_29 : decode cX2_isBelow 29 = .ok (.goto 4, 3) := dk_167 0 4 (dk_at dksX2_isBelow_1 5 rfl rfl)
theorem dX2_isBelow_32 : decode cX2_isBelow 32 = .ok (.iconst 0, 1) := dk_3 (dk_at dksX2_isBelow_1 8 rfl rfl)
theorem dX2_isBelow_33 : decode cX2_isBelow 33 = .ok (.istore_n 3, 1) := dk_62 (dk_at dksX2_isBelow_1 9 rfl rfl)
theorem dX2_isBelow_34 : decode cX2_isBelow 34 = .ok (.aload_n 0, 1) := dk_42 (dk_at dksX2_isBelow_1 10 rfl rfl)
theorem dX2_isBelow_35 : decode cX2_isBelow 35 = .ok (.getfield 24, 3) := dk_180 0 24 (dk_at dksX2_isBelow_1 11 rfl rfl)
theorem dX2_isBelow_38 : decode cX2_isBelow 38 = .ok (.iload 4, 2) := dk_21 4 (dk_at dksX2_isBelow_1 14 rfl rfl)
theorem dX2_isBelow_40 : decode cX2_isBelow 40 = .ok (.aaload, 1) := dk_50 (dk_at dksX2_isBelow_1 16 rfl rfl)
theorem dX2_isBelow_41 : decode cX2_isBelow 41 = .ok (.getfield 118, 3) := dk_180 0 118 (dk_at dksX2_isBelow_1 17 rfl rfl)
theorem dX2_isBelow_44 : decode cX2_isBelow 44 = .ok (.istore 4, 2) := dk_54 4 (dk_at dksX2_isBelow_1 20 rfl rfl)
theorem dX2_isBelow_46 : decode cX2_isBelow 46 = .ok (.goto (-33), 3) := dk_167 255 223 (dk_at dksX2_isBelow_2 0 rfl rfl)
theorem dX2_isBelow_49 : decode cX2_isBelow 49 = .ok (.iload_n 3, 1) := dk_29 (dk_at dksX2_isBelow_2 3 rfl rfl)
theorem dX2_isBelow_50 : decode cX2_isBelow 50 = .ok (.ireturn, 1) := dk_172 (dk_at dksX2_isBelow_2 4 rfl rfl)
abbrev cX2_moves : ByteArray := prog_4_method_20_code
def yX2_moves : MethodName := ⟨RX2, "moves", "(II)I"⟩
def dkwX2_moves_2 : List UInt8 := [172]
abbrev dktX2_moves_2 : List UInt8 := dkwX2_moves_2 ++ []
def dkwX2_moves_1 : List UInt8 := [184, 0, 111, 42, 180, 0, 24, 27, 50, 180, 0, 118, 62, 42, 180, 0, 24, 27, 50, 28, 181, 0, 118, 29]
abbrev dktX2_moves_1 : List UInt8 := dkwX2_moves_1 ++ dktX2_moves_2
def dkwX2_moves_0 : List UInt8 := [27, 153, 0, 21, 28, 27, 159, 0, 16, 42, 28, 27, 182, 0, 121, 154, 0, 7, 4, 167, 0, 4, 3]
abbrev dktX2_moves_0 : List UInt8 := dkwX2_moves_0 ++ dktX2_moves_1
theorem dksX2_moves_0 : cX2_moves.data.toList.drop 0 = dktX2_moves_0 := by decide +kernel
theorem dksX2_moves_1 : cX2_moves.data.toList.drop 23 = dktX2_moves_1 := dk_seg dksX2_moves_0 23 rfl rfl
theorem dksX2_moves_2 : cX2_moves.data.toList.drop 47 = dktX2_moves_2 := dk_seg dksX2_moves_1 24 rfl rfl
theorem dX2_moves_0 : decode cX2_moves 0 = .ok (.iload_n 1, 1) := dk_27 (dk_at dksX2_moves_0 0 rfl rfl)
theorem dX2_moves_1 : decode cX2_moves 1 = .ok (.ifCond .eq 21, 3) := dk_153 0 21 (dk_at dksX2_moves_0 1 rfl rfl)
theorem dX2_moves_4 : decode cX2_moves 4 = .ok (.iload_n 2, 1) := dk_28 (dk_at dksX2_moves_0 4 rfl rfl)
theorem dX2_moves_5 : decode cX2_moves 5 = .ok (.iload_n 1, 1) := dk_27 (dk_at dksX2_moves_0 5 rfl rfl)
theorem dX2_moves_6 : decode cX2_moves 6 = .ok (.if_icmp .eq 16, 3) := dk_159 0 16 (dk_at dksX2_moves_0 6 rfl rfl)
theorem dX2_moves_9 : decode cX2_moves 9 = .ok (.aload_n 0, 1) := dk_42 (dk_at dksX2_moves_0 9 rfl rfl)
theorem dX2_moves_10 : decode cX2_moves 10 = .ok (.iload_n 2, 1) := dk_28 (dk_at dksX2_moves_0 10 rfl rfl)
theorem dX2_moves_11 : decode cX2_moves 11 = .ok (.iload_n 1, 1) := dk_27 (dk_at dksX2_moves_0 11 rfl rfl)
theorem dX2_moves_12 : decode cX2_moves 12 = .ok (.invokevirtual 121, 3) := dk_182 0 121 (dk_at dksX2_moves_0 12 rfl rfl)
theorem dX2_moves_15 : decode cX2_moves 15 = .ok (.ifCond .ne 7, 3) := dk_154 0 7 (dk_at dksX2_moves_0 15 rfl rfl)
theorem dX2_moves_18 : decode cX2_moves 18 = .ok (.iconst 1, 1) := dk_4 (dk_at dksX2_moves_0 18 rfl rfl)
theorem dX2_moves_19 : decode cX2_moves 19 = .ok (.goto 4, 3) := dk_167 0 4 (dk_at dksX2_moves_0 19 rfl rfl)
theorem dX2_moves_22 : decode cX2_moves 22 = .ok (.iconst 0, 1) := dk_3 (dk_at dksX2_moves_0 22 rfl rfl)
theorem dX2_moves_23 : decode cX2_moves 23 = .ok (.invokestatic 111, 3) := dk_184 0 111 (dk_at dksX2_moves_1 0 rfl rfl)
theorem dX2_moves_26 : decode cX2_moves 26 = .ok (.aload_n 0, 1) := dk_42 (dk_at dksX2_moves_1 3 rfl rfl)
theorem dX2_moves_27 : decode cX2_moves 27 = .ok (.getfield 24, 3) := dk_180 0 24 (dk_at dksX2_moves_1 4 rfl rfl)
theorem dX2_moves_30 : decode cX2_moves 30 = .ok (.iload_n 1, 1) := dk_27 (dk_at dksX2_moves_1 7 rfl rfl)
theorem dX2_moves_31 : decode cX2_moves 31 = .ok (.aaload, 1) := dk_50 (dk_at dksX2_moves_1 8 rfl rfl)
theorem dX2_moves_32 : decode cX2_moves 32 = .ok (.getfield 118, 3) := dk_180 0 118 (dk_at dksX2_moves_1 9 rfl rfl)
theorem dX2_moves_35 : decode cX2_moves 35 = .ok (.istore_n 3, 1) := dk_62 (dk_at dksX2_moves_1 12 rfl rfl)
theorem dX2_moves_36 : decode cX2_moves 36 = .ok (.aload_n 0, 1) := dk_42 (dk_at dksX2_moves_1 13 rfl rfl)
theorem dX2_moves_37 : decode cX2_moves 37 = .ok (.getfield 24, 3) := dk_180 0 24 (dk_at dksX2_moves_1 14 rfl rfl)
theorem dX2_moves_40 : decode cX2_moves 40 = .ok (.iload_n 1, 1) := dk_27 (dk_at dksX2_moves_1 17 rfl rfl)
theorem dX2_moves_41 : decode cX2_moves 41 = .ok (.aaload, 1) := dk_50 (dk_at dksX2_moves_1 18 rfl rfl)
theorem dX2_moves_42 : decode cX2_moves 42 = .ok (.iload_n 2, 1) := dk_28 (dk_at dksX2_moves_1 19 rfl rfl)
theorem dX2_moves_43 : decode cX2_moves 43 = .ok (.putfield 118, 3) := dk_181 0 118 (dk_at dksX2_moves_1 20 rfl rfl)
theorem dX2_moves_46 : decode cX2_moves 46 = .ok (.iload_n 3, 1) := dk_29 (dk_at dksX2_moves_1 23 rfl rfl)
theorem dX2_moves_47 : decode cX2_moves 47 = .ok (.ireturn, 1) := dk_172 (dk_at dksX2_moves_2 0 rfl rfl)
abbrev cX2_adds : ByteArray := prog_4_method_21_code
def yX2_adds : MethodName := ⟨RX2, "adds", "(IILPermissionDesk$Entry;)I"⟩
def dkwX2_adds_2 : List UInt8 := [180, 0, 133, 182, 0, 84, 172]
abbrev dktX2_adds_2 : List UInt8 := dkwX2_adds_2 ++ []
def dkwX2_adds_1 : List UInt8 := [184, 0, 111, 42, 180, 0, 24, 27, 50, 180, 0, 133, 28, 45, 182, 0, 136, 42, 180, 0, 24, 27, 50]
abbrev dktX2_adds_1 : List UInt8 := dkwX2_adds_1 ++ dktX2_adds_2
def dkwX2_adds_0 : List UInt8 := [42, 180, 0, 24, 27, 50, 180, 0, 133, 182, 0, 84, 16, 6, 162, 0, 7, 4, 167, 0, 4, 3]
abbrev dktX2_adds_0 : List UInt8 := dkwX2_adds_0 ++ dktX2_adds_1
theorem dksX2_adds_0 : cX2_adds.data.toList.drop 0 = dktX2_adds_0 := by decide +kernel
theorem dksX2_adds_1 : cX2_adds.data.toList.drop 22 = dktX2_adds_1 := dk_seg dksX2_adds_0 22 rfl rfl
theorem dksX2_adds_2 : cX2_adds.data.toList.drop 45 = dktX2_adds_2 := dk_seg dksX2_adds_1 23 rfl rfl
theorem dX2_adds_0 : decode cX2_adds 0 = .ok (.aload_n 0, 1) := dk_42 (dk_at dksX2_adds_0 0 rfl rfl)
theorem dX2_adds_1 : decode cX2_adds 1 = .ok (.getfield 24, 3) := dk_180 0 24 (dk_at dksX2_adds_0 1 rfl rfl)
theorem dX2_adds_4 : decode cX2_adds 4 = .ok (.iload_n 1, 1) := dk_27 (dk_at dksX2_adds_0 4 rfl rfl)
theorem dX2_adds_5 : decode cX2_adds 5 = .ok (.aaload, 1) := dk_50 (dk_at dksX2_adds_0 5 rfl rfl)
theorem dX2_adds_6 : decode cX2_adds 6 = .ok (.getfield 133, 3) := dk_180 0 133 (dk_at dksX2_adds_0 6 rfl rfl)
theorem dX2_adds_9 : decode cX2_adds 9 = .ok (.invokevirtual 84, 3) := dk_182 0 84 (dk_at dksX2_adds_0 9 rfl rfl)
theorem dX2_adds_12 : decode cX2_adds 12 = .ok (.bipush 6, 2) := dk_16 6 (dk_at dksX2_adds_0 12 rfl rfl)
theorem dX2_adds_14 : decode cX2_adds 14 = .ok (.if_icmp .ge 7, 3) := dk_162 0 7 (dk_at dksX2_adds_0 14 rfl rfl)
theorem dX2_adds_17 : decode cX2_adds 17 = .ok (.iconst 1, 1) := dk_4 (dk_at dksX2_adds_0 17 rfl rfl)
theorem dX2_adds_18 : decode cX2_adds 18 = .ok (.goto 4, 3) := dk_167 0 4 (dk_at dksX2_adds_0 18 rfl rfl)
theorem dX2_adds_21 : decode cX2_adds 21 = .ok (.iconst 0, 1) := dk_3 (dk_at dksX2_adds_0 21 rfl rfl)
theorem dX2_adds_22 : decode cX2_adds 22 = .ok (.invokestatic 111, 3) := dk_184 0 111 (dk_at dksX2_adds_1 0 rfl rfl)
theorem dX2_adds_25 : decode cX2_adds 25 = .ok (.aload_n 0, 1) := dk_42 (dk_at dksX2_adds_1 3 rfl rfl)
theorem dX2_adds_26 : decode cX2_adds 26 = .ok (.getfield 24, 3) := dk_180 0 24 (dk_at dksX2_adds_1 4 rfl rfl)
theorem dX2_adds_29 : decode cX2_adds 29 = .ok (.iload_n 1, 1) := dk_27 (dk_at dksX2_adds_1 7 rfl rfl)
theorem dX2_adds_30 : decode cX2_adds 30 = .ok (.aaload, 1) := dk_50 (dk_at dksX2_adds_1 8 rfl rfl)
theorem dX2_adds_31 : decode cX2_adds 31 = .ok (.getfield 133, 3) := dk_180 0 133 (dk_at dksX2_adds_1 9 rfl rfl)
theorem dX2_adds_34 : decode cX2_adds 34 = .ok (.iload_n 2, 1) := dk_28 (dk_at dksX2_adds_1 12 rfl rfl)
theorem dX2_adds_35 : decode cX2_adds 35 = .ok (.aload_n 3, 1) := dk_45 (dk_at dksX2_adds_1 13 rfl rfl)
theorem dX2_adds_36 : decode cX2_adds 36 = .ok (.invokevirtual 136, 3) := dk_182 0 136 (dk_at dksX2_adds_1 14 rfl rfl)
theorem dX2_adds_39 : decode cX2_adds 39 = .ok (.aload_n 0, 1) := dk_42 (dk_at dksX2_adds_1 17 rfl rfl)
theorem dX2_adds_40 : decode cX2_adds 40 = .ok (.getfield 24, 3) := dk_180 0 24 (dk_at dksX2_adds_1 18 rfl rfl)
theorem dX2_adds_43 : decode cX2_adds 43 = .ok (.iload_n 1, 1) := dk_27 (dk_at dksX2_adds_1 21 rfl rfl)
theorem dX2_adds_44 : decode cX2_adds 44 = .ok (.aaload, 1) := dk_50 (dk_at dksX2_adds_1 22 rfl rfl)
theorem dX2_adds_45 : decode cX2_adds 45 = .ok (.getfield 133, 3) := dk_180 0 133 (dk_at dksX2_adds_2 0 rfl rfl)
theorem dX2_adds_48 : decode cX2_adds 48 = .ok (.invokevirtual 84, 3) := dk_182 0 84 (dk_at dksX2_adds_2 3 rfl rfl)
theorem dX2_adds_51 : decode cX2_adds 51 = .ok (.ireturn, 1) := dk_172 (dk_at dksX2_adds_2 6 rfl rfl)
abbrev cX2_removesEntry : ByteArray := prog_4_method_22_code
def yX2_removesEntry : MethodName := ⟨RX2, "removesEntry", "(II)I"⟩
def dkwX2_removesEntry_1 : List UInt8 := [182, 0, 84, 172]
abbrev dktX2_removesEntry_1 : List UInt8 := dkwX2_removesEntry_1 ++ []
def dkwX2_removesEntry_0 : List UInt8 := [42, 180, 0, 24, 27, 50, 180, 0, 133, 28, 182, 0, 139, 87, 42, 180, 0, 24, 27, 50, 180, 0, 133]
abbrev dktX2_removesEntry_0 : List UInt8 := dkwX2_removesEntry_0 ++ dktX2_removesEntry_1
theorem dksX2_removesEntry_0 : cX2_removesEntry.data.toList.drop 0 = dktX2_removesEntry_0 := by decide +kernel
theorem dksX2_removesEntry_1 : cX2_removesEntry.data.toList.drop 23 = dktX2_removesEntry_1 := dk_seg dksX2_removesEntry_0 23 rfl rfl
theorem dX2_removesEntry_0 : decode cX2_removesEntry 0 = .ok (.aload_n 0, 1) := dk_42 (dk_at dksX2_removesEntry_0 0 rfl rfl)
theorem dX2_removesEntry_1 : decode cX2_removesEntry 1 = .ok (.getfield 24, 3) := dk_180 0 24 (dk_at dksX2_removesEntry_0 1 rfl rfl)
theorem dX2_removesEntry_4 : decode cX2_removesEntry 4 = .ok (.iload_n 1, 1) := dk_27 (dk_at dksX2_removesEntry_0 4 rfl rfl)
theorem dX2_removesEntry_5 : decode cX2_removesEntry 5 = .ok (.aaload, 1) := dk_50 (dk_at dksX2_removesEntry_0 5 rfl rfl)
theorem dX2_removesEntry_6 : decode cX2_removesEntry 6 = .ok (.getfield 133, 3) := dk_180 0 133 (dk_at dksX2_removesEntry_0 6 rfl rfl)
theorem dX2_removesEntry_9 : decode cX2_removesEntry 9 = .ok (.iload_n 2, 1) := dk_28 (dk_at dksX2_removesEntry_0 9 rfl rfl)
theorem dX2_removesEntry_10 : decode cX2_removesEntry 10 = .ok (.invokevirtual 139, 3) := dk_182 0 139 (dk_at dksX2_removesEntry_0 10 rfl rfl)
theorem dX2_removesEntry_13 : decode cX2_removesEntry 13 = .ok (.pop, 1) := dk_87 (dk_at dksX2_removesEntry_0 13 rfl rfl)
theorem dX2_removesEntry_14 : decode cX2_removesEntry 14 = .ok (.aload_n 0, 1) := dk_42 (dk_at dksX2_removesEntry_0 14 rfl rfl)
theorem dX2_removesEntry_15 : decode cX2_removesEntry 15 = .ok (.getfield 24, 3) := dk_180 0 24 (dk_at dksX2_removesEntry_0 15 rfl rfl)
theorem dX2_removesEntry_18 : decode cX2_removesEntry 18 = .ok (.iload_n 1, 1) := dk_27 (dk_at dksX2_removesEntry_0 18 rfl rfl)
theorem dX2_removesEntry_19 : decode cX2_removesEntry 19 = .ok (.aaload, 1) := dk_50 (dk_at dksX2_removesEntry_0 19 rfl rfl)
theorem dX2_removesEntry_20 : decode cX2_removesEntry 20 = .ok (.getfield 133, 3) := dk_180 0 133 (dk_at dksX2_removesEntry_0 20 rfl rfl)
theorem dX2_removesEntry_23 : decode cX2_removesEntry 23 = .ok (.invokevirtual 84, 3) := dk_182 0 84 (dk_at dksX2_removesEntry_1 0 rfl rfl)
theorem dX2_removesEntry_26 : decode cX2_removesEntry 26 = .ok (.ireturn, 1) := dk_172 (dk_at dksX2_removesEntry_1 3 rfl rfl)
abbrev cX2_movesEntry : ByteArray := prog_4_method_23_code
def yX2_movesEntry : MethodName := ⟨RX2, "movesEntry", "(III)I"⟩
def dkwX2_movesEntry_1 : List UInt8 := [42, 180, 0, 24, 27, 50, 180, 0, 133, 29, 25, 5, 182, 0, 136, 42, 25, 4, 182, 0, 147, 172]
abbrev dktX2_movesEntry_1 : List UInt8 := dkwX2_movesEntry_1 ++ []
def dkwX2_movesEntry_0 : List UInt8 := [42, 182, 0, 142, 58, 4, 42, 180, 0, 24, 27, 50, 180, 0, 133, 28, 182, 0, 139, 192, 0, 145, 58, 5]
abbrev dktX2_movesEntry_0 : List UInt8 := dkwX2_movesEntry_0 ++ dktX2_movesEntry_1
theorem dksX2_movesEntry_0 : cX2_movesEntry.data.toList.drop 0 = dktX2_movesEntry_0 := by decide +kernel
theorem dksX2_movesEntry_1 : cX2_movesEntry.data.toList.drop 24 = dktX2_movesEntry_1 := dk_seg dksX2_movesEntry_0 24 rfl rfl
theorem dX2_movesEntry_0 : decode cX2_movesEntry 0 = .ok (.aload_n 0, 1) := dk_42 (dk_at dksX2_movesEntry_0 0 rfl rfl)
theorem dX2_movesEntry_1 : decode cX2_movesEntry 1 = .ok (.invokevirtual 142, 3) := dk_182 0 142 (dk_at dksX2_movesEntry_0 1 rfl rfl)
theorem dX2_movesEntry_4 : decode cX2_movesEntry 4 = .ok (.astore 4, 2) := dk_58 4 (dk_at dksX2_movesEntry_0 4 rfl rfl)
theorem dX2_movesEntry_6 : decode cX2_movesEntry 6 = .ok (.aload_n 0, 1) := dk_42 (dk_at dksX2_movesEntry_0 6 rfl rfl)
theorem dX2_movesEntry_7 : decode cX2_movesEntry 7 = .ok (.getfield 24, 3) := dk_180 0 24 (dk_at dksX2_movesEntry_0 7 rfl rfl)
theorem dX2_movesEntry_10 : decode cX2_movesEntry 10 = .ok (.iload_n 1, 1) := dk_27 (dk_at dksX2_movesEntry_0 10 rfl rfl)
theorem dX2_movesEntry_11 : decode cX2_movesEntry 11 = .ok (.aaload, 1) := dk_50 (dk_at dksX2_movesEntry_0 11 rfl rfl)
theorem dX2_movesEntry_12 : decode cX2_movesEntry 12 = .ok (.getfield 133, 3) := dk_180 0 133 (dk_at dksX2_movesEntry_0 12 rfl rfl)
theorem dX2_movesEntry_15 : decode cX2_movesEntry 15 = .ok (.iload_n 2, 1) := dk_28 (dk_at dksX2_movesEntry_0 15 rfl rfl)
theorem dX2_movesEntry_16 : decode cX2_movesEntry 16 = .ok (.invokevirtual 139, 3) := dk_182 0 139 (dk_at dksX2_movesEntry_0 16 rfl rfl)
theorem dX2_movesEntry_19 : decode cX2_movesEntry 19 = .ok (.checkcast 145, 3) := dk_192 0 145 (dk_at dksX2_movesEntry_0 19 rfl rfl)
theorem dX2_movesEntry_22 : decode cX2_movesEntry 22 = .ok (.astore 5, 2) := dk_58 5 (dk_at dksX2_movesEntry_0 22 rfl rfl)
theorem dX2_movesEntry_24 : decode cX2_movesEntry 24 = .ok (.aload_n 0, 1) := dk_42 (dk_at dksX2_movesEntry_1 0 rfl rfl)
theorem dX2_movesEntry_25 : decode cX2_movesEntry 25 = .ok (.getfield 24, 3) := dk_180 0 24 (dk_at dksX2_movesEntry_1 1 rfl rfl)
theorem dX2_movesEntry_28 : decode cX2_movesEntry 28 = .ok (.iload_n 1, 1) := dk_27 (dk_at dksX2_movesEntry_1 4 rfl rfl)
theorem dX2_movesEntry_29 : decode cX2_movesEntry 29 = .ok (.aaload, 1) := dk_50 (dk_at dksX2_movesEntry_1 5 rfl rfl)
theorem dX2_movesEntry_30 : decode cX2_movesEntry 30 = .ok (.getfield 133, 3) := dk_180 0 133 (dk_at dksX2_movesEntry_1 6 rfl rfl)
theorem dX2_movesEntry_33 : decode cX2_movesEntry 33 = .ok (.iload_n 3, 1) := dk_29 (dk_at dksX2_movesEntry_1 9 rfl rfl)
theorem dX2_movesEntry_34 : decode cX2_movesEntry 34 = .ok (.aload 5, 2) := dk_25 5 (dk_at dksX2_movesEntry_1 10 rfl rfl)
theorem dX2_movesEntry_36 : decode cX2_movesEntry 36 = .ok (.invokevirtual 136, 3) := dk_182 0 136 (dk_at dksX2_movesEntry_1 12 rfl rfl)
theorem dX2_movesEntry_39 : decode cX2_movesEntry 39 = .ok (.aload_n 0, 1) := dk_42 (dk_at dksX2_movesEntry_1 15 rfl rfl)
theorem dX2_movesEntry_40 : decode cX2_movesEntry 40 = .ok (.aload 4, 2) := dk_25 4 (dk_at dksX2_movesEntry_1 16 rfl rfl)
theorem dX2_movesEntry_42 : decode cX2_movesEntry 42 = .ok (.invokevirtual 147, 3) := dk_182 0 147 (dk_at dksX2_movesEntry_1 18 rfl rfl)
theorem dX2_movesEntry_45 : decode cX2_movesEntry 45 = .ok (.ireturn, 1) := dk_172 (dk_at dksX2_movesEntry_1 21 rfl rfl)
abbrev cX2_differences : ByteArray := prog_4_method_37_code
def yX2_differences : MethodName := ⟨RX2, "differences", "(LPermissionDesk$Land;)I"⟩
def dkwX2_differences_2 : List UInt8 := [184, 0, 115, 96, 61, 132, 4, 1, 167, 255, 215, 132, 3, 1, 167, 255, 200, 28, 172]
abbrev dktX2_differences_2 : List UInt8 := dkwX2_differences_2 ++ []
def dkwX2_differences_1 : List UInt8 := [182, 0, 63, 153, 0, 30, 28, 42, 21, 4, 29, 182, 0, 202, 43, 21, 4, 29, 182, 0, 202, 130]
abbrev dktX2_differences_1 : List UInt8 := dkwX2_differences_1 ++ dktX2_differences_2
def dkwX2_differences_0 : List UInt8 := [3, 61, 3, 62, 29, 16, 20, 162, 0, 56, 3, 54, 4, 21, 4, 42, 180, 0, 9, 162, 0, 38, 42, 29]
abbrev dktX2_differences_0 : List UInt8 := dkwX2_differences_0 ++ dktX2_differences_1
theorem dksX2_differences_0 : cX2_differences.data.toList.drop 0 = dktX2_differences_0 := by decide +kernel
theorem dksX2_differences_1 : cX2_differences.data.toList.drop 24 = dktX2_differences_1 := dk_seg dksX2_differences_0 24 rfl rfl
theorem dksX2_differences_2 : cX2_differences.data.toList.drop 46 = dktX2_differences_2 := dk_seg dksX2_differences_1 22 rfl rfl
theorem dX2_differences_0 : decode cX2_differences 0 = .ok (.iconst 0, 1) := dk_3 (dk_at dksX2_differences_0 0 rfl rfl)
theorem dX2_differences_1 : decode cX2_differences 1 = .ok (.istore_n 2, 1) := dk_61 (dk_at dksX2_differences_0 1 rfl rfl)
theorem dX2_differences_2 : decode cX2_differences 2 = .ok (.iconst 0, 1) := dk_3 (dk_at dksX2_differences_0 2 rfl rfl)
theorem dX2_differences_3 : decode cX2_differences 3 = .ok (.istore_n 3, 1) := dk_62 (dk_at dksX2_differences_0 3 rfl rfl)
theorem dX2_differences_4 : decode cX2_differences 4 = .ok (.iload_n 3, 1) := dk_29 (dk_at dksX2_differences_0 4 rfl rfl)
theorem dX2_differences_5 : decode cX2_differences 5 = .ok (.bipush 20, 2) := dk_16 20 (dk_at dksX2_differences_0 5 rfl rfl)
theorem dX2_differences_7 : decode cX2_differences 7 = .ok (.if_icmp .ge 56, 3) := dk_162 0 56 (dk_at dksX2_differences_0 7 rfl rfl)
theorem dX2_differences_10 : decode cX2_differences 10 = .ok (.iconst 0, 1) := dk_3 (dk_at dksX2_differences_0 10 rfl rfl)
theorem dX2_differences_11 : decode cX2_differences 11 = .ok (.istore 4, 2) := dk_54 4 (dk_at dksX2_differences_0 11 rfl rfl)
theorem dX2_differences_13 : decode cX2_differences 13 = .ok (.iload 4, 2) := dk_21 4 (dk_at dksX2_differences_0 13 rfl rfl)
theorem dX2_differences_15 : decode cX2_differences 15 = .ok (.aload_n 0, 1) := dk_42 (dk_at dksX2_differences_0 15 rfl rfl)
theorem dX2_differences_16 : decode cX2_differences 16 = .ok (.getfield 9, 3) := dk_180 0 9 (dk_at dksX2_differences_0 16 rfl rfl)
theorem dX2_differences_19 : decode cX2_differences 19 = .ok (.if_icmp .ge 38, 3) := dk_162 0 38 (dk_at dksX2_differences_0 19 rfl rfl)
theorem dX2_differences_22 : decode cX2_differences 22 = .ok (.aload_n 0, 1) := dk_42 (dk_at dksX2_differences_0 22 rfl rfl)
theorem dX2_differences_23 : decode cX2_differences 23 = .ok (.iload_n 3, 1) := dk_29 (dk_at dksX2_differences_0 23 rfl rfl)
theorem dX2_differences_24 : decode cX2_differences 24 = .ok (.invokevirtual 63, 3) := dk_182 0 63 (dk_at dksX2_differences_1 0 rfl rfl)
theorem dX2_differences_27 : decode cX2_differences 27 = .ok (.ifCond .eq 30, 3) := dk_153 0 30 (dk_at dksX2_differences_1 3 rfl rfl)
theorem dX2_differences_30 : decode cX2_differences 30 = .ok (.iload_n 2, 1) := dk_28 (dk_at dksX2_differences_1 6 rfl rfl)
theorem dX2_differences_31 : decode cX2_differences 31 = .ok (.aload_n 0, 1) := dk_42 (dk_at dksX2_differences_1 7 rfl rfl)
theorem dX2_differences_32 : decode cX2_differences 32 = .ok (.iload 4, 2) := dk_21 4 (dk_at dksX2_differences_1 8 rfl rfl)
theorem dX2_differences_34 : decode cX2_differences 34 = .ok (.iload_n 3, 1) := dk_29 (dk_at dksX2_differences_1 10 rfl rfl)
theorem dX2_differences_35 : decode cX2_differences 35 = .ok (.invokevirtual 202, 3) := dk_182 0 202 (dk_at dksX2_differences_1 11 rfl rfl)
theorem dX2_differences_38 : decode cX2_differences 38 = .ok (.aload_n 1, 1) := dk_43 (dk_at dksX2_differences_1 14 rfl rfl)
theorem dX2_differences_39 : decode cX2_differences 39 = .ok (.iload 4, 2) := dk_21 4 (dk_at dksX2_differences_1 15 rfl rfl)
theorem dX2_differences_41 : decode cX2_differences 41 = .ok (.iload_n 3, 1) := dk_29 (dk_at dksX2_differences_1 17 rfl rfl)
theorem dX2_differences_42 : decode cX2_differences 42 = .ok (.invokevirtual 202, 3) := dk_182 0 202 (dk_at dksX2_differences_1 18 rfl rfl)
theorem dX2_differences_45 : decode cX2_differences 45 = .ok (.ixor, 1) := dk_130 (dk_at dksX2_differences_1 21 rfl rfl)
theorem dX2_differences_46 : decode cX2_differences 46 = .ok (.invokestatic 115, 3) := dk_184 0 115 (dk_at dksX2_differences_2 0 rfl rfl)
theorem dX2_differences_49 : decode cX2_differences 49 = .ok (.iadd, 1) := dk_96 (dk_at dksX2_differences_2 3 rfl rfl)
theorem dX2_differences_50 : decode cX2_differences 50 = .ok (.istore_n 2, 1) := dk_61 (dk_at dksX2_differences_2 4 rfl rfl)
theorem dX2_differences_51 : decode cX2_differences 51 = .ok (.iinc 4 1, 3) := dk_132 4 1 (dk_at dksX2_differences_2 5 rfl rfl)
theorem dX2_differences_54 : decode cX2_differences 54 = .ok (.goto (-41), 3) := dk_167 255 215 (dk_at dksX2_differences_2 8 rfl rfl)
theorem dX2_differences_57 : decode cX2_differences 57 = .ok (.iinc 3 1, 3) := dk_132 3 1 (dk_at dksX2_differences_2 11 rfl rfl)
theorem dX2_differences_60 : decode cX2_differences 60 = .ok (.goto (-56), 3) := dk_167 255 200 (dk_at dksX2_differences_2 14 rfl rfl)
theorem dX2_differences_63 : decode cX2_differences 63 = .ok (.iload_n 2, 1) := dk_28 (dk_at dksX2_differences_2 17 rfl rfl)
theorem dX2_differences_64 : decode cX2_differences 64 = .ok (.ireturn, 1) := dk_172 (dk_at dksX2_differences_2 18 rfl rfl)
abbrev cX2_asks : ByteArray := prog_4_method_39_code
def yX2_asks : MethodName := ⟨RX2, "asks", "(III)Z"⟩
def dkwX2_asks_3 : List UInt8 := [167, 0, 4, 4, 96, 181, 0, 77, 21, 4, 172]
abbrev dktX2_asks_3 : List UInt8 := dkwX2_asks_3 ++ []
def dkwX2_asks_2 : List UInt8 := [182, 0, 218, 42, 89, 180, 0, 74, 4, 96, 181, 0, 74, 42, 89, 180, 0, 77, 21, 4, 153, 0, 7, 3]
abbrev dktX2_asks_2 : List UInt8 := dkwX2_asks_2 ++ dktX2_asks_3
def dkwX2_asks_1 : List UInt8 := [180, 0, 31, 182, 0, 210, 87, 42, 180, 0, 31, 187, 0, 213, 89, 27, 28, 21, 4, 183, 0, 215]
abbrev dktX2_asks_1 : List UInt8 := dkwX2_asks_1 ++ dktX2_asks_2
def dkwX2_asks_0 : List UInt8 := [42, 27, 28, 29, 182, 0, 188, 54, 4, 42, 180, 0, 31, 182, 0, 209, 16, 8, 160, 0, 11, 42]
abbrev dktX2_asks_0 : List UInt8 := dkwX2_asks_0 ++ dktX2_asks_1
theorem dksX2_asks_0 : cX2_asks.data.toList.drop 0 = dktX2_asks_0 := by decide +kernel
theorem dksX2_asks_1 : cX2_asks.data.toList.drop 22 = dktX2_asks_1 := dk_seg dksX2_asks_0 22 rfl rfl
theorem dksX2_asks_2 : cX2_asks.data.toList.drop 44 = dktX2_asks_2 := dk_seg dksX2_asks_1 22 rfl rfl
theorem dksX2_asks_3 : cX2_asks.data.toList.drop 68 = dktX2_asks_3 := dk_seg dksX2_asks_2 24 rfl rfl
theorem dX2_asks_0 : decode cX2_asks 0 = .ok (.aload_n 0, 1) := dk_42 (dk_at dksX2_asks_0 0 rfl rfl)
theorem dX2_asks_1 : decode cX2_asks 1 = .ok (.iload_n 1, 1) := dk_27 (dk_at dksX2_asks_0 1 rfl rfl)
theorem dX2_asks_2 : decode cX2_asks 2 = .ok (.iload_n 2, 1) := dk_28 (dk_at dksX2_asks_0 2 rfl rfl)
theorem dX2_asks_3 : decode cX2_asks 3 = .ok (.iload_n 3, 1) := dk_29 (dk_at dksX2_asks_0 3 rfl rfl)
theorem dX2_asks_4 : decode cX2_asks 4 = .ok (.invokevirtual 188, 3) := dk_182 0 188 (dk_at dksX2_asks_0 4 rfl rfl)
theorem dX2_asks_7 : decode cX2_asks 7 = .ok (.istore 4, 2) := dk_54 4 (dk_at dksX2_asks_0 7 rfl rfl)
theorem dX2_asks_9 : decode cX2_asks 9 = .ok (.aload_n 0, 1) := dk_42 (dk_at dksX2_asks_0 9 rfl rfl)
theorem dX2_asks_10 : decode cX2_asks 10 = .ok (.getfield 31, 3) := dk_180 0 31 (dk_at dksX2_asks_0 10 rfl rfl)
theorem dX2_asks_13 : decode cX2_asks 13 = .ok (.invokevirtual 209, 3) := dk_182 0 209 (dk_at dksX2_asks_0 13 rfl rfl)
theorem dX2_asks_16 : decode cX2_asks 16 = .ok (.bipush 8, 2) := dk_16 8 (dk_at dksX2_asks_0 16 rfl rfl)
theorem dX2_asks_18 : decode cX2_asks 18 = .ok (.if_icmp .ne 11, 3) := dk_160 0 11 (dk_at dksX2_asks_0 18 rfl rfl)
theorem dX2_asks_21 : decode cX2_asks 21 = .ok (.aload_n 0, 1) := dk_42 (dk_at dksX2_asks_0 21 rfl rfl)
theorem dX2_asks_22 : decode cX2_asks 22 = .ok (.getfield 31, 3) := dk_180 0 31 (dk_at dksX2_asks_1 0 rfl rfl)
theorem dX2_asks_25 : decode cX2_asks 25 = .ok (.invokevirtual 210, 3) := dk_182 0 210 (dk_at dksX2_asks_1 3 rfl rfl)
theorem dX2_asks_28 : decode cX2_asks 28 = .ok (.pop, 1) := dk_87 (dk_at dksX2_asks_1 6 rfl rfl)
theorem dX2_asks_29 : decode cX2_asks 29 = .ok (.aload_n 0, 1) := dk_42 (dk_at dksX2_asks_1 7 rfl rfl)
theorem dX2_asks_30 : decode cX2_asks 30 = .ok (.getfield 31, 3) := dk_180 0 31 (dk_at dksX2_asks_1 8 rfl rfl)
theorem dX2_asks_33 : decode cX2_asks 33 = .ok (.new 213, 3) := dk_187 0 213 (dk_at dksX2_asks_1 11 rfl rfl)
theorem dX2_asks_36 : decode cX2_asks 36 = .ok (.dup, 1) := dk_89 (dk_at dksX2_asks_1 14 rfl rfl)
theorem dX2_asks_37 : decode cX2_asks 37 = .ok (.iload_n 1, 1) := dk_27 (dk_at dksX2_asks_1 15 rfl rfl)
theorem dX2_asks_38 : decode cX2_asks 38 = .ok (.iload_n 2, 1) := dk_28 (dk_at dksX2_asks_1 16 rfl rfl)
theorem dX2_asks_39 : decode cX2_asks 39 = .ok (.iload 4, 2) := dk_21 4 (dk_at dksX2_asks_1 17 rfl rfl)
theorem dX2_asks_41 : decode cX2_asks 41 = .ok (.invokespecial 215, 3) := dk_183 0 215 (dk_at dksX2_asks_1 19 rfl rfl)
theorem dX2_asks_44 : decode cX2_asks 44 = .ok (.invokevirtual 218, 3) := dk_182 0 218 (dk_at dksX2_asks_2 0 rfl rfl)
theorem dX2_asks_47 : decode cX2_asks 47 = .ok (.aload_n 0, 1) := dk_42 (dk_at dksX2_asks_2 3 rfl rfl)
theorem dX2_asks_48 : decode cX2_asks 48 = .ok (.dup, 1) := dk_89 (dk_at dksX2_asks_2 4 rfl rfl)
theorem dX2_asks_49 : decode cX2_asks 49 = .ok (.getfield 74, 3) := dk_180 0 74 (dk_at dksX2_asks_2 5 rfl rfl)
theorem dX2_asks_52 : decode cX2_asks 52 = .ok (.iconst 1, 1) := dk_4 (dk_at dksX2_asks_2 8 rfl rfl)
theorem dX2_asks_53 : decode cX2_asks 53 = .ok (.iadd, 1) := dk_96 (dk_at dksX2_asks_2 9 rfl rfl)
theorem dX2_asks_54 : decode cX2_asks 54 = .ok (.putfield 74, 3) := dk_181 0 74 (dk_at dksX2_asks_2 10 rfl rfl)
theorem dX2_asks_57 : decode cX2_asks 57 = .ok (.aload_n 0, 1) := dk_42 (dk_at dksX2_asks_2 13 rfl rfl)
theorem dX2_asks_58 : decode cX2_asks 58 = .ok (.dup, 1) := dk_89 (dk_at dksX2_asks_2 14 rfl rfl)
theorem dX2_asks_59 : decode cX2_asks 59 = .ok (.getfield 77, 3) := dk_180 0 77 (dk_at dksX2_asks_2 15 rfl rfl)
theorem dX2_asks_62 : decode cX2_asks 62 = .ok (.iload 4, 2) := dk_21 4 (dk_at dksX2_asks_2 18 rfl rfl)
theorem dX2_asks_64 : decode cX2_asks 64 = .ok (.ifCond .eq 7, 3) := dk_153 0 7 (dk_at dksX2_asks_2 20 rfl rfl)
theorem dX2_asks_67 : decode cX2_asks 67 = .ok (.iconst 0, 1) := dk_3 (dk_at dksX2_asks_2 23 rfl rfl)
theorem dX2_asks_68 : decode cX2_asks 68 = .ok (.goto 4, 3) := dk_167 0 4 (dk_at dksX2_asks_3 0 rfl rfl)
theorem dX2_asks_71 : decode cX2_asks 71 = .ok (.iconst 1, 1) := dk_4 (dk_at dksX2_asks_3 3 rfl rfl)
theorem dX2_asks_72 : decode cX2_asks 72 = .ok (.iadd, 1) := dk_96 (dk_at dksX2_asks_3 4 rfl rfl)
theorem dX2_asks_73 : decode cX2_asks 73 = .ok (.putfield 77, 3) := dk_181 0 77 (dk_at dksX2_asks_3 5 rfl rfl)
theorem dX2_asks_76 : decode cX2_asks 76 = .ok (.iload 4, 2) := dk_21 4 (dk_at dksX2_asks_3 8 rfl rfl)
theorem dX2_asks_78 : decode cX2_asks 78 = .ok (.ireturn, 1) := dk_172 (dk_at dksX2_asks_3 10 rfl rfl)
abbrev cX2_shares : ByteArray := prog_4_method_40_code
def yX2_shares : MethodName := ⟨RX2, "shares", "(IIII)I"⟩
def dkwX2_shares_2 : List UInt8 := [4, 3, 183, 0, 226, 182, 0, 229, 87, 42, 29, 28, 182, 0, 202, 172]
abbrev dktX2_shares_2 : List UInt8 := dkwX2_shares_2 ++ []
def dkwX2_shares_1 : List UInt8 := [21, 5, 160, 0, 7, 4, 167, 0, 4, 3, 184, 0, 111, 42, 28, 3, 187, 0, 145, 89, 3, 29, 21, 4]
abbrev dktX2_shares_1 : List UInt8 := dkwX2_shares_1 ++ dktX2_shares_2
def dkwX2_shares_0 : List UInt8 := [21, 4, 4, 188, 10, 89, 3, 6, 79, 184, 0, 222, 128, 54, 5, 42, 27, 28, 182, 0, 202, 21, 5, 126]
abbrev dktX2_shares_0 : List UInt8 := dkwX2_shares_0 ++ dktX2_shares_1
theorem dksX2_shares_0 : cX2_shares.data.toList.drop 0 = dktX2_shares_0 := by decide +kernel
theorem dksX2_shares_1 : cX2_shares.data.toList.drop 24 = dktX2_shares_1 := dk_seg dksX2_shares_0 24 rfl rfl
theorem dksX2_shares_2 : cX2_shares.data.toList.drop 48 = dktX2_shares_2 := dk_seg dksX2_shares_1 24 rfl rfl
theorem dX2_shares_0 : decode cX2_shares 0 = .ok (.iload 4, 2) := dk_21 4 (dk_at dksX2_shares_0 0 rfl rfl)
theorem dX2_shares_2 : decode cX2_shares 2 = .ok (.iconst 1, 1) := dk_4 (dk_at dksX2_shares_0 2 rfl rfl)
theorem dX2_shares_3 : decode cX2_shares 3 = .ok (.newarray .int, 2) := dk_188_10 (dk_at dksX2_shares_0 3 rfl rfl)
theorem dX2_shares_5 : decode cX2_shares 5 = .ok (.dup, 1) := dk_89 (dk_at dksX2_shares_0 5 rfl rfl)
theorem dX2_shares_6 : decode cX2_shares 6 = .ok (.iconst 0, 1) := dk_3 (dk_at dksX2_shares_0 6 rfl rfl)
theorem dX2_shares_7 : decode cX2_shares 7 = .ok (.iconst 3, 1) := dk_6 (dk_at dksX2_shares_0 7 rfl rfl)
theorem dX2_shares_8 : decode cX2_shares 8 = .ok (.iastore, 1) := dk_79 (dk_at dksX2_shares_0 8 rfl rfl)
theorem dX2_shares_9 : decode cX2_shares 9 = .ok (.invokestatic 222, 3) := dk_184 0 222 (dk_at dksX2_shares_0 9 rfl rfl)
theorem dX2_shares_12 : decode cX2_shares 12 = .ok (.ior, 1) := dk_128 (dk_at dksX2_shares_0 12 rfl rfl)
theorem dX2_shares_13 : decode cX2_shares 13 = .ok (.istore 5, 2) := dk_54 5 (dk_at dksX2_shares_0 13 rfl rfl)
theorem dX2_shares_15 : decode cX2_shares 15 = .ok (.aload_n 0, 1) := dk_42 (dk_at dksX2_shares_0 15 rfl rfl)
theorem dX2_shares_16 : decode cX2_shares 16 = .ok (.iload_n 1, 1) := dk_27 (dk_at dksX2_shares_0 16 rfl rfl)
theorem dX2_shares_17 : decode cX2_shares 17 = .ok (.iload_n 2, 1) := dk_28 (dk_at dksX2_shares_0 17 rfl rfl)
theorem dX2_shares_18 : decode cX2_shares 18 = .ok (.invokevirtual 202, 3) := dk_182 0 202 (dk_at dksX2_shares_0 18 rfl rfl)
theorem dX2_shares_21 : decode cX2_shares 21 = .ok (.iload 5, 2) := dk_21 5 (dk_at dksX2_shares_0 21 rfl rfl)
theorem dX2_shares_23 : decode cX2_shares 23 = .ok (.iand, 1) := dk_126 (dk_at dksX2_shares_0 23 rfl rfl)
theorem dX2_shares_24 : decode cX2_shares 24 = .ok (.iload 5, 2) := dk_21 5 (dk_at dksX2_shares_1 0 rfl rfl)
theorem dX2_shares_26 : decode cX2_shares 26 = .ok (.if_icmp .ne 7, 3) := dk_160 0 7 (dk_at dksX2_shares_1 2 rfl rfl)
theorem dX2_shares_29 : decode cX2_shares 29 = .ok (.iconst 1, 1) := dk_4 (dk_at dksX2_shares_1 5 rfl rfl)
theorem dX2_shares_30 : decode cX2_shares 30 = .ok (.goto 4, 3) := dk_167 0 4 (dk_at dksX2_shares_1 6 rfl rfl)
theorem dX2_shares_33 : decode cX2_shares 33 = .ok (.iconst 0, 1) := dk_3 (dk_at dksX2_shares_1 9 rfl rfl)
theorem dX2_shares_34 : decode cX2_shares 34 = .ok (.invokestatic 111, 3) := dk_184 0 111 (dk_at dksX2_shares_1 10 rfl rfl)
theorem dX2_shares_37 : decode cX2_shares 37 = .ok (.aload_n 0, 1) := dk_42 (dk_at dksX2_shares_1 13 rfl rfl)
theorem dX2_shares_38 : decode cX2_shares 38 = .ok (.iload_n 2, 1) := dk_28 (dk_at dksX2_shares_1 14 rfl rfl)
theorem dX2_shares_39 : decode cX2_shares 39 = .ok (.iconst 0, 1) := dk_3 (dk_at dksX2_shares_1 15 rfl rfl)
theorem dX2_shares_40 : decode cX2_shares 40 = .ok (.new 145, 3) := dk_187 0 145 (dk_at dksX2_shares_1 16 rfl rfl)
theorem dX2_shares_43 : decode cX2_shares 43 = .ok (.dup, 1) := dk_89 (dk_at dksX2_shares_1 19 rfl rfl)
theorem dX2_shares_44 : decode cX2_shares 44 = .ok (.iconst 0, 1) := dk_3 (dk_at dksX2_shares_1 20 rfl rfl)
theorem dX2_shares_45 : decode cX2_shares 45 = .ok (.iload_n 3, 1) := dk_29 (dk_at dksX2_shares_1 21 rfl rfl)
theorem dX2_shares_46 : decode cX2_shares 46 = .ok (.iload 4, 2) := dk_21 4 (dk_at dksX2_shares_1 22 rfl rfl)
theorem dX2_shares_48 : decode cX2_shares 48 = .ok (.iconst 1, 1) := dk_4 (dk_at dksX2_shares_2 0 rfl rfl)
theorem dX2_shares_49 : decode cX2_shares 49 = .ok (.iconst 0, 1) := dk_3 (dk_at dksX2_shares_2 1 rfl rfl)
theorem dX2_shares_50 : decode cX2_shares 50 = .ok (.invokespecial 226, 3) := dk_183 0 226 (dk_at dksX2_shares_2 2 rfl rfl)
theorem dX2_shares_53 : decode cX2_shares 53 = .ok (.invokevirtual 229, 3) := dk_182 0 229 (dk_at dksX2_shares_2 5 rfl rfl)
theorem dX2_shares_56 : decode cX2_shares 56 = .ok (.pop, 1) := dk_87 (dk_at dksX2_shares_2 8 rfl rfl)
theorem dX2_shares_57 : decode cX2_shares 57 = .ok (.aload_n 0, 1) := dk_42 (dk_at dksX2_shares_2 9 rfl rfl)
theorem dX2_shares_58 : decode cX2_shares 58 = .ok (.iload_n 3, 1) := dk_29 (dk_at dksX2_shares_2 10 rfl rfl)
theorem dX2_shares_59 : decode cX2_shares 59 = .ok (.iload_n 2, 1) := dk_28 (dk_at dksX2_shares_2 11 rfl rfl)
theorem dX2_shares_60 : decode cX2_shares 60 = .ok (.invokevirtual 202, 3) := dk_182 0 202 (dk_at dksX2_shares_2 12 rfl rfl)
theorem dX2_shares_63 : decode cX2_shares 63 = .ok (.ireturn, 1) := dk_172 (dk_at dksX2_shares_2 15 rfl rfl)
abbrev cX2_isAllowedByHandingDown : ByteArray := prog_4_method_33_code
def yX2_isAllowedByHandingDown : MethodName := ⟨RX2, "isAllowedByHandingDown", "(III)Z"⟩
def dkwX2_isAllowedByHandingDown_5 : List UInt8 := [153, 0, 7, 4, 167, 0, 4, 3, 172]
abbrev dktX2_isAllowedByHandingDown_5 : List UInt8 := dkwX2_isAllowedByHandingDown_5 ++ []
def dkwX2_isAllowedByHandingDown_4 : List UInt8 := [198, 0, 31, 25, 4, 180, 0, 176, 153, 0, 23, 42, 180, 0, 24, 28, 50, 180, 0, 182, 29, 184, 0, 99]
abbrev dktX2_isAllowedByHandingDown_4 : List UInt8 := dkwX2_isAllowedByHandingDown_4 ++ dktX2_isAllowedByHandingDown_5
def dkwX2_isAllowedByHandingDown_3 : List UInt8 := [25, 6, 167, 0, 5, 25, 4, 58, 4, 167, 255, 200, 42, 27, 28, 29, 182, 0, 179, 154, 0, 32, 25, 4]
abbrev dktX2_isAllowedByHandingDown_3 : List UInt8 := dkwX2_isAllowedByHandingDown_3 ++ dktX2_isAllowedByHandingDown_4
def dkwX2_isAllowedByHandingDown_2 : List UInt8 := [199, 0, 28, 25, 6, 42, 27, 42, 180, 0, 24, 28, 50, 180, 0, 162, 29, 182, 0, 158, 153, 0, 8]
abbrev dktX2_isAllowedByHandingDown_2 : List UInt8 := dkwX2_isAllowedByHandingDown_2 ++ dktX2_isAllowedByHandingDown_3
def dkwX2_isAllowedByHandingDown_1 : List UInt8 := [185, 0, 43, 1, 0, 153, 0, 52, 25, 5, 185, 0, 49, 1, 0, 192, 0, 145, 58, 6, 25, 4]
abbrev dktX2_isAllowedByHandingDown_1 : List UInt8 := dkwX2_isAllowedByHandingDown_1 ++ dktX2_isAllowedByHandingDown_2
def dkwX2_isAllowedByHandingDown_0 : List UInt8 := [1, 58, 4, 42, 28, 3, 187, 0, 15, 89, 183, 0, 17, 182, 0, 195, 182, 0, 39, 58, 5, 25, 5]
abbrev dktX2_isAllowedByHandingDown_0 : List UInt8 := dkwX2_isAllowedByHandingDown_0 ++ dktX2_isAllowedByHandingDown_1
theorem dksX2_isAllowedByHandingDown_0 : cX2_isAllowedByHandingDown.data.toList.drop 0 = dktX2_isAllowedByHandingDown_0 := by decide +kernel
theorem dksX2_isAllowedByHandingDown_1 : cX2_isAllowedByHandingDown.data.toList.drop 23 = dktX2_isAllowedByHandingDown_1 := dk_seg dksX2_isAllowedByHandingDown_0 23 rfl rfl
theorem dksX2_isAllowedByHandingDown_2 : cX2_isAllowedByHandingDown.data.toList.drop 45 = dktX2_isAllowedByHandingDown_2 := dk_seg dksX2_isAllowedByHandingDown_1 22 rfl rfl
theorem dksX2_isAllowedByHandingDown_3 : cX2_isAllowedByHandingDown.data.toList.drop 68 = dktX2_isAllowedByHandingDown_3 := dk_seg dksX2_isAllowedByHandingDown_2 23 rfl rfl
theorem dksX2_isAllowedByHandingDown_4 : cX2_isAllowedByHandingDown.data.toList.drop 92 = dktX2_isAllowedByHandingDown_4 := dk_seg dksX2_isAllowedByHandingDown_3 24 rfl rfl
theorem dksX2_isAllowedByHandingDown_5 : cX2_isAllowedByHandingDown.data.toList.drop 116 = dktX2_isAllowedByHandingDown_5 := dk_seg dksX2_isAllowedByHandingDown_4 24 rfl rfl
theorem dX2_isAllowedByHandingDown_0 : decode cX2_isAllowedByHandingDown 0 = .ok (.aconst_null, 1) := dk_1 (dk_at dksX2_isAllowedByHandingDown_0 0 rfl rfl)
theorem dX2_isAllowedByHandingDown_1 : decode cX2_isAllowedByHandingDown 1 = .ok (.astore 4, 2) := dk_58 4 (dk_at dksX2_isAllowedByHandingDown_0 1 rfl rfl)
theorem dX2_isAllowedByHandingDown_3 : decode cX2_isAllowedByHandingDown 3 = .ok (.aload_n 0, 1) := dk_42 (dk_at dksX2_isAllowedByHandingDown_0 3 rfl rfl)
theorem dX2_isAllowedByHandingDown_4 : decode cX2_isAllowedByHandingDown 4 = .ok (.iload_n 2, 1) := dk_28 (dk_at dksX2_isAllowedByHandingDown_0 4 rfl rfl)
theorem dX2_isAllowedByHandingDown_5 : decode cX2_isAllowedByHandingDown 5 = .ok (.iconst 0, 1) := dk_3 (dk_at dksX2_isAllowedByHandingDown_0 5 rfl rfl)
theorem dX2_isAllowedByHandingDown_6 : decode cX2_isAllowedByHandingDown 6 = .ok (.new 15, 3) := dk_187 0 15 (dk_at dksX2_isAllowedByHandingDown_0 6 rfl rfl)
theorem dX2_isAllowedByHandingDown_9 : decode cX2_isAllowedByHandingDown 9 = .ok (.dup, 1) := dk_89 (dk_at dksX2_isAllowedByHandingDown_0 9 rfl rfl)
theorem dX2_isAllowedByHandingDown_10 : decode cX2_isAllowedByHandingDown 10 = .ok (.invokespecial 17, 3) := dk_183 0 17 (dk_at dksX2_isAllowedByHandingDown_0 10 rfl rfl)
theorem dX2_isAllowedByHandingDown_13 : decode cX2_isAllowedByHandingDown 13 = .ok (.invokevirtual 195, 3) := dk_182 0 195 (dk_at dksX2_isAllowedByHandingDown_0 13 rfl rfl)
theorem dX2_isAllowedByHandingDown_16 : decode cX2_isAllowedByHandingDown 16 = .ok (.invokevirtual 39, 3) := dk_182 0 39 (dk_at dksX2_isAllowedByHandingDown_0 16 rfl rfl)
theorem dX2_isAllowedByHandingDown_19 : decode cX2_isAllowedByHandingDown 19 = .ok (.astore 5, 2) := dk_58 5 (dk_at dksX2_isAllowedByHandingDown_0 19 rfl rfl)
theorem dX2_isAllowedByHandingDown_21 : decode cX2_isAllowedByHandingDown 21 = .ok (.aload 5, 2) := dk_25 5 (dk_at dksX2_isAllowedByHandingDown_0 21 rfl rfl)
theorem dX2_isAllowedByHandingDown_23 : decode cX2_isAllowedByHandingDown 23 = .ok (.invokeinterface 43 1, 5) := by decide +kernel
theorem dX2_isAllowedByHandingDown_28 : decode cX2_isAllowedByHandingDown 28 = .ok (.ifCond .eq 52, 3) := dk_153 0 52 (dk_at dksX2_isAllowedByHandingDown_1 5 rfl rfl)
theorem dX2_isAllowedByHandingDown_31 : decode cX2_isAllowedByHandingDown 31 = .ok (.aload 5, 2) := dk_25 5 (dk_at dksX2_isAllowedByHandingDown_1 8 rfl rfl)
theorem dX2_isAllowedByHandingDown_33 : decode cX2_isAllowedByHandingDown 33 = .ok (.invokeinterface 49 1, 5) := by decide +kernel
theorem dX2_isAllowedByHandingDown_38 : decode cX2_isAllowedByHandingDown 38 = .ok (.checkcast 145, 3) := dk_192 0 145 (dk_at dksX2_isAllowedByHandingDown_1 15 rfl rfl)
theorem dX2_isAllowedByHandingDown_41 : decode cX2_isAllowedByHandingDown 41 = .ok (.astore 6, 2) := dk_58 6 (dk_at dksX2_isAllowedByHandingDown_1 18 rfl rfl)
theorem dX2_isAllowedByHandingDown_43 : decode cX2_isAllowedByHandingDown 43 = .ok (.aload 4, 2) := dk_25 4 (dk_at dksX2_isAllowedByHandingDown_1 20 rfl rfl)
theorem dX2_isAllowedByHandingDown_45 : decode cX2_isAllowedByHandingDown 45 = .ok (.ifnonnull 28, 3) := dk_199 0 28 (dk_at dksX2_isAllowedByHandingDown_2 0 rfl rfl)
theorem dX2_isAllowedByHandingDown_48 : decode cX2_isAllowedByHandingDown 48 = .ok (.aload 6, 2) := dk_25 6 (dk_at dksX2_isAllowedByHandingDown_2 3 rfl rfl)
theorem dX2_isAllowedByHandingDown_50 : decode cX2_isAllowedByHandingDown 50 = .ok (.aload_n 0, 1) := dk_42 (dk_at dksX2_isAllowedByHandingDown_2 5 rfl rfl)
theorem dX2_isAllowedByHandingDown_51 : decode cX2_isAllowedByHandingDown 51 = .ok (.iload_n 1, 1) := dk_27 (dk_at dksX2_isAllowedByHandingDown_2 6 rfl rfl)
theorem dX2_isAllowedByHandingDown_52 : decode cX2_isAllowedByHandingDown 52 = .ok (.aload_n 0, 1) := dk_42 (dk_at dksX2_isAllowedByHandingDown_2 7 rfl rfl)
theorem dX2_isAllowedByHandingDown_53 : decode cX2_isAllowedByHandingDown 53 = .ok (.getfield 24, 3) := dk_180 0 24 (dk_at dksX2_isAllowedByHandingDown_2 8 rfl rfl)
theorem dX2_isAllowedByHandingDown_56 : decode cX2_isAllowedByHandingDown 56 = .ok (.iload_n 2, 1) := dk_28 (dk_at dksX2_isAllowedByHandingDown_2 11 rfl rfl)
theorem dX2_isAllowedByHandingDown_57 : decode cX2_isAllowedByHandingDown 57 = .ok (.aaload, 1) := dk_50 (dk_at dksX2_isAllowedByHandingDown_2 12 rfl rfl)
theorem dX2_isAllowedByHandingDown_58 : decode cX2_isAllowedByHandingDown 58 = .ok (.getfield 162, 3) := dk_180 0 162 (dk_at dksX2_isAllowedByHandingDown_2 13 rfl rfl)
theorem dX2_isAllowedByHandingDown_61 : decode cX2_isAllowedByHandingDown 61 = .ok (.iload_n 3, 1) := dk_29 (dk_at dksX2_isAllowedByHandingDown_2 16 rfl rfl)
theorem dX2_isAllowedByHandingDown_62 : decode cX2_isAllowedByHandingDown 62 = .ok (.invokevirtual 158, 3) := dk_182 0 158 (dk_at dksX2_isAllowedByHandingDown_2 17 rfl rfl)
theorem dX2_isAllowedByHandingDown_65 : decode cX2_isAllowedByHandingDown 65 = .ok (.ifCond .eq 8, 3) := dk_153 0 8 (dk_at dksX2_isAllowedByHandingDown_2 20 rfl rfl)
theorem dX2_isAllowedByHandingDown_68 : decode cX2_isAllowedByHandingDown 68 = .ok (.aload 6, 2) := dk_25 6 (dk_at dksX2_isAllowedByHandingDown_3 0 rfl rfl)
theorem dX2_isAllowedByHandingDown_70 : decode cX2_isAllowedByHandingDown 70 = .ok (.goto 5, 3) := dk_167 0 5 (dk_at dksX2_isAllowedByHandingDown_3 2 rfl rfl)
theorem dX2_isAllowedByHandingDown_73 : decode cX2_isAllowedByHandingDown 73 = .ok (.aload 4, 2) := dk_25 4 (dk_at dksX2_isAllowedByHandingDown_3 5 rfl rfl)
theorem dX2_isAllowedByHandingDown_75 : decode cX2_isAllowedByHandingDown 75 = .ok (.astore 4, 2) := dk_58 4 (dk_at dksX2_isAllowedByHandingDown_3 7 rfl rfl)
theorem dX2_isAllowedByHandingDown_77 : decode cX2_isAllowedByHandingDown 77 = .ok (.goto (-56), 3) := dk_167 255 200 (dk_at dksX2_isAllowedByHandingDown_3 9 rfl rfl)
theorem dX2_isAllowedByHandingDown_80 : decode cX2_isAllowedByHandingDown 80 = .ok (.aload_n 0, 1) := dk_42 (dk_at dksX2_isAllowedByHandingDown_3 12 rfl rfl)
theorem dX2_isAllowedByHandingDown_81 : decode cX2_isAllowedByHandingDown 81 = .ok (.iload_n 1, 1) := dk_27 (dk_at dksX2_isAllowedByHandingDown_3 13 rfl rfl)
theorem dX2_isAllowedByHandingDown_82 : decode cX2_isAllowedByHandingDown 82 = .ok (.iload_n 2, 1) := dk_28 (dk_at dksX2_isAllowedByHandingDown_3 14 rfl rfl)
theorem dX2_isAllowedByHandingDown_83 : decode cX2_isAllowedByHandingDown 83 = .ok (.iload_n 3, 1) := dk_29 (dk_at dksX2_isAllowedByHandingDown_3 15 rfl rfl)
theorem dX2_isAllowedByHandingDown_84 : decode cX2_isAllowedByHandingDown 84 = .ok (.invokevirtual 179, 3) := dk_182 0 179 (dk_at dksX2_isAllowedByHandingDown_3 16 rfl rfl)
theorem dX2_isAllowedByHandingDown_87 : decode cX2_isAllowedByHandingDown 87 = .ok (.ifCond .ne 32, 3) := dk_154 0 32 (dk_at dksX2_isAllowedByHandingDown_3 19 rfl rfl)
theorem dX2_isAllowedByHandingDown_90 : decode cX2_isAllowedByHandingDown 90 = .ok (.aload 4, 2) := dk_25 4 (dk_at dksX2_isAllowedByHandingDown_3 22 rfl rfl)
theorem dX2_isAllowedByHandingDown_92 : decode cX2_isAllowedByHandingDown 92 = .ok (.ifnull 31, 3) := dk_198 0 31 (dk_at dksX2_isAllowedByHandingDown_4 0 rfl rfl)
theorem dX2_isAllowedByHandingDown_95 : decode cX2_isAllowedByHandingDown 95 = .ok (.aload 4, 2) := dk_25 4 (dk_at dksX2_isAllowedByHandingDown_4 3 rfl rfl)
theorem dX2_isAllowedByHandingDown_97 : decode cX2_isAllowedByHandingDown 97 = .ok (.getfield 176, 3) := dk_180 0 176 (dk_at dksX2_isAllowedByHandingDown_4 5 rfl rfl)
theorem dX2_isAllowedByHandingDown_100 : decode cX2_isAllowedByHandingDown 100 = .ok (.ifCond .eq 23, 3) := dk_153 0 23 (dk_at dksX2_isAllowedByHandingDown_4 8 rfl rfl)
theorem dX2_isAllowedByHandingDown_103 : decode cX2_isAllowedByHandingDown 103 = .ok (.aload_n 0, 1) := dk_42 (dk_at dksX2_isAllowedByHandingDown_4 11 rfl rfl)
theorem dX2_isAllowedByHandingDown_104 : decode cX2_isAllowedByHandingDown 104 = .ok (.getfield 24, 3) := dk_180 0 24 (dk_at dksX2_isAllowedByHandingDown_4 12 rfl rfl)
theorem dX2_isAllowedByHandingDown_107 : decode cX2_isAllowedByHandingDown 107 = .ok (.iload_n 2, 1) := dk_28 (dk_at dksX2_isAllowedByHandingDown_4 15 rfl rfl)
theorem dX2_isAllowedByHandingDown_108 : decode cX2_isAllowedByHandingDown 108 = .ok (.aaload, 1) := dk_50 (dk_at dksX2_isAllowedByHandingDown_4 16 rfl rfl)
theorem dX2_isAllowedByHandingDown_109 : decode cX2_isAllowedByHandingDown 109 = .ok (.getfield 182, 3) := dk_180 0 182 (dk_at dksX2_isAllowedByHandingDown_4 17 rfl rfl)
theorem dX2_isAllowedByHandingDown_112 : decode cX2_isAllowedByHandingDown 112 = .ok (.iload_n 3, 1) := dk_29 (dk_at dksX2_isAllowedByHandingDown_4 20 rfl rfl)
theorem dX2_isAllowedByHandingDown_113 : decode cX2_isAllowedByHandingDown 113 = .ok (.invokestatic 99, 3) := dk_184 0 99 (dk_at dksX2_isAllowedByHandingDown_4 21 rfl rfl)
theorem dX2_isAllowedByHandingDown_116 : decode cX2_isAllowedByHandingDown 116 = .ok (.ifCond .eq 7, 3) := dk_153 0 7 (dk_at dksX2_isAllowedByHandingDown_5 0 rfl rfl)
theorem dX2_isAllowedByHandingDown_119 : decode cX2_isAllowedByHandingDown 119 = .ok (.iconst 1, 1) := dk_4 (dk_at dksX2_isAllowedByHandingDown_5 3 rfl rfl)
theorem dX2_isAllowedByHandingDown_120 : decode cX2_isAllowedByHandingDown 120 = .ok (.goto 4, 3) := dk_167 0 4 (dk_at dksX2_isAllowedByHandingDown_5 4 rfl rfl)
theorem dX2_isAllowedByHandingDown_123 : decode cX2_isAllowedByHandingDown 123 = .ok (.iconst 0, 1) := dk_3 (dk_at dksX2_isAllowedByHandingDown_5 7 rfl rfl)
theorem dX2_isAllowedByHandingDown_124 : decode cX2_isAllowedByHandingDown 124 = .ok (.ireturn, 1) := dk_172 (dk_at dksX2_isAllowedByHandingDown_5 8 rfl rfl)
abbrev cX2_counting : ByteArray := prog_4_method_32_code
def yX2_counting : MethodName := ⟨RX2, "counting", "(IILjava/util/ArrayList;)Ljava/util/ArrayList;"⟩
def dkwX2_counting_7 : List UInt8 := [25, 5, 182, 0, 195, 58, 6, 132, 7, 1, 167, 255, 207, 25, 6, 176]
abbrev dktX2_counting_7 : List UInt8 := dkwX2_counting_7 ++ []
def dkwX2_counting_6 : List UInt8 := [182, 0, 63, 153, 0, 28, 42, 180, 0, 24, 21, 7, 50, 180, 0, 118, 28, 160, 0, 14, 42, 27, 21, 7]
abbrev dktX2_counting_6 : List UInt8 := dkwX2_counting_6 ++ dktX2_counting_7
def dkwX2_counting_5 : List UInt8 := [176, 1, 58, 6, 3, 54, 7, 21, 7, 16, 20, 162, 0, 48, 25, 6, 199, 0, 43, 42, 21, 7]
abbrev dktX2_counting_5 : List UInt8 := dkwX2_counting_5 ++ dktX2_counting_6
def dkwX2_counting_4 : List UInt8 := [153, 0, 17, 25, 4, 45, 182, 0, 194, 87, 25, 5, 45, 182, 0, 194, 87, 28, 27, 160, 0, 6, 25, 4]
abbrev dktX2_counting_4 : List UInt8 := dkwX2_counting_4 ++ dktX2_counting_5
def dkwX2_counting_3 : List UInt8 := [153, 0, 11, 25, 5, 25, 7, 182, 0, 59, 87, 167, 255, 210, 42, 180, 0, 24, 28, 50, 180, 0, 191]
abbrev dktX2_counting_3 : List UInt8 := dkwX2_counting_3 ++ dktX2_counting_4
def dkwX2_counting_2 : List UInt8 := [185, 0, 49, 1, 0, 192, 0, 145, 58, 7, 25, 4, 25, 7, 182, 0, 59, 87, 25, 7, 180, 0, 155]
abbrev dktX2_counting_2 : List UInt8 := dkwX2_counting_2 ++ dktX2_counting_3
def dkwX2_counting_1 : List UInt8 := [180, 0, 133, 182, 0, 39, 58, 6, 25, 6, 185, 0, 43, 1, 0, 153, 0, 42, 25, 6]
abbrev dktX2_counting_1 : List UInt8 := dkwX2_counting_1 ++ dktX2_counting_2
def dkwX2_counting_0 : List UInt8 := [187, 0, 15, 89, 183, 0, 17, 58, 4, 187, 0, 15, 89, 183, 0, 17, 58, 5, 42, 180, 0, 24, 28, 50]
abbrev dktX2_counting_0 : List UInt8 := dkwX2_counting_0 ++ dktX2_counting_1
theorem dksX2_counting_0 : cX2_counting.data.toList.drop 0 = dktX2_counting_0 := by decide +kernel
theorem dksX2_counting_1 : cX2_counting.data.toList.drop 24 = dktX2_counting_1 := dk_seg dksX2_counting_0 24 rfl rfl
theorem dksX2_counting_2 : cX2_counting.data.toList.drop 44 = dktX2_counting_2 := dk_seg dksX2_counting_1 20 rfl rfl
theorem dksX2_counting_3 : cX2_counting.data.toList.drop 67 = dktX2_counting_3 := dk_seg dksX2_counting_2 23 rfl rfl
theorem dksX2_counting_4 : cX2_counting.data.toList.drop 90 = dktX2_counting_4 := dk_seg dksX2_counting_3 23 rfl rfl
theorem dksX2_counting_5 : cX2_counting.data.toList.drop 114 = dktX2_counting_5 := dk_seg dksX2_counting_4 24 rfl rfl
theorem dksX2_counting_6 : cX2_counting.data.toList.drop 136 = dktX2_counting_6 := dk_seg dksX2_counting_5 22 rfl rfl
theorem dksX2_counting_7 : cX2_counting.data.toList.drop 160 = dktX2_counting_7 := dk_seg dksX2_counting_6 24 rfl rfl
theorem dX2_counting_0 : decode cX2_counting 0 = .ok (.new 15, 3) := dk_187 0 15 (dk_at dksX2_counting_0 0 rfl rfl)
theorem dX2_counting_3 : decode cX2_counting 3 = .ok (.dup, 1) := dk_89 (dk_at dksX2_counting_0 3 rfl rfl)
theorem dX2_counting_4 : decode cX2_counting 4 = .ok (.invokespecial 17, 3) := dk_183 0 17 (dk_at dksX2_counting_0 4 rfl rfl)
theorem dX2_counting_7 : decode cX2_counting 7 = .ok (.astore 4, 2) := dk_58 4 (dk_at dksX2_counting_0 7 rfl rfl)
theorem dX2_counting_9 : decode cX2_counting 9 = .ok (.new 15, 3) := dk_187 0 15 (dk_at dksX2_counting_0 9 rfl rfl)
theorem dX2_counting_12 : decode cX2_counting 12 = .ok (.dup, 1) := dk_89 (dk_at dksX2_counting_0 12 rfl rfl)
theorem dX2_counting_13 : decode cX2_counting 13 = .ok (.invokespecial 17, 3) := dk_183 0 17 (dk_at dksX2_counting_0 13 rfl rfl)
theorem dX2_counting_16 : decode cX2_counting 16 = .ok (.astore 5, 2) := dk_58 5 (dk_at dksX2_counting_0 16 rfl rfl)
theorem dX2_counting_18 : decode cX2_counting 18 = .ok (.aload_n 0, 1) := dk_42 (dk_at dksX2_counting_0 18 rfl rfl)
theorem dX2_counting_19 : decode cX2_counting 19 = .ok (.getfield 24, 3) := dk_180 0 24 (dk_at dksX2_counting_0 19 rfl rfl)
theorem dX2_counting_22 : decode cX2_counting 22 = .ok (.iload_n 2, 1) := dk_28 (dk_at dksX2_counting_0 22 rfl rfl)
theorem dX2_counting_23 : decode cX2_counting 23 = .ok (.aaload, 1) := dk_50 (dk_at dksX2_counting_0 23 rfl rfl)
theorem dX2_counting_24 : decode cX2_counting 24 = .ok (.getfield 133, 3) := dk_180 0 133 (dk_at dksX2_counting_1 0 rfl rfl)
theorem dX2_counting_27 : decode cX2_counting 27 = .ok (.invokevirtual 39, 3) := dk_182 0 39 (dk_at dksX2_counting_1 3 rfl rfl)
theorem dX2_counting_30 : decode cX2_counting 30 = .ok (.astore 6, 2) := dk_58 6 (dk_at dksX2_counting_1 6 rfl rfl)
theorem dX2_counting_32 : decode cX2_counting 32 = .ok (.aload 6, 2) := dk_25 6 (dk_at dksX2_counting_1 8 rfl rfl)
theorem dX2_counting_34 : decode cX2_counting 34 = .ok (.invokeinterface 43 1, 5) := by decide +kernel
theorem dX2_counting_39 : decode cX2_counting 39 = .ok (.ifCond .eq 42, 3) := dk_153 0 42 (dk_at dksX2_counting_1 15 rfl rfl)
theorem dX2_counting_42 : decode cX2_counting 42 = .ok (.aload 6, 2) := dk_25 6 (dk_at dksX2_counting_1 18 rfl rfl)
theorem dX2_counting_44 : decode cX2_counting 44 = .ok (.invokeinterface 49 1, 5) := by decide +kernel
theorem dX2_counting_49 : decode cX2_counting 49 = .ok (.checkcast 145, 3) := dk_192 0 145 (dk_at dksX2_counting_2 5 rfl rfl)
theorem dX2_counting_52 : decode cX2_counting 52 = .ok (.astore 7, 2) := dk_58 7 (dk_at dksX2_counting_2 8 rfl rfl)
theorem dX2_counting_54 : decode cX2_counting 54 = .ok (.aload 4, 2) := dk_25 4 (dk_at dksX2_counting_2 10 rfl rfl)
theorem dX2_counting_56 : decode cX2_counting 56 = .ok (.aload 7, 2) := dk_25 7 (dk_at dksX2_counting_2 12 rfl rfl)
theorem dX2_counting_58 : decode cX2_counting 58 = .ok (.invokevirtual 59, 3) := dk_182 0 59 (dk_at dksX2_counting_2 14 rfl rfl)
theorem dX2_counting_61 : decode cX2_counting 61 = .ok (.pop, 1) := dk_87 (dk_at dksX2_counting_2 17 rfl rfl)
theorem dX2_counting_62 : decode cX2_counting 62 = .ok (.aload 7, 2) := dk_25 7 (dk_at dksX2_counting_2 18 rfl rfl)
theorem dX2_counting_64 : decode cX2_counting 64 = .ok (.getfield 155, 3) := dk_180 0 155 (dk_at dksX2_counting_2 20 rfl rfl)
theorem dX2_counting_67 : decode cX2_counting 67 = .ok (.ifCond .eq 11, 3) := dk_153 0 11 (dk_at dksX2_counting_3 0 rfl rfl)
theorem dX2_counting_70 : decode cX2_counting 70 = .ok (.aload 5, 2) := dk_25 5 (dk_at dksX2_counting_3 3 rfl rfl)
theorem dX2_counting_72 : decode cX2_counting 72 = .ok (.aload 7, 2) := dk_25 7 (dk_at dksX2_counting_3 5 rfl rfl)
theorem dX2_counting_74 : decode cX2_counting 74 = .ok (.invokevirtual 59, 3) := dk_182 0 59 (dk_at dksX2_counting_3 7 rfl rfl)
theorem dX2_counting_77 : decode cX2_counting 77 = .ok (.pop, 1) := dk_87 (dk_at dksX2_counting_3 10 rfl rfl)
theorem dX2_counting_78 : decode cX2_counting 78 = .ok (.goto (-46), 3) := dk_167 255 210 (dk_at dksX2_counting_3 11 rfl rfl)
theorem dX2_counting_81 : decode cX2_counting 81 = .ok (.aload_n 0, 1) := dk_42 (dk_at dksX2_counting_3 14 rfl rfl)
theorem dX2_counting_82 : decode cX2_counting 82 = .ok (.getfield 24, 3) := dk_180 0 24 (dk_at dksX2_counting_3 15 rfl rfl)
theorem dX2_counting_85 : decode cX2_counting 85 = .ok (.iload_n 2, 1) := dk_28 (dk_at dksX2_counting_3 18 rfl rfl)
theorem dX2_counting_86 : decode cX2_counting 86 = .ok (.aaload, 1) := dk_50 (dk_at dksX2_counting_3 19 rfl rfl)
theorem dX2_counting_87 : decode cX2_counting 87 = .ok (.getfield 191, 3) := dk_180 0 191 (dk_at dksX2_counting_3 20 rfl rfl)
theorem dX2_counting_90 : decode cX2_counting 90 = .ok (.ifCond .eq 17, 3) := dk_153 0 17 (dk_at dksX2_counting_4 0 rfl rfl)
theorem dX2_counting_93 : decode cX2_counting 93 = .ok (.aload 4, 2) := dk_25 4 (dk_at dksX2_counting_4 3 rfl rfl)
theorem dX2_counting_95 : decode cX2_counting 95 = .ok (.aload_n 3, 1) := dk_45 (dk_at dksX2_counting_4 5 rfl rfl)
theorem dX2_counting_96 : decode cX2_counting 96 = .ok (.invokevirtual 194, 3) := dk_182 0 194 (dk_at dksX2_counting_4 6 rfl rfl)
theorem dX2_counting_99 : decode cX2_counting 99 = .ok (.pop, 1) := dk_87 (dk_at dksX2_counting_4 9 rfl rfl)
theorem dX2_counting_100 : decode cX2_counting 100 = .ok (.aload 5, 2) := dk_25 5 (dk_at dksX2_counting_4 10 rfl rfl)
theorem dX2_counting_102 : decode cX2_counting 102 = .ok (.aload_n 3, 1) := dk_45 (dk_at dksX2_counting_4 12 rfl rfl)
theorem dX2_counting_103 : decode cX2_counting 103 = .ok (.invokevirtual 194, 3) := dk_182 0 194 (dk_at dksX2_counting_4 13 rfl rfl)
theorem dX2_counting_106 : decode cX2_counting 106 = .ok (.pop, 1) := dk_87 (dk_at dksX2_counting_4 16 rfl rfl)
theorem dX2_counting_107 : decode cX2_counting 107 = .ok (.iload_n 2, 1) := dk_28 (dk_at dksX2_counting_4 17 rfl rfl)
theorem dX2_counting_108 : decode cX2_counting 108 = .ok (.iload_n 1, 1) := dk_27 (dk_at dksX2_counting_4 18 rfl rfl)
theorem dX2_counting_109 : decode cX2_counting 109 = .ok (.if_icmp .ne 6, 3) := dk_160 0 6 (dk_at dksX2_counting_4 19 rfl rfl)
theorem dX2_counting_112 : decode cX2_counting 112 = .ok (.aload 4, 2) := dk_25 4 (dk_at dksX2_counting_4 22 rfl rfl)
theorem dX2_counting_114 : decode cX2_counting 114 = .ok (.areturn, 1) := dk_176 (dk_at dksX2_counting_5 0 rfl rfl)
theorem dX2_counting_115 : decode cX2_counting 115 = .ok (.aconst_null, 1) := dk_1 (dk_at dksX2_counting_5 1 rfl rfl)
theorem dX2_counting_116 : decode cX2_counting 116 = .ok (.astore 6, 2) := dk_58 6 (dk_at dksX2_counting_5 2 rfl rfl)
theorem dX2_counting_118 : decode cX2_counting 118 = .ok (.iconst 0, 1) := dk_3 (dk_at dksX2_counting_5 4 rfl rfl)
theorem dX2_counting_119 : decode cX2_counting 119 = .ok (.istore 7, 2) := dk_54 7 (dk_at dksX2_counting_5 5 rfl rfl)
theorem dX2_counting_121 : decode cX2_counting 121 = .ok (.iload 7, 2) := dk_21 7 (dk_at dksX2_counting_5 7 rfl rfl)
theorem dX2_counting_123 : decode cX2_counting 123 = .ok (.bipush 20, 2) := dk_16 20 (dk_at dksX2_counting_5 9 rfl rfl)
theorem dX2_counting_125 : decode cX2_counting 125 = .ok (.if_icmp .ge 48, 3) := dk_162 0 48 (dk_at dksX2_counting_5 11 rfl rfl)
theorem dX2_counting_128 : decode cX2_counting 128 = .ok (.aload 6, 2) := dk_25 6 (dk_at dksX2_counting_5 14 rfl rfl)
theorem dX2_counting_130 : decode cX2_counting 130 = .ok (.ifnonnull 43, 3) := dk_199 0 43 (dk_at dksX2_counting_5 16 rfl rfl)
theorem dX2_counting_133 : decode cX2_counting 133 = .ok (.aload_n 0, 1) := dk_42 (dk_at dksX2_counting_5 19 rfl rfl)
theorem dX2_counting_134 : decode cX2_counting 134 = .ok (.iload 7, 2) := dk_21 7 (dk_at dksX2_counting_5 20 rfl rfl)
theorem dX2_counting_136 : decode cX2_counting 136 = .ok (.invokevirtual 63, 3) := dk_182 0 63 (dk_at dksX2_counting_6 0 rfl rfl)
theorem dX2_counting_139 : decode cX2_counting 139 = .ok (.ifCond .eq 28, 3) := dk_153 0 28 (dk_at dksX2_counting_6 3 rfl rfl)
theorem dX2_counting_142 : decode cX2_counting 142 = .ok (.aload_n 0, 1) := dk_42 (dk_at dksX2_counting_6 6 rfl rfl)
theorem dX2_counting_143 : decode cX2_counting 143 = .ok (.getfield 24, 3) := dk_180 0 24 (dk_at dksX2_counting_6 7 rfl rfl)
theorem dX2_counting_146 : decode cX2_counting 146 = .ok (.iload 7, 2) := dk_21 7 (dk_at dksX2_counting_6 10 rfl rfl)
theorem dX2_counting_148 : decode cX2_counting 148 = .ok (.aaload, 1) := dk_50 (dk_at dksX2_counting_6 12 rfl rfl)
theorem dX2_counting_149 : decode cX2_counting 149 = .ok (.getfield 118, 3) := dk_180 0 118 (dk_at dksX2_counting_6 13 rfl rfl)
theorem dX2_counting_152 : decode cX2_counting 152 = .ok (.iload_n 2, 1) := dk_28 (dk_at dksX2_counting_6 16 rfl rfl)
theorem dX2_counting_153 : decode cX2_counting 153 = .ok (.if_icmp .ne 14, 3) := dk_160 0 14 (dk_at dksX2_counting_6 17 rfl rfl)
theorem dX2_counting_156 : decode cX2_counting 156 = .ok (.aload_n 0, 1) := dk_42 (dk_at dksX2_counting_6 20 rfl rfl)
theorem dX2_counting_157 : decode cX2_counting 157 = .ok (.iload_n 1, 1) := dk_27 (dk_at dksX2_counting_6 21 rfl rfl)
theorem dX2_counting_158 : decode cX2_counting 158 = .ok (.iload 7, 2) := dk_21 7 (dk_at dksX2_counting_6 22 rfl rfl)
theorem dX2_counting_160 : decode cX2_counting 160 = .ok (.aload 5, 2) := dk_25 5 (dk_at dksX2_counting_7 0 rfl rfl)
theorem dX2_counting_162 : decode cX2_counting 162 = .ok (.invokevirtual 195, 3) := dk_182 0 195 (dk_at dksX2_counting_7 2 rfl rfl)
theorem dX2_counting_165 : decode cX2_counting 165 = .ok (.astore 6, 2) := dk_58 6 (dk_at dksX2_counting_7 5 rfl rfl)
theorem dX2_counting_167 : decode cX2_counting 167 = .ok (.iinc 7 1, 3) := dk_132 7 1 (dk_at dksX2_counting_7 7 rfl rfl)
theorem dX2_counting_170 : decode cX2_counting 170 = .ok (.goto (-49), 3) := dk_167 255 207 (dk_at dksX2_counting_7 10 rfl rfl)
theorem dX2_counting_173 : decode cX2_counting 173 = .ok (.aload 6, 2) := dk_25 6 (dk_at dksX2_counting_7 13 rfl rfl)
theorem dX2_counting_175 : decode cX2_counting 175 = .ok (.areturn, 1) := dk_176 (dk_at dksX2_counting_7 15 rfl rfl)
abbrev cX2_isStopped : ByteArray := prog_4_method_30_code
def yX2_isStopped : MethodName := ⟨RX2, "isStopped", "(III)Z"⟩
def dkwX2_isStopped_1 : List UInt8 := [154, 0, 17, 42, 27, 28, 29, 182, 0, 185, 153, 0, 7, 4, 167, 0, 4, 3, 172]
abbrev dktX2_isStopped_1 : List UInt8 := dkwX2_isStopped_1 ++ []
def dkwX2_isStopped_0 : List UInt8 := [42, 27, 28, 29, 182, 0, 179, 154, 0, 33, 42, 180, 0, 24, 28, 50, 180, 0, 182, 29, 184, 0, 99]
abbrev dktX2_isStopped_0 : List UInt8 := dkwX2_isStopped_0 ++ dktX2_isStopped_1
theorem dksX2_isStopped_0 : cX2_isStopped.data.toList.drop 0 = dktX2_isStopped_0 := by decide +kernel
theorem dksX2_isStopped_1 : cX2_isStopped.data.toList.drop 23 = dktX2_isStopped_1 := dk_seg dksX2_isStopped_0 23 rfl rfl
theorem dX2_isStopped_0 : decode cX2_isStopped 0 = .ok (.aload_n 0, 1) := dk_42 (dk_at dksX2_isStopped_0 0 rfl rfl)
theorem dX2_isStopped_1 : decode cX2_isStopped 1 = .ok (.iload_n 1, 1) := dk_27 (dk_at dksX2_isStopped_0 1 rfl rfl)
theorem dX2_isStopped_2 : decode cX2_isStopped 2 = .ok (.iload_n 2, 1) := dk_28 (dk_at dksX2_isStopped_0 2 rfl rfl)
theorem dX2_isStopped_3 : decode cX2_isStopped 3 = .ok (.iload_n 3, 1) := dk_29 (dk_at dksX2_isStopped_0 3 rfl rfl)
theorem dX2_isStopped_4 : decode cX2_isStopped 4 = .ok (.invokevirtual 179, 3) := dk_182 0 179 (dk_at dksX2_isStopped_0 4 rfl rfl)
theorem dX2_isStopped_7 : decode cX2_isStopped 7 = .ok (.ifCond .ne 33, 3) := dk_154 0 33 (dk_at dksX2_isStopped_0 7 rfl rfl)
theorem dX2_isStopped_10 : decode cX2_isStopped 10 = .ok (.aload_n 0, 1) := dk_42 (dk_at dksX2_isStopped_0 10 rfl rfl)
theorem dX2_isStopped_11 : decode cX2_isStopped 11 = .ok (.getfield 24, 3) := dk_180 0 24 (dk_at dksX2_isStopped_0 11 rfl rfl)
theorem dX2_isStopped_14 : decode cX2_isStopped 14 = .ok (.iload_n 2, 1) := dk_28 (dk_at dksX2_isStopped_0 14 rfl rfl)
theorem dX2_isStopped_15 : decode cX2_isStopped 15 = .ok (.aaload, 1) := dk_50 (dk_at dksX2_isStopped_0 15 rfl rfl)
theorem dX2_isStopped_16 : decode cX2_isStopped 16 = .ok (.getfield 182, 3) := dk_180 0 182 (dk_at dksX2_isStopped_0 16 rfl rfl)
theorem dX2_isStopped_19 : decode cX2_isStopped 19 = .ok (.iload_n 3, 1) := dk_29 (dk_at dksX2_isStopped_0 19 rfl rfl)
theorem dX2_isStopped_20 : decode cX2_isStopped 20 = .ok (.invokestatic 99, 3) := dk_184 0 99 (dk_at dksX2_isStopped_0 20 rfl rfl)
theorem dX2_isStopped_23 : decode cX2_isStopped 23 = .ok (.ifCond .ne 17, 3) := dk_154 0 17 (dk_at dksX2_isStopped_1 0 rfl rfl)
theorem dX2_isStopped_26 : decode cX2_isStopped 26 = .ok (.aload_n 0, 1) := dk_42 (dk_at dksX2_isStopped_1 3 rfl rfl)
theorem dX2_isStopped_27 : decode cX2_isStopped 27 = .ok (.iload_n 1, 1) := dk_27 (dk_at dksX2_isStopped_1 4 rfl rfl)
theorem dX2_isStopped_28 : decode cX2_isStopped 28 = .ok (.iload_n 2, 1) := dk_28 (dk_at dksX2_isStopped_1 5 rfl rfl)
theorem dX2_isStopped_29 : decode cX2_isStopped 29 = .ok (.iload_n 3, 1) := dk_29 (dk_at dksX2_isStopped_1 6 rfl rfl)
theorem dX2_isStopped_30 : decode cX2_isStopped 30 = .ok (.invokevirtual 185, 3) := dk_182 0 185 (dk_at dksX2_isStopped_1 7 rfl rfl)
theorem dX2_isStopped_33 : decode cX2_isStopped 33 = .ok (.ifCond .eq 7, 3) := dk_153 0 7 (dk_at dksX2_isStopped_1 10 rfl rfl)
theorem dX2_isStopped_36 : decode cX2_isStopped 36 = .ok (.iconst 1, 1) := dk_4 (dk_at dksX2_isStopped_1 13 rfl rfl)
theorem dX2_isStopped_37 : decode cX2_isStopped 37 = .ok (.goto 4, 3) := dk_167 0 4 (dk_at dksX2_isStopped_1 14 rfl rfl)
theorem dX2_isStopped_40 : decode cX2_isStopped 40 = .ok (.iconst 0, 1) := dk_3 (dk_at dksX2_isStopped_1 17 rfl rfl)
theorem dX2_isStopped_41 : decode cX2_isStopped 41 = .ok (.ireturn, 1) := dk_172 (dk_at dksX2_isStopped_1 18 rfl rfl)
abbrev cX2_usersWith : ByteArray := prog_4_method_34_code
def yX2_usersWith : MethodName := ⟨RX2, "usersWith", "(II)I"⟩
def dkwX2_usersWith_1 : List UInt8 := [153, 0, 7, 4, 167, 0, 4, 3, 96, 62, 132, 4, 1, 167, 255, 225, 29, 172]
abbrev dktX2_usersWith_1 : List UInt8 := dkwX2_usersWith_1 ++ []
def dkwX2_usersWith_0 : List UInt8 := [3, 62, 3, 54, 4, 21, 4, 42, 180, 0, 9, 162, 0, 28, 29, 42, 21, 4, 27, 28, 182, 0, 188]
abbrev dktX2_usersWith_0 : List UInt8 := dkwX2_usersWith_0 ++ dktX2_usersWith_1
theorem dksX2_usersWith_0 : cX2_usersWith.data.toList.drop 0 = dktX2_usersWith_0 := by decide +kernel
theorem dksX2_usersWith_1 : cX2_usersWith.data.toList.drop 23 = dktX2_usersWith_1 := dk_seg dksX2_usersWith_0 23 rfl rfl
theorem dX2_usersWith_0 : decode cX2_usersWith 0 = .ok (.iconst 0, 1) := dk_3 (dk_at dksX2_usersWith_0 0 rfl rfl)
theorem dX2_usersWith_1 : decode cX2_usersWith 1 = .ok (.istore_n 3, 1) := dk_62 (dk_at dksX2_usersWith_0 1 rfl rfl)
theorem dX2_usersWith_2 : decode cX2_usersWith 2 = .ok (.iconst 0, 1) := dk_3 (dk_at dksX2_usersWith_0 2 rfl rfl)
theorem dX2_usersWith_3 : decode cX2_usersWith 3 = .ok (.istore 4, 2) := dk_54 4 (dk_at dksX2_usersWith_0 3 rfl rfl)
theorem dX2_usersWith_5 : decode cX2_usersWith 5 = .ok (.iload 4, 2) := dk_21 4 (dk_at dksX2_usersWith_0 5 rfl rfl)
theorem dX2_usersWith_7 : decode cX2_usersWith 7 = .ok (.aload_n 0, 1) := dk_42 (dk_at dksX2_usersWith_0 7 rfl rfl)
theorem dX2_usersWith_8 : decode cX2_usersWith 8 = .ok (.getfield 9, 3) := dk_180 0 9 (dk_at dksX2_usersWith_0 8 rfl rfl)
theorem dX2_usersWith_11 : decode cX2_usersWith 11 = .ok (.if_icmp .ge 28, 3) := dk_162 0 28 (dk_at dksX2_usersWith_0 11 rfl rfl)
theorem dX2_usersWith_14 : decode cX2_usersWith 14 = .ok (.iload_n 3, 1) := dk_29 (dk_at dksX2_usersWith_0 14 rfl rfl)
theorem dX2_usersWith_15 : decode cX2_usersWith 15 = .ok (.aload_n 0, 1) := dk_42 (dk_at dksX2_usersWith_0 15 rfl rfl)
theorem dX2_usersWith_16 : decode cX2_usersWith 16 = .ok (.iload 4, 2) := dk_21 4 (dk_at dksX2_usersWith_0 16 rfl rfl)
theorem dX2_usersWith_18 : decode cX2_usersWith 18 = .ok (.iload_n 1, 1) := dk_27 (dk_at dksX2_usersWith_0 18 rfl rfl)
theorem dX2_usersWith_19 : decode cX2_usersWith 19 = .ok (.iload_n 2, 1) := dk_28 (dk_at dksX2_usersWith_0 19 rfl rfl)
theorem dX2_usersWith_20 : decode cX2_usersWith 20 = .ok (.invokevirtual 188, 3) := dk_182 0 188 (dk_at dksX2_usersWith_0 20 rfl rfl)
theorem dX2_usersWith_23 : decode cX2_usersWith 23 = .ok (.ifCond .eq 7, 3) := dk_153 0 7 (dk_at dksX2_usersWith_1 0 rfl rfl)
theorem dX2_usersWith_26 : decode cX2_usersWith 26 = .ok (.iconst 1, 1) := dk_4 (dk_at dksX2_usersWith_1 3 rfl rfl)
theorem dX2_usersWith_27 : decode cX2_usersWith 27 = .ok (.goto 4, 3) := dk_167 0 4 (dk_at dksX2_usersWith_1 4 rfl rfl)
theorem dX2_usersWith_30 : decode cX2_usersWith 30 = .ok (.iconst 0, 1) := dk_3 (dk_at dksX2_usersWith_1 7 rfl rfl)
theorem dX2_usersWith_31 : decode cX2_usersWith 31 = .ok (.iadd, 1) := dk_96 (dk_at dksX2_usersWith_1 8 rfl rfl)
theorem dX2_usersWith_32 : decode cX2_usersWith 32 = .ok (.istore_n 3, 1) := dk_62 (dk_at dksX2_usersWith_1 9 rfl rfl)
theorem dX2_usersWith_33 : decode cX2_usersWith 33 = .ok (.iinc 4 1, 3) := dk_132 4 1 (dk_at dksX2_usersWith_1 10 rfl rfl)
theorem dX2_usersWith_36 : decode cX2_usersWith 36 = .ok (.goto (-31), 3) := dk_167 255 225 (dk_at dksX2_usersWith_1 13 rfl rfl)
theorem dX2_usersWith_39 : decode cX2_usersWith 39 = .ok (.iload_n 3, 1) := dk_29 (dk_at dksX2_usersWith_1 16 rfl rfl)
theorem dX2_usersWith_40 : decode cX2_usersWith 40 = .ok (.ireturn, 1) := dk_172 (dk_at dksX2_usersWith_1 17 rfl rfl)
abbrev cX2_rightsThrough : ByteArray := prog_4_method_35_code
def yX2_rightsThrough : MethodName := ⟨RX2, "rightsThrough", "(II)I"⟩
def dkwX2_rightsThrough_5 : List UInt8 := [167, 255, 156, 132, 4, 1, 167, 255, 140, 29, 172]
abbrev dktX2_rightsThrough_5 : List UInt8 := dkwX2_rightsThrough_5 ++ []
def dkwX2_rightsThrough_4 : List UInt8 := [42, 27, 21, 4, 21, 5, 182, 0, 188, 153, 0, 7, 4, 167, 0, 4, 3, 96, 62, 132, 5, 1]
abbrev dktX2_rightsThrough_4 : List UInt8 := dkwX2_rightsThrough_4 ++ dktX2_rightsThrough_5
def dkwX2_rightsThrough_3 : List UInt8 := [167, 0, 4, 3, 54, 7, 29, 21, 7, 153, 0, 31, 42, 27, 21, 4, 21, 5, 182, 0, 185, 153, 0, 19]
abbrev dktX2_rightsThrough_3 : List UInt8 := dkwX2_rightsThrough_3 ++ dktX2_rightsThrough_4
def dkwX2_rightsThrough_2 : List UInt8 := [21, 6, 16, 8, 108, 21, 6, 16, 8, 112, 182, 0, 151, 4, 182, 0, 199, 28, 160, 0, 7, 4]
abbrev dktX2_rightsThrough_2 : List UInt8 := dkwX2_rightsThrough_2 ++ dktX2_rightsThrough_3
def dkwX2_rightsThrough_1 : List UInt8 := [182, 0, 63, 153, 0, 91, 42, 27, 21, 4, 21, 5, 182, 0, 172, 54, 6, 21, 6, 155, 0, 29, 42]
abbrev dktX2_rightsThrough_1 : List UInt8 := dkwX2_rightsThrough_1 ++ dktX2_rightsThrough_2
def dkwX2_rightsThrough_0 : List UInt8 := [3, 62, 3, 54, 4, 21, 4, 16, 20, 162, 0, 115, 3, 54, 5, 21, 5, 7, 162, 0, 100, 42, 21, 4]
abbrev dktX2_rightsThrough_0 : List UInt8 := dkwX2_rightsThrough_0 ++ dktX2_rightsThrough_1
theorem dksX2_rightsThrough_0 : cX2_rightsThrough.data.toList.drop 0 = dktX2_rightsThrough_0 := by decide +kernel
theorem dksX2_rightsThrough_1 : cX2_rightsThrough.data.toList.drop 24 = dktX2_rightsThrough_1 := dk_seg dksX2_rightsThrough_0 24 rfl rfl
theorem dksX2_rightsThrough_2 : cX2_rightsThrough.data.toList.drop 47 = dktX2_rightsThrough_2 := dk_seg dksX2_rightsThrough_1 23 rfl rfl
theorem dksX2_rightsThrough_3 : cX2_rightsThrough.data.toList.drop 69 = dktX2_rightsThrough_3 := dk_seg dksX2_rightsThrough_2 22 rfl rfl
theorem dksX2_rightsThrough_4 : cX2_rightsThrough.data.toList.drop 93 = dktX2_rightsThrough_4 := dk_seg dksX2_rightsThrough_3 24 rfl rfl
theorem dksX2_rightsThrough_5 : cX2_rightsThrough.data.toList.drop 115 = dktX2_rightsThrough_5 := dk_seg dksX2_rightsThrough_4 22 rfl rfl
theorem dX2_rightsThrough_0 : decode cX2_rightsThrough 0 = .ok (.iconst 0, 1) := dk_3 (dk_at dksX2_rightsThrough_0 0 rfl rfl)
theorem dX2_rightsThrough_1 : decode cX2_rightsThrough 1 = .ok (.istore_n 3, 1) := dk_62 (dk_at dksX2_rightsThrough_0 1 rfl rfl)
theorem dX2_rightsThrough_2 : decode cX2_rightsThrough 2 = .ok (.iconst 0, 1) := dk_3 (dk_at dksX2_rightsThrough_0 2 rfl rfl)
theorem dX2_rightsThrough_3 : decode cX2_rightsThrough 3 = .ok (.istore 4, 2) := dk_54 4 (dk_at dksX2_rightsThrough_0 3 rfl rfl)
theorem dX2_rightsThrough_5 : decode cX2_rightsThrough 5 = .ok (.iload 4, 2) := dk_21 4 (dk_at dksX2_rightsThrough_0 5 rfl rfl)
theorem dX2_rightsThrough_7 : decode cX2_rightsThrough 7 = .ok (.bipush 20, 2) := dk_16 20 (dk_at dksX2_rightsThrough_0 7 rfl rfl)
theorem dX2_rightsThrough_9 : decode cX2_rightsThrough 9 = .ok (.if_icmp .ge 115, 3) := dk_162 0 115 (dk_at dksX2_rightsThrough_0 9 rfl rfl)
theorem dX2_rightsThrough_12 : decode cX2_rightsThrough 12 = .ok (.iconst 0, 1) := dk_3 (dk_at dksX2_rightsThrough_0 12 rfl rfl)
theorem dX2_rightsThrough_13 : decode cX2_rightsThrough 13 = .ok (.istore 5, 2) := dk_54 5 (dk_at dksX2_rightsThrough_0 13 rfl rfl)
theorem dX2_rightsThrough_15 : decode cX2_rightsThrough 15 = .ok (.iload 5, 2) := dk_21 5 (dk_at dksX2_rightsThrough_0 15 rfl rfl)
theorem dX2_rightsThrough_17 : decode cX2_rightsThrough 17 = .ok (.iconst 4, 1) := dk_7 (dk_at dksX2_rightsThrough_0 17 rfl rfl)
theorem dX2_rightsThrough_18 : decode cX2_rightsThrough 18 = .ok (.if_icmp .ge 100, 3) := dk_162 0 100 (dk_at dksX2_rightsThrough_0 18 rfl rfl)
theorem dX2_rightsThrough_21 : decode cX2_rightsThrough 21 = .ok (.aload_n 0, 1) := dk_42 (dk_at dksX2_rightsThrough_0 21 rfl rfl)
theorem dX2_rightsThrough_22 : decode cX2_rightsThrough 22 = .ok (.iload 4, 2) := dk_21 4 (dk_at dksX2_rightsThrough_0 22 rfl rfl)
theorem dX2_rightsThrough_24 : decode cX2_rightsThrough 24 = .ok (.invokevirtual 63, 3) := dk_182 0 63 (dk_at dksX2_rightsThrough_1 0 rfl rfl)
theorem dX2_rightsThrough_27 : decode cX2_rightsThrough 27 = .ok (.ifCond .eq 91, 3) := dk_153 0 91 (dk_at dksX2_rightsThrough_1 3 rfl rfl)
theorem dX2_rightsThrough_30 : decode cX2_rightsThrough 30 = .ok (.aload_n 0, 1) := dk_42 (dk_at dksX2_rightsThrough_1 6 rfl rfl)
theorem dX2_rightsThrough_31 : decode cX2_rightsThrough 31 = .ok (.iload_n 1, 1) := dk_27 (dk_at dksX2_rightsThrough_1 7 rfl rfl)
theorem dX2_rightsThrough_32 : decode cX2_rightsThrough 32 = .ok (.iload 4, 2) := dk_21 4 (dk_at dksX2_rightsThrough_1 8 rfl rfl)
theorem dX2_rightsThrough_34 : decode cX2_rightsThrough 34 = .ok (.iload 5, 2) := dk_21 5 (dk_at dksX2_rightsThrough_1 10 rfl rfl)
theorem dX2_rightsThrough_36 : decode cX2_rightsThrough 36 = .ok (.invokevirtual 172, 3) := dk_182 0 172 (dk_at dksX2_rightsThrough_1 12 rfl rfl)
theorem dX2_rightsThrough_39 : decode cX2_rightsThrough 39 = .ok (.istore 6, 2) := dk_54 6 (dk_at dksX2_rightsThrough_1 15 rfl rfl)
theorem dX2_rightsThrough_41 : decode cX2_rightsThrough 41 = .ok (.iload 6, 2) := dk_21 6 (dk_at dksX2_rightsThrough_1 17 rfl rfl)
theorem dX2_rightsThrough_43 : decode cX2_rightsThrough 43 = .ok (.ifCond .lt 29, 3) := dk_155 0 29 (dk_at dksX2_rightsThrough_1 19 rfl rfl)
theorem dX2_rightsThrough_46 : decode cX2_rightsThrough 46 = .ok (.aload_n 0, 1) := dk_42 (dk_at dksX2_rightsThrough_1 22 rfl rfl)
theorem dX2_rightsThrough_47 : decode cX2_rightsThrough 47 = .ok (.iload 6, 2) := dk_21 6 (dk_at dksX2_rightsThrough_2 0 rfl rfl)
theorem dX2_rightsThrough_49 : decode cX2_rightsThrough 49 = .ok (.bipush 8, 2) := dk_16 8 (dk_at dksX2_rightsThrough_2 2 rfl rfl)
theorem dX2_rightsThrough_51 : decode cX2_rightsThrough 51 = .ok (.idiv, 1) := dk_108 (dk_at dksX2_rightsThrough_2 4 rfl rfl)
theorem dX2_rightsThrough_52 : decode cX2_rightsThrough 52 = .ok (.iload 6, 2) := dk_21 6 (dk_at dksX2_rightsThrough_2 5 rfl rfl)
theorem dX2_rightsThrough_54 : decode cX2_rightsThrough 54 = .ok (.bipush 8, 2) := dk_16 8 (dk_at dksX2_rightsThrough_2 7 rfl rfl)
theorem dX2_rightsThrough_56 : decode cX2_rightsThrough 56 = .ok (.irem, 1) := dk_112 (dk_at dksX2_rightsThrough_2 9 rfl rfl)
theorem dX2_rightsThrough_57 : decode cX2_rightsThrough 57 = .ok (.invokevirtual 151, 3) := dk_182 0 151 (dk_at dksX2_rightsThrough_2 10 rfl rfl)
theorem dX2_rightsThrough_60 : decode cX2_rightsThrough 60 = .ok (.iconst 1, 1) := dk_4 (dk_at dksX2_rightsThrough_2 13 rfl rfl)
theorem dX2_rightsThrough_61 : decode cX2_rightsThrough 61 = .ok (.invokevirtual 199, 3) := dk_182 0 199 (dk_at dksX2_rightsThrough_2 14 rfl rfl)
theorem dX2_rightsThrough_64 : decode cX2_rightsThrough 64 = .ok (.iload_n 2, 1) := dk_28 (dk_at dksX2_rightsThrough_2 17 rfl rfl)
theorem dX2_rightsThrough_65 : decode cX2_rightsThrough 65 = .ok (.if_icmp .ne 7, 3) := dk_160 0 7 (dk_at dksX2_rightsThrough_2 18 rfl rfl)
theorem dX2_rightsThrough_68 : decode cX2_rightsThrough 68 = .ok (.iconst 1, 1) := dk_4 (dk_at dksX2_rightsThrough_2 21 rfl rfl)
theorem dX2_rightsThrough_69 : decode cX2_rightsThrough 69 = .ok (.goto 4, 3) := dk_167 0 4 (dk_at dksX2_rightsThrough_3 0 rfl rfl)
theorem dX2_rightsThrough_72 : decode cX2_rightsThrough 72 = .ok (.iconst 0, 1) := dk_3 (dk_at dksX2_rightsThrough_3 3 rfl rfl)
theorem dX2_rightsThrough_73 : decode cX2_rightsThrough 73 = .ok (.istore 7, 2) := dk_54 7 (dk_at dksX2_rightsThrough_3 4 rfl rfl)
theorem dX2_rightsThrough_75 : decode cX2_rightsThrough 75 = .ok (.iload_n 3, 1) := dk_29 (dk_at dksX2_rightsThrough_3 6 rfl rfl)
theorem dX2_rightsThrough_76 : decode cX2_rightsThrough 76 = .ok (.iload 7, 2) := dk_21 7 (dk_at dksX2_rightsThrough_3 7 rfl rfl)
theorem dX2_rightsThrough_78 : decode cX2_rightsThrough 78 = .ok (.ifCond .eq 31, 3) := dk_153 0 31 (dk_at dksX2_rightsThrough_3 9 rfl rfl)
theorem dX2_rightsThrough_81 : decode cX2_rightsThrough 81 = .ok (.aload_n 0, 1) := dk_42 (dk_at dksX2_rightsThrough_3 12 rfl rfl)
theorem dX2_rightsThrough_82 : decode cX2_rightsThrough 82 = .ok (.iload_n 1, 1) := dk_27 (dk_at dksX2_rightsThrough_3 13 rfl rfl)
theorem dX2_rightsThrough_83 : decode cX2_rightsThrough 83 = .ok (.iload 4, 2) := dk_21 4 (dk_at dksX2_rightsThrough_3 14 rfl rfl)
theorem dX2_rightsThrough_85 : decode cX2_rightsThrough 85 = .ok (.iload 5, 2) := dk_21 5 (dk_at dksX2_rightsThrough_3 16 rfl rfl)
theorem dX2_rightsThrough_87 : decode cX2_rightsThrough 87 = .ok (.invokevirtual 185, 3) := dk_182 0 185 (dk_at dksX2_rightsThrough_3 18 rfl rfl)
theorem dX2_rightsThrough_90 : decode cX2_rightsThrough 90 = .ok (.ifCond .eq 19, 3) := dk_153 0 19 (dk_at dksX2_rightsThrough_3 21 rfl rfl)
theorem dX2_rightsThrough_93 : decode cX2_rightsThrough 93 = .ok (.aload_n 0, 1) := dk_42 (dk_at dksX2_rightsThrough_4 0 rfl rfl)
theorem dX2_rightsThrough_94 : decode cX2_rightsThrough 94 = .ok (.iload_n 1, 1) := dk_27 (dk_at dksX2_rightsThrough_4 1 rfl rfl)
theorem dX2_rightsThrough_95 : decode cX2_rightsThrough 95 = .ok (.iload 4, 2) := dk_21 4 (dk_at dksX2_rightsThrough_4 2 rfl rfl)
theorem dX2_rightsThrough_97 : decode cX2_rightsThrough 97 = .ok (.iload 5, 2) := dk_21 5 (dk_at dksX2_rightsThrough_4 4 rfl rfl)
theorem dX2_rightsThrough_99 : decode cX2_rightsThrough 99 = .ok (.invokevirtual 188, 3) := dk_182 0 188 (dk_at dksX2_rightsThrough_4 6 rfl rfl)
theorem dX2_rightsThrough_102 : decode cX2_rightsThrough 102 = .ok (.ifCond .eq 7, 3) := dk_153 0 7 (dk_at dksX2_rightsThrough_4 9 rfl rfl)
theorem dX2_rightsThrough_105 : decode cX2_rightsThrough 105 = .ok (.iconst 1, 1) := dk_4 (dk_at dksX2_rightsThrough_4 12 rfl rfl)
theorem dX2_rightsThrough_106 : decode cX2_rightsThrough 106 = .ok (.goto 4, 3) := dk_167 0 4 (dk_at dksX2_rightsThrough_4 13 rfl rfl)
theorem dX2_rightsThrough_109 : decode cX2_rightsThrough 109 = .ok (.iconst 0, 1) := dk_3 (dk_at dksX2_rightsThrough_4 16 rfl rfl)
theorem dX2_rightsThrough_110 : decode cX2_rightsThrough 110 = .ok (.iadd, 1) := dk_96 (dk_at dksX2_rightsThrough_4 17 rfl rfl)
theorem dX2_rightsThrough_111 : decode cX2_rightsThrough 111 = .ok (.istore_n 3, 1) := dk_62 (dk_at dksX2_rightsThrough_4 18 rfl rfl)
theorem dX2_rightsThrough_112 : decode cX2_rightsThrough 112 = .ok (.iinc 5 1, 3) := dk_132 5 1 (dk_at dksX2_rightsThrough_4 19 rfl rfl)
theorem dX2_rightsThrough_115 : decode cX2_rightsThrough 115 = .ok (.goto (-100), 3) := dk_167 255 156 (dk_at dksX2_rightsThrough_5 0 rfl rfl)
theorem dX2_rightsThrough_118 : decode cX2_rightsThrough 118 = .ok (.iinc 4 1, 3) := dk_132 4 1 (dk_at dksX2_rightsThrough_5 3 rfl rfl)
theorem dX2_rightsThrough_121 : decode cX2_rightsThrough 121 = .ok (.goto (-116), 3) := dk_167 255 140 (dk_at dksX2_rightsThrough_5 6 rfl rfl)
theorem dX2_rightsThrough_124 : decode cX2_rightsThrough 124 = .ok (.iload_n 3, 1) := dk_29 (dk_at dksX2_rightsThrough_5 9 rfl rfl)
theorem dX2_rightsThrough_125 : decode cX2_rightsThrough 125 = .ok (.ireturn, 1) := dk_172 (dk_at dksX2_rightsThrough_5 10 rfl rfl)
abbrev cX2_isNeedless : ByteArray := prog_4_method_38_code
def yX2_isNeedless : MethodName := ⟨RX2, "isNeedless", "(II)Z"⟩
def dkwX2_isNeedless_1 : List UInt8 := [3, 172]
abbrev dktX2_isNeedless_1 : List UInt8 := dkwX2_isNeedless_1 ++ []
def dkwX2_isNeedless_0 : List UInt8 := [42, 182, 0, 142, 78, 45, 27, 28, 182, 0, 206, 87, 42, 45, 182, 0, 147, 154, 0, 7, 4, 167, 0, 4]
abbrev dktX2_isNeedless_0 : List UInt8 := dkwX2_isNeedless_0 ++ dktX2_isNeedless_1
theorem dksX2_isNeedless_0 : cX2_isNeedless.data.toList.drop 0 = dktX2_isNeedless_0 := by decide +kernel
theorem dksX2_isNeedless_1 : cX2_isNeedless.data.toList.drop 24 = dktX2_isNeedless_1 := dk_seg dksX2_isNeedless_0 24 rfl rfl
theorem dX2_isNeedless_0 : decode cX2_isNeedless 0 = .ok (.aload_n 0, 1) := dk_42 (dk_at dksX2_isNeedless_0 0 rfl rfl)
theorem dX2_isNeedless_1 : decode cX2_isNeedless 1 = .ok (.invokevirtual 142, 3) := dk_182 0 142 (dk_at dksX2_isNeedless_0 1 rfl rfl)
theorem dX2_isNeedless_4 : decode cX2_isNeedless 4 = .ok (.astore_n 3, 1) := dk_78 (dk_at dksX2_isNeedless_0 4 rfl rfl)
theorem dX2_isNeedless_5 : decode cX2_isNeedless 5 = .ok (.aload_n 3, 1) := dk_45 (dk_at dksX2_isNeedless_0 5 rfl rfl)
theorem dX2_isNeedless_6 : decode cX2_isNeedless 6 = .ok (.iload_n 1, 1) := dk_27 (dk_at dksX2_isNeedless_0 6 rfl rfl)
theorem dX2_isNeedless_7 : decode cX2_isNeedless 7 = .ok (.iload_n 2, 1) := dk_28 (dk_at dksX2_isNeedless_0 7 rfl rfl)
theorem dX2_isNeedless_8 : decode cX2_isNeedless 8 = .ok (.invokevirtual 206, 3) := dk_182 0 206 (dk_at dksX2_isNeedless_0 8 rfl rfl)
theorem dX2_isNeedless_11 : decode cX2_isNeedless 11 = .ok (.pop, 1) := dk_87 (dk_at dksX2_isNeedless_0 11 rfl rfl)
theorem dX2_isNeedless_12 : decode cX2_isNeedless 12 = .ok (.aload_n 0, 1) := dk_42 (dk_at dksX2_isNeedless_0 12 rfl rfl)
theorem dX2_isNeedless_13 : decode cX2_isNeedless 13 = .ok (.aload_n 3, 1) := dk_45 (dk_at dksX2_isNeedless_0 13 rfl rfl)
theorem dX2_isNeedless_14 : decode cX2_isNeedless 14 = .ok (.invokevirtual 147, 3) := dk_182 0 147 (dk_at dksX2_isNeedless_0 14 rfl rfl)
theorem dX2_isNeedless_17 : decode cX2_isNeedless 17 = .ok (.ifCond .ne 7, 3) := dk_154 0 7 (dk_at dksX2_isNeedless_0 17 rfl rfl)
theorem dX2_isNeedless_20 : decode cX2_isNeedless 20 = .ok (.iconst 1, 1) := dk_4 (dk_at dksX2_isNeedless_0 20 rfl rfl)
theorem dX2_isNeedless_21 : decode cX2_isNeedless 21 = .ok (.goto 4, 3) := dk_167 0 4 (dk_at dksX2_isNeedless_0 21 rfl rfl)
theorem dX2_isNeedless_24 : decode cX2_isNeedless 24 = .ok (.iconst 0, 1) := dk_3 (dk_at dksX2_isNeedless_1 0 rfl rfl)
theorem dX2_isNeedless_25 : decode cX2_isNeedless 25 = .ok (.ireturn, 1) := dk_172 (dk_at dksX2_isNeedless_1 1 rfl rfl)
theorem q82 : (Jvm.Cond.initialized "PermissionDesk$Land") ∈ lw_all := lw_g (lw_at lw_m1 2 rfl) rfl
theorem q130 : (Jvm.Cond.static ({ cls := "PermissionDesk$Land", name := "fresh", desc := "()LPermissionDesk$Land;" } : Jvm.MethodName)) ∈ lw_all := lw_g (lw_at lw_m1 50 rfl) rfl
theorem q131 : (Jvm.Cond.code ({ cls := "PermissionDesk$Land", name := "fresh", desc := "()LPermissionDesk$Land;" } : Jvm.MethodName) prog_4_method_2_code (1 : Nat) (Option.some (Jvm.ClassFile.FieldType.object "PermissionDesk$Land"))) ∈ lw_all := lw_g (lw_at lw_m1 51 rfl) rfl
theorem q132 : (Jvm.Cond.classLink "PermissionDesk$Land" (10 : Nat) "PermissionDesk$Land") ∈ lw_all := lw_g (lw_at lw_m1 52 rfl) rfl
theorem q133 : (Jvm.Cond.instantiable "PermissionDesk$Land" (6 : Nat)) ∈ lw_all := lw_g (lw_at lw_m1 53 rfl) rfl
theorem q134 : (Jvm.Cond.methodLink "PermissionDesk$Land" (35 : Nat) ({ cls := "PermissionDesk$Land", name := "<init>", desc := "()V" } : Jvm.MethodName)) ∈ lw_all := lw_g (lw_at lw_m1 54 rfl) rfl
theorem q135 : (Jvm.Cond.instanceMethod ({ cls := "PermissionDesk$Land", name := "<init>", desc := "()V" } : Jvm.MethodName)) ∈ lw_all := lw_g (lw_at lw_m1 55 rfl) rfl
theorem q136 : (Jvm.Cond.code ({ cls := "PermissionDesk$Land", name := "<init>", desc := "()V" } : Jvm.MethodName) prog_4_method_1_code (1 : Nat) (Option.none : Option Jvm.ClassFile.FieldType)) ∈ lw_all := lw_g (lw_at lw_m1 56 rfl) rfl
theorem q137 : (Jvm.Cond.methodLink "PermissionDesk$Land" (3 : Nat) ({ cls := "java/lang/Object", name := "<init>", desc := "()V" } : Jvm.MethodName)) ∈ lw_all := lw_g (lw_at lw_m1 57 rfl) rfl
theorem q138 : (Jvm.Cond.classLink "PermissionDesk$Land" (15 : Nat) "java/util/ArrayList") ∈ lw_all := lw_g (lw_at lw_m1 58 rfl) rfl
theorem q140 : (Jvm.Cond.methodLink "PermissionDesk$Land" (17 : Nat) ({ cls := "java/util/ArrayList", name := "<init>", desc := "()V" } : Jvm.MethodName)) ∈ lw_all := lw_g (lw_at lw_m1 60 rfl) rfl
theorem q169 : (Jvm.Cond.classLink "PermissionDesk$Land" (22 : Nat) "PermissionDesk$Thing") ∈ lw_all := lw_g (lw_at lw_m1 89 rfl) rfl
theorem q171 : (Jvm.Cond.classLink "PermissionDesk$Land" (28 : Nat) "java/util/LinkedList") ∈ lw_all := lw_g (lw_at lw_m1 91 rfl) rfl
theorem q173 : (Jvm.Cond.methodLink "PermissionDesk$Land" (30 : Nat) ({ cls := "java/util/LinkedList", name := "<init>", desc := "()V" } : Jvm.MethodName)) ∈ lw_all := lw_g (lw_at lw_m1 93 rfl) rfl
theorem q191 : (Jvm.Cond.fieldLink "PermissionDesk$Land" (9 : Nat) "PermissionDesk$Land" "users" "I") ∈ lw_all := lw_g (lw_at lw_m1 111 rfl) rfl
theorem q193 : (Jvm.Cond.fieldLink "PermissionDesk$Land" (18 : Nat) "PermissionDesk$Land" "teams" "Ljava/util/ArrayList;") ∈ lw_all := lw_g (lw_at lw_m1 113 rfl) rfl
theorem q195 : (Jvm.Cond.fieldLink "PermissionDesk$Land" (24 : Nat) "PermissionDesk$Land" "things" "[LPermissionDesk$Thing;") ∈ lw_all := lw_g (lw_at lw_m1 115 rfl) rfl
theorem q198 : (Jvm.Cond.fieldLink "PermissionDesk$Land" (31 : Nat) "PermissionDesk$Land" "log" "Ljava/util/LinkedList;") ∈ lw_all := lw_g (lw_at lw_m1 118 rfl) rfl
theorem q200 : (Jvm.Cond.fieldLink "PermissionDesk$Land" (74 : Nat) "PermissionDesk$Land" "requests" "I") ∈ lw_all := lw_g (lw_at lw_m1 120 rfl) rfl
theorem q202 : (Jvm.Cond.fieldLink "PermissionDesk$Land" (77 : Nat) "PermissionDesk$Land" "refusals" "I") ∈ lw_all := lw_g (lw_at lw_m1 122 rfl) rfl
theorem q204 : (Jvm.Cond.lays "PermissionDesk$Land" "PermissionDesk$Land" "users" "I") ∈ lw_all := lw_g (lw_at lw_m1 124 rfl) rfl
theorem q205 : (Jvm.Cond.soleField "PermissionDesk$Land" "users") ∈ lw_all := lw_g (lw_at lw_m1 125 rfl) rfl
theorem q206 : (Jvm.Cond.laysFinal "PermissionDesk$Land" "PermissionDesk$Land" "teams" "Ljava/util/ArrayList;") ∈ lw_all := lw_g (lw_at lw_m1 126 rfl) rfl
theorem q207 : (Jvm.Cond.soleField "PermissionDesk$Land" "teams") ∈ lw_all := lw_g (lw_at lw_m1 127 rfl) rfl
theorem q208 : (Jvm.Cond.laysFinal "PermissionDesk$Land" "PermissionDesk$Land" "things" "[LPermissionDesk$Thing;") ∈ lw_all := lw_g (lw_at lw_m1 128 rfl) rfl
theorem q209 : (Jvm.Cond.soleField "PermissionDesk$Land" "things") ∈ lw_all := lw_g (lw_at lw_m1 129 rfl) rfl
theorem q210 : (Jvm.Cond.laysFinal "PermissionDesk$Land" "PermissionDesk$Land" "log" "Ljava/util/LinkedList;") ∈ lw_all := lw_g (lw_at lw_m1 130 rfl) rfl
theorem q211 : (Jvm.Cond.soleField "PermissionDesk$Land" "log") ∈ lw_all := lw_g (lw_at lw_m1 131 rfl) rfl
theorem q212 : (Jvm.Cond.lays "PermissionDesk$Land" "PermissionDesk$Land" "requests" "I") ∈ lw_all := lw_g (lw_at lw_m1 132 rfl) rfl
theorem q213 : (Jvm.Cond.soleField "PermissionDesk$Land" "requests") ∈ lw_all := lw_g (lw_at lw_m1 133 rfl) rfl
theorem q214 : (Jvm.Cond.lays "PermissionDesk$Land" "PermissionDesk$Land" "refusals" "I") ∈ lw_all := lw_g (lw_at lw_m1 134 rfl) rfl
theorem q215 : (Jvm.Cond.soleField "PermissionDesk$Land" "refusals") ∈ lw_all := lw_g (lw_at lw_m1 135 rfl) rfl
theorem q216 : (Jvm.Cond.superclass "PermissionDesk$Land" "java/lang/Object") ∈ lw_all := lw_g (lw_at lw_m1 136 rfl) rfl
theorem q218 : (Jvm.Cond.methodLink "PermissionDesk$Land" (36 : Nat) ({ cls := "PermissionDesk$Thing", name := "<init>", desc := "(I)V" } : Jvm.MethodName)) ∈ lw_all := lw_g (lw_at lw_m1 138 rfl) rfl
theorem q231 : (Jvm.Cond.fieldLinkNest "PermissionDesk$Land" (118 : Nat) "PermissionDesk$Thing" "parent" "I" "PermissionDesk") ∈ lw_tbl := lw_at lw_m1 151 rfl
theorem q235 : (Jvm.Cond.fieldLinkNest "PermissionDesk$Land" (162 : Nat) "PermissionDesk$Thing" "owner" "I" "PermissionDesk") ∈ lw_tbl := lw_at lw_m1 155 rfl
theorem q238 : (Jvm.Cond.fieldLinkNest "PermissionDesk$Land" (182 : Nat) "PermissionDesk$Thing" "mask" "I" "PermissionDesk") ∈ lw_tbl := lw_at lw_m1 158 rfl
theorem q241 : (Jvm.Cond.fieldLinkNest "PermissionDesk$Land" (191 : Nat) "PermissionDesk$Thing" "inherits" "Z" "PermissionDesk") ∈ lw_tbl := lw_at lw_m1 161 rfl
theorem q244 : (Jvm.Cond.fieldLinkNest "PermissionDesk$Land" (133 : Nat) "PermissionDesk$Thing" "entries" "Ljava/util/ArrayList;" "PermissionDesk") ∈ lw_tbl := lw_at lw_m1 164 rfl
theorem q783 : (Jvm.Cond.instanceMethod ({ cls := "PermissionDesk$Land", name := "belongs", desc := "(II)Z" } : Jvm.MethodName)) ∈ lw_all := lw_g (lw_at lw_m3 223 rfl) rfl
theorem q784 : (Jvm.Cond.selects "PermissionDesk$Land" ({ cls := "PermissionDesk$Land", name := "belongs", desc := "(II)Z" } : Jvm.MethodName) ({ cls := "PermissionDesk$Land", name := "belongs", desc := "(II)Z" } : Jvm.MethodName)) ∈ lw_all := lw_g (lw_at lw_m3 224 rfl) rfl
theorem q785 : (Jvm.Cond.code ({ cls := "PermissionDesk$Land", name := "belongs", desc := "(II)Z" } : Jvm.MethodName) prog_4_method_9_code (6 : Nat) (Option.some Jvm.ClassFile.FieldType.boolean)) ∈ lw_all := lw_g (lw_at lw_m3 225 rfl) rfl
theorem q786 : (Jvm.Cond.methodLink "PermissionDesk$Land" (84 : Nat) ({ cls := "java/util/ArrayList", name := "size", desc := "()I" } : Jvm.MethodName)) ∈ lw_all := lw_g (lw_at lw_m3 226 rfl) rfl
theorem q790 : (Jvm.Cond.methodLink "PermissionDesk$Land" (92 : Nat) ({ cls := "PermissionDesk$Land", name := "team", desc := "(I)LPermissionDesk$Team;" } : Jvm.MethodName)) ∈ lw_all := lw_g (lw_at lw_m3 230 rfl) rfl
theorem q791 : (Jvm.Cond.instanceMethod ({ cls := "PermissionDesk$Land", name := "team", desc := "(I)LPermissionDesk$Team;" } : Jvm.MethodName)) ∈ lw_all := lw_g (lw_at lw_m3 231 rfl) rfl
theorem q792 : (Jvm.Cond.selects "PermissionDesk$Land" ({ cls := "PermissionDesk$Land", name := "team", desc := "(I)LPermissionDesk$Team;" } : Jvm.MethodName) ({ cls := "PermissionDesk$Land", name := "team", desc := "(I)LPermissionDesk$Team;" } : Jvm.MethodName)) ∈ lw_all := lw_g (lw_at lw_m3 232 rfl) rfl
theorem q793 : (Jvm.Cond.code ({ cls := "PermissionDesk$Land", name := "team", desc := "(I)LPermissionDesk$Team;" } : Jvm.MethodName) prog_4_method_7_code (2 : Nat) (Option.some (Jvm.ClassFile.FieldType.object "PermissionDesk$Team"))) ∈ lw_all := lw_g (lw_at lw_m3 233 rfl) rfl
theorem q794 : (Jvm.Cond.methodLink "PermissionDesk$Land" (88 : Nat) ({ cls := "java/util/ArrayList", name := "get", desc := "(I)Ljava/lang/Object;" } : Jvm.MethodName)) ∈ lw_all := lw_g (lw_at lw_m3 234 rfl) rfl
theorem q806 : (Jvm.Cond.classLink "PermissionDesk$Land" (53 : Nat) "PermissionDesk$Team") ∈ lw_all := lw_g (lw_at lw_m4 6 rfl) rfl
theorem q807 : (Jvm.Cond.methodLinkNest "PermissionDesk$Land" (99 : Nat) ({ cls := "PermissionDesk", name := "isIn", desc := "(II)Z" } : Jvm.MethodName) "PermissionDesk") ∈ lw_tbl := lw_at lw_m4 7 rfl
theorem q820 : (Jvm.Cond.fieldLinkNest "PermissionDesk$Land" (176 : Nat) "PermissionDesk$Entry" "allows" "Z" "PermissionDesk") ∈ lw_tbl := lw_at lw_m4 20 rfl
theorem q823 : (Jvm.Cond.fieldLinkNest "PermissionDesk$Land" (155 : Nat) "PermissionDesk$Entry" "below" "Z" "PermissionDesk") ∈ lw_tbl := lw_at lw_m4 23 rfl
theorem q865 : (Jvm.Cond.selects "PermissionDesk$Land" ({ cls := "java/lang/Object", name := "getClass", desc := "()Ljava/lang/Class;" } : Jvm.MethodName) ({ cls := "java/lang/Object", name := "getClass", desc := "()Ljava/lang/Class;" } : Jvm.MethodName)) ∈ lw_all := lw_g (lw_at lw_m4 65 rfl) rfl
theorem q909 : (Jvm.Cond.instanceMethod ({ cls := "PermissionDesk$Land", name := "objects", desc := "()I" } : Jvm.MethodName)) ∈ lw_all := lw_g (lw_at lw_m4 109 rfl) rfl
theorem q910 : (Jvm.Cond.selects "PermissionDesk$Land" ({ cls := "PermissionDesk$Land", name := "objects", desc := "()I" } : Jvm.MethodName) ({ cls := "PermissionDesk$Land", name := "objects", desc := "()I" } : Jvm.MethodName)) ∈ lw_all := lw_g (lw_at lw_m4 110 rfl) rfl
theorem q911 : (Jvm.Cond.code ({ cls := "PermissionDesk$Land", name := "objects", desc := "()I" } : Jvm.MethodName) prog_4_method_15_code (3 : Nat) (Option.some Jvm.ClassFile.FieldType.int)) ∈ lw_all := lw_g (lw_at lw_m4 111 rfl) rfl
theorem q912 : (Jvm.Cond.methodLink "PermissionDesk$Land" (63 : Nat) ({ cls := "PermissionDesk$Land", name := "has", desc := "(I)Z" } : Jvm.MethodName)) ∈ lw_all := lw_g (lw_at lw_m4 112 rfl) rfl
theorem q913 : (Jvm.Cond.instanceMethod ({ cls := "PermissionDesk$Land", name := "has", desc := "(I)Z" } : Jvm.MethodName)) ∈ lw_all := lw_g (lw_at lw_m4 113 rfl) rfl
theorem q914 : (Jvm.Cond.selects "PermissionDesk$Land" ({ cls := "PermissionDesk$Land", name := "has", desc := "(I)Z" } : Jvm.MethodName) ({ cls := "PermissionDesk$Land", name := "has", desc := "(I)Z" } : Jvm.MethodName)) ∈ lw_all := lw_g (lw_at lw_m4 114 rfl) rfl
theorem q915 : (Jvm.Cond.code ({ cls := "PermissionDesk$Land", name := "has", desc := "(I)Z" } : Jvm.MethodName) prog_4_method_4_code (2 : Nat) (Option.some Jvm.ClassFile.FieldType.boolean)) ∈ lw_all := lw_g (lw_at lw_m4 115 rfl) rfl
theorem q916 : (Jvm.Cond.methodLinkNest "PermissionDesk$Land" (80 : Nat) ({ cls := "PermissionDesk", name := "inRange", desc := "(III)Z" } : Jvm.MethodName) "PermissionDesk") ∈ lw_tbl := lw_at lw_m4 116 rfl
theorem q927 : (Jvm.Cond.instanceMethod ({ cls := "PermissionDesk$Land", name := "allRights", desc := "()I" } : Jvm.MethodName)) ∈ lw_all := lw_g (lw_at lw_m4 127 rfl) rfl
theorem q928 : (Jvm.Cond.selects "PermissionDesk$Land" ({ cls := "PermissionDesk$Land", name := "allRights", desc := "()I" } : Jvm.MethodName) ({ cls := "PermissionDesk$Land", name := "allRights", desc := "()I" } : Jvm.MethodName)) ∈ lw_all := lw_g (lw_at lw_m4 128 rfl) rfl
theorem q929 : (Jvm.Cond.code ({ cls := "PermissionDesk$Land", name := "allRights", desc := "()I" } : Jvm.MethodName) prog_4_method_36_code (4 : Nat) (Option.some Jvm.ClassFile.FieldType.int)) ∈ lw_all := lw_g (lw_at lw_m4 129 rfl) rfl
theorem q930 : (Jvm.Cond.methodLink "PermissionDesk$Land" (202 : Nat) ({ cls := "PermissionDesk$Land", name := "rights", desc := "(II)I" } : Jvm.MethodName)) ∈ lw_all := lw_g (lw_at lw_m4 130 rfl) rfl
theorem q931 : (Jvm.Cond.instanceMethod ({ cls := "PermissionDesk$Land", name := "rights", desc := "(II)I" } : Jvm.MethodName)) ∈ lw_all := lw_g (lw_at lw_m4 131 rfl) rfl
theorem q932 : (Jvm.Cond.selects "PermissionDesk$Land" ({ cls := "PermissionDesk$Land", name := "rights", desc := "(II)I" } : Jvm.MethodName) ({ cls := "PermissionDesk$Land", name := "rights", desc := "(II)I" } : Jvm.MethodName)) ∈ lw_all := lw_g (lw_at lw_m4 132 rfl) rfl
theorem q933 : (Jvm.Cond.code ({ cls := "PermissionDesk$Land", name := "rights", desc := "(II)I" } : Jvm.MethodName) prog_4_method_31_code (5 : Nat) (Option.some Jvm.ClassFile.FieldType.int)) ∈ lw_all := lw_g (lw_at lw_m4 133 rfl) rfl
theorem q934 : (Jvm.Cond.methodLink "PermissionDesk$Land" (188 : Nat) ({ cls := "PermissionDesk$Land", name := "isAllowed", desc := "(III)Z" } : Jvm.MethodName)) ∈ lw_all := lw_g (lw_at lw_m4 134 rfl) rfl
theorem q935 : (Jvm.Cond.instanceMethod ({ cls := "PermissionDesk$Land", name := "isAllowed", desc := "(III)Z" } : Jvm.MethodName)) ∈ lw_all := lw_g (lw_at lw_m4 135 rfl) rfl
theorem q936 : (Jvm.Cond.selects "PermissionDesk$Land" ({ cls := "PermissionDesk$Land", name := "isAllowed", desc := "(III)Z" } : Jvm.MethodName) ({ cls := "PermissionDesk$Land", name := "isAllowed", desc := "(III)Z" } : Jvm.MethodName)) ∈ lw_all := lw_g (lw_at lw_m4 136 rfl) rfl
theorem q937 : (Jvm.Cond.code ({ cls := "PermissionDesk$Land", name := "isAllowed", desc := "(III)Z" } : Jvm.MethodName) prog_4_method_29_code (4 : Nat) (Option.some Jvm.ClassFile.FieldType.boolean)) ∈ lw_all := lw_g (lw_at lw_m4 137 rfl) rfl
theorem q938 : (Jvm.Cond.methodLink "PermissionDesk$Land" (179 : Nat) ({ cls := "PermissionDesk$Land", name := "isAllowedAnyway", desc := "(III)Z" } : Jvm.MethodName)) ∈ lw_all := lw_g (lw_at lw_m4 138 rfl) rfl
theorem q939 : (Jvm.Cond.privateMethod ({ cls := "PermissionDesk$Land", name := "isAllowedAnyway", desc := "(III)Z" } : Jvm.MethodName)) ∈ lw_tbl := lw_at lw_m4 139 rfl
theorem q940 : (Jvm.Cond.instanceMethod ({ cls := "PermissionDesk$Land", name := "isAllowedAnyway", desc := "(III)Z" } : Jvm.MethodName)) ∈ lw_all := lw_g (lw_at lw_m4 140 rfl) rfl
theorem q941 : (Jvm.Cond.code ({ cls := "PermissionDesk$Land", name := "isAllowedAnyway", desc := "(III)Z" } : Jvm.MethodName) prog_4_method_27_code (4 : Nat) (Option.some Jvm.ClassFile.FieldType.boolean)) ∈ lw_all := lw_g (lw_at lw_m4 141 rfl) rfl
theorem q942 : (Jvm.Cond.methodLink "PermissionDesk$Land" (185 : Nat) ({ cls := "PermissionDesk$Land", name := "isAllowedByEntry", desc := "(III)Z" } : Jvm.MethodName)) ∈ lw_all := lw_g (lw_at lw_m4 142 rfl) rfl
theorem q943 : (Jvm.Cond.instanceMethod ({ cls := "PermissionDesk$Land", name := "isAllowedByEntry", desc := "(III)Z" } : Jvm.MethodName)) ∈ lw_all := lw_g (lw_at lw_m4 143 rfl) rfl
theorem q944 : (Jvm.Cond.selects "PermissionDesk$Land" ({ cls := "PermissionDesk$Land", name := "isAllowedByEntry", desc := "(III)Z" } : Jvm.MethodName) ({ cls := "PermissionDesk$Land", name := "isAllowedByEntry", desc := "(III)Z" } : Jvm.MethodName)) ∈ lw_all := lw_g (lw_at lw_m4 144 rfl) rfl
theorem q945 : (Jvm.Cond.code ({ cls := "PermissionDesk$Land", name := "isAllowedByEntry", desc := "(III)Z" } : Jvm.MethodName) prog_4_method_28_code (5 : Nat) (Option.some Jvm.ClassFile.FieldType.boolean)) ∈ lw_all := lw_g (lw_at lw_m4 145 rfl) rfl
theorem q946 : (Jvm.Cond.methodLink "PermissionDesk$Land" (172 : Nat) ({ cls := "PermissionDesk$Land", name := "deciding", desc := "(III)I" } : Jvm.MethodName)) ∈ lw_all := lw_g (lw_at lw_m4 146 rfl) rfl
theorem q947 : (Jvm.Cond.instanceMethod ({ cls := "PermissionDesk$Land", name := "deciding", desc := "(III)I" } : Jvm.MethodName)) ∈ lw_all := lw_g (lw_at lw_m4 147 rfl) rfl
theorem q948 : (Jvm.Cond.selects "PermissionDesk$Land" ({ cls := "PermissionDesk$Land", name := "deciding", desc := "(III)I" } : Jvm.MethodName) ({ cls := "PermissionDesk$Land", name := "deciding", desc := "(III)I" } : Jvm.MethodName)) ∈ lw_all := lw_g (lw_at lw_m4 148 rfl) rfl
theorem q949 : (Jvm.Cond.code ({ cls := "PermissionDesk$Land", name := "deciding", desc := "(III)I" } : Jvm.MethodName) prog_4_method_26_code (7 : Nat) (Option.some Jvm.ClassFile.FieldType.int)) ∈ lw_all := lw_g (lw_at lw_m4 149 rfl) rfl
theorem q950 : (Jvm.Cond.methodLink "PermissionDesk$Land" (165 : Nat) ({ cls := "PermissionDesk$Land", name := "first", desc := "(IIIIZ)I" } : Jvm.MethodName)) ∈ lw_all := lw_g (lw_at lw_m4 150 rfl) rfl
theorem q951 : (Jvm.Cond.privateMethod ({ cls := "PermissionDesk$Land", name := "first", desc := "(IIIIZ)I" } : Jvm.MethodName)) ∈ lw_tbl := lw_at lw_m4 151 rfl
theorem q952 : (Jvm.Cond.instanceMethod ({ cls := "PermissionDesk$Land", name := "first", desc := "(IIIIZ)I" } : Jvm.MethodName)) ∈ lw_all := lw_g (lw_at lw_m4 152 rfl) rfl
theorem q953 : (Jvm.Cond.code ({ cls := "PermissionDesk$Land", name := "first", desc := "(IIIIZ)I" } : Jvm.MethodName) prog_4_method_25_code (8 : Nat) (Option.some Jvm.ClassFile.FieldType.int)) ∈ lw_all := lw_g (lw_at lw_m4 153 rfl) rfl
theorem q954 : (Jvm.Cond.methodLink "PermissionDesk$Land" (151 : Nat) ({ cls := "PermissionDesk$Land", name := "entry", desc := "(II)LPermissionDesk$Entry;" } : Jvm.MethodName)) ∈ lw_all := lw_g (lw_at lw_m4 154 rfl) rfl
theorem q955 : (Jvm.Cond.instanceMethod ({ cls := "PermissionDesk$Land", name := "entry", desc := "(II)LPermissionDesk$Entry;" } : Jvm.MethodName)) ∈ lw_all := lw_g (lw_at lw_m4 155 rfl) rfl
theorem q956 : (Jvm.Cond.selects "PermissionDesk$Land" ({ cls := "PermissionDesk$Land", name := "entry", desc := "(II)LPermissionDesk$Entry;" } : Jvm.MethodName) ({ cls := "PermissionDesk$Land", name := "entry", desc := "(II)LPermissionDesk$Entry;" } : Jvm.MethodName)) ∈ lw_all := lw_g (lw_at lw_m4 156 rfl) rfl
theorem q957 : (Jvm.Cond.code ({ cls := "PermissionDesk$Land", name := "entry", desc := "(II)LPermissionDesk$Entry;" } : Jvm.MethodName) prog_4_method_24_code (3 : Nat) (Option.some (Jvm.ClassFile.FieldType.object "PermissionDesk$Entry"))) ∈ lw_all := lw_g (lw_at lw_m4 157 rfl) rfl
theorem q958 : (Jvm.Cond.classLink "PermissionDesk$Land" (145 : Nat) "PermissionDesk$Entry") ∈ lw_all := lw_g (lw_at lw_m4 158 rfl) rfl
theorem q959 : (Jvm.Cond.methodLink "PermissionDesk$Land" (158 : Nat) ({ cls := "PermissionDesk$Entry", name := "decides", desc := "(LPermissionDesk$Land;III)Z" } : Jvm.MethodName)) ∈ lw_all := lw_g (lw_at lw_m4 159 rfl) rfl
theorem q968 : (Jvm.Cond.methodLink "PermissionDesk$Land" (169 : Nat) ({ cls := "PermissionDesk$Thing", name := "behind", desc := "()I" } : Jvm.MethodName)) ∈ lw_all := lw_g (lw_at lw_m4 168 rfl) rfl
theorem q972 : (Jvm.Cond.methodLinkNest "PermissionDesk$Land" (115 : Nat) ({ cls := "PermissionDesk", name := "many", desc := "(I)I" } : Jvm.MethodName) "PermissionDesk") ∈ lw_tbl := lw_at lw_m4 172 rfl
theorem q1017 : (Jvm.Cond.instanceMethod ({ cls := "PermissionDesk$Land", name := "copy", desc := "()LPermissionDesk$Land;" } : Jvm.MethodName)) ∈ lw_all := lw_g (lw_at lw_m4 217 rfl) rfl
theorem q1018 : (Jvm.Cond.selects "PermissionDesk$Land" ({ cls := "PermissionDesk$Land", name := "copy", desc := "()LPermissionDesk$Land;" } : Jvm.MethodName) ({ cls := "PermissionDesk$Land", name := "copy", desc := "()LPermissionDesk$Land;" } : Jvm.MethodName)) ∈ lw_all := lw_g (lw_at lw_m4 218 rfl) rfl
theorem q1019 : (Jvm.Cond.code ({ cls := "PermissionDesk$Land", name := "copy", desc := "()LPermissionDesk$Land;" } : Jvm.MethodName) prog_4_method_3_code (4 : Nat) (Option.some (Jvm.ClassFile.FieldType.object "PermissionDesk$Land"))) ∈ lw_all := lw_g (lw_at lw_m4 219 rfl) rfl
theorem q1020 : (Jvm.Cond.methodLink "PermissionDesk$Land" (39 : Nat) ({ cls := "java/util/ArrayList", name := "iterator", desc := "()Ljava/util/Iterator;" } : Jvm.MethodName)) ∈ lw_all := lw_g (lw_at lw_m4 220 rfl) rfl
theorem q1043 : (Jvm.Cond.interfaceEntry "PermissionDesk$Land" (43 : Nat)) ∈ lw_tbl := lw_at lw_m5 3 rfl
theorem q1044 : (Jvm.Cond.methodLink "PermissionDesk$Land" (43 : Nat) ({ cls := "java/util/Iterator", name := "hasNext", desc := "()Z" } : Jvm.MethodName)) ∈ lw_all := lw_g (lw_at lw_m5 4 rfl) rfl
theorem q1053 : (Jvm.Cond.interfaceEntry "PermissionDesk$Land" (49 : Nat)) ∈ lw_tbl := lw_at lw_m5 13 rfl
theorem q1054 : (Jvm.Cond.methodLink "PermissionDesk$Land" (49 : Nat) ({ cls := "java/util/Iterator", name := "next", desc := "()Ljava/lang/Object;" } : Jvm.MethodName)) ∈ lw_all := lw_g (lw_at lw_m5 14 rfl) rfl
theorem q1066 : (Jvm.Cond.methodLink "PermissionDesk$Land" (55 : Nat) ({ cls := "PermissionDesk$Team", name := "copy", desc := "()LPermissionDesk$Team;" } : Jvm.MethodName)) ∈ lw_all := lw_g (lw_at lw_m5 26 rfl) rfl
theorem q1077 : (Jvm.Cond.fieldLinkNest "PermissionDesk$Land" (106 : Nat) "PermissionDesk$Team" "users" "I" "PermissionDesk") ∈ lw_tbl := lw_at lw_m5 37 rfl
theorem q1080 : (Jvm.Cond.fieldLinkNest "PermissionDesk$Land" (96 : Nat) "PermissionDesk$Team" "nested" "I" "PermissionDesk") ∈ lw_tbl := lw_at lw_m5 40 rfl
theorem q1087 : (Jvm.Cond.methodLink "PermissionDesk$Land" (59 : Nat) ({ cls := "java/util/ArrayList", name := "add", desc := "(Ljava/lang/Object;)Z" } : Jvm.MethodName)) ∈ lw_all := lw_g (lw_at lw_m5 47 rfl) rfl
theorem q1088 : (Jvm.Cond.methodLink "PermissionDesk$Land" (67 : Nat) ({ cls := "PermissionDesk$Thing", name := "copy", desc := "()LPermissionDesk$Thing;" } : Jvm.MethodName)) ∈ lw_all := lw_g (lw_at lw_m5 48 rfl) rfl
theorem q1115 : (Jvm.Cond.methodLink "PermissionDesk$Land" (70 : Nat) ({ cls := "java/util/LinkedList", name := "addAll", desc := "(Ljava/util/Collection;)Z" } : Jvm.MethodName)) ∈ lw_all := lw_g (lw_at lw_m5 75 rfl) rfl
theorem q1224 : (Jvm.Cond.instanceMethod ({ cls := "PermissionDesk$Land", name := "hasUser", desc := "(I)Z" } : Jvm.MethodName)) ∈ lw_all := lw_g (lw_at lw_m5 184 rfl) rfl
theorem q1225 : (Jvm.Cond.selects "PermissionDesk$Land" ({ cls := "PermissionDesk$Land", name := "hasUser", desc := "(I)Z" } : Jvm.MethodName) ({ cls := "PermissionDesk$Land", name := "hasUser", desc := "(I)Z" } : Jvm.MethodName)) ∈ lw_all := lw_g (lw_at lw_m5 185 rfl) rfl
theorem q1226 : (Jvm.Cond.code ({ cls := "PermissionDesk$Land", name := "hasUser", desc := "(I)Z" } : Jvm.MethodName) prog_4_method_5_code (2 : Nat) (Option.some Jvm.ClassFile.FieldType.boolean)) ∈ lw_all := lw_g (lw_at lw_m5 186 rfl) rfl
theorem q1228 : (Jvm.Cond.instanceMethod ({ cls := "PermissionDesk$Land", name := "hasGroup", desc := "(I)Z" } : Jvm.MethodName)) ∈ lw_all := lw_g (lw_at lw_m5 188 rfl) rfl
theorem q1229 : (Jvm.Cond.selects "PermissionDesk$Land" ({ cls := "PermissionDesk$Land", name := "hasGroup", desc := "(I)Z" } : Jvm.MethodName) ({ cls := "PermissionDesk$Land", name := "hasGroup", desc := "(I)Z" } : Jvm.MethodName)) ∈ lw_all := lw_g (lw_at lw_m5 189 rfl) rfl
theorem q1230 : (Jvm.Cond.code ({ cls := "PermissionDesk$Land", name := "hasGroup", desc := "(I)Z" } : Jvm.MethodName) prog_4_method_6_code (2 : Nat) (Option.some Jvm.ClassFile.FieldType.boolean)) ∈ lw_all := lw_g (lw_at lw_m5 190 rfl) rfl
theorem q1240 : (Jvm.Cond.instanceMethod ({ cls := "PermissionDesk$Land", name := "joins", desc := "(II)I" } : Jvm.MethodName)) ∈ lw_all := lw_g (lw_at lw_m5 200 rfl) rfl
theorem q1241 : (Jvm.Cond.selects "PermissionDesk$Land" ({ cls := "PermissionDesk$Land", name := "joins", desc := "(II)I" } : Jvm.MethodName) ({ cls := "PermissionDesk$Land", name := "joins", desc := "(II)I" } : Jvm.MethodName)) ∈ lw_all := lw_g (lw_at lw_m5 201 rfl) rfl
theorem q1242 : (Jvm.Cond.code ({ cls := "PermissionDesk$Land", name := "joins", desc := "(II)I" } : Jvm.MethodName) prog_4_method_11_code (3 : Nat) (Option.some Jvm.ClassFile.FieldType.int)) ∈ lw_all := lw_g (lw_at lw_m5 202 rfl) rfl
theorem q1243 : (Jvm.Cond.methodLinkNest "PermissionDesk$Land" (111 : Nat) ({ cls := "PermissionDesk", name := "demand", desc := "(Z)V" } : Jvm.MethodName) "PermissionDesk") ∈ lw_tbl := lw_at lw_m5 203 rfl
theorem q1244 : (Jvm.Cond.methodLink "PermissionDesk$Land" (107 : Nat) ({ cls := "PermissionDesk$Land", name := "belonging", desc := "(I)I" } : Jvm.MethodName)) ∈ lw_all := lw_g (lw_at lw_m5 204 rfl) rfl
theorem q1245 : (Jvm.Cond.instanceMethod ({ cls := "PermissionDesk$Land", name := "belonging", desc := "(I)I" } : Jvm.MethodName)) ∈ lw_all := lw_g (lw_at lw_m5 205 rfl) rfl
theorem q1246 : (Jvm.Cond.selects "PermissionDesk$Land" ({ cls := "PermissionDesk$Land", name := "belonging", desc := "(I)I" } : Jvm.MethodName) ({ cls := "PermissionDesk$Land", name := "belonging", desc := "(I)I" } : Jvm.MethodName)) ∈ lw_all := lw_g (lw_at lw_m5 206 rfl) rfl
theorem q1247 : (Jvm.Cond.code ({ cls := "PermissionDesk$Land", name := "belonging", desc := "(I)I" } : Jvm.MethodName) prog_4_method_10_code (4 : Nat) (Option.some Jvm.ClassFile.FieldType.int)) ∈ lw_all := lw_g (lw_at lw_m5 207 rfl) rfl
theorem q1257 : (Jvm.Cond.instanceMethod ({ cls := "PermissionDesk$Land", name := "leaves", desc := "(II)I" } : Jvm.MethodName)) ∈ lw_all := lw_g (lw_at lw_m5 217 rfl) rfl
theorem q1258 : (Jvm.Cond.selects "PermissionDesk$Land" ({ cls := "PermissionDesk$Land", name := "leaves", desc := "(II)I" } : Jvm.MethodName) ({ cls := "PermissionDesk$Land", name := "leaves", desc := "(II)I" } : Jvm.MethodName)) ∈ lw_all := lw_g (lw_at lw_m5 218 rfl) rfl
theorem q1259 : (Jvm.Cond.code ({ cls := "PermissionDesk$Land", name := "leaves", desc := "(II)I" } : Jvm.MethodName) prog_4_method_12_code (3 : Nat) (Option.some Jvm.ClassFile.FieldType.int)) ∈ lw_all := lw_g (lw_at lw_m5 219 rfl) rfl
theorem q1268 : (Jvm.Cond.instanceMethod ({ cls := "PermissionDesk$Land", name := "nests", desc := "(II)I" } : Jvm.MethodName)) ∈ lw_all := lw_g (lw_at lw_m5 228 rfl) rfl
theorem q1269 : (Jvm.Cond.selects "PermissionDesk$Land" ({ cls := "PermissionDesk$Land", name := "nests", desc := "(II)I" } : Jvm.MethodName) ({ cls := "PermissionDesk$Land", name := "nests", desc := "(II)I" } : Jvm.MethodName)) ∈ lw_all := lw_g (lw_at lw_m5 229 rfl) rfl
theorem q1270 : (Jvm.Cond.code ({ cls := "PermissionDesk$Land", name := "nests", desc := "(II)I" } : Jvm.MethodName) prog_4_method_13_code (3 : Nat) (Option.some Jvm.ClassFile.FieldType.int)) ∈ lw_all := lw_g (lw_at lw_m5 230 rfl) rfl
theorem q1271 : (Jvm.Cond.methodLink "PermissionDesk$Land" (103 : Nat) ({ cls := "PermissionDesk$Land", name := "isWithin", desc := "(II)Z" } : Jvm.MethodName)) ∈ lw_all := lw_g (lw_at lw_m5 231 rfl) rfl
theorem q1272 : (Jvm.Cond.instanceMethod ({ cls := "PermissionDesk$Land", name := "isWithin", desc := "(II)Z" } : Jvm.MethodName)) ∈ lw_all := lw_g (lw_at lw_m5 232 rfl) rfl
theorem q1273 : (Jvm.Cond.selects "PermissionDesk$Land" ({ cls := "PermissionDesk$Land", name := "isWithin", desc := "(II)Z" } : Jvm.MethodName) ({ cls := "PermissionDesk$Land", name := "isWithin", desc := "(II)Z" } : Jvm.MethodName)) ∈ lw_all := lw_g (lw_at lw_m5 233 rfl) rfl
theorem q1274 : (Jvm.Cond.code ({ cls := "PermissionDesk$Land", name := "isWithin", desc := "(II)Z" } : Jvm.MethodName) prog_4_method_8_code (5 : Nat) (Option.some Jvm.ClassFile.FieldType.boolean)) ∈ lw_all := lw_g (lw_at lw_m5 234 rfl) rfl
theorem q1283 : (Jvm.Cond.instanceMethod ({ cls := "PermissionDesk$Land", name := "unnests", desc := "(II)I" } : Jvm.MethodName)) ∈ lw_all := lw_g (lw_at lw_m6 3 rfl) rfl
theorem q1284 : (Jvm.Cond.selects "PermissionDesk$Land" ({ cls := "PermissionDesk$Land", name := "unnests", desc := "(II)I" } : Jvm.MethodName) ({ cls := "PermissionDesk$Land", name := "unnests", desc := "(II)I" } : Jvm.MethodName)) ∈ lw_all := lw_g (lw_at lw_m6 4 rfl) rfl
theorem q1285 : (Jvm.Cond.code ({ cls := "PermissionDesk$Land", name := "unnests", desc := "(II)I" } : Jvm.MethodName) prog_4_method_14_code (3 : Nat) (Option.some Jvm.ClassFile.FieldType.int)) ∈ lw_all := lw_g (lw_at lw_m6 5 rfl) rfl
theorem q1294 : (Jvm.Cond.instanceMethod ({ cls := "PermissionDesk$Land", name := "makes", desc := "(II)I" } : Jvm.MethodName)) ∈ lw_all := lw_g (lw_at lw_m6 14 rfl) rfl
theorem q1295 : (Jvm.Cond.selects "PermissionDesk$Land" ({ cls := "PermissionDesk$Land", name := "makes", desc := "(II)I" } : Jvm.MethodName) ({ cls := "PermissionDesk$Land", name := "makes", desc := "(II)I" } : Jvm.MethodName)) ∈ lw_all := lw_g (lw_at lw_m6 15 rfl) rfl
theorem q1296 : (Jvm.Cond.code ({ cls := "PermissionDesk$Land", name := "makes", desc := "(II)I" } : Jvm.MethodName) prog_4_method_18_code (4 : Nat) (Option.some Jvm.ClassFile.FieldType.int)) ∈ lw_all := lw_g (lw_at lw_m6 16 rfl) rfl
theorem q1297 : (Jvm.Cond.methodLink "PermissionDesk$Land" (124 : Nat) ({ cls := "PermissionDesk$Thing", name := "<init>", desc := "(II)V" } : Jvm.MethodName)) ∈ lw_all := lw_g (lw_at lw_m6 17 rfl) rfl
theorem q1306 : (Jvm.Cond.instanceMethod ({ cls := "PermissionDesk$Land", name := "removes", desc := "(I)I" } : Jvm.MethodName)) ∈ lw_all := lw_g (lw_at lw_m6 26 rfl) rfl
theorem q1307 : (Jvm.Cond.selects "PermissionDesk$Land" ({ cls := "PermissionDesk$Land", name := "removes", desc := "(I)I" } : Jvm.MethodName) ({ cls := "PermissionDesk$Land", name := "removes", desc := "(I)I" } : Jvm.MethodName)) ∈ lw_all := lw_g (lw_at lw_m6 27 rfl) rfl
theorem q1308 : (Jvm.Cond.code ({ cls := "PermissionDesk$Land", name := "removes", desc := "(I)I" } : Jvm.MethodName) prog_4_method_19_code (2 : Nat) (Option.some Jvm.ClassFile.FieldType.int)) ∈ lw_all := lw_g (lw_at lw_m6 28 rfl) rfl
theorem q1309 : (Jvm.Cond.methodLink "PermissionDesk$Land" (127 : Nat) ({ cls := "PermissionDesk$Land", name := "below", desc := "(I)I" } : Jvm.MethodName)) ∈ lw_all := lw_g (lw_at lw_m6 29 rfl) rfl
theorem q1310 : (Jvm.Cond.instanceMethod ({ cls := "PermissionDesk$Land", name := "below", desc := "(I)I" } : Jvm.MethodName)) ∈ lw_all := lw_g (lw_at lw_m6 30 rfl) rfl
theorem q1311 : (Jvm.Cond.selects "PermissionDesk$Land" ({ cls := "PermissionDesk$Land", name := "below", desc := "(I)I" } : Jvm.MethodName) ({ cls := "PermissionDesk$Land", name := "below", desc := "(I)I" } : Jvm.MethodName)) ∈ lw_all := lw_g (lw_at lw_m6 31 rfl) rfl
theorem q1312 : (Jvm.Cond.code ({ cls := "PermissionDesk$Land", name := "below", desc := "(I)I" } : Jvm.MethodName) prog_4_method_17_code (4 : Nat) (Option.some Jvm.ClassFile.FieldType.int)) ∈ lw_all := lw_g (lw_at lw_m6 32 rfl) rfl
theorem q1313 : (Jvm.Cond.methodLink "PermissionDesk$Land" (121 : Nat) ({ cls := "PermissionDesk$Land", name := "isBelow", desc := "(II)Z" } : Jvm.MethodName)) ∈ lw_all := lw_g (lw_at lw_m6 33 rfl) rfl
theorem q1314 : (Jvm.Cond.instanceMethod ({ cls := "PermissionDesk$Land", name := "isBelow", desc := "(II)Z" } : Jvm.MethodName)) ∈ lw_all := lw_g (lw_at lw_m6 34 rfl) rfl
theorem q1315 : (Jvm.Cond.selects "PermissionDesk$Land" ({ cls := "PermissionDesk$Land", name := "isBelow", desc := "(II)Z" } : Jvm.MethodName) ({ cls := "PermissionDesk$Land", name := "isBelow", desc := "(II)Z" } : Jvm.MethodName)) ∈ lw_all := lw_g (lw_at lw_m6 35 rfl) rfl
theorem q1316 : (Jvm.Cond.code ({ cls := "PermissionDesk$Land", name := "isBelow", desc := "(II)Z" } : Jvm.MethodName) prog_4_method_16_code (5 : Nat) (Option.some Jvm.ClassFile.FieldType.boolean)) ∈ lw_all := lw_g (lw_at lw_m6 36 rfl) rfl
theorem q1317 : (Jvm.Cond.methodLink "PermissionDesk$Land" (130 : Nat) ({ cls := "PermissionDesk$Land", name := "objects", desc := "()I" } : Jvm.MethodName)) ∈ lw_all := lw_g (lw_at lw_m6 37 rfl) rfl
theorem q1326 : (Jvm.Cond.instanceMethod ({ cls := "PermissionDesk$Land", name := "moves", desc := "(II)I" } : Jvm.MethodName)) ∈ lw_all := lw_g (lw_at lw_m6 46 rfl) rfl
theorem q1327 : (Jvm.Cond.selects "PermissionDesk$Land" ({ cls := "PermissionDesk$Land", name := "moves", desc := "(II)I" } : Jvm.MethodName) ({ cls := "PermissionDesk$Land", name := "moves", desc := "(II)I" } : Jvm.MethodName)) ∈ lw_all := lw_g (lw_at lw_m6 47 rfl) rfl
theorem q1328 : (Jvm.Cond.code ({ cls := "PermissionDesk$Land", name := "moves", desc := "(II)I" } : Jvm.MethodName) prog_4_method_20_code (4 : Nat) (Option.some Jvm.ClassFile.FieldType.int)) ∈ lw_all := lw_g (lw_at lw_m6 48 rfl) rfl
theorem q1378 : (Jvm.Cond.instanceMethod ({ cls := "PermissionDesk$Land", name := "adds", desc := "(IILPermissionDesk$Entry;)I" } : Jvm.MethodName)) ∈ lw_all := lw_g (lw_at lw_m6 98 rfl) rfl
theorem q1379 : (Jvm.Cond.selects "PermissionDesk$Land" ({ cls := "PermissionDesk$Land", name := "adds", desc := "(IILPermissionDesk$Entry;)I" } : Jvm.MethodName) ({ cls := "PermissionDesk$Land", name := "adds", desc := "(IILPermissionDesk$Entry;)I" } : Jvm.MethodName)) ∈ lw_all := lw_g (lw_at lw_m6 99 rfl) rfl
theorem q1380 : (Jvm.Cond.code ({ cls := "PermissionDesk$Land", name := "adds", desc := "(IILPermissionDesk$Entry;)I" } : Jvm.MethodName) prog_4_method_21_code (4 : Nat) (Option.some Jvm.ClassFile.FieldType.int)) ∈ lw_all := lw_g (lw_at lw_m6 100 rfl) rfl
theorem q1381 : (Jvm.Cond.methodLink "PermissionDesk$Land" (136 : Nat) ({ cls := "java/util/ArrayList", name := "add", desc := "(ILjava/lang/Object;)V" } : Jvm.MethodName)) ∈ lw_all := lw_g (lw_at lw_m6 101 rfl) rfl
theorem q1445 : (Jvm.Cond.instanceMethod ({ cls := "PermissionDesk$Land", name := "removesEntry", desc := "(II)I" } : Jvm.MethodName)) ∈ lw_all := lw_g (lw_at lw_m6 165 rfl) rfl
theorem q1446 : (Jvm.Cond.selects "PermissionDesk$Land" ({ cls := "PermissionDesk$Land", name := "removesEntry", desc := "(II)I" } : Jvm.MethodName) ({ cls := "PermissionDesk$Land", name := "removesEntry", desc := "(II)I" } : Jvm.MethodName)) ∈ lw_all := lw_g (lw_at lw_m6 166 rfl) rfl
theorem q1447 : (Jvm.Cond.code ({ cls := "PermissionDesk$Land", name := "removesEntry", desc := "(II)I" } : Jvm.MethodName) prog_4_method_22_code (3 : Nat) (Option.some Jvm.ClassFile.FieldType.int)) ∈ lw_all := lw_g (lw_at lw_m6 167 rfl) rfl
theorem q1448 : (Jvm.Cond.methodLink "PermissionDesk$Land" (139 : Nat) ({ cls := "java/util/ArrayList", name := "remove", desc := "(I)Ljava/lang/Object;" } : Jvm.MethodName)) ∈ lw_all := lw_g (lw_at lw_m6 168 rfl) rfl
theorem q1464 : (Jvm.Cond.instanceMethod ({ cls := "PermissionDesk$Land", name := "movesEntry", desc := "(III)I" } : Jvm.MethodName)) ∈ lw_all := lw_g (lw_at lw_m6 184 rfl) rfl
theorem q1465 : (Jvm.Cond.selects "PermissionDesk$Land" ({ cls := "PermissionDesk$Land", name := "movesEntry", desc := "(III)I" } : Jvm.MethodName) ({ cls := "PermissionDesk$Land", name := "movesEntry", desc := "(III)I" } : Jvm.MethodName)) ∈ lw_all := lw_g (lw_at lw_m6 185 rfl) rfl
theorem q1466 : (Jvm.Cond.code ({ cls := "PermissionDesk$Land", name := "movesEntry", desc := "(III)I" } : Jvm.MethodName) prog_4_method_23_code (6 : Nat) (Option.some Jvm.ClassFile.FieldType.int)) ∈ lw_all := lw_g (lw_at lw_m6 186 rfl) rfl
theorem q1467 : (Jvm.Cond.methodLink "PermissionDesk$Land" (142 : Nat) ({ cls := "PermissionDesk$Land", name := "copy", desc := "()LPermissionDesk$Land;" } : Jvm.MethodName)) ∈ lw_all := lw_g (lw_at lw_m6 187 rfl) rfl
theorem q1468 : (Jvm.Cond.methodLink "PermissionDesk$Land" (147 : Nat) ({ cls := "PermissionDesk$Land", name := "differences", desc := "(LPermissionDesk$Land;)I" } : Jvm.MethodName)) ∈ lw_all := lw_g (lw_at lw_m6 188 rfl) rfl
theorem q1469 : (Jvm.Cond.instanceMethod ({ cls := "PermissionDesk$Land", name := "differences", desc := "(LPermissionDesk$Land;)I" } : Jvm.MethodName)) ∈ lw_all := lw_g (lw_at lw_m6 189 rfl) rfl
theorem q1470 : (Jvm.Cond.selects "PermissionDesk$Land" ({ cls := "PermissionDesk$Land", name := "differences", desc := "(LPermissionDesk$Land;)I" } : Jvm.MethodName) ({ cls := "PermissionDesk$Land", name := "differences", desc := "(LPermissionDesk$Land;)I" } : Jvm.MethodName)) ∈ lw_all := lw_g (lw_at lw_m6 190 rfl) rfl
theorem q1471 : (Jvm.Cond.code ({ cls := "PermissionDesk$Land", name := "differences", desc := "(LPermissionDesk$Land;)I" } : Jvm.MethodName) prog_4_method_37_code (5 : Nat) (Option.some Jvm.ClassFile.FieldType.int)) ∈ lw_all := lw_g (lw_at lw_m6 191 rfl) rfl
theorem q1483 : (Jvm.Cond.instanceMethod ({ cls := "PermissionDesk$Land", name := "asks", desc := "(III)Z" } : Jvm.MethodName)) ∈ lw_all := lw_g (lw_at lw_m6 203 rfl) rfl
theorem q1484 : (Jvm.Cond.selects "PermissionDesk$Land" ({ cls := "PermissionDesk$Land", name := "asks", desc := "(III)Z" } : Jvm.MethodName) ({ cls := "PermissionDesk$Land", name := "asks", desc := "(III)Z" } : Jvm.MethodName)) ∈ lw_all := lw_g (lw_at lw_m6 204 rfl) rfl
theorem q1485 : (Jvm.Cond.code ({ cls := "PermissionDesk$Land", name := "asks", desc := "(III)Z" } : Jvm.MethodName) prog_4_method_39_code (5 : Nat) (Option.some Jvm.ClassFile.FieldType.boolean)) ∈ lw_all := lw_g (lw_at lw_m6 205 rfl) rfl
theorem q1486 : (Jvm.Cond.methodLink "PermissionDesk$Land" (209 : Nat) ({ cls := "java/util/LinkedList", name := "size", desc := "()I" } : Jvm.MethodName)) ∈ lw_all := lw_g (lw_at lw_m6 206 rfl) rfl
theorem q1487 : (Jvm.Cond.methodLink "PermissionDesk$Land" (210 : Nat) ({ cls := "java/util/LinkedList", name := "removeLast", desc := "()Ljava/lang/Object;" } : Jvm.MethodName)) ∈ lw_all := lw_g (lw_at lw_m6 207 rfl) rfl
theorem q1495 : (Jvm.Cond.classLink "PermissionDesk$Land" (213 : Nat) "PermissionDesk$Request") ∈ lw_all := lw_g (lw_at lw_m6 215 rfl) rfl
theorem q1497 : (Jvm.Cond.methodLink "PermissionDesk$Land" (215 : Nat) ({ cls := "PermissionDesk$Request", name := "<init>", desc := "(IIZ)V" } : Jvm.MethodName)) ∈ lw_all := lw_g (lw_at lw_m6 217 rfl) rfl
theorem q1514 : (Jvm.Cond.methodLink "PermissionDesk$Land" (218 : Nat) ({ cls := "java/util/LinkedList", name := "addFirst", desc := "(Ljava/lang/Object;)V" } : Jvm.MethodName)) ∈ lw_all := lw_g (lw_at lw_m6 234 rfl) rfl
theorem q1530 : (Jvm.Cond.instanceMethod ({ cls := "PermissionDesk$Land", name := "shares", desc := "(IIII)I" } : Jvm.MethodName)) ∈ lw_all := lw_g (lw_at lw_m7 10 rfl) rfl
theorem q1531 : (Jvm.Cond.selects "PermissionDesk$Land" ({ cls := "PermissionDesk$Land", name := "shares", desc := "(IIII)I" } : Jvm.MethodName) ({ cls := "PermissionDesk$Land", name := "shares", desc := "(IIII)I" } : Jvm.MethodName)) ∈ lw_all := lw_g (lw_at lw_m7 11 rfl) rfl
theorem q1532 : (Jvm.Cond.code ({ cls := "PermissionDesk$Land", name := "shares", desc := "(IIII)I" } : Jvm.MethodName) prog_4_method_40_code (6 : Nat) (Option.some Jvm.ClassFile.FieldType.int)) ∈ lw_all := lw_g (lw_at lw_m7 12 rfl) rfl
theorem q1533 : (Jvm.Cond.methodLinkNest "PermissionDesk$Land" (222 : Nat) ({ cls := "PermissionDesk", name := "setOf", desc := "([I)I" } : Jvm.MethodName) "PermissionDesk") ∈ lw_tbl := lw_at lw_m7 13 rfl
theorem q1534 : (Jvm.Cond.methodLink "PermissionDesk$Land" (226 : Nat) ({ cls := "PermissionDesk$Entry", name := "<init>", desc := "(IIIZZ)V" } : Jvm.MethodName)) ∈ lw_all := lw_g (lw_at lw_m7 14 rfl) rfl
theorem q1535 : (Jvm.Cond.methodLink "PermissionDesk$Land" (229 : Nat) ({ cls := "PermissionDesk$Land", name := "adds", desc := "(IILPermissionDesk$Entry;)I" } : Jvm.MethodName)) ∈ lw_all := lw_g (lw_at lw_m7 15 rfl) rfl
theorem q1674 : (Jvm.Cond.selects "PermissionDesk$Land" ({ cls := "java/lang/Object", name := "toString", desc := "()Ljava/lang/String;" } : Jvm.MethodName) ({ cls := "java/lang/Object", name := "toString", desc := "()Ljava/lang/String;" } : Jvm.MethodName)) ∈ lw_all := lw_g (lw_at lw_m7 154 rfl) rfl
theorem q1898 : (Jvm.Cond.instanceMethod ({ cls := "PermissionDesk$Land", name := "isAllowedByHandingDown", desc := "(III)Z" } : Jvm.MethodName)) ∈ lw_all := lw_g (lw_at lw_m8 138 rfl) rfl
theorem q1899 : (Jvm.Cond.selects "PermissionDesk$Land" ({ cls := "PermissionDesk$Land", name := "isAllowedByHandingDown", desc := "(III)Z" } : Jvm.MethodName) ({ cls := "PermissionDesk$Land", name := "isAllowedByHandingDown", desc := "(III)Z" } : Jvm.MethodName)) ∈ lw_all := lw_g (lw_at lw_m8 139 rfl) rfl
theorem q1900 : (Jvm.Cond.code ({ cls := "PermissionDesk$Land", name := "isAllowedByHandingDown", desc := "(III)Z" } : Jvm.MethodName) prog_4_method_33_code (7 : Nat) (Option.some Jvm.ClassFile.FieldType.boolean)) ∈ lw_all := lw_g (lw_at lw_m8 140 rfl) rfl
theorem q1901 : (Jvm.Cond.methodLink "PermissionDesk$Land" (195 : Nat) ({ cls := "PermissionDesk$Land", name := "counting", desc := "(IILjava/util/ArrayList;)Ljava/util/ArrayList;" } : Jvm.MethodName)) ∈ lw_all := lw_g (lw_at lw_m8 141 rfl) rfl
theorem q1902 : (Jvm.Cond.privateMethod ({ cls := "PermissionDesk$Land", name := "counting", desc := "(IILjava/util/ArrayList;)Ljava/util/ArrayList;" } : Jvm.MethodName)) ∈ lw_tbl := lw_at lw_m8 142 rfl
theorem q1903 : (Jvm.Cond.instanceMethod ({ cls := "PermissionDesk$Land", name := "counting", desc := "(IILjava/util/ArrayList;)Ljava/util/ArrayList;" } : Jvm.MethodName)) ∈ lw_all := lw_g (lw_at lw_m8 143 rfl) rfl
theorem q1904 : (Jvm.Cond.code ({ cls := "PermissionDesk$Land", name := "counting", desc := "(IILjava/util/ArrayList;)Ljava/util/ArrayList;" } : Jvm.MethodName) prog_4_method_32_code (8 : Nat) (Option.some (Jvm.ClassFile.FieldType.object "java/util/ArrayList"))) ∈ lw_all := lw_g (lw_at lw_m8 144 rfl) rfl
theorem q1905 : (Jvm.Cond.methodLink "PermissionDesk$Land" (194 : Nat) ({ cls := "java/util/ArrayList", name := "addAll", desc := "(Ljava/util/Collection;)Z" } : Jvm.MethodName)) ∈ lw_all := lw_g (lw_at lw_m8 145 rfl) rfl
theorem q1937 : (Jvm.Cond.instanceMethod ({ cls := "PermissionDesk$Land", name := "isStopped", desc := "(III)Z" } : Jvm.MethodName)) ∈ lw_all := lw_g (lw_at lw_m8 177 rfl) rfl
theorem q1938 : (Jvm.Cond.selects "PermissionDesk$Land" ({ cls := "PermissionDesk$Land", name := "isStopped", desc := "(III)Z" } : Jvm.MethodName) ({ cls := "PermissionDesk$Land", name := "isStopped", desc := "(III)Z" } : Jvm.MethodName)) ∈ lw_all := lw_g (lw_at lw_m8 178 rfl) rfl
theorem q1939 : (Jvm.Cond.code ({ cls := "PermissionDesk$Land", name := "isStopped", desc := "(III)Z" } : Jvm.MethodName) prog_4_method_30_code (4 : Nat) (Option.some Jvm.ClassFile.FieldType.boolean)) ∈ lw_all := lw_g (lw_at lw_m8 179 rfl) rfl
theorem q1948 : (Jvm.Cond.instanceMethod ({ cls := "PermissionDesk$Land", name := "usersWith", desc := "(II)I" } : Jvm.MethodName)) ∈ lw_all := lw_g (lw_at lw_m8 188 rfl) rfl
theorem q1949 : (Jvm.Cond.selects "PermissionDesk$Land" ({ cls := "PermissionDesk$Land", name := "usersWith", desc := "(II)I" } : Jvm.MethodName) ({ cls := "PermissionDesk$Land", name := "usersWith", desc := "(II)I" } : Jvm.MethodName)) ∈ lw_all := lw_g (lw_at lw_m8 189 rfl) rfl
theorem q1950 : (Jvm.Cond.code ({ cls := "PermissionDesk$Land", name := "usersWith", desc := "(II)I" } : Jvm.MethodName) prog_4_method_34_code (5 : Nat) (Option.some Jvm.ClassFile.FieldType.int)) ∈ lw_all := lw_g (lw_at lw_m8 190 rfl) rfl
theorem q1959 : (Jvm.Cond.instanceMethod ({ cls := "PermissionDesk$Land", name := "rightsThrough", desc := "(II)I" } : Jvm.MethodName)) ∈ lw_all := lw_g (lw_at lw_m8 199 rfl) rfl
theorem q1960 : (Jvm.Cond.selects "PermissionDesk$Land" ({ cls := "PermissionDesk$Land", name := "rightsThrough", desc := "(II)I" } : Jvm.MethodName) ({ cls := "PermissionDesk$Land", name := "rightsThrough", desc := "(II)I" } : Jvm.MethodName)) ∈ lw_all := lw_g (lw_at lw_m8 200 rfl) rfl
theorem q1961 : (Jvm.Cond.code ({ cls := "PermissionDesk$Land", name := "rightsThrough", desc := "(II)I" } : Jvm.MethodName) prog_4_method_35_code (8 : Nat) (Option.some Jvm.ClassFile.FieldType.int)) ∈ lw_all := lw_g (lw_at lw_m8 201 rfl) rfl
theorem q1962 : (Jvm.Cond.methodLink "PermissionDesk$Land" (199 : Nat) ({ cls := "PermissionDesk$Entry", name := "whoIf", desc := "(I)I" } : Jvm.MethodName)) ∈ lw_all := lw_g (lw_at lw_m8 202 rfl) rfl
theorem q1971 : (Jvm.Cond.instanceMethod ({ cls := "PermissionDesk$Land", name := "isNeedless", desc := "(II)Z" } : Jvm.MethodName)) ∈ lw_all := lw_g (lw_at lw_m8 211 rfl) rfl
theorem q1972 : (Jvm.Cond.selects "PermissionDesk$Land" ({ cls := "PermissionDesk$Land", name := "isNeedless", desc := "(II)Z" } : Jvm.MethodName) ({ cls := "PermissionDesk$Land", name := "isNeedless", desc := "(II)Z" } : Jvm.MethodName)) ∈ lw_all := lw_g (lw_at lw_m8 212 rfl) rfl
theorem q1973 : (Jvm.Cond.code ({ cls := "PermissionDesk$Land", name := "isNeedless", desc := "(II)Z" } : Jvm.MethodName) prog_4_method_38_code (4 : Nat) (Option.some Jvm.ClassFile.FieldType.boolean)) ∈ lw_all := lw_g (lw_at lw_m8 213 rfl) rfl
theorem q1974 : (Jvm.Cond.methodLink "PermissionDesk$Land" (206 : Nat) ({ cls := "PermissionDesk$Land", name := "removesEntry", desc := "(II)I" } : Jvm.MethodName)) ∈ lw_all := lw_g (lw_at lw_m8 214 rfl) rfl
theorem q2590 : (Jvm.Cond.castable "PermissionDesk$Land" "java/lang/Object") ∈ lw_tbl := lw_at lw_m11 110 rfl
theorem in_X2 : ∀ w ∈ wsX20, w ∈ lw_all := lw_in wsX20 [204, 206, 208, 210, 212, 214] (by decide +kernel) (by decide +kernel)

/-! PermissionDesk$Thing -/
set_option maxRecDepth 100000
def RX3 : String := "PermissionDesk$Thing"
def TX3 : u_T := fun k => match k with
  | 0 => ("PermissionDesk$Thing", "parent", "I", false)
  | 1 => ("PermissionDesk$Thing", "owner", "I", false)
  | 2 => ("PermissionDesk$Thing", "mask", "I", false)
  | 3 => ("PermissionDesk$Thing", "inherits", "Z", false)
  | _ => ("PermissionDesk$Thing", "entries", "Ljava/util/ArrayList;", true)
def tyX3 : Nat → FieldType := fun k => match k with
  | 0 => .int
  | 1 => .int
  | 2 => .int
  | 3 => .boolean
  | _ => .object "java/util/ArrayList"
abbrev wsX30 : List Cond := u_ws RX3 TX3 5
theorem nmX3 : ∀ a, a < 5 → ∀ b, b < 5 → a ≠ b → (TX3 a).2.1 ≠ (TX3 b).2.1 := by decide +kernel
theorem tyX3_ok : ∀ k, k < 5 → parseFieldDescriptor (TX3 k).2.2.1 = some (tyX3 k) := by decide +kernel
abbrev cX3_init : ByteArray := prog_10_method_2_code
def yX3_init : MethodName := ⟨RX3, "<init>", "(I)V"⟩
def dkwX3_init_0 : List UInt8 := [42, 2, 27, 183, 0, 36, 177]
abbrev dktX3_init_0 : List UInt8 := dkwX3_init_0 ++ []
theorem dksX3_init_0 : cX3_init.data.toList.drop 0 = dktX3_init_0 := by decide +kernel
theorem dX3_init_0 : decode cX3_init 0 = .ok (.aload_n 0, 1) := dk_42 (dk_at dksX3_init_0 0 rfl rfl)
theorem dX3_init_1 : decode cX3_init 1 = .ok (.iconst (-1), 1) := dk_2 (dk_at dksX3_init_0 1 rfl rfl)
theorem dX3_init_2 : decode cX3_init 2 = .ok (.iload_n 1, 1) := dk_27 (dk_at dksX3_init_0 2 rfl rfl)
theorem dX3_init_3 : decode cX3_init 3 = .ok (.invokespecial 36, 3) := dk_183 0 36 (dk_at dksX3_init_0 3 rfl rfl)
theorem dX3_init_6 : decode cX3_init 6 = .ok (.return_, 1) := dk_177 (dk_at dksX3_init_0 6 rfl rfl)
abbrev cX3_init_2 : ByteArray := prog_10_method_1_code
def yX3_init_2 : MethodName := ⟨RX3, "<init>", "(II)V"⟩
def dkwX3_init_2_2 : List UInt8 := [181, 0, 30, 42, 28, 181, 0, 33, 177]
abbrev dktX3_init_2_2 : List UInt8 := dkwX3_init_2_2 ++ []
def dkwX3_init_2_1 : List UInt8 := [4, 4, 79, 89, 5, 5, 79, 89, 6, 6, 79, 184, 0, 18, 181, 0, 22, 42, 4, 181, 0, 26, 42, 27]
abbrev dktX3_init_2_1 : List UInt8 := dkwX3_init_2_1 ++ dktX3_init_2_2
def dkwX3_init_2_0 : List UInt8 := [42, 183, 0, 3, 42, 187, 0, 9, 89, 183, 0, 11, 181, 0, 12, 42, 7, 188, 10, 89, 3, 3, 79, 89]
abbrev dktX3_init_2_0 : List UInt8 := dkwX3_init_2_0 ++ dktX3_init_2_1
theorem dksX3_init_2_0 : cX3_init_2.data.toList.drop 0 = dktX3_init_2_0 := by decide +kernel
theorem dksX3_init_2_1 : cX3_init_2.data.toList.drop 24 = dktX3_init_2_1 := dk_seg dksX3_init_2_0 24 rfl rfl
theorem dksX3_init_2_2 : cX3_init_2.data.toList.drop 48 = dktX3_init_2_2 := dk_seg dksX3_init_2_1 24 rfl rfl
theorem dX3_init_2_0 : decode cX3_init_2 0 = .ok (.aload_n 0, 1) := dk_42 (dk_at dksX3_init_2_0 0 rfl rfl)
theorem dX3_init_2_1 : decode cX3_init_2 1 = .ok (.invokespecial 3, 3) := dk_183 0 3 (dk_at dksX3_init_2_0 1 rfl rfl)
theorem dX3_init_2_4 : decode cX3_init_2 4 = .ok (.aload_n 0, 1) := dk_42 (dk_at dksX3_init_2_0 4 rfl rfl)
theorem dX3_init_2_5 : decode cX3_init_2 5 = .ok (.new 9, 3) := dk_187 0 9 (dk_at dksX3_init_2_0 5 rfl rfl)
theorem dX3_init_2_8 : decode cX3_init_2 8 = .ok (.dup, 1) := dk_89 (dk_at dksX3_init_2_0 8 rfl rfl)
theorem dX3_init_2_9 : decode cX3_init_2 9 = .ok (.invokespecial 11, 3) := dk_183 0 11 (dk_at dksX3_init_2_0 9 rfl rfl)
theorem dX3_init_2_12 : decode cX3_init_2 12 = .ok (.putfield 12, 3) := dk_181 0 12 (dk_at dksX3_init_2_0 12 rfl rfl)
theorem dX3_init_2_15 : decode cX3_init_2 15 = .ok (.aload_n 0, 1) := dk_42 (dk_at dksX3_init_2_0 15 rfl rfl)
theorem dX3_init_2_16 : decode cX3_init_2 16 = .ok (.iconst 4, 1) := dk_7 (dk_at dksX3_init_2_0 16 rfl rfl)
theorem dX3_init_2_17 : decode cX3_init_2 17 = .ok (.newarray .int, 2) := dk_188_10 (dk_at dksX3_init_2_0 17 rfl rfl)
theorem dX3_init_2_19 : decode cX3_init_2 19 = .ok (.dup, 1) := dk_89 (dk_at dksX3_init_2_0 19 rfl rfl)
theorem dX3_init_2_20 : decode cX3_init_2 20 = .ok (.iconst 0, 1) := dk_3 (dk_at dksX3_init_2_0 20 rfl rfl)
theorem dX3_init_2_21 : decode cX3_init_2 21 = .ok (.iconst 0, 1) := dk_3 (dk_at dksX3_init_2_0 21 rfl rfl)
theorem dX3_init_2_22 : decode cX3_init_2 22 = .ok (.iastore, 1) := dk_79 (dk_at dksX3_init_2_0 22 rfl rfl)
theorem dX3_init_2_23 : decode cX3_init_2 23 = .ok (.dup, 1) := dk_89 (dk_at dksX3_init_2_0 23 rfl rfl)
theorem dX3_init_2_24 : decode cX3_init_2 24 = .ok (.iconst 1, 1) := dk_4 (dk_at dksX3_init_2_1 0 rfl rfl)
theorem dX3_init_2_25 : decode cX3_init_2 25 = .ok (.iconst 1, 1) := dk_4 (dk_at dksX3_init_2_1 1 rfl rfl)
theorem dX3_init_2_26 : decode cX3_init_2 26 = .ok (.iastore, 1) := dk_79 (dk_at dksX3_init_2_1 2 rfl rfl)
theorem dX3_init_2_27 : decode cX3_init_2 27 = .ok (.dup, 1) := dk_89 (dk_at dksX3_init_2_1 3 rfl rfl)
theorem dX3_init_2_28 : decode cX3_init_2 28 = .ok (.iconst 2, 1) := dk_5 (dk_at dksX3_init_2_1 4 rfl rfl)
theorem dX3_init_2_29 : decode cX3_init_2 29 = .ok (.iconst 2, 1) := dk_5 (dk_at dksX3_init_2_1 5 rfl rfl)
theorem dX3_init_2_30 : decode cX3_init_2 30 = .ok (.iastore, 1) := dk_79 (dk_at dksX3_init_2_1 6 rfl rfl)
theorem dX3_init_2_31 : decode cX3_init_2 31 = .ok (.dup, 1) := dk_89 (dk_at dksX3_init_2_1 7 rfl rfl)
theorem dX3_init_2_32 : decode cX3_init_2 32 = .ok (.iconst 3, 1) := dk_6 (dk_at dksX3_init_2_1 8 rfl rfl)
theorem dX3_init_2_33 : decode cX3_init_2 33 = .ok (.iconst 3, 1) := dk_6 (dk_at dksX3_init_2_1 9 rfl rfl)
theorem dX3_init_2_34 : decode cX3_init_2 34 = .ok (.iastore, 1) := dk_79 (dk_at dksX3_init_2_1 10 rfl rfl)
theorem dX3_init_2_35 : decode cX3_init_2 35 = .ok (.invokestatic 18, 3) := dk_184 0 18 (dk_at dksX3_init_2_1 11 rfl rfl)
theorem dX3_init_2_38 : decode cX3_init_2 38 = .ok (.putfield 22, 3) := dk_181 0 22 (dk_at dksX3_init_2_1 14 rfl rfl)
theorem dX3_init_2_41 : decode cX3_init_2 41 = .ok (.aload_n 0, 1) := dk_42 (dk_at dksX3_init_2_1 17 rfl rfl)
theorem dX3_init_2_42 : decode cX3_init_2 42 = .ok (.iconst 1, 1) := dk_4 (dk_at dksX3_init_2_1 18 rfl rfl)
theorem dX3_init_2_43 : decode cX3_init_2 43 = .ok (.putfield 26, 3) := dk_181 0 26 (dk_at dksX3_init_2_1 19 rfl rfl)
theorem dX3_init_2_46 : decode cX3_init_2 46 = .ok (.aload_n 0, 1) := dk_42 (dk_at dksX3_init_2_1 22 rfl rfl)
theorem dX3_init_2_47 : decode cX3_init_2 47 = .ok (.iload_n 1, 1) := dk_27 (dk_at dksX3_init_2_1 23 rfl rfl)
theorem dX3_init_2_48 : decode cX3_init_2 48 = .ok (.putfield 30, 3) := dk_181 0 30 (dk_at dksX3_init_2_2 0 rfl rfl)
theorem dX3_init_2_51 : decode cX3_init_2 51 = .ok (.aload_n 0, 1) := dk_42 (dk_at dksX3_init_2_2 3 rfl rfl)
theorem dX3_init_2_52 : decode cX3_init_2 52 = .ok (.iload_n 2, 1) := dk_28 (dk_at dksX3_init_2_2 4 rfl rfl)
theorem dX3_init_2_53 : decode cX3_init_2 53 = .ok (.putfield 33, 3) := dk_181 0 33 (dk_at dksX3_init_2_2 5 rfl rfl)
theorem dX3_init_2_56 : decode cX3_init_2 56 = .ok (.return_, 1) := dk_177 (dk_at dksX3_init_2_2 8 rfl rfl)
abbrev cX3_behind : ByteArray := prog_10_method_4_code
def yX3_behind : MethodName := ⟨RX3, "behind", "()I"⟩
def dkwX3_behind_0 : List UInt8 := [42, 180, 0, 26, 153, 0, 10, 42, 180, 0, 30, 167, 0, 4, 2, 172]
abbrev dktX3_behind_0 : List UInt8 := dkwX3_behind_0 ++ []
theorem dksX3_behind_0 : cX3_behind.data.toList.drop 0 = dktX3_behind_0 := by decide +kernel
theorem dX3_behind_0 : decode cX3_behind 0 = .ok (.aload_n 0, 1) := dk_42 (dk_at dksX3_behind_0 0 rfl rfl)
theorem dX3_behind_1 : decode cX3_behind 1 = .ok (.getfield 26, 3) := dk_180 0 26 (dk_at dksX3_behind_0 1 rfl rfl)
theorem dX3_behind_4 : decode cX3_behind 4 = .ok (.ifCond .eq 10, 3) := dk_153 0 10 (dk_at dksX3_behind_0 4 rfl rfl)
theorem dX3_behind_7 : decode cX3_behind 7 = .ok (.aload_n 0, 1) := dk_42 (dk_at dksX3_behind_0 7 rfl rfl)
theorem dX3_behind_8 : decode cX3_behind 8 = .ok (.getfield 30, 3) := dk_180 0 30 (dk_at dksX3_behind_0 8 rfl rfl)
theorem dX3_behind_11 : decode cX3_behind 11 = .ok (.goto 4, 3) := dk_167 0 4 (dk_at dksX3_behind_0 11 rfl rfl)
theorem dX3_behind_14 : decode cX3_behind 14 = .ok (.iconst (-1), 1) := dk_2 (dk_at dksX3_behind_0 14 rfl rfl)
theorem dX3_behind_15 : decode cX3_behind 15 = .ok (.ireturn, 1) := dk_172 (dk_at dksX3_behind_0 15 rfl rfl)
abbrev cX3_copy : ByteArray := prog_10_method_3_code
def yX3_copy : MethodName := ⟨RX3, "copy", "()LPermissionDesk$Thing;"⟩
def dkwX3_copy_1 : List UInt8 := [43, 42, 180, 0, 26, 181, 0, 26, 43, 180, 0, 12, 42, 180, 0, 12, 182, 0, 39, 87, 43, 176]
abbrev dktX3_copy_1 : List UInt8 := dkwX3_copy_1 ++ []
def dkwX3_copy_0 : List UInt8 := [187, 0, 13, 89, 42, 180, 0, 30, 42, 180, 0, 33, 183, 0, 36, 76, 43, 42, 180, 0, 22, 181, 0, 22]
abbrev dktX3_copy_0 : List UInt8 := dkwX3_copy_0 ++ dktX3_copy_1
theorem dksX3_copy_0 : cX3_copy.data.toList.drop 0 = dktX3_copy_0 := by decide +kernel
theorem dksX3_copy_1 : cX3_copy.data.toList.drop 24 = dktX3_copy_1 := dk_seg dksX3_copy_0 24 rfl rfl
theorem dX3_copy_0 : decode cX3_copy 0 = .ok (.new 13, 3) := dk_187 0 13 (dk_at dksX3_copy_0 0 rfl rfl)
theorem dX3_copy_3 : decode cX3_copy 3 = .ok (.dup, 1) := dk_89 (dk_at dksX3_copy_0 3 rfl rfl)
theorem dX3_copy_4 : decode cX3_copy 4 = .ok (.aload_n 0, 1) := dk_42 (dk_at dksX3_copy_0 4 rfl rfl)
theorem dX3_copy_5 : decode cX3_copy 5 = .ok (.getfield 30, 3) := dk_180 0 30 (dk_at dksX3_copy_0 5 rfl rfl)
theorem dX3_copy_8 : decode cX3_copy 8 = .ok (.aload_n 0, 1) := dk_42 (dk_at dksX3_copy_0 8 rfl rfl)
theorem dX3_copy_9 : decode cX3_copy 9 = .ok (.getfield 33, 3) := dk_180 0 33 (dk_at dksX3_copy_0 9 rfl rfl)
theorem dX3_copy_12 : decode cX3_copy 12 = .ok (.invokespecial 36, 3) := dk_183 0 36 (dk_at dksX3_copy_0 12 rfl rfl)
theorem dX3_copy_15 : decode cX3_copy 15 = .ok (.astore_n 1, 1) := dk_76 (dk_at dksX3_copy_0 15 rfl rfl)
theorem dX3_copy_16 : decode cX3_copy 16 = .ok (.aload_n 1, 1) := dk_43 (dk_at dksX3_copy_0 16 rfl rfl)
theorem dX3_copy_17 : decode cX3_copy 17 = .ok (.aload_n 0, 1) := dk_42 (dk_at dksX3_copy_0 17 rfl rfl)
theorem dX3_copy_18 : decode cX3_copy 18 = .ok (.getfield 22, 3) := dk_180 0 22 (dk_at dksX3_copy_0 18 rfl rfl)
theorem dX3_copy_21 : decode cX3_copy 21 = .ok (.putfield 22, 3) := dk_181 0 22 (dk_at dksX3_copy_0 21 rfl rfl)
theorem dX3_copy_24 : decode cX3_copy 24 = .ok (.aload_n 1, 1) := dk_43 (dk_at dksX3_copy_1 0 rfl rfl)
theorem dX3_copy_25 : decode cX3_copy 25 = .ok (.aload_n 0, 1) := dk_42 (dk_at dksX3_copy_1 1 rfl rfl)
theorem dX3_copy_26 : decode cX3_copy 26 = .ok (.getfield 26, 3) := dk_180 0 26 (dk_at dksX3_copy_1 2 rfl rfl)
theorem dX3_copy_29 : decode cX3_copy 29 = .ok (.putfield 26, 3) := dk_181 0 26 (dk_at dksX3_copy_1 5 rfl rfl)
theorem dX3_copy_32 : decode cX3_copy 32 = .ok (.aload_n 1, 1) := dk_43 (dk_at dksX3_copy_1 8 rfl rfl)
theorem dX3_copy_33 : decode cX3_copy 33 = .ok (.getfield 12, 3) := dk_180 0 12 (dk_at dksX3_copy_1 9 rfl rfl)
theorem dX3_copy_36 : decode cX3_copy 36 = .ok (.aload_n 0, 1) := dk_42 (dk_at dksX3_copy_1 12 rfl rfl)
theorem dX3_copy_37 : decode cX3_copy 37 = .ok (.getfield 12, 3) := dk_180 0 12 (dk_at dksX3_copy_1 13 rfl rfl)
theorem dX3_copy_40 : decode cX3_copy 40 = .ok (.invokevirtual 39, 3) := dk_182 0 39 (dk_at dksX3_copy_1 16 rfl rfl)
theorem dX3_copy_43 : decode cX3_copy 43 = .ok (.pop, 1) := dk_87 (dk_at dksX3_copy_1 19 rfl rfl)
theorem dX3_copy_44 : decode cX3_copy 44 = .ok (.aload_n 1, 1) := dk_43 (dk_at dksX3_copy_1 20 rfl rfl)
theorem dX3_copy_45 : decode cX3_copy 45 = .ok (.areturn, 1) := dk_176 (dk_at dksX3_copy_1 21 rfl rfl)
abbrev cX3_has : ByteArray := prog_10_method_5_code
def yX3_has : MethodName := ⟨RX3, "has", "(I)Z"⟩
def dkwX3_has_0 : List UInt8 := [27, 3, 42, 180, 0, 12, 182, 0, 43, 4, 100, 184, 0, 47, 172]
abbrev dktX3_has_0 : List UInt8 := dkwX3_has_0 ++ []
theorem dksX3_has_0 : cX3_has.data.toList.drop 0 = dktX3_has_0 := by decide +kernel
theorem dX3_has_0 : decode cX3_has 0 = .ok (.iload_n 1, 1) := dk_27 (dk_at dksX3_has_0 0 rfl rfl)
theorem dX3_has_1 : decode cX3_has 1 = .ok (.iconst 0, 1) := dk_3 (dk_at dksX3_has_0 1 rfl rfl)
theorem dX3_has_2 : decode cX3_has 2 = .ok (.aload_n 0, 1) := dk_42 (dk_at dksX3_has_0 2 rfl rfl)
theorem dX3_has_3 : decode cX3_has 3 = .ok (.getfield 12, 3) := dk_180 0 12 (dk_at dksX3_has_0 3 rfl rfl)
theorem dX3_has_6 : decode cX3_has 6 = .ok (.invokevirtual 43, 3) := dk_182 0 43 (dk_at dksX3_has_0 6 rfl rfl)
theorem dX3_has_9 : decode cX3_has 9 = .ok (.iconst 1, 1) := dk_4 (dk_at dksX3_has_0 9 rfl rfl)
theorem dX3_has_10 : decode cX3_has 10 = .ok (.isub, 1) := dk_100 (dk_at dksX3_has_0 10 rfl rfl)
theorem dX3_has_11 : decode cX3_has 11 = .ok (.invokestatic 47, 3) := dk_184 0 47 (dk_at dksX3_has_0 11 rfl rfl)
theorem dX3_has_14 : decode cX3_has 14 = .ok (.ireturn, 1) := dk_172 (dk_at dksX3_has_0 14 rfl rfl)
theorem q88 : (Jvm.Cond.initialized "PermissionDesk$Thing") ∈ lw_all := lw_g (lw_at lw_m1 8 rfl) rfl
theorem q217 : (Jvm.Cond.instantiable "PermissionDesk$Thing" (5 : Nat)) ∈ lw_all := lw_g (lw_at lw_m1 137 rfl) rfl
theorem q219 : (Jvm.Cond.instanceMethod ({ cls := "PermissionDesk$Thing", name := "<init>", desc := "(I)V" } : Jvm.MethodName)) ∈ lw_all := lw_g (lw_at lw_m1 139 rfl) rfl
theorem q220 : (Jvm.Cond.code ({ cls := "PermissionDesk$Thing", name := "<init>", desc := "(I)V" } : Jvm.MethodName) prog_10_method_2_code (2 : Nat) (Option.none : Option Jvm.ClassFile.FieldType)) ∈ lw_all := lw_g (lw_at lw_m1 140 rfl) rfl
theorem q221 : (Jvm.Cond.methodLink "PermissionDesk$Thing" (36 : Nat) ({ cls := "PermissionDesk$Thing", name := "<init>", desc := "(II)V" } : Jvm.MethodName)) ∈ lw_all := lw_g (lw_at lw_m1 141 rfl) rfl
theorem q222 : (Jvm.Cond.instanceMethod ({ cls := "PermissionDesk$Thing", name := "<init>", desc := "(II)V" } : Jvm.MethodName)) ∈ lw_all := lw_g (lw_at lw_m1 142 rfl) rfl
theorem q223 : (Jvm.Cond.code ({ cls := "PermissionDesk$Thing", name := "<init>", desc := "(II)V" } : Jvm.MethodName) prog_10_method_1_code (3 : Nat) (Option.none : Option Jvm.ClassFile.FieldType)) ∈ lw_all := lw_g (lw_at lw_m1 143 rfl) rfl
theorem q224 : (Jvm.Cond.methodLink "PermissionDesk$Thing" (3 : Nat) ({ cls := "java/lang/Object", name := "<init>", desc := "()V" } : Jvm.MethodName)) ∈ lw_all := lw_g (lw_at lw_m1 144 rfl) rfl
theorem q225 : (Jvm.Cond.classLink "PermissionDesk$Thing" (9 : Nat) "java/util/ArrayList") ∈ lw_all := lw_g (lw_at lw_m1 145 rfl) rfl
theorem q226 : (Jvm.Cond.methodLink "PermissionDesk$Thing" (11 : Nat) ({ cls := "java/util/ArrayList", name := "<init>", desc := "()V" } : Jvm.MethodName)) ∈ lw_all := lw_g (lw_at lw_m1 146 rfl) rfl
theorem q227 : (Jvm.Cond.methodLinkNest "PermissionDesk$Thing" (18 : Nat) ({ cls := "PermissionDesk", name := "setOf", desc := "([I)I" } : Jvm.MethodName) "PermissionDesk") ∈ lw_tbl := lw_at lw_m1 147 rfl
theorem q230 : (Jvm.Cond.fieldLink "PermissionDesk$Thing" (30 : Nat) "PermissionDesk$Thing" "parent" "I") ∈ lw_all := lw_g (lw_at lw_m1 150 rfl) rfl
theorem q233 : (Jvm.Cond.fieldLink "PermissionDesk$Thing" (33 : Nat) "PermissionDesk$Thing" "owner" "I") ∈ lw_all := lw_g (lw_at lw_m1 153 rfl) rfl
theorem q236 : (Jvm.Cond.fieldLink "PermissionDesk$Thing" (22 : Nat) "PermissionDesk$Thing" "mask" "I") ∈ lw_all := lw_g (lw_at lw_m1 156 rfl) rfl
theorem q239 : (Jvm.Cond.fieldLink "PermissionDesk$Thing" (26 : Nat) "PermissionDesk$Thing" "inherits" "Z") ∈ lw_all := lw_g (lw_at lw_m1 159 rfl) rfl
theorem q242 : (Jvm.Cond.fieldLink "PermissionDesk$Thing" (12 : Nat) "PermissionDesk$Thing" "entries" "Ljava/util/ArrayList;") ∈ lw_all := lw_g (lw_at lw_m1 162 rfl) rfl
theorem q246 : (Jvm.Cond.lays "PermissionDesk$Thing" "PermissionDesk$Thing" "parent" "I") ∈ lw_all := lw_g (lw_at lw_m1 166 rfl) rfl
theorem q247 : (Jvm.Cond.soleField "PermissionDesk$Thing" "parent") ∈ lw_all := lw_g (lw_at lw_m1 167 rfl) rfl
theorem q248 : (Jvm.Cond.lays "PermissionDesk$Thing" "PermissionDesk$Thing" "owner" "I") ∈ lw_all := lw_g (lw_at lw_m1 168 rfl) rfl
theorem q249 : (Jvm.Cond.soleField "PermissionDesk$Thing" "owner") ∈ lw_all := lw_g (lw_at lw_m1 169 rfl) rfl
theorem q250 : (Jvm.Cond.lays "PermissionDesk$Thing" "PermissionDesk$Thing" "mask" "I") ∈ lw_all := lw_g (lw_at lw_m1 170 rfl) rfl
theorem q251 : (Jvm.Cond.soleField "PermissionDesk$Thing" "mask") ∈ lw_all := lw_g (lw_at lw_m1 171 rfl) rfl
theorem q252 : (Jvm.Cond.lays "PermissionDesk$Thing" "PermissionDesk$Thing" "inherits" "Z") ∈ lw_all := lw_g (lw_at lw_m1 172 rfl) rfl
theorem q253 : (Jvm.Cond.soleField "PermissionDesk$Thing" "inherits") ∈ lw_all := lw_g (lw_at lw_m1 173 rfl) rfl
theorem q254 : (Jvm.Cond.laysFinal "PermissionDesk$Thing" "PermissionDesk$Thing" "entries" "Ljava/util/ArrayList;") ∈ lw_all := lw_g (lw_at lw_m1 174 rfl) rfl
theorem q255 : (Jvm.Cond.soleField "PermissionDesk$Thing" "entries") ∈ lw_all := lw_g (lw_at lw_m1 175 rfl) rfl
theorem q256 : (Jvm.Cond.superclass "PermissionDesk$Thing" "java/lang/Object") ∈ lw_all := lw_g (lw_at lw_m1 176 rfl) rfl
theorem q870 : (Jvm.Cond.selects "PermissionDesk$Thing" ({ cls := "java/lang/Object", name := "getClass", desc := "()Ljava/lang/Class;" } : Jvm.MethodName) ({ cls := "java/lang/Object", name := "getClass", desc := "()Ljava/lang/Class;" } : Jvm.MethodName)) ∈ lw_all := lw_g (lw_at lw_m4 70 rfl) rfl
theorem q969 : (Jvm.Cond.instanceMethod ({ cls := "PermissionDesk$Thing", name := "behind", desc := "()I" } : Jvm.MethodName)) ∈ lw_all := lw_g (lw_at lw_m4 169 rfl) rfl
theorem q970 : (Jvm.Cond.selects "PermissionDesk$Thing" ({ cls := "PermissionDesk$Thing", name := "behind", desc := "()I" } : Jvm.MethodName) ({ cls := "PermissionDesk$Thing", name := "behind", desc := "()I" } : Jvm.MethodName)) ∈ lw_all := lw_g (lw_at lw_m4 170 rfl) rfl
theorem q971 : (Jvm.Cond.code ({ cls := "PermissionDesk$Thing", name := "behind", desc := "()I" } : Jvm.MethodName) prog_10_method_4_code (1 : Nat) (Option.some Jvm.ClassFile.FieldType.int)) ∈ lw_all := lw_g (lw_at lw_m4 171 rfl) rfl
theorem q1089 : (Jvm.Cond.instanceMethod ({ cls := "PermissionDesk$Thing", name := "copy", desc := "()LPermissionDesk$Thing;" } : Jvm.MethodName)) ∈ lw_all := lw_g (lw_at lw_m5 49 rfl) rfl
theorem q1090 : (Jvm.Cond.selects "PermissionDesk$Thing" ({ cls := "PermissionDesk$Thing", name := "copy", desc := "()LPermissionDesk$Thing;" } : Jvm.MethodName) ({ cls := "PermissionDesk$Thing", name := "copy", desc := "()LPermissionDesk$Thing;" } : Jvm.MethodName)) ∈ lw_all := lw_g (lw_at lw_m5 50 rfl) rfl
theorem q1091 : (Jvm.Cond.code ({ cls := "PermissionDesk$Thing", name := "copy", desc := "()LPermissionDesk$Thing;" } : Jvm.MethodName) prog_10_method_3_code (2 : Nat) (Option.some (Jvm.ClassFile.FieldType.object "PermissionDesk$Thing"))) ∈ lw_all := lw_g (lw_at lw_m5 51 rfl) rfl
theorem q1092 : (Jvm.Cond.classLink "PermissionDesk$Thing" (13 : Nat) "PermissionDesk$Thing") ∈ lw_all := lw_g (lw_at lw_m5 52 rfl) rfl
theorem q1093 : (Jvm.Cond.methodLink "PermissionDesk$Thing" (39 : Nat) ({ cls := "java/util/ArrayList", name := "addAll", desc := "(Ljava/util/Collection;)Z" } : Jvm.MethodName)) ∈ lw_all := lw_g (lw_at lw_m5 53 rfl) rfl
theorem q1439 : (Jvm.Cond.instanceMethod ({ cls := "PermissionDesk$Thing", name := "has", desc := "(I)Z" } : Jvm.MethodName)) ∈ lw_all := lw_g (lw_at lw_m6 159 rfl) rfl
theorem q1440 : (Jvm.Cond.selects "PermissionDesk$Thing" ({ cls := "PermissionDesk$Thing", name := "has", desc := "(I)Z" } : Jvm.MethodName) ({ cls := "PermissionDesk$Thing", name := "has", desc := "(I)Z" } : Jvm.MethodName)) ∈ lw_all := lw_g (lw_at lw_m6 160 rfl) rfl
theorem q1441 : (Jvm.Cond.code ({ cls := "PermissionDesk$Thing", name := "has", desc := "(I)Z" } : Jvm.MethodName) prog_10_method_5_code (2 : Nat) (Option.some Jvm.ClassFile.FieldType.boolean)) ∈ lw_all := lw_g (lw_at lw_m6 161 rfl) rfl
theorem q1442 : (Jvm.Cond.methodLink "PermissionDesk$Thing" (43 : Nat) ({ cls := "java/util/ArrayList", name := "size", desc := "()I" } : Jvm.MethodName)) ∈ lw_all := lw_g (lw_at lw_m6 162 rfl) rfl
theorem q1443 : (Jvm.Cond.methodLinkNest "PermissionDesk$Thing" (47 : Nat) ({ cls := "PermissionDesk", name := "inRange", desc := "(III)Z" } : Jvm.MethodName) "PermissionDesk") ∈ lw_tbl := lw_at lw_m6 163 rfl
theorem q1679 : (Jvm.Cond.selects "PermissionDesk$Thing" ({ cls := "java/lang/Object", name := "toString", desc := "()Ljava/lang/String;" } : Jvm.MethodName) ({ cls := "java/lang/Object", name := "toString", desc := "()Ljava/lang/String;" } : Jvm.MethodName)) ∈ lw_all := lw_g (lw_at lw_m7 159 rfl) rfl
theorem q2589 : (Jvm.Cond.castable "PermissionDesk$Thing" "java/lang/Object") ∈ lw_tbl := lw_at lw_m11 109 rfl
theorem in_X3 : ∀ w ∈ wsX30, w ∈ lw_all := lw_in wsX30 [246, 248, 250, 252, 254] (by decide +kernel) (by decide +kernel)

/-! PermissionDesk$Team -/
set_option maxRecDepth 100000
def RX5 : String := "PermissionDesk$Team"
def TX5 : u_T := fun k => match k with
  | 0 => ("PermissionDesk$Team", "users", "I", false)
  | _ => ("PermissionDesk$Team", "nested", "I", false)
def tyX5 : Nat → FieldType := fun k => match k with
  | 0 => .int
  | _ => .int
abbrev wsX50 : List Cond := u_ws RX5 TX5 2
theorem nmX5 : ∀ a, a < 2 → ∀ b, b < 2 → a ≠ b → (TX5 a).2.1 ≠ (TX5 b).2.1 := by decide +kernel
theorem tyX5_ok : ∀ k, k < 2 → parseFieldDescriptor (TX5 k).2.2.1 = some (tyX5 k) := by decide +kernel
abbrev cX5_copy : ByteArray := prog_8_method_2_code
def yX5_copy : MethodName := ⟨RX5, "copy", "()LPermissionDesk$Team;"⟩
def dkwX5_copy_1 : List UInt8 := [43, 176]
abbrev dktX5_copy_1 : List UInt8 := dkwX5_copy_1 ++ []
def dkwX5_copy_0 : List UInt8 := [187, 0, 7, 89, 183, 0, 9, 76, 43, 42, 180, 0, 10, 181, 0, 10, 43, 42, 180, 0, 14, 181, 0, 14]
abbrev dktX5_copy_0 : List UInt8 := dkwX5_copy_0 ++ dktX5_copy_1
theorem dksX5_copy_0 : cX5_copy.data.toList.drop 0 = dktX5_copy_0 := by decide +kernel
theorem dksX5_copy_1 : cX5_copy.data.toList.drop 24 = dktX5_copy_1 := dk_seg dksX5_copy_0 24 rfl rfl
theorem dX5_copy_0 : decode cX5_copy 0 = .ok (.new 7, 3) := dk_187 0 7 (dk_at dksX5_copy_0 0 rfl rfl)
theorem dX5_copy_3 : decode cX5_copy 3 = .ok (.dup, 1) := dk_89 (dk_at dksX5_copy_0 3 rfl rfl)
theorem dX5_copy_4 : decode cX5_copy 4 = .ok (.invokespecial 9, 3) := dk_183 0 9 (dk_at dksX5_copy_0 4 rfl rfl)
theorem dX5_copy_7 : decode cX5_copy 7 = .ok (.astore_n 1, 1) := dk_76 (dk_at dksX5_copy_0 7 rfl rfl)
theorem dX5_copy_8 : decode cX5_copy 8 = .ok (.aload_n 1, 1) := dk_43 (dk_at dksX5_copy_0 8 rfl rfl)
theorem dX5_copy_9 : decode cX5_copy 9 = .ok (.aload_n 0, 1) := dk_42 (dk_at dksX5_copy_0 9 rfl rfl)
theorem dX5_copy_10 : decode cX5_copy 10 = .ok (.getfield 10, 3) := dk_180 0 10 (dk_at dksX5_copy_0 10 rfl rfl)
theorem dX5_copy_13 : decode cX5_copy 13 = .ok (.putfield 10, 3) := dk_181 0 10 (dk_at dksX5_copy_0 13 rfl rfl)
theorem dX5_copy_16 : decode cX5_copy 16 = .ok (.aload_n 1, 1) := dk_43 (dk_at dksX5_copy_0 16 rfl rfl)
theorem dX5_copy_17 : decode cX5_copy 17 = .ok (.aload_n 0, 1) := dk_42 (dk_at dksX5_copy_0 17 rfl rfl)
theorem dX5_copy_18 : decode cX5_copy 18 = .ok (.getfield 14, 3) := dk_180 0 14 (dk_at dksX5_copy_0 18 rfl rfl)
theorem dX5_copy_21 : decode cX5_copy 21 = .ok (.putfield 14, 3) := dk_181 0 14 (dk_at dksX5_copy_0 21 rfl rfl)
theorem dX5_copy_24 : decode cX5_copy 24 = .ok (.aload_n 1, 1) := dk_43 (dk_at dksX5_copy_1 0 rfl rfl)
theorem dX5_copy_25 : decode cX5_copy 25 = .ok (.areturn, 1) := dk_176 (dk_at dksX5_copy_1 1 rfl rfl)
abbrev cX5_init : ByteArray := prog_8_method_1_code
def yX5_init : MethodName := ⟨RX5, "<init>", "()V"⟩
theorem dX5_init_0 : decode cX5_init 0 = .ok (.aload_n 0, 1) := by decide +kernel
theorem dX5_init_1 : decode cX5_init 1 = .ok (.invokespecial 1, 3) := by decide +kernel
theorem dX5_init_4 : decode cX5_init 4 = .ok (.return_, 1) := by decide +kernel
theorem q99 : (Jvm.Cond.initialized "PermissionDesk$Team") ∈ lw_all := lw_g (lw_at lw_m1 19 rfl) rfl
theorem q869 : (Jvm.Cond.selects "PermissionDesk$Team" ({ cls := "java/lang/Object", name := "getClass", desc := "()Ljava/lang/Class;" } : Jvm.MethodName) ({ cls := "java/lang/Object", name := "getClass", desc := "()Ljava/lang/Class;" } : Jvm.MethodName)) ∈ lw_all := lw_g (lw_at lw_m4 69 rfl) rfl
theorem q1067 : (Jvm.Cond.instanceMethod ({ cls := "PermissionDesk$Team", name := "copy", desc := "()LPermissionDesk$Team;" } : Jvm.MethodName)) ∈ lw_all := lw_g (lw_at lw_m5 27 rfl) rfl
theorem q1068 : (Jvm.Cond.selects "PermissionDesk$Team" ({ cls := "PermissionDesk$Team", name := "copy", desc := "()LPermissionDesk$Team;" } : Jvm.MethodName) ({ cls := "PermissionDesk$Team", name := "copy", desc := "()LPermissionDesk$Team;" } : Jvm.MethodName)) ∈ lw_all := lw_g (lw_at lw_m5 28 rfl) rfl
theorem q1069 : (Jvm.Cond.code ({ cls := "PermissionDesk$Team", name := "copy", desc := "()LPermissionDesk$Team;" } : Jvm.MethodName) prog_8_method_2_code (2 : Nat) (Option.some (Jvm.ClassFile.FieldType.object "PermissionDesk$Team"))) ∈ lw_all := lw_g (lw_at lw_m5 29 rfl) rfl
theorem q1070 : (Jvm.Cond.classLink "PermissionDesk$Team" (7 : Nat) "PermissionDesk$Team") ∈ lw_all := lw_g (lw_at lw_m5 30 rfl) rfl
theorem q1071 : (Jvm.Cond.instantiable "PermissionDesk$Team" (2 : Nat)) ∈ lw_all := lw_g (lw_at lw_m5 31 rfl) rfl
theorem q1072 : (Jvm.Cond.methodLink "PermissionDesk$Team" (9 : Nat) ({ cls := "PermissionDesk$Team", name := "<init>", desc := "()V" } : Jvm.MethodName)) ∈ lw_all := lw_g (lw_at lw_m5 32 rfl) rfl
theorem q1073 : (Jvm.Cond.instanceMethod ({ cls := "PermissionDesk$Team", name := "<init>", desc := "()V" } : Jvm.MethodName)) ∈ lw_all := lw_g (lw_at lw_m5 33 rfl) rfl
theorem q1074 : (Jvm.Cond.code ({ cls := "PermissionDesk$Team", name := "<init>", desc := "()V" } : Jvm.MethodName) prog_8_method_1_code (1 : Nat) (Option.none : Option Jvm.ClassFile.FieldType)) ∈ lw_all := lw_g (lw_at lw_m5 34 rfl) rfl
theorem q1075 : (Jvm.Cond.methodLink "PermissionDesk$Team" (1 : Nat) ({ cls := "java/lang/Object", name := "<init>", desc := "()V" } : Jvm.MethodName)) ∈ lw_all := lw_g (lw_at lw_m5 35 rfl) rfl
theorem q1076 : (Jvm.Cond.fieldLink "PermissionDesk$Team" (10 : Nat) "PermissionDesk$Team" "users" "I") ∈ lw_all := lw_g (lw_at lw_m5 36 rfl) rfl
theorem q1079 : (Jvm.Cond.fieldLink "PermissionDesk$Team" (14 : Nat) "PermissionDesk$Team" "nested" "I") ∈ lw_all := lw_g (lw_at lw_m5 39 rfl) rfl
theorem q1082 : (Jvm.Cond.lays "PermissionDesk$Team" "PermissionDesk$Team" "users" "I") ∈ lw_all := lw_g (lw_at lw_m5 42 rfl) rfl
theorem q1083 : (Jvm.Cond.soleField "PermissionDesk$Team" "users") ∈ lw_all := lw_g (lw_at lw_m5 43 rfl) rfl
theorem q1084 : (Jvm.Cond.lays "PermissionDesk$Team" "PermissionDesk$Team" "nested" "I") ∈ lw_all := lw_g (lw_at lw_m5 44 rfl) rfl
theorem q1085 : (Jvm.Cond.soleField "PermissionDesk$Team" "nested") ∈ lw_all := lw_g (lw_at lw_m5 45 rfl) rfl
theorem q1086 : (Jvm.Cond.superclass "PermissionDesk$Team" "java/lang/Object") ∈ lw_all := lw_g (lw_at lw_m5 46 rfl) rfl
theorem q1678 : (Jvm.Cond.selects "PermissionDesk$Team" ({ cls := "java/lang/Object", name := "toString", desc := "()Ljava/lang/String;" } : Jvm.MethodName) ({ cls := "java/lang/Object", name := "toString", desc := "()Ljava/lang/String;" } : Jvm.MethodName)) ∈ lw_all := lw_g (lw_at lw_m7 158 rfl) rfl
theorem q2599 : (Jvm.Cond.castable "PermissionDesk$Team" "java/lang/Object") ∈ lw_tbl := lw_at lw_m11 119 rfl
theorem in_X5 : ∀ w ∈ wsX50, w ∈ lw_all := lw_in wsX50 [1082, 1084] (by decide +kernel) (by decide +kernel)

/-! PermissionDesk$Entry -/
set_option maxRecDepth 100000
def RX6 : String := "PermissionDesk$Entry"
def TX6 : u_T := fun k => match k with
  | 0 => ("PermissionDesk$Entry", "kind", "I", true)
  | 1 => ("PermissionDesk$Entry", "who", "I", true)
  | 2 => ("PermissionDesk$Entry", "rights", "I", true)
  | 3 => ("PermissionDesk$Entry", "allows", "Z", true)
  | 4 => ("PermissionDesk$Entry", "below", "Z", true)
  | _ => ("PermissionDesk$Entry", "test", "LPermissionDesk$Test;", true)
def tyX6 : Nat → FieldType := fun k => match k with
  | 0 => .int
  | 1 => .int
  | 2 => .int
  | 3 => .boolean
  | 4 => .boolean
  | _ => .object "PermissionDesk$Test"
abbrev wsX60 : List Cond := u_ws RX6 TX6 6
theorem nmX6 : ∀ a, a < 6 → ∀ b, b < 6 → a ≠ b → (TX6 a).2.1 ≠ (TX6 b).2.1 := by decide +kernel
theorem tyX6_ok : ∀ k, k < 6 → parseFieldDescriptor (TX6 k).2.2.1 = some (tyX6 k) := by decide +kernel
abbrev cX6_init : ByteArray := prog_3_method_1_code
def yX6_init : MethodName := ⟨RX6, "<init>", "(IIIZZ)V"⟩
def dkwX6_init_3 : List UInt8 := [181, 0, 36, 42, 25, 6, 27, 50, 181, 0, 39, 177]
abbrev dktX6_init_3 : List UInt8 := dkwX6_init_3 ++ []
def dkwX6_init_2 : List UInt8 := [42, 27, 181, 0, 20, 42, 28, 181, 0, 26, 42, 29, 181, 0, 29, 42, 21, 4, 181, 0, 32, 42, 21, 5]
abbrev dktX6_init_2 : List UInt8 := dkwX6_init_2 ++ dktX6_init_3
def dkwX6_init_1 : List UInt8 := [186, 0, 15, 0, 0, 83, 89, 5, 186, 0, 16, 0, 0, 83, 89, 6, 186, 0, 19, 0, 0, 83, 58, 6]
abbrev dktX6_init_1 : List UInt8 := dkwX6_init_1 ++ dktX6_init_2
def dkwX6_init_0 : List UInt8 := [42, 183, 0, 3, 7, 189, 0, 9, 89, 3, 28, 186, 0, 11, 0, 0, 83, 89, 4, 28]
abbrev dktX6_init_0 : List UInt8 := dkwX6_init_0 ++ dktX6_init_1
theorem dksX6_init_0 : cX6_init.data.toList.drop 0 = dktX6_init_0 := by decide +kernel
theorem dksX6_init_1 : cX6_init.data.toList.drop 20 = dktX6_init_1 := dk_seg dksX6_init_0 20 rfl rfl
theorem dksX6_init_2 : cX6_init.data.toList.drop 44 = dktX6_init_2 := dk_seg dksX6_init_1 24 rfl rfl
theorem dksX6_init_3 : cX6_init.data.toList.drop 68 = dktX6_init_3 := dk_seg dksX6_init_2 24 rfl rfl
theorem dX6_init_0 : decode cX6_init 0 = .ok (.aload_n 0, 1) := dk_42 (dk_at dksX6_init_0 0 rfl rfl)
theorem dX6_init_1 : decode cX6_init 1 = .ok (.invokespecial 3, 3) := dk_183 0 3 (dk_at dksX6_init_0 1 rfl rfl)
theorem dX6_init_4 : decode cX6_init 4 = .ok (.iconst 4, 1) := dk_7 (dk_at dksX6_init_0 4 rfl rfl)
theorem dX6_init_5 : decode cX6_init 5 = .ok (.anewarray 9, 3) := dk_189 0 9 (dk_at dksX6_init_0 5 rfl rfl)
theorem dX6_init_8 : decode cX6_init 8 = .ok (.dup, 1) := dk_89 (dk_at dksX6_init_0 8 rfl rfl)
theorem dX6_init_9 : decode cX6_init 9 = .ok (.iconst 0, 1) := dk_3 (dk_at dksX6_init_0 9 rfl rfl)
theorem dX6_init_10 : decode cX6_init 10 = .ok (.iload_n 2, 1) := dk_28 (dk_at dksX6_init_0 10 rfl rfl)
theorem dX6_init_11 : decode cX6_init 11 = .ok (.invokedynamic 11, 5) := by decide +kernel
theorem dX6_init_16 : decode cX6_init 16 = .ok (.aastore, 1) := dk_83 (dk_at dksX6_init_0 16 rfl rfl)
theorem dX6_init_17 : decode cX6_init 17 = .ok (.dup, 1) := dk_89 (dk_at dksX6_init_0 17 rfl rfl)
theorem dX6_init_18 : decode cX6_init 18 = .ok (.iconst 1, 1) := dk_4 (dk_at dksX6_init_0 18 rfl rfl)
theorem dX6_init_19 : decode cX6_init 19 = .ok (.iload_n 2, 1) := dk_28 (dk_at dksX6_init_0 19 rfl rfl)
theorem dX6_init_20 : decode cX6_init 20 = .ok (.invokedynamic 15, 5) := by decide +kernel
theorem dX6_init_25 : decode cX6_init 25 = .ok (.aastore, 1) := dk_83 (dk_at dksX6_init_1 5 rfl rfl)
theorem dX6_init_26 : decode cX6_init 26 = .ok (.dup, 1) := dk_89 (dk_at dksX6_init_1 6 rfl rfl)
theorem dX6_init_27 : decode cX6_init 27 = .ok (.iconst 2, 1) := dk_5 (dk_at dksX6_init_1 7 rfl rfl)
theorem dX6_init_28 : decode cX6_init 28 = .ok (.invokedynamic 16, 5) := by decide +kernel
theorem dX6_init_33 : decode cX6_init 33 = .ok (.aastore, 1) := dk_83 (dk_at dksX6_init_1 13 rfl rfl)
theorem dX6_init_34 : decode cX6_init 34 = .ok (.dup, 1) := dk_89 (dk_at dksX6_init_1 14 rfl rfl)
theorem dX6_init_35 : decode cX6_init 35 = .ok (.iconst 3, 1) := dk_6 (dk_at dksX6_init_1 15 rfl rfl)
theorem dX6_init_36 : decode cX6_init 36 = .ok (.invokedynamic 19, 5) := by decide +kernel
theorem dX6_init_41 : decode cX6_init 41 = .ok (.aastore, 1) := dk_83 (dk_at dksX6_init_1 21 rfl rfl)
theorem dX6_init_42 : decode cX6_init 42 = .ok (.astore 6, 2) := dk_58 6 (dk_at dksX6_init_1 22 rfl rfl)
theorem dX6_init_44 : decode cX6_init 44 = .ok (.aload_n 0, 1) := dk_42 (dk_at dksX6_init_2 0 rfl rfl)
theorem dX6_init_45 : decode cX6_init 45 = .ok (.iload_n 1, 1) := dk_27 (dk_at dksX6_init_2 1 rfl rfl)
theorem dX6_init_46 : decode cX6_init 46 = .ok (.putfield 20, 3) := dk_181 0 20 (dk_at dksX6_init_2 2 rfl rfl)
theorem dX6_init_49 : decode cX6_init 49 = .ok (.aload_n 0, 1) := dk_42 (dk_at dksX6_init_2 5 rfl rfl)
theorem dX6_init_50 : decode cX6_init 50 = .ok (.iload_n 2, 1) := dk_28 (dk_at dksX6_init_2 6 rfl rfl)
theorem dX6_init_51 : decode cX6_init 51 = .ok (.putfield 26, 3) := dk_181 0 26 (dk_at dksX6_init_2 7 rfl rfl)
theorem dX6_init_54 : decode cX6_init 54 = .ok (.aload_n 0, 1) := dk_42 (dk_at dksX6_init_2 10 rfl rfl)
theorem dX6_init_55 : decode cX6_init 55 = .ok (.iload_n 3, 1) := dk_29 (dk_at dksX6_init_2 11 rfl rfl)
theorem dX6_init_56 : decode cX6_init 56 = .ok (.putfield 29, 3) := dk_181 0 29 (dk_at dksX6_init_2 12 rfl rfl)
theorem dX6_init_59 : decode cX6_init 59 = .ok (.aload_n 0, 1) := dk_42 (dk_at dksX6_init_2 15 rfl rfl)
theorem dX6_init_60 : decode cX6_init 60 = .ok (.iload 4, 2) := dk_21 4 (dk_at dksX6_init_2 16 rfl rfl)
theorem dX6_init_62 : decode cX6_init 62 = .ok (.putfield 32, 3) := dk_181 0 32 (dk_at dksX6_init_2 18 rfl rfl)
theorem dX6_init_65 : decode cX6_init 65 = .ok (.aload_n 0, 1) := dk_42 (dk_at dksX6_init_2 21 rfl rfl)
theorem dX6_init_66 : decode cX6_init 66 = .ok (.iload 5, 2) := dk_21 5 (dk_at dksX6_init_2 22 rfl rfl)
theorem dX6_init_68 : decode cX6_init 68 = .ok (.putfield 36, 3) := dk_181 0 36 (dk_at dksX6_init_3 0 rfl rfl)
theorem dX6_init_71 : decode cX6_init 71 = .ok (.aload_n 0, 1) := dk_42 (dk_at dksX6_init_3 3 rfl rfl)
theorem dX6_init_72 : decode cX6_init 72 = .ok (.aload 6, 2) := dk_25 6 (dk_at dksX6_init_3 4 rfl rfl)
theorem dX6_init_74 : decode cX6_init 74 = .ok (.iload_n 1, 1) := dk_27 (dk_at dksX6_init_3 6 rfl rfl)
theorem dX6_init_75 : decode cX6_init 75 = .ok (.aaload, 1) := dk_50 (dk_at dksX6_init_3 7 rfl rfl)
theorem dX6_init_76 : decode cX6_init 76 = .ok (.putfield 39, 3) := dk_181 0 39 (dk_at dksX6_init_3 8 rfl rfl)
theorem dX6_init_79 : decode cX6_init 79 = .ok (.return_, 1) := dk_177 (dk_at dksX6_init_3 11 rfl rfl)
abbrev cX6_lambda_new_0 : ByteArray := prog_3_method_9_code
def yX6_lambda_new_0 : MethodName := ⟨RX6, "lambda$new$0", "(ILPermissionDesk$Land;II)Z"⟩
def dkwX6_lambda_new_0_0 : List UInt8 := [28, 26, 160, 0, 7, 4, 167, 0, 4, 3, 172]
abbrev dktX6_lambda_new_0_0 : List UInt8 := dkwX6_lambda_new_0_0 ++ []
theorem dksX6_lambda_new_0_0 : cX6_lambda_new_0.data.toList.drop 0 = dktX6_lambda_new_0_0 := by decide +kernel
theorem dX6_lambda_new_0_0 : decode cX6_lambda_new_0 0 = .ok (.iload_n 2, 1) := dk_28 (dk_at dksX6_lambda_new_0_0 0 rfl rfl)
theorem dX6_lambda_new_0_1 : decode cX6_lambda_new_0 1 = .ok (.iload_n 0, 1) := dk_26 (dk_at dksX6_lambda_new_0_0 1 rfl rfl)
theorem dX6_lambda_new_0_2 : decode cX6_lambda_new_0 2 = .ok (.if_icmp .ne 7, 3) := dk_160 0 7 (dk_at dksX6_lambda_new_0_0 2 rfl rfl)
theorem dX6_lambda_new_0_5 : decode cX6_lambda_new_0 5 = .ok (.iconst 1, 1) := dk_4 (dk_at dksX6_lambda_new_0_0 5 rfl rfl)
theorem dX6_lambda_new_0_6 : decode cX6_lambda_new_0 6 = .ok (.goto 4, 3) := dk_167 0 4 (dk_at dksX6_lambda_new_0_0 6 rfl rfl)
theorem dX6_lambda_new_0_9 : decode cX6_lambda_new_0 9 = .ok (.iconst 0, 1) := dk_3 (dk_at dksX6_lambda_new_0_0 9 rfl rfl)
theorem dX6_lambda_new_0_10 : decode cX6_lambda_new_0 10 = .ok (.ireturn, 1) := dk_172 (dk_at dksX6_lambda_new_0_0 10 rfl rfl)
abbrev cX6_lambda_new_1 : ByteArray := prog_3_method_8_code
def yX6_lambda_new_1 : MethodName := ⟨RX6, "lambda$new$1", "(ILPermissionDesk$Land;II)Z"⟩
def dkwX6_lambda_new_1_0 : List UInt8 := [43, 28, 26, 182, 0, 66, 172]
abbrev dktX6_lambda_new_1_0 : List UInt8 := dkwX6_lambda_new_1_0 ++ []
theorem dksX6_lambda_new_1_0 : cX6_lambda_new_1.data.toList.drop 0 = dktX6_lambda_new_1_0 := by decide +kernel
theorem dX6_lambda_new_1_0 : decode cX6_lambda_new_1 0 = .ok (.aload_n 1, 1) := dk_43 (dk_at dksX6_lambda_new_1_0 0 rfl rfl)
theorem dX6_lambda_new_1_1 : decode cX6_lambda_new_1 1 = .ok (.iload_n 2, 1) := dk_28 (dk_at dksX6_lambda_new_1_0 1 rfl rfl)
theorem dX6_lambda_new_1_2 : decode cX6_lambda_new_1 2 = .ok (.iload_n 0, 1) := dk_26 (dk_at dksX6_lambda_new_1_0 2 rfl rfl)
theorem dX6_lambda_new_1_3 : decode cX6_lambda_new_1 3 = .ok (.invokevirtual 66, 3) := dk_182 0 66 (dk_at dksX6_lambda_new_1_0 3 rfl rfl)
theorem dX6_lambda_new_1_6 : decode cX6_lambda_new_1 6 = .ok (.ireturn, 1) := dk_172 (dk_at dksX6_lambda_new_1_0 6 rfl rfl)
abbrev cX6_lambda_new_2 : ByteArray := prog_3_method_7_code
def yX6_lambda_new_2 : MethodName := ⟨RX6, "lambda$new$2", "(LPermissionDesk$Land;II)Z"⟩
def dkwX6_lambda_new_2_0 : List UInt8 := [27, 28, 160, 0, 7, 4, 167, 0, 4, 3, 172]
abbrev dktX6_lambda_new_2_0 : List UInt8 := dkwX6_lambda_new_2_0 ++ []
theorem dksX6_lambda_new_2_0 : cX6_lambda_new_2.data.toList.drop 0 = dktX6_lambda_new_2_0 := by decide +kernel
theorem dX6_lambda_new_2_0 : decode cX6_lambda_new_2 0 = .ok (.iload_n 1, 1) := dk_27 (dk_at dksX6_lambda_new_2_0 0 rfl rfl)
theorem dX6_lambda_new_2_1 : decode cX6_lambda_new_2 1 = .ok (.iload_n 2, 1) := dk_28 (dk_at dksX6_lambda_new_2_0 1 rfl rfl)
theorem dX6_lambda_new_2_2 : decode cX6_lambda_new_2 2 = .ok (.if_icmp .ne 7, 3) := dk_160 0 7 (dk_at dksX6_lambda_new_2_0 2 rfl rfl)
theorem dX6_lambda_new_2_5 : decode cX6_lambda_new_2 5 = .ok (.iconst 1, 1) := dk_4 (dk_at dksX6_lambda_new_2_0 5 rfl rfl)
theorem dX6_lambda_new_2_6 : decode cX6_lambda_new_2 6 = .ok (.goto 4, 3) := dk_167 0 4 (dk_at dksX6_lambda_new_2_0 6 rfl rfl)
theorem dX6_lambda_new_2_9 : decode cX6_lambda_new_2 9 = .ok (.iconst 0, 1) := dk_3 (dk_at dksX6_lambda_new_2_0 9 rfl rfl)
theorem dX6_lambda_new_2_10 : decode cX6_lambda_new_2 10 = .ok (.ireturn, 1) := dk_172 (dk_at dksX6_lambda_new_2_0 10 rfl rfl)
abbrev cX6_lambda_new_3 : ByteArray := prog_3_method_6_code
def yX6_lambda_new_3 : MethodName := ⟨RX6, "lambda$new$3", "(LPermissionDesk$Land;II)Z"⟩
theorem dX6_lambda_new_3_0 : decode cX6_lambda_new_3 0 = .ok (.iconst 1, 1) := by decide +kernel
theorem dX6_lambda_new_3_1 : decode cX6_lambda_new_3 1 = .ok (.ireturn, 1) := by decide +kernel
abbrev cX6_decides : ByteArray := prog_3_method_4_code
def yX6_decides : MethodName := ⟨RX6, "decides", "(LPermissionDesk$Land;III)Z"⟩
def dkwX6_decides_1 : List UInt8 := [185, 0, 50, 4, 0, 153, 0, 7, 4, 167, 0, 4, 3, 172]
abbrev dktX6_decides_1 : List UInt8 := dkwX6_decides_1 ++ []
def dkwX6_decides_0 : List UInt8 := [42, 180, 0, 39, 58, 5, 42, 180, 0, 29, 21, 4, 184, 0, 46, 153, 0, 20, 25, 5, 43, 28, 29]
abbrev dktX6_decides_0 : List UInt8 := dkwX6_decides_0 ++ dktX6_decides_1
theorem dksX6_decides_0 : cX6_decides.data.toList.drop 0 = dktX6_decides_0 := by decide +kernel
theorem dksX6_decides_1 : cX6_decides.data.toList.drop 23 = dktX6_decides_1 := dk_seg dksX6_decides_0 23 rfl rfl
theorem dX6_decides_0 : decode cX6_decides 0 = .ok (.aload_n 0, 1) := dk_42 (dk_at dksX6_decides_0 0 rfl rfl)
theorem dX6_decides_1 : decode cX6_decides 1 = .ok (.getfield 39, 3) := dk_180 0 39 (dk_at dksX6_decides_0 1 rfl rfl)
theorem dX6_decides_4 : decode cX6_decides 4 = .ok (.astore 5, 2) := dk_58 5 (dk_at dksX6_decides_0 4 rfl rfl)
theorem dX6_decides_6 : decode cX6_decides 6 = .ok (.aload_n 0, 1) := dk_42 (dk_at dksX6_decides_0 6 rfl rfl)
theorem dX6_decides_7 : decode cX6_decides 7 = .ok (.getfield 29, 3) := dk_180 0 29 (dk_at dksX6_decides_0 7 rfl rfl)
theorem dX6_decides_10 : decode cX6_decides 10 = .ok (.iload 4, 2) := dk_21 4 (dk_at dksX6_decides_0 10 rfl rfl)
theorem dX6_decides_12 : decode cX6_decides 12 = .ok (.invokestatic 46, 3) := dk_184 0 46 (dk_at dksX6_decides_0 12 rfl rfl)
theorem dX6_decides_15 : decode cX6_decides 15 = .ok (.ifCond .eq 20, 3) := dk_153 0 20 (dk_at dksX6_decides_0 15 rfl rfl)
theorem dX6_decides_18 : decode cX6_decides 18 = .ok (.aload 5, 2) := dk_25 5 (dk_at dksX6_decides_0 18 rfl rfl)
theorem dX6_decides_20 : decode cX6_decides 20 = .ok (.aload_n 1, 1) := dk_43 (dk_at dksX6_decides_0 20 rfl rfl)
theorem dX6_decides_21 : decode cX6_decides 21 = .ok (.iload_n 2, 1) := dk_28 (dk_at dksX6_decides_0 21 rfl rfl)
theorem dX6_decides_22 : decode cX6_decides 22 = .ok (.iload_n 3, 1) := dk_29 (dk_at dksX6_decides_0 22 rfl rfl)
theorem dX6_decides_23 : decode cX6_decides 23 = .ok (.invokeinterface 50 4, 5) := by decide +kernel
theorem dX6_decides_28 : decode cX6_decides 28 = .ok (.ifCond .eq 7, 3) := dk_153 0 7 (dk_at dksX6_decides_1 5 rfl rfl)
theorem dX6_decides_31 : decode cX6_decides 31 = .ok (.iconst 1, 1) := dk_4 (dk_at dksX6_decides_1 8 rfl rfl)
theorem dX6_decides_32 : decode cX6_decides 32 = .ok (.goto 4, 3) := dk_167 0 4 (dk_at dksX6_decides_1 9 rfl rfl)
theorem dX6_decides_35 : decode cX6_decides 35 = .ok (.iconst 0, 1) := dk_3 (dk_at dksX6_decides_1 12 rfl rfl)
theorem dX6_decides_36 : decode cX6_decides 36 = .ok (.ireturn, 1) := dk_172 (dk_at dksX6_decides_1 13 rfl rfl)
abbrev cX6_init_2 : ByteArray := prog_3_method_2_code
def yX6_init_2 : MethodName := ⟨RX6, "<init>", "(IIZZ)V"⟩
def dkwX6_init_2_0 : List UInt8 := [42, 27, 2, 28, 29, 21, 4, 183, 0, 43, 177]
abbrev dktX6_init_2_0 : List UInt8 := dkwX6_init_2_0 ++ []
theorem dksX6_init_2_0 : cX6_init_2.data.toList.drop 0 = dktX6_init_2_0 := by decide +kernel
theorem dX6_init_2_0 : decode cX6_init_2 0 = .ok (.aload_n 0, 1) := dk_42 (dk_at dksX6_init_2_0 0 rfl rfl)
theorem dX6_init_2_1 : decode cX6_init_2 1 = .ok (.iload_n 1, 1) := dk_27 (dk_at dksX6_init_2_0 1 rfl rfl)
theorem dX6_init_2_2 : decode cX6_init_2 2 = .ok (.iconst (-1), 1) := dk_2 (dk_at dksX6_init_2_0 2 rfl rfl)
theorem dX6_init_2_3 : decode cX6_init_2 3 = .ok (.iload_n 2, 1) := dk_28 (dk_at dksX6_init_2_0 3 rfl rfl)
theorem dX6_init_2_4 : decode cX6_init_2 4 = .ok (.iload_n 3, 1) := dk_29 (dk_at dksX6_init_2_0 4 rfl rfl)
theorem dX6_init_2_5 : decode cX6_init_2 5 = .ok (.iload 4, 2) := dk_21 4 (dk_at dksX6_init_2_0 5 rfl rfl)
theorem dX6_init_2_7 : decode cX6_init_2 7 = .ok (.invokespecial 43, 3) := dk_183 0 43 (dk_at dksX6_init_2_0 7 rfl rfl)
theorem dX6_init_2_10 : decode cX6_init_2 10 = .ok (.return_, 1) := dk_177 (dk_at dksX6_init_2_0 10 rfl rfl)
abbrev cX6_whoIf : ByteArray := prog_3_method_3_code
def yX6_whoIf : MethodName := ⟨RX6, "whoIf", "(I)I"⟩
def dkwX6_whoIf_0 : List UInt8 := [42, 180, 0, 20, 27, 160, 0, 10, 42, 180, 0, 26, 167, 0, 4, 2, 172]
abbrev dktX6_whoIf_0 : List UInt8 := dkwX6_whoIf_0 ++ []
theorem dksX6_whoIf_0 : cX6_whoIf.data.toList.drop 0 = dktX6_whoIf_0 := by decide +kernel
theorem dX6_whoIf_0 : decode cX6_whoIf 0 = .ok (.aload_n 0, 1) := dk_42 (dk_at dksX6_whoIf_0 0 rfl rfl)
theorem dX6_whoIf_1 : decode cX6_whoIf 1 = .ok (.getfield 20, 3) := dk_180 0 20 (dk_at dksX6_whoIf_0 1 rfl rfl)
theorem dX6_whoIf_4 : decode cX6_whoIf 4 = .ok (.iload_n 1, 1) := dk_27 (dk_at dksX6_whoIf_0 4 rfl rfl)
theorem dX6_whoIf_5 : decode cX6_whoIf 5 = .ok (.if_icmp .ne 10, 3) := dk_160 0 10 (dk_at dksX6_whoIf_0 5 rfl rfl)
theorem dX6_whoIf_8 : decode cX6_whoIf 8 = .ok (.aload_n 0, 1) := dk_42 (dk_at dksX6_whoIf_0 8 rfl rfl)
theorem dX6_whoIf_9 : decode cX6_whoIf 9 = .ok (.getfield 26, 3) := dk_180 0 26 (dk_at dksX6_whoIf_0 9 rfl rfl)
theorem dX6_whoIf_12 : decode cX6_whoIf 12 = .ok (.goto 4, 3) := dk_167 0 4 (dk_at dksX6_whoIf_0 12 rfl rfl)
theorem dX6_whoIf_15 : decode cX6_whoIf 15 = .ok (.iconst (-1), 1) := dk_2 (dk_at dksX6_whoIf_0 15 rfl rfl)
theorem dX6_whoIf_16 : decode cX6_whoIf 16 = .ok (.ireturn, 1) := dk_172 (dk_at dksX6_whoIf_0 16 rfl rfl)
abbrev cX6_writes : ByteArray := prog_3_method_5_code
def yX6_writes : MethodName := ⟨RX6, "writes", "(Ljava/lang/StringBuilder;)V"⟩
def dkwX6_writes_6 : List UInt8 := [180, 0, 36, 153, 0, 10, 43, 16, 42, 182, 0, 53, 87, 177]
abbrev dktX6_writes_6 : List UInt8 := dkwX6_writes_6 ++ []
def dkwX6_writes_5 : List UInt8 := [184, 0, 46, 153, 0, 14, 43, 178, 0, 62, 28, 46, 146, 182, 0, 53, 87, 132, 2, 1, 167, 255, 226, 42]
abbrev dktX6_writes_5 : List UInt8 := dkwX6_writes_5 ++ dktX6_writes_6
def dkwX6_writes_4 : List UInt8 := [182, 0, 53, 87, 43, 16, 61, 182, 0, 53, 87, 3, 61, 28, 7, 162, 0, 31, 42, 180, 0, 29, 28]
abbrev dktX6_writes_4 : List UInt8 := dkwX6_writes_4 ++ dktX6_writes_5
def dkwX6_writes_3 : List UInt8 := [180, 0, 26, 182, 0, 59, 87, 167, 0, 20, 43, 16, 111, 182, 0, 53, 87, 167, 0, 10, 43, 16, 97]
abbrev dktX6_writes_3 : List UInt8 := dkwX6_writes_3 ++ dktX6_writes_4
def dkwX6_writes_2 : List UInt8 := [43, 16, 117, 182, 0, 53, 42, 180, 0, 26, 182, 0, 59, 87, 167, 0, 37, 43, 16, 103, 182, 0, 53, 42]
abbrev dktX6_writes_2 : List UInt8 := dkwX6_writes_2 ++ dktX6_writes_3
def dkwX6_writes_1 : List UInt8 := [170, 0, 0, 0, 69, 0, 0, 0, 0, 0, 0, 0, 2, 0, 0, 0, 25, 0, 0, 0, 42, 0, 0, 0, 59]
abbrev dktX6_writes_1 : List UInt8 := dkwX6_writes_1 ++ dktX6_writes_2
def dkwX6_writes_0 : List UInt8 := [43, 42, 180, 0, 32, 153, 0, 8, 16, 43, 167, 0, 5, 16, 45, 182, 0, 53, 87, 42, 180, 0, 20]
abbrev dktX6_writes_0 : List UInt8 := dkwX6_writes_0 ++ dktX6_writes_1
theorem dksX6_writes_0 : cX6_writes.data.toList.drop 0 = dktX6_writes_0 := by decide +kernel
theorem dksX6_writes_1 : cX6_writes.data.toList.drop 23 = dktX6_writes_1 := dk_seg dksX6_writes_0 23 rfl rfl
theorem dksX6_writes_2 : cX6_writes.data.toList.drop 48 = dktX6_writes_2 := dk_seg dksX6_writes_1 25 rfl rfl
theorem dksX6_writes_3 : cX6_writes.data.toList.drop 72 = dktX6_writes_3 := dk_seg dksX6_writes_2 24 rfl rfl
theorem dksX6_writes_4 : cX6_writes.data.toList.drop 95 = dktX6_writes_4 := dk_seg dksX6_writes_3 23 rfl rfl
theorem dksX6_writes_5 : cX6_writes.data.toList.drop 118 = dktX6_writes_5 := dk_seg dksX6_writes_4 23 rfl rfl
theorem dksX6_writes_6 : cX6_writes.data.toList.drop 142 = dktX6_writes_6 := dk_seg dksX6_writes_5 24 rfl rfl
theorem dX6_writes_0 : decode cX6_writes 0 = .ok (.aload_n 1, 1) := dk_43 (dk_at dksX6_writes_0 0 rfl rfl)
theorem dX6_writes_1 : decode cX6_writes 1 = .ok (.aload_n 0, 1) := dk_42 (dk_at dksX6_writes_0 1 rfl rfl)
theorem dX6_writes_2 : decode cX6_writes 2 = .ok (.getfield 32, 3) := dk_180 0 32 (dk_at dksX6_writes_0 2 rfl rfl)
theorem dX6_writes_5 : decode cX6_writes 5 = .ok (.ifCond .eq 8, 3) := dk_153 0 8 (dk_at dksX6_writes_0 5 rfl rfl)
theorem dX6_writes_8 : decode cX6_writes 8 = .ok (.bipush 43, 2) := dk_16 43 (dk_at dksX6_writes_0 8 rfl rfl)
theorem dX6_writes_10 : decode cX6_writes 10 = .ok (.goto 5, 3) := dk_167 0 5 (dk_at dksX6_writes_0 10 rfl rfl)
theorem dX6_writes_13 : decode cX6_writes 13 = .ok (.bipush 45, 2) := dk_16 45 (dk_at dksX6_writes_0 13 rfl rfl)
theorem dX6_writes_15 : decode cX6_writes 15 = .ok (.invokevirtual 53, 3) := dk_182 0 53 (dk_at dksX6_writes_0 15 rfl rfl)
theorem dX6_writes_18 : decode cX6_writes 18 = .ok (.pop, 1) := dk_87 (dk_at dksX6_writes_0 18 rfl rfl)
theorem dX6_writes_19 : decode cX6_writes 19 = .ok (.aload_n 0, 1) := dk_42 (dk_at dksX6_writes_0 19 rfl rfl)
theorem dX6_writes_20 : decode cX6_writes 20 = .ok (.getfield 20, 3) := dk_180 0 20 (dk_at dksX6_writes_0 20 rfl rfl)
theorem dX6_writes_23 : decode cX6_writes 23 = .ok (.tableswitch 69 0 2 #[25, 42, 59], 25) := by decide +kernel
theorem dX6_writes_48 : decode cX6_writes 48 = .ok (.aload_n 1, 1) := dk_43 (dk_at dksX6_writes_2 0 rfl rfl)
theorem dX6_writes_49 : decode cX6_writes 49 = .ok (.bipush 117, 2) := dk_16 117 (dk_at dksX6_writes_2 1 rfl rfl)
theorem dX6_writes_51 : decode cX6_writes 51 = .ok (.invokevirtual 53, 3) := dk_182 0 53 (dk_at dksX6_writes_2 3 rfl rfl)
theorem dX6_writes_54 : decode cX6_writes 54 = .ok (.aload_n 0, 1) := dk_42 (dk_at dksX6_writes_2 6 rfl rfl)
theorem dX6_writes_55 : decode cX6_writes 55 = .ok (.getfield 26, 3) := dk_180 0 26 (dk_at dksX6_writes_2 7 rfl rfl)
theorem dX6_writes_58 : decode cX6_writes 58 = .ok (.invokevirtual 59, 3) := dk_182 0 59 (dk_at dksX6_writes_2 10 rfl rfl)
theorem dX6_writes_61 : decode cX6_writes 61 = .ok (.pop, 1) := dk_87 (dk_at dksX6_writes_2 13 rfl rfl)
theorem dX6_writes_62 : decode cX6_writes 62 = .ok (.goto 37, 3) := dk_167 0 37 (dk_at dksX6_writes_2 14 rfl rfl)
theorem dX6_writes_65 : decode cX6_writes 65 = .ok (.aload_n 1, 1) := dk_43 (dk_at dksX6_writes_2 17 rfl rfl)
theorem dX6_writes_66 : decode cX6_writes 66 = .ok (.bipush 103, 2) := dk_16 103 (dk_at dksX6_writes_2 18 rfl rfl)
theorem dX6_writes_68 : decode cX6_writes 68 = .ok (.invokevirtual 53, 3) := dk_182 0 53 (dk_at dksX6_writes_2 20 rfl rfl)
theorem dX6_writes_71 : decode cX6_writes 71 = .ok (.aload_n 0, 1) := dk_42 (dk_at dksX6_writes_2 23 rfl rfl)
theorem dX6_writes_72 : decode cX6_writes 72 = .ok (.getfield 26, 3) := dk_180 0 26 (dk_at dksX6_writes_3 0 rfl rfl)
theorem dX6_writes_75 : decode cX6_writes 75 = .ok (.invokevirtual 59, 3) := dk_182 0 59 (dk_at dksX6_writes_3 3 rfl rfl)
theorem dX6_writes_78 : decode cX6_writes 78 = .ok (.pop, 1) := dk_87 (dk_at dksX6_writes_3 6 rfl rfl)
theorem dX6_writes_79 : decode cX6_writes 79 = .ok (.goto 20, 3) := dk_167 0 20 (dk_at dksX6_writes_3 7 rfl rfl)
theorem dX6_writes_82 : decode cX6_writes 82 = .ok (.aload_n 1, 1) := dk_43 (dk_at dksX6_writes_3 10 rfl rfl)
theorem dX6_writes_83 : decode cX6_writes 83 = .ok (.bipush 111, 2) := dk_16 111 (dk_at dksX6_writes_3 11 rfl rfl)
theorem dX6_writes_85 : decode cX6_writes 85 = .ok (.invokevirtual 53, 3) := dk_182 0 53 (dk_at dksX6_writes_3 13 rfl rfl)
theorem dX6_writes_88 : decode cX6_writes 88 = .ok (.pop, 1) := dk_87 (dk_at dksX6_writes_3 16 rfl rfl)
theorem dX6_writes_89 : decode cX6_writes 89 = .ok (.goto 10, 3) := dk_167 0 10 (dk_at dksX6_writes_3 17 rfl rfl)
theorem dX6_writes_92 : decode cX6_writes 92 = .ok (.aload_n 1, 1) := dk_43 (dk_at dksX6_writes_3 20 rfl rfl)
theorem dX6_writes_93 : decode cX6_writes 93 = .ok (.bipush 97, 2) := dk_16 97 (dk_at dksX6_writes_3 21 rfl rfl)
theorem dX6_writes_95 : decode cX6_writes 95 = .ok (.invokevirtual 53, 3) := dk_182 0 53 (dk_at dksX6_writes_4 0 rfl rfl)
theorem dX6_writes_98 : decode cX6_writes 98 = .ok (.pop, 1) := dk_87 (dk_at dksX6_writes_4 3 rfl rfl)
theorem dX6_writes_99 : decode cX6_writes 99 = .ok (.aload_n 1, 1) := dk_43 (dk_at dksX6_writes_4 4 rfl rfl)
theorem dX6_writes_100 : decode cX6_writes 100 = .ok (.bipush 61, 2) := dk_16 61 (dk_at dksX6_writes_4 5 rfl rfl)
theorem dX6_writes_102 : decode cX6_writes 102 = .ok (.invokevirtual 53, 3) := dk_182 0 53 (dk_at dksX6_writes_4 7 rfl rfl)
theorem dX6_writes_105 : decode cX6_writes 105 = .ok (.pop, 1) := dk_87 (dk_at dksX6_writes_4 10 rfl rfl)
theorem dX6_writes_106 : decode cX6_writes 106 = .ok (.iconst 0, 1) := dk_3 (dk_at dksX6_writes_4 11 rfl rfl)
theorem dX6_writes_107 : decode cX6_writes 107 = .ok (.istore_n 2, 1) := dk_61 (dk_at dksX6_writes_4 12 rfl rfl)
theorem dX6_writes_108 : decode cX6_writes 108 = .ok (.iload_n 2, 1) := dk_28 (dk_at dksX6_writes_4 13 rfl rfl)
theorem dX6_writes_109 : decode cX6_writes 109 = .ok (.iconst 4, 1) := dk_7 (dk_at dksX6_writes_4 14 rfl rfl)
theorem dX6_writes_110 : decode cX6_writes 110 = .ok (.if_icmp .ge 31, 3) := dk_162 0 31 (dk_at dksX6_writes_4 15 rfl rfl)
theorem dX6_writes_113 : decode cX6_writes 113 = .ok (.aload_n 0, 1) := dk_42 (dk_at dksX6_writes_4 18 rfl rfl)
theorem dX6_writes_114 : decode cX6_writes 114 = .ok (.getfield 29, 3) := dk_180 0 29 (dk_at dksX6_writes_4 19 rfl rfl)
theorem dX6_writes_117 : decode cX6_writes 117 = .ok (.iload_n 2, 1) := dk_28 (dk_at dksX6_writes_4 22 rfl rfl)
theorem dX6_writes_118 : decode cX6_writes 118 = .ok (.invokestatic 46, 3) := dk_184 0 46 (dk_at dksX6_writes_5 0 rfl rfl)
theorem dX6_writes_121 : decode cX6_writes 121 = .ok (.ifCond .eq 14, 3) := dk_153 0 14 (dk_at dksX6_writes_5 3 rfl rfl)
theorem dX6_writes_124 : decode cX6_writes 124 = .ok (.aload_n 1, 1) := dk_43 (dk_at dksX6_writes_5 6 rfl rfl)
theorem dX6_writes_125 : decode cX6_writes 125 = .ok (.getstatic 62, 3) := dk_178 0 62 (dk_at dksX6_writes_5 7 rfl rfl)
theorem dX6_writes_128 : decode cX6_writes 128 = .ok (.iload_n 2, 1) := dk_28 (dk_at dksX6_writes_5 10 rfl rfl)
theorem dX6_writes_129 : decode cX6_writes 129 = .ok (.iaload, 1) := dk_46 (dk_at dksX6_writes_5 11 rfl rfl)
theorem dX6_writes_130 : decode cX6_writes 130 = .ok (.i2c, 1) := dk_146 (dk_at dksX6_writes_5 12 rfl rfl)
theorem dX6_writes_131 : decode cX6_writes 131 = .ok (.invokevirtual 53, 3) := dk_182 0 53 (dk_at dksX6_writes_5 13 rfl rfl)
theorem dX6_writes_134 : decode cX6_writes 134 = .ok (.pop, 1) := dk_87 (dk_at dksX6_writes_5 16 rfl rfl)
theorem dX6_writes_135 : decode cX6_writes 135 = .ok (.iinc 2 1, 3) := dk_132 2 1 (dk_at dksX6_writes_5 17 rfl rfl)
theorem dX6_writes_138 : decode cX6_writes 138 = .ok (.goto (-30), 3) := dk_167 255 226 (dk_at dksX6_writes_5 20 rfl rfl)
theorem dX6_writes_141 : decode cX6_writes 141 = .ok (.aload_n 0, 1) := dk_42 (dk_at dksX6_writes_5 23 rfl rfl)
theorem dX6_writes_142 : decode cX6_writes 142 = .ok (.getfield 36, 3) := dk_180 0 36 (dk_at dksX6_writes_6 0 rfl rfl)
theorem dX6_writes_145 : decode cX6_writes 145 = .ok (.ifCond .eq 10, 3) := dk_153 0 10 (dk_at dksX6_writes_6 3 rfl rfl)
theorem dX6_writes_148 : decode cX6_writes 148 = .ok (.aload_n 1, 1) := dk_43 (dk_at dksX6_writes_6 6 rfl rfl)
theorem dX6_writes_149 : decode cX6_writes 149 = .ok (.bipush 42, 2) := dk_16 42 (dk_at dksX6_writes_6 7 rfl rfl)
theorem dX6_writes_151 : decode cX6_writes 151 = .ok (.invokevirtual 53, 3) := dk_182 0 53 (dk_at dksX6_writes_6 9 rfl rfl)
theorem dX6_writes_154 : decode cX6_writes 154 = .ok (.pop, 1) := dk_87 (dk_at dksX6_writes_6 12 rfl rfl)
theorem dX6_writes_155 : decode cX6_writes 155 = .ok (.return_, 1) := dk_177 (dk_at dksX6_writes_6 13 rfl rfl)
theorem q113 : (Jvm.Cond.initialized "PermissionDesk$Entry") ∈ lw_all := lw_g (lw_at lw_m1 33 rfl) rfl
theorem q771 : (Jvm.Cond.instantiable "PermissionDesk$Entry" (6 : Nat)) ∈ lw_all := lw_g (lw_at lw_m3 211 rfl) rfl
theorem q773 : (Jvm.Cond.instanceMethod ({ cls := "PermissionDesk$Entry", name := "<init>", desc := "(IIIZZ)V" } : Jvm.MethodName)) ∈ lw_all := lw_g (lw_at lw_m3 213 rfl) rfl
theorem q774 : (Jvm.Cond.code ({ cls := "PermissionDesk$Entry", name := "<init>", desc := "(IIIZZ)V" } : Jvm.MethodName) prog_3_method_1_code (7 : Nat) (Option.none : Option Jvm.ClassFile.FieldType)) ∈ lw_all := lw_g (lw_at lw_m3 214 rfl) rfl
theorem q775 : (Jvm.Cond.methodLink "PermissionDesk$Entry" (3 : Nat) ({ cls := "java/lang/Object", name := "<init>", desc := "()V" } : Jvm.MethodName)) ∈ lw_all := lw_g (lw_at lw_m3 215 rfl) rfl
theorem q776 : (Jvm.Cond.classLink "PermissionDesk$Entry" (9 : Nat) "PermissionDesk$Test") ∈ lw_all := lw_g (lw_at lw_m3 216 rfl) rfl
theorem q778 : (Jvm.Cond.static ({ cls := "PermissionDesk$Entry", name := "lambda$new$0", desc := "(ILPermissionDesk$Land;II)Z" } : Jvm.MethodName)) ∈ lw_all := lw_g (lw_at lw_m3 218 rfl) rfl
theorem q779 : (Jvm.Cond.code ({ cls := "PermissionDesk$Entry", name := "lambda$new$0", desc := "(ILPermissionDesk$Land;II)Z" } : Jvm.MethodName) prog_3_method_9_code (4 : Nat) (Option.some Jvm.ClassFile.FieldType.boolean)) ∈ lw_all := lw_g (lw_at lw_m3 219 rfl) rfl
theorem q780 : (Jvm.Cond.static ({ cls := "PermissionDesk$Entry", name := "lambda$new$1", desc := "(ILPermissionDesk$Land;II)Z" } : Jvm.MethodName)) ∈ lw_all := lw_g (lw_at lw_m3 220 rfl) rfl
theorem q781 : (Jvm.Cond.code ({ cls := "PermissionDesk$Entry", name := "lambda$new$1", desc := "(ILPermissionDesk$Land;II)Z" } : Jvm.MethodName) prog_3_method_8_code (4 : Nat) (Option.some Jvm.ClassFile.FieldType.boolean)) ∈ lw_all := lw_g (lw_at lw_m3 221 rfl) rfl
theorem q782 : (Jvm.Cond.methodLink "PermissionDesk$Entry" (66 : Nat) ({ cls := "PermissionDesk$Land", name := "belongs", desc := "(II)Z" } : Jvm.MethodName)) ∈ lw_all := lw_g (lw_at lw_m3 222 rfl) rfl
theorem q810 : (Jvm.Cond.static ({ cls := "PermissionDesk$Entry", name := "lambda$new$2", desc := "(LPermissionDesk$Land;II)Z" } : Jvm.MethodName)) ∈ lw_all := lw_g (lw_at lw_m4 10 rfl) rfl
theorem q811 : (Jvm.Cond.code ({ cls := "PermissionDesk$Entry", name := "lambda$new$2", desc := "(LPermissionDesk$Land;II)Z" } : Jvm.MethodName) prog_3_method_7_code (3 : Nat) (Option.some Jvm.ClassFile.FieldType.boolean)) ∈ lw_all := lw_g (lw_at lw_m4 11 rfl) rfl
theorem q812 : (Jvm.Cond.static ({ cls := "PermissionDesk$Entry", name := "lambda$new$3", desc := "(LPermissionDesk$Land;II)Z" } : Jvm.MethodName)) ∈ lw_all := lw_g (lw_at lw_m4 12 rfl) rfl
theorem q813 : (Jvm.Cond.code ({ cls := "PermissionDesk$Entry", name := "lambda$new$3", desc := "(LPermissionDesk$Land;II)Z" } : Jvm.MethodName) prog_3_method_6_code (3 : Nat) (Option.some Jvm.ClassFile.FieldType.boolean)) ∈ lw_all := lw_g (lw_at lw_m4 13 rfl) rfl
theorem q814 : (Jvm.Cond.fieldLink "PermissionDesk$Entry" (20 : Nat) "PermissionDesk$Entry" "kind" "I") ∈ lw_all := lw_g (lw_at lw_m4 14 rfl) rfl
theorem q816 : (Jvm.Cond.fieldLink "PermissionDesk$Entry" (26 : Nat) "PermissionDesk$Entry" "who" "I") ∈ lw_all := lw_g (lw_at lw_m4 16 rfl) rfl
theorem q817 : (Jvm.Cond.fieldLink "PermissionDesk$Entry" (29 : Nat) "PermissionDesk$Entry" "rights" "I") ∈ lw_all := lw_g (lw_at lw_m4 17 rfl) rfl
theorem q819 : (Jvm.Cond.fieldLink "PermissionDesk$Entry" (32 : Nat) "PermissionDesk$Entry" "allows" "Z") ∈ lw_all := lw_g (lw_at lw_m4 19 rfl) rfl
theorem q822 : (Jvm.Cond.fieldLink "PermissionDesk$Entry" (36 : Nat) "PermissionDesk$Entry" "below" "Z") ∈ lw_all := lw_g (lw_at lw_m4 22 rfl) rfl
theorem q825 : (Jvm.Cond.fieldLink "PermissionDesk$Entry" (39 : Nat) "PermissionDesk$Entry" "test" "LPermissionDesk$Test;") ∈ lw_all := lw_g (lw_at lw_m4 25 rfl) rfl
theorem q826 : (Jvm.Cond.laysFinal "PermissionDesk$Entry" "PermissionDesk$Entry" "kind" "I") ∈ lw_all := lw_g (lw_at lw_m4 26 rfl) rfl
theorem q827 : (Jvm.Cond.soleField "PermissionDesk$Entry" "kind") ∈ lw_all := lw_g (lw_at lw_m4 27 rfl) rfl
theorem q828 : (Jvm.Cond.laysFinal "PermissionDesk$Entry" "PermissionDesk$Entry" "who" "I") ∈ lw_all := lw_g (lw_at lw_m4 28 rfl) rfl
theorem q829 : (Jvm.Cond.soleField "PermissionDesk$Entry" "who") ∈ lw_all := lw_g (lw_at lw_m4 29 rfl) rfl
theorem q830 : (Jvm.Cond.laysFinal "PermissionDesk$Entry" "PermissionDesk$Entry" "rights" "I") ∈ lw_all := lw_g (lw_at lw_m4 30 rfl) rfl
theorem q831 : (Jvm.Cond.soleField "PermissionDesk$Entry" "rights") ∈ lw_all := lw_g (lw_at lw_m4 31 rfl) rfl
theorem q832 : (Jvm.Cond.laysFinal "PermissionDesk$Entry" "PermissionDesk$Entry" "allows" "Z") ∈ lw_all := lw_g (lw_at lw_m4 32 rfl) rfl
theorem q833 : (Jvm.Cond.soleField "PermissionDesk$Entry" "allows") ∈ lw_all := lw_g (lw_at lw_m4 33 rfl) rfl
theorem q834 : (Jvm.Cond.laysFinal "PermissionDesk$Entry" "PermissionDesk$Entry" "below" "Z") ∈ lw_all := lw_g (lw_at lw_m4 34 rfl) rfl
theorem q835 : (Jvm.Cond.soleField "PermissionDesk$Entry" "below") ∈ lw_all := lw_g (lw_at lw_m4 35 rfl) rfl
theorem q836 : (Jvm.Cond.laysFinal "PermissionDesk$Entry" "PermissionDesk$Entry" "test" "LPermissionDesk$Test;") ∈ lw_all := lw_g (lw_at lw_m4 36 rfl) rfl
theorem q837 : (Jvm.Cond.soleField "PermissionDesk$Entry" "test") ∈ lw_all := lw_g (lw_at lw_m4 37 rfl) rfl
theorem q838 : (Jvm.Cond.superclass "PermissionDesk$Entry" "java/lang/Object") ∈ lw_all := lw_g (lw_at lw_m4 38 rfl) rfl
theorem q864 : (Jvm.Cond.selects "PermissionDesk$Entry" ({ cls := "java/lang/Object", name := "getClass", desc := "()Ljava/lang/Class;" } : Jvm.MethodName) ({ cls := "java/lang/Object", name := "getClass", desc := "()Ljava/lang/Class;" } : Jvm.MethodName)) ∈ lw_all := lw_g (lw_at lw_m4 64 rfl) rfl
theorem q960 : (Jvm.Cond.instanceMethod ({ cls := "PermissionDesk$Entry", name := "decides", desc := "(LPermissionDesk$Land;III)Z" } : Jvm.MethodName)) ∈ lw_all := lw_g (lw_at lw_m4 160 rfl) rfl
theorem q961 : (Jvm.Cond.selects "PermissionDesk$Entry" ({ cls := "PermissionDesk$Entry", name := "decides", desc := "(LPermissionDesk$Land;III)Z" } : Jvm.MethodName) ({ cls := "PermissionDesk$Entry", name := "decides", desc := "(LPermissionDesk$Land;III)Z" } : Jvm.MethodName)) ∈ lw_all := lw_g (lw_at lw_m4 161 rfl) rfl
theorem q962 : (Jvm.Cond.code ({ cls := "PermissionDesk$Entry", name := "decides", desc := "(LPermissionDesk$Land;III)Z" } : Jvm.MethodName) prog_3_method_4_code (6 : Nat) (Option.some Jvm.ClassFile.FieldType.boolean)) ∈ lw_all := lw_g (lw_at lw_m4 162 rfl) rfl
theorem q963 : (Jvm.Cond.methodLinkNest "PermissionDesk$Entry" (46 : Nat) ({ cls := "PermissionDesk", name := "isIn", desc := "(II)Z" } : Jvm.MethodName) "PermissionDesk") ∈ lw_tbl := lw_at lw_m4 163 rfl
theorem q964 : (Jvm.Cond.interfaceEntry "PermissionDesk$Entry" (50 : Nat)) ∈ lw_tbl := lw_at lw_m4 164 rfl
theorem q965 : (Jvm.Cond.methodLink "PermissionDesk$Entry" (50 : Nat) ({ cls := "PermissionDesk$Test", name := "isFor", desc := "(LPermissionDesk$Land;II)Z" } : Jvm.MethodName)) ∈ lw_all := lw_g (lw_at lw_m4 165 rfl) rfl
theorem q1417 : (Jvm.Cond.instanceMethod ({ cls := "PermissionDesk$Entry", name := "<init>", desc := "(IIZZ)V" } : Jvm.MethodName)) ∈ lw_all := lw_g (lw_at lw_m6 137 rfl) rfl
theorem q1418 : (Jvm.Cond.code ({ cls := "PermissionDesk$Entry", name := "<init>", desc := "(IIZZ)V" } : Jvm.MethodName) prog_3_method_2_code (5 : Nat) (Option.none : Option Jvm.ClassFile.FieldType)) ∈ lw_all := lw_g (lw_at lw_m6 138 rfl) rfl
theorem q1419 : (Jvm.Cond.methodLink "PermissionDesk$Entry" (43 : Nat) ({ cls := "PermissionDesk$Entry", name := "<init>", desc := "(IIIZZ)V" } : Jvm.MethodName)) ∈ lw_all := lw_g (lw_at lw_m6 139 rfl) rfl
theorem q1585 : (Jvm.Cond.instanceMethod ({ cls := "PermissionDesk$Entry", name := "whoIf", desc := "(I)I" } : Jvm.MethodName)) ∈ lw_all := lw_g (lw_at lw_m7 65 rfl) rfl
theorem q1586 : (Jvm.Cond.selects "PermissionDesk$Entry" ({ cls := "PermissionDesk$Entry", name := "whoIf", desc := "(I)I" } : Jvm.MethodName) ({ cls := "PermissionDesk$Entry", name := "whoIf", desc := "(I)I" } : Jvm.MethodName)) ∈ lw_all := lw_g (lw_at lw_m7 66 rfl) rfl
theorem q1587 : (Jvm.Cond.code ({ cls := "PermissionDesk$Entry", name := "whoIf", desc := "(I)I" } : Jvm.MethodName) prog_3_method_3_code (2 : Nat) (Option.some Jvm.ClassFile.FieldType.int)) ∈ lw_all := lw_g (lw_at lw_m7 67 rfl) rfl
theorem q1673 : (Jvm.Cond.selects "PermissionDesk$Entry" ({ cls := "java/lang/Object", name := "toString", desc := "()Ljava/lang/String;" } : Jvm.MethodName) ({ cls := "java/lang/Object", name := "toString", desc := "()Ljava/lang/String;" } : Jvm.MethodName)) ∈ lw_all := lw_g (lw_at lw_m7 153 rfl) rfl
theorem q1738 : (Jvm.Cond.instanceMethod ({ cls := "PermissionDesk$Entry", name := "writes", desc := "(Ljava/lang/StringBuilder;)V" } : Jvm.MethodName)) ∈ lw_all := lw_g (lw_at lw_m7 218 rfl) rfl
theorem q1739 : (Jvm.Cond.selects "PermissionDesk$Entry" ({ cls := "PermissionDesk$Entry", name := "writes", desc := "(Ljava/lang/StringBuilder;)V" } : Jvm.MethodName) ({ cls := "PermissionDesk$Entry", name := "writes", desc := "(Ljava/lang/StringBuilder;)V" } : Jvm.MethodName)) ∈ lw_all := lw_g (lw_at lw_m7 219 rfl) rfl
theorem q1740 : (Jvm.Cond.code ({ cls := "PermissionDesk$Entry", name := "writes", desc := "(Ljava/lang/StringBuilder;)V" } : Jvm.MethodName) prog_3_method_5_code (3 : Nat) (Option.none : Option Jvm.ClassFile.FieldType)) ∈ lw_all := lw_g (lw_at lw_m7 220 rfl) rfl
theorem q1741 : (Jvm.Cond.methodLink "PermissionDesk$Entry" (53 : Nat) ({ cls := "java/lang/StringBuilder", name := "append", desc := "(C)Ljava/lang/StringBuilder;" } : Jvm.MethodName)) ∈ lw_all := lw_g (lw_at lw_m7 221 rfl) rfl
theorem q1742 : (Jvm.Cond.methodLink "PermissionDesk$Entry" (59 : Nat) ({ cls := "java/lang/StringBuilder", name := "append", desc := "(I)Ljava/lang/StringBuilder;" } : Jvm.MethodName)) ∈ lw_all := lw_g (lw_at lw_m7 222 rfl) rfl
theorem q1743 : (Jvm.Cond.fieldLinkNest "PermissionDesk$Entry" (62 : Nat) "PermissionDesk" "LETTERS" "[I" "PermissionDesk") ∈ lw_tbl := lw_at lw_m7 223 rfl
theorem q2605 : (Jvm.Cond.castable "PermissionDesk$Entry" "java/lang/Object") ∈ lw_tbl := lw_at lw_m11 125 rfl
theorem in_X6 : ∀ w ∈ wsX60, w ∈ lw_all := lw_in wsX60 [826, 828, 830, 832, 834, 836] (by decide +kernel) (by decide +kernel)

/-! PermissionDesk$Request -/
set_option maxRecDepth 100000
def RX7 : String := "PermissionDesk$Request"
def TX7 : u_T := fun k => match k with
  | 0 => ("PermissionDesk$Request", "user", "I", true)
  | 1 => ("PermissionDesk$Request", "object", "I", true)
  | _ => ("PermissionDesk$Request", "isAllowed", "Z", true)
def tyX7 : Nat → FieldType := fun k => match k with
  | 0 => .int
  | 1 => .int
  | _ => .boolean
abbrev wsX70 : List Cond := u_ws RX7 TX7 3
theorem nmX7 : ∀ a, a < 3 → ∀ b, b < 3 → a ≠ b → (TX7 a).2.1 ≠ (TX7 b).2.1 := by decide +kernel
theorem tyX7_ok : ∀ k, k < 3 → parseFieldDescriptor (TX7 k).2.2.1 = some (tyX7 k) := by decide +kernel
abbrev cX7_init : ByteArray := prog_7_method_1_code
def yX7_init : MethodName := ⟨RX7, "<init>", "(IIZ)V"⟩
def dkwX7_init_0 : List UInt8 := [42, 183, 0, 1, 42, 27, 181, 0, 7, 42, 28, 181, 0, 13, 42, 29, 181, 0, 16, 177]
abbrev dktX7_init_0 : List UInt8 := dkwX7_init_0 ++ []
theorem dksX7_init_0 : cX7_init.data.toList.drop 0 = dktX7_init_0 := by decide +kernel
theorem dX7_init_0 : decode cX7_init 0 = .ok (.aload_n 0, 1) := dk_42 (dk_at dksX7_init_0 0 rfl rfl)
theorem dX7_init_1 : decode cX7_init 1 = .ok (.invokespecial 1, 3) := dk_183 0 1 (dk_at dksX7_init_0 1 rfl rfl)
theorem dX7_init_4 : decode cX7_init 4 = .ok (.aload_n 0, 1) := dk_42 (dk_at dksX7_init_0 4 rfl rfl)
theorem dX7_init_5 : decode cX7_init 5 = .ok (.iload_n 1, 1) := dk_27 (dk_at dksX7_init_0 5 rfl rfl)
theorem dX7_init_6 : decode cX7_init 6 = .ok (.putfield 7, 3) := dk_181 0 7 (dk_at dksX7_init_0 6 rfl rfl)
theorem dX7_init_9 : decode cX7_init 9 = .ok (.aload_n 0, 1) := dk_42 (dk_at dksX7_init_0 9 rfl rfl)
theorem dX7_init_10 : decode cX7_init 10 = .ok (.iload_n 2, 1) := dk_28 (dk_at dksX7_init_0 10 rfl rfl)
theorem dX7_init_11 : decode cX7_init 11 = .ok (.putfield 13, 3) := dk_181 0 13 (dk_at dksX7_init_0 11 rfl rfl)
theorem dX7_init_14 : decode cX7_init 14 = .ok (.aload_n 0, 1) := dk_42 (dk_at dksX7_init_0 14 rfl rfl)
theorem dX7_init_15 : decode cX7_init 15 = .ok (.iload_n 3, 1) := dk_29 (dk_at dksX7_init_0 15 rfl rfl)
theorem dX7_init_16 : decode cX7_init 16 = .ok (.putfield 16, 3) := dk_181 0 16 (dk_at dksX7_init_0 16 rfl rfl)
theorem dX7_init_19 : decode cX7_init 19 = .ok (.return_, 1) := dk_177 (dk_at dksX7_init_0 19 rfl rfl)
theorem q114 : (Jvm.Cond.initialized "PermissionDesk$Request") ∈ lw_all := lw_g (lw_at lw_m1 34 rfl) rfl
theorem q868 : (Jvm.Cond.selects "PermissionDesk$Request" ({ cls := "java/lang/Object", name := "getClass", desc := "()Ljava/lang/Class;" } : Jvm.MethodName) ({ cls := "java/lang/Object", name := "getClass", desc := "()Ljava/lang/Class;" } : Jvm.MethodName)) ∈ lw_all := lw_g (lw_at lw_m4 68 rfl) rfl
theorem q1496 : (Jvm.Cond.instantiable "PermissionDesk$Request" (3 : Nat)) ∈ lw_all := lw_g (lw_at lw_m6 216 rfl) rfl
theorem q1498 : (Jvm.Cond.instanceMethod ({ cls := "PermissionDesk$Request", name := "<init>", desc := "(IIZ)V" } : Jvm.MethodName)) ∈ lw_all := lw_g (lw_at lw_m6 218 rfl) rfl
theorem q1499 : (Jvm.Cond.code ({ cls := "PermissionDesk$Request", name := "<init>", desc := "(IIZ)V" } : Jvm.MethodName) prog_7_method_1_code (4 : Nat) (Option.none : Option Jvm.ClassFile.FieldType)) ∈ lw_all := lw_g (lw_at lw_m6 219 rfl) rfl
theorem q1500 : (Jvm.Cond.methodLink "PermissionDesk$Request" (1 : Nat) ({ cls := "java/lang/Object", name := "<init>", desc := "()V" } : Jvm.MethodName)) ∈ lw_all := lw_g (lw_at lw_m6 220 rfl) rfl
theorem q1501 : (Jvm.Cond.fieldLink "PermissionDesk$Request" (7 : Nat) "PermissionDesk$Request" "user" "I") ∈ lw_all := lw_g (lw_at lw_m6 221 rfl) rfl
theorem q1503 : (Jvm.Cond.fieldLink "PermissionDesk$Request" (13 : Nat) "PermissionDesk$Request" "object" "I") ∈ lw_all := lw_g (lw_at lw_m6 223 rfl) rfl
theorem q1505 : (Jvm.Cond.fieldLink "PermissionDesk$Request" (16 : Nat) "PermissionDesk$Request" "isAllowed" "Z") ∈ lw_all := lw_g (lw_at lw_m6 225 rfl) rfl
theorem q1507 : (Jvm.Cond.laysFinal "PermissionDesk$Request" "PermissionDesk$Request" "user" "I") ∈ lw_all := lw_g (lw_at lw_m6 227 rfl) rfl
theorem q1508 : (Jvm.Cond.soleField "PermissionDesk$Request" "user") ∈ lw_all := lw_g (lw_at lw_m6 228 rfl) rfl
theorem q1509 : (Jvm.Cond.laysFinal "PermissionDesk$Request" "PermissionDesk$Request" "object" "I") ∈ lw_all := lw_g (lw_at lw_m6 229 rfl) rfl
theorem q1510 : (Jvm.Cond.soleField "PermissionDesk$Request" "object") ∈ lw_all := lw_g (lw_at lw_m6 230 rfl) rfl
theorem q1511 : (Jvm.Cond.laysFinal "PermissionDesk$Request" "PermissionDesk$Request" "isAllowed" "Z") ∈ lw_all := lw_g (lw_at lw_m6 231 rfl) rfl
theorem q1512 : (Jvm.Cond.soleField "PermissionDesk$Request" "isAllowed") ∈ lw_all := lw_g (lw_at lw_m6 232 rfl) rfl
theorem q1513 : (Jvm.Cond.superclass "PermissionDesk$Request" "java/lang/Object") ∈ lw_all := lw_g (lw_at lw_m6 233 rfl) rfl
theorem q1677 : (Jvm.Cond.selects "PermissionDesk$Request" ({ cls := "java/lang/Object", name := "toString", desc := "()Ljava/lang/String;" } : Jvm.MethodName) ({ cls := "java/lang/Object", name := "toString", desc := "()Ljava/lang/String;" } : Jvm.MethodName)) ∈ lw_all := lw_g (lw_at lw_m7 157 rfl) rfl
theorem q2606 : (Jvm.Cond.castable "PermissionDesk$Request" "java/lang/Object") ∈ lw_tbl := lw_at lw_m11 126 rfl
theorem in_X7 : ∀ w ∈ wsX70, w ∈ lw_all := lw_in wsX70 [1507, 1509, 1511] (by decide +kernel) (by decide +kernel)

/-! PermissionDesk$Reader -/
set_option maxRecDepth 100000
def RX8 : String := "PermissionDesk$Reader"
def TX8 : u_T := fun k => match k with
  | 0 => ("PermissionDesk$Reader", "text", "Ljava/lang/StringBuilder;", true)
  | _ => ("PermissionDesk$Reader", "at", "I", false)
def tyX8 : Nat → FieldType := fun k => match k with
  | 0 => .object "java/lang/StringBuilder"
  | _ => .int
abbrev wsX80 : List Cond := u_ws RX8 TX8 2
theorem nmX8 : ∀ a, a < 2 → ∀ b, b < 2 → a ≠ b → (TX8 a).2.1 ≠ (TX8 b).2.1 := by decide +kernel
theorem tyX8_ok : ∀ k, k < 2 → parseFieldDescriptor (TX8 k).2.2.1 = some (tyX8 k) := by decide +kernel
abbrev cX8_init : ByteArray := prog_6_method_1_code
def yX8_init : MethodName := ⟨RX8, "<init>", "(Ljava/lang/StringBuilder;)V"⟩
def dkwX8_init_0 : List UInt8 := [42, 183, 0, 3, 42, 43, 181, 0, 9, 177]
abbrev dktX8_init_0 : List UInt8 := dkwX8_init_0 ++ []
theorem dksX8_init_0 : cX8_init.data.toList.drop 0 = dktX8_init_0 := by decide +kernel
theorem dX8_init_0 : decode cX8_init 0 = .ok (.aload_n 0, 1) := dk_42 (dk_at dksX8_init_0 0 rfl rfl)
theorem dX8_init_1 : decode cX8_init 1 = .ok (.invokespecial 3, 3) := dk_183 0 3 (dk_at dksX8_init_0 1 rfl rfl)
theorem dX8_init_4 : decode cX8_init 4 = .ok (.aload_n 0, 1) := dk_42 (dk_at dksX8_init_0 4 rfl rfl)
theorem dX8_init_5 : decode cX8_init 5 = .ok (.aload_n 1, 1) := dk_43 (dk_at dksX8_init_0 5 rfl rfl)
theorem dX8_init_6 : decode cX8_init 6 = .ok (.putfield 9, 3) := dk_181 0 9 (dk_at dksX8_init_0 6 rfl rfl)
theorem dX8_init_9 : decode cX8_init 9 = .ok (.return_, 1) := dk_177 (dk_at dksX8_init_0 9 rfl rfl)
abbrev cX8_plan : ByteArray := prog_6_method_9_code
def yX8_plan : MethodName := ⟨RX8, "plan", "()LPermissionDesk$Plan;"⟩
def dkwX8_plan_4 : List UInt8 := [180, 0, 70, 42, 182, 0, 74, 182, 0, 78, 87, 167, 255, 200, 43, 176]
abbrev dktX8_plan_4 : List UInt8 := dkwX8_plan_4 ++ []
def dkwX8_plan_3 : List UInt8 := [160, 0, 15, 187, 0, 36, 89, 42, 180, 0, 15, 183, 0, 38, 191, 42, 16, 59, 182, 0, 52, 43]
abbrev dktX8_plan_3 : List UInt8 := dkwX8_plan_3 ++ dktX8_plan_4
def dkwX8_plan_2 : List UInt8 := [42, 180, 0, 15, 42, 180, 0, 9, 182, 0, 19, 162, 0, 48, 43, 180, 0, 70, 182, 0, 84, 16, 6]
abbrev dktX8_plan_2 : List UInt8 := dkwX8_plan_2 ++ dktX8_plan_3
def dkwX8_plan_1 : List UInt8 := [42, 180, 0, 9, 182, 0, 19, 160, 0, 5, 43, 176, 43, 180, 0, 70, 42, 182, 0, 74, 182, 0, 78, 87]
abbrev dktX8_plan_1 : List UInt8 := dkwX8_plan_1 ++ dktX8_plan_2
def dkwX8_plan_0 : List UInt8 := [187, 0, 67, 89, 42, 16, 19, 182, 0, 57, 183, 0, 69, 76, 42, 16, 58, 182, 0, 52, 42, 180, 0, 15]
abbrev dktX8_plan_0 : List UInt8 := dkwX8_plan_0 ++ dktX8_plan_1
theorem dksX8_plan_0 : cX8_plan.data.toList.drop 0 = dktX8_plan_0 := by decide +kernel
theorem dksX8_plan_1 : cX8_plan.data.toList.drop 24 = dktX8_plan_1 := dk_seg dksX8_plan_0 24 rfl rfl
theorem dksX8_plan_2 : cX8_plan.data.toList.drop 48 = dktX8_plan_2 := dk_seg dksX8_plan_1 24 rfl rfl
theorem dksX8_plan_3 : cX8_plan.data.toList.drop 71 = dktX8_plan_3 := dk_seg dksX8_plan_2 23 rfl rfl
theorem dksX8_plan_4 : cX8_plan.data.toList.drop 93 = dktX8_plan_4 := dk_seg dksX8_plan_3 22 rfl rfl
theorem dX8_plan_0 : decode cX8_plan 0 = .ok (.new 67, 3) := dk_187 0 67 (dk_at dksX8_plan_0 0 rfl rfl)
theorem dX8_plan_3 : decode cX8_plan 3 = .ok (.dup, 1) := dk_89 (dk_at dksX8_plan_0 3 rfl rfl)
theorem dX8_plan_4 : decode cX8_plan 4 = .ok (.aload_n 0, 1) := dk_42 (dk_at dksX8_plan_0 4 rfl rfl)
theorem dX8_plan_5 : decode cX8_plan 5 = .ok (.bipush 19, 2) := dk_16 19 (dk_at dksX8_plan_0 5 rfl rfl)
theorem dX8_plan_7 : decode cX8_plan 7 = .ok (.invokevirtual 57, 3) := dk_182 0 57 (dk_at dksX8_plan_0 7 rfl rfl)
theorem dX8_plan_10 : decode cX8_plan 10 = .ok (.invokespecial 69, 3) := dk_183 0 69 (dk_at dksX8_plan_0 10 rfl rfl)
theorem dX8_plan_13 : decode cX8_plan 13 = .ok (.astore_n 1, 1) := dk_76 (dk_at dksX8_plan_0 13 rfl rfl)
theorem dX8_plan_14 : decode cX8_plan 14 = .ok (.aload_n 0, 1) := dk_42 (dk_at dksX8_plan_0 14 rfl rfl)
theorem dX8_plan_15 : decode cX8_plan 15 = .ok (.bipush 58, 2) := dk_16 58 (dk_at dksX8_plan_0 15 rfl rfl)
theorem dX8_plan_17 : decode cX8_plan 17 = .ok (.invokevirtual 52, 3) := dk_182 0 52 (dk_at dksX8_plan_0 17 rfl rfl)
theorem dX8_plan_20 : decode cX8_plan 20 = .ok (.aload_n 0, 1) := dk_42 (dk_at dksX8_plan_0 20 rfl rfl)
theorem dX8_plan_21 : decode cX8_plan 21 = .ok (.getfield 15, 3) := dk_180 0 15 (dk_at dksX8_plan_0 21 rfl rfl)
theorem dX8_plan_24 : decode cX8_plan 24 = .ok (.aload_n 0, 1) := dk_42 (dk_at dksX8_plan_1 0 rfl rfl)
theorem dX8_plan_25 : decode cX8_plan 25 = .ok (.getfield 9, 3) := dk_180 0 9 (dk_at dksX8_plan_1 1 rfl rfl)
theorem dX8_plan_28 : decode cX8_plan 28 = .ok (.invokevirtual 19, 3) := dk_182 0 19 (dk_at dksX8_plan_1 4 rfl rfl)
theorem dX8_plan_31 : decode cX8_plan 31 = .ok (.if_icmp .ne 5, 3) := dk_160 0 5 (dk_at dksX8_plan_1 7 rfl rfl)
theorem dX8_plan_34 : decode cX8_plan 34 = .ok (.aload_n 1, 1) := dk_43 (dk_at dksX8_plan_1 10 rfl rfl)
theorem dX8_plan_35 : decode cX8_plan 35 = .ok (.areturn, 1) := dk_176 (dk_at dksX8_plan_1 11 rfl rfl)
theorem dX8_plan_36 : decode cX8_plan 36 = .ok (.aload_n 1, 1) := dk_43 (dk_at dksX8_plan_1 12 rfl rfl)
theorem dX8_plan_37 : decode cX8_plan 37 = .ok (.getfield 70, 3) := dk_180 0 70 (dk_at dksX8_plan_1 13 rfl rfl)
theorem dX8_plan_40 : decode cX8_plan 40 = .ok (.aload_n 0, 1) := dk_42 (dk_at dksX8_plan_1 16 rfl rfl)
theorem dX8_plan_41 : decode cX8_plan 41 = .ok (.invokevirtual 74, 3) := dk_182 0 74 (dk_at dksX8_plan_1 17 rfl rfl)
theorem dX8_plan_44 : decode cX8_plan 44 = .ok (.invokevirtual 78, 3) := dk_182 0 78 (dk_at dksX8_plan_1 20 rfl rfl)
theorem dX8_plan_47 : decode cX8_plan 47 = .ok (.pop, 1) := dk_87 (dk_at dksX8_plan_1 23 rfl rfl)
theorem dX8_plan_48 : decode cX8_plan 48 = .ok (.aload_n 0, 1) := dk_42 (dk_at dksX8_plan_2 0 rfl rfl)
theorem dX8_plan_49 : decode cX8_plan 49 = .ok (.getfield 15, 3) := dk_180 0 15 (dk_at dksX8_plan_2 1 rfl rfl)
theorem dX8_plan_52 : decode cX8_plan 52 = .ok (.aload_n 0, 1) := dk_42 (dk_at dksX8_plan_2 4 rfl rfl)
theorem dX8_plan_53 : decode cX8_plan 53 = .ok (.getfield 9, 3) := dk_180 0 9 (dk_at dksX8_plan_2 5 rfl rfl)
theorem dX8_plan_56 : decode cX8_plan 56 = .ok (.invokevirtual 19, 3) := dk_182 0 19 (dk_at dksX8_plan_2 8 rfl rfl)
theorem dX8_plan_59 : decode cX8_plan 59 = .ok (.if_icmp .ge 48, 3) := dk_162 0 48 (dk_at dksX8_plan_2 11 rfl rfl)
theorem dX8_plan_62 : decode cX8_plan 62 = .ok (.aload_n 1, 1) := dk_43 (dk_at dksX8_plan_2 14 rfl rfl)
theorem dX8_plan_63 : decode cX8_plan 63 = .ok (.getfield 70, 3) := dk_180 0 70 (dk_at dksX8_plan_2 15 rfl rfl)
theorem dX8_plan_66 : decode cX8_plan 66 = .ok (.invokevirtual 84, 3) := dk_182 0 84 (dk_at dksX8_plan_2 18 rfl rfl)
theorem dX8_plan_69 : decode cX8_plan 69 = .ok (.bipush 6, 2) := dk_16 6 (dk_at dksX8_plan_2 21 rfl rfl)
theorem dX8_plan_71 : decode cX8_plan 71 = .ok (.if_icmp .ne 15, 3) := dk_160 0 15 (dk_at dksX8_plan_3 0 rfl rfl)
theorem dX8_plan_74 : decode cX8_plan 74 = .ok (.new 36, 3) := dk_187 0 36 (dk_at dksX8_plan_3 3 rfl rfl)
theorem dX8_plan_77 : decode cX8_plan 77 = .ok (.dup, 1) := dk_89 (dk_at dksX8_plan_3 6 rfl rfl)
theorem dX8_plan_78 : decode cX8_plan 78 = .ok (.aload_n 0, 1) := dk_42 (dk_at dksX8_plan_3 7 rfl rfl)
theorem dX8_plan_79 : decode cX8_plan 79 = .ok (.getfield 15, 3) := dk_180 0 15 (dk_at dksX8_plan_3 8 rfl rfl)
theorem dX8_plan_82 : decode cX8_plan 82 = .ok (.invokespecial 38, 3) := dk_183 0 38 (dk_at dksX8_plan_3 11 rfl rfl)
theorem dX8_plan_85 : decode cX8_plan 85 = .ok (.athrow, 1) := dk_191 (dk_at dksX8_plan_3 14 rfl rfl)
theorem dX8_plan_86 : decode cX8_plan 86 = .ok (.aload_n 0, 1) := dk_42 (dk_at dksX8_plan_3 15 rfl rfl)
theorem dX8_plan_87 : decode cX8_plan 87 = .ok (.bipush 59, 2) := dk_16 59 (dk_at dksX8_plan_3 16 rfl rfl)
theorem dX8_plan_89 : decode cX8_plan 89 = .ok (.invokevirtual 52, 3) := dk_182 0 52 (dk_at dksX8_plan_3 18 rfl rfl)
theorem dX8_plan_92 : decode cX8_plan 92 = .ok (.aload_n 1, 1) := dk_43 (dk_at dksX8_plan_3 21 rfl rfl)
theorem dX8_plan_93 : decode cX8_plan 93 = .ok (.getfield 70, 3) := dk_180 0 70 (dk_at dksX8_plan_4 0 rfl rfl)
theorem dX8_plan_96 : decode cX8_plan 96 = .ok (.aload_n 0, 1) := dk_42 (dk_at dksX8_plan_4 3 rfl rfl)
theorem dX8_plan_97 : decode cX8_plan 97 = .ok (.invokevirtual 74, 3) := dk_182 0 74 (dk_at dksX8_plan_4 4 rfl rfl)
theorem dX8_plan_100 : decode cX8_plan 100 = .ok (.invokevirtual 78, 3) := dk_182 0 78 (dk_at dksX8_plan_4 7 rfl rfl)
theorem dX8_plan_103 : decode cX8_plan 103 = .ok (.pop, 1) := dk_87 (dk_at dksX8_plan_4 10 rfl rfl)
theorem dX8_plan_104 : decode cX8_plan 104 = .ok (.goto (-56), 3) := dk_167 255 200 (dk_at dksX8_plan_4 11 rfl rfl)
theorem dX8_plan_107 : decode cX8_plan 107 = .ok (.aload_n 1, 1) := dk_43 (dk_at dksX8_plan_4 14 rfl rfl)
theorem dX8_plan_108 : decode cX8_plan 108 = .ok (.areturn, 1) := dk_176 (dk_at dksX8_plan_4 15 rfl rfl)
abbrev cX8_number : ByteArray := prog_6_method_6_code
def yX8_number : MethodName := ⟨RX8, "number", "(I)I"⟩
def dkwX8_number_3 : List UInt8 := [180, 0, 15, 4, 96, 181, 0, 15, 28, 172]
abbrev dktX8_number_3 : List UInt8 := dkwX8_number_3 ++ []
def dkwX8_number_2 : List UInt8 := [155, 0, 30, 16, 10, 28, 104, 29, 96, 27, 163, 0, 20, 16, 10, 28, 104, 29, 96, 61, 42, 89]
abbrev dktX8_number_2 : List UInt8 := dkwX8_number_2 ++ dktX8_number_3
def dkwX8_number_1 : List UInt8 := [183, 0, 38, 191, 42, 89, 180, 0, 15, 4, 96, 181, 0, 15, 42, 182, 0, 45, 62, 28, 158, 0, 34, 29]
abbrev dktX8_number_1 : List UInt8 := dkwX8_number_1 ++ dktX8_number_2
def dkwX8_number_0 : List UInt8 := [42, 182, 0, 45, 61, 28, 155, 0, 8, 28, 27, 164, 0, 15, 187, 0, 36, 89, 42, 180, 0, 15]
abbrev dktX8_number_0 : List UInt8 := dkwX8_number_0 ++ dktX8_number_1
theorem dksX8_number_0 : cX8_number.data.toList.drop 0 = dktX8_number_0 := by decide +kernel
theorem dksX8_number_1 : cX8_number.data.toList.drop 22 = dktX8_number_1 := dk_seg dksX8_number_0 22 rfl rfl
theorem dksX8_number_2 : cX8_number.data.toList.drop 46 = dktX8_number_2 := dk_seg dksX8_number_1 24 rfl rfl
theorem dksX8_number_3 : cX8_number.data.toList.drop 68 = dktX8_number_3 := dk_seg dksX8_number_2 22 rfl rfl
theorem dX8_number_0 : decode cX8_number 0 = .ok (.aload_n 0, 1) := dk_42 (dk_at dksX8_number_0 0 rfl rfl)
theorem dX8_number_1 : decode cX8_number 1 = .ok (.invokevirtual 45, 3) := dk_182 0 45 (dk_at dksX8_number_0 1 rfl rfl)
theorem dX8_number_4 : decode cX8_number 4 = .ok (.istore_n 2, 1) := dk_61 (dk_at dksX8_number_0 4 rfl rfl)
theorem dX8_number_5 : decode cX8_number 5 = .ok (.iload_n 2, 1) := dk_28 (dk_at dksX8_number_0 5 rfl rfl)
theorem dX8_number_6 : decode cX8_number 6 = .ok (.ifCond .lt 8, 3) := dk_155 0 8 (dk_at dksX8_number_0 6 rfl rfl)
theorem dX8_number_9 : decode cX8_number 9 = .ok (.iload_n 2, 1) := dk_28 (dk_at dksX8_number_0 9 rfl rfl)
theorem dX8_number_10 : decode cX8_number 10 = .ok (.iload_n 1, 1) := dk_27 (dk_at dksX8_number_0 10 rfl rfl)
theorem dX8_number_11 : decode cX8_number 11 = .ok (.if_icmp .le 15, 3) := dk_164 0 15 (dk_at dksX8_number_0 11 rfl rfl)
theorem dX8_number_14 : decode cX8_number 14 = .ok (.new 36, 3) := dk_187 0 36 (dk_at dksX8_number_0 14 rfl rfl)
theorem dX8_number_17 : decode cX8_number 17 = .ok (.dup, 1) := dk_89 (dk_at dksX8_number_0 17 rfl rfl)
theorem dX8_number_18 : decode cX8_number 18 = .ok (.aload_n 0, 1) := dk_42 (dk_at dksX8_number_0 18 rfl rfl)
theorem dX8_number_19 : decode cX8_number 19 = .ok (.getfield 15, 3) := dk_180 0 15 (dk_at dksX8_number_0 19 rfl rfl)
theorem dX8_number_22 : decode cX8_number 22 = .ok (.invokespecial 38, 3) := dk_183 0 38 (dk_at dksX8_number_1 0 rfl rfl)
theorem dX8_number_25 : decode cX8_number 25 = .ok (.athrow, 1) := dk_191 (dk_at dksX8_number_1 3 rfl rfl)
theorem dX8_number_26 : decode cX8_number 26 = .ok (.aload_n 0, 1) := dk_42 (dk_at dksX8_number_1 4 rfl rfl)
theorem dX8_number_27 : decode cX8_number 27 = .ok (.dup, 1) := dk_89 (dk_at dksX8_number_1 5 rfl rfl)
theorem dX8_number_28 : decode cX8_number 28 = .ok (.getfield 15, 3) := dk_180 0 15 (dk_at dksX8_number_1 6 rfl rfl)
theorem dX8_number_31 : decode cX8_number 31 = .ok (.iconst 1, 1) := dk_4 (dk_at dksX8_number_1 9 rfl rfl)
theorem dX8_number_32 : decode cX8_number 32 = .ok (.iadd, 1) := dk_96 (dk_at dksX8_number_1 10 rfl rfl)
theorem dX8_number_33 : decode cX8_number 33 = .ok (.putfield 15, 3) := dk_181 0 15 (dk_at dksX8_number_1 11 rfl rfl)
theorem dX8_number_36 : decode cX8_number 36 = .ok (.aload_n 0, 1) := dk_42 (dk_at dksX8_number_1 14 rfl rfl)
theorem dX8_number_37 : decode cX8_number 37 = .ok (.invokevirtual 45, 3) := dk_182 0 45 (dk_at dksX8_number_1 15 rfl rfl)
theorem dX8_number_40 : decode cX8_number 40 = .ok (.istore_n 3, 1) := dk_62 (dk_at dksX8_number_1 18 rfl rfl)
theorem dX8_number_41 : decode cX8_number 41 = .ok (.iload_n 2, 1) := dk_28 (dk_at dksX8_number_1 19 rfl rfl)
theorem dX8_number_42 : decode cX8_number 42 = .ok (.ifCond .le 34, 3) := dk_158 0 34 (dk_at dksX8_number_1 20 rfl rfl)
theorem dX8_number_45 : decode cX8_number 45 = .ok (.iload_n 3, 1) := dk_29 (dk_at dksX8_number_1 23 rfl rfl)
theorem dX8_number_46 : decode cX8_number 46 = .ok (.ifCond .lt 30, 3) := dk_155 0 30 (dk_at dksX8_number_2 0 rfl rfl)
theorem dX8_number_49 : decode cX8_number 49 = .ok (.bipush 10, 2) := dk_16 10 (dk_at dksX8_number_2 3 rfl rfl)
theorem dX8_number_51 : decode cX8_number 51 = .ok (.iload_n 2, 1) := dk_28 (dk_at dksX8_number_2 5 rfl rfl)
theorem dX8_number_52 : decode cX8_number 52 = .ok (.imul, 1) := dk_104 (dk_at dksX8_number_2 6 rfl rfl)
theorem dX8_number_53 : decode cX8_number 53 = .ok (.iload_n 3, 1) := dk_29 (dk_at dksX8_number_2 7 rfl rfl)
theorem dX8_number_54 : decode cX8_number 54 = .ok (.iadd, 1) := dk_96 (dk_at dksX8_number_2 8 rfl rfl)
theorem dX8_number_55 : decode cX8_number 55 = .ok (.iload_n 1, 1) := dk_27 (dk_at dksX8_number_2 9 rfl rfl)
theorem dX8_number_56 : decode cX8_number 56 = .ok (.if_icmp .gt 20, 3) := dk_163 0 20 (dk_at dksX8_number_2 10 rfl rfl)
theorem dX8_number_59 : decode cX8_number 59 = .ok (.bipush 10, 2) := dk_16 10 (dk_at dksX8_number_2 13 rfl rfl)
theorem dX8_number_61 : decode cX8_number 61 = .ok (.iload_n 2, 1) := dk_28 (dk_at dksX8_number_2 15 rfl rfl)
theorem dX8_number_62 : decode cX8_number 62 = .ok (.imul, 1) := dk_104 (dk_at dksX8_number_2 16 rfl rfl)
theorem dX8_number_63 : decode cX8_number 63 = .ok (.iload_n 3, 1) := dk_29 (dk_at dksX8_number_2 17 rfl rfl)
theorem dX8_number_64 : decode cX8_number 64 = .ok (.iadd, 1) := dk_96 (dk_at dksX8_number_2 18 rfl rfl)
theorem dX8_number_65 : decode cX8_number 65 = .ok (.istore_n 2, 1) := dk_61 (dk_at dksX8_number_2 19 rfl rfl)
theorem dX8_number_66 : decode cX8_number 66 = .ok (.aload_n 0, 1) := dk_42 (dk_at dksX8_number_2 20 rfl rfl)
theorem dX8_number_67 : decode cX8_number 67 = .ok (.dup, 1) := dk_89 (dk_at dksX8_number_2 21 rfl rfl)
theorem dX8_number_68 : decode cX8_number 68 = .ok (.getfield 15, 3) := dk_180 0 15 (dk_at dksX8_number_3 0 rfl rfl)
theorem dX8_number_71 : decode cX8_number 71 = .ok (.iconst 1, 1) := dk_4 (dk_at dksX8_number_3 3 rfl rfl)
theorem dX8_number_72 : decode cX8_number 72 = .ok (.iadd, 1) := dk_96 (dk_at dksX8_number_3 4 rfl rfl)
theorem dX8_number_73 : decode cX8_number 73 = .ok (.putfield 15, 3) := dk_181 0 15 (dk_at dksX8_number_3 5 rfl rfl)
theorem dX8_number_76 : decode cX8_number 76 = .ok (.iload_n 2, 1) := dk_28 (dk_at dksX8_number_3 8 rfl rfl)
theorem dX8_number_77 : decode cX8_number 77 = .ok (.ireturn, 1) := dk_172 (dk_at dksX8_number_3 9 rfl rfl)
abbrev cX8_figure : ByteArray := prog_6_method_5_code
def yX8_figure : MethodName := ⟨RX8, "figure", "()I"⟩
def dkwX8_figure_2 : List UInt8 := [16, 48, 100, 167, 0, 4, 2, 172]
abbrev dktX8_figure_2 : List UInt8 := dkwX8_figure_2 ++ []
def dkwX8_figure_1 : List UInt8 := [182, 0, 25, 16, 48, 16, 57, 184, 0, 41, 153, 0, 20, 42, 180, 0, 9, 42, 180, 0, 15, 182, 0, 25]
abbrev dktX8_figure_1 : List UInt8 := dkwX8_figure_1 ++ dktX8_figure_2
def dkwX8_figure_0 : List UInt8 := [42, 180, 0, 15, 42, 180, 0, 9, 182, 0, 19, 162, 0, 41, 42, 180, 0, 9, 42, 180, 0, 15]
abbrev dktX8_figure_0 : List UInt8 := dkwX8_figure_0 ++ dktX8_figure_1
theorem dksX8_figure_0 : cX8_figure.data.toList.drop 0 = dktX8_figure_0 := by decide +kernel
theorem dksX8_figure_1 : cX8_figure.data.toList.drop 22 = dktX8_figure_1 := dk_seg dksX8_figure_0 22 rfl rfl
theorem dksX8_figure_2 : cX8_figure.data.toList.drop 46 = dktX8_figure_2 := dk_seg dksX8_figure_1 24 rfl rfl
theorem dX8_figure_0 : decode cX8_figure 0 = .ok (.aload_n 0, 1) := dk_42 (dk_at dksX8_figure_0 0 rfl rfl)
theorem dX8_figure_1 : decode cX8_figure 1 = .ok (.getfield 15, 3) := dk_180 0 15 (dk_at dksX8_figure_0 1 rfl rfl)
theorem dX8_figure_4 : decode cX8_figure 4 = .ok (.aload_n 0, 1) := dk_42 (dk_at dksX8_figure_0 4 rfl rfl)
theorem dX8_figure_5 : decode cX8_figure 5 = .ok (.getfield 9, 3) := dk_180 0 9 (dk_at dksX8_figure_0 5 rfl rfl)
theorem dX8_figure_8 : decode cX8_figure 8 = .ok (.invokevirtual 19, 3) := dk_182 0 19 (dk_at dksX8_figure_0 8 rfl rfl)
theorem dX8_figure_11 : decode cX8_figure 11 = .ok (.if_icmp .ge 41, 3) := dk_162 0 41 (dk_at dksX8_figure_0 11 rfl rfl)
theorem dX8_figure_14 : decode cX8_figure 14 = .ok (.aload_n 0, 1) := dk_42 (dk_at dksX8_figure_0 14 rfl rfl)
theorem dX8_figure_15 : decode cX8_figure 15 = .ok (.getfield 9, 3) := dk_180 0 9 (dk_at dksX8_figure_0 15 rfl rfl)
theorem dX8_figure_18 : decode cX8_figure 18 = .ok (.aload_n 0, 1) := dk_42 (dk_at dksX8_figure_0 18 rfl rfl)
theorem dX8_figure_19 : decode cX8_figure 19 = .ok (.getfield 15, 3) := dk_180 0 15 (dk_at dksX8_figure_0 19 rfl rfl)
theorem dX8_figure_22 : decode cX8_figure 22 = .ok (.invokevirtual 25, 3) := dk_182 0 25 (dk_at dksX8_figure_1 0 rfl rfl)
theorem dX8_figure_25 : decode cX8_figure 25 = .ok (.bipush 48, 2) := dk_16 48 (dk_at dksX8_figure_1 3 rfl rfl)
theorem dX8_figure_27 : decode cX8_figure 27 = .ok (.bipush 57, 2) := dk_16 57 (dk_at dksX8_figure_1 5 rfl rfl)
theorem dX8_figure_29 : decode cX8_figure 29 = .ok (.invokestatic 41, 3) := dk_184 0 41 (dk_at dksX8_figure_1 7 rfl rfl)
theorem dX8_figure_32 : decode cX8_figure 32 = .ok (.ifCond .eq 20, 3) := dk_153 0 20 (dk_at dksX8_figure_1 10 rfl rfl)
theorem dX8_figure_35 : decode cX8_figure 35 = .ok (.aload_n 0, 1) := dk_42 (dk_at dksX8_figure_1 13 rfl rfl)
theorem dX8_figure_36 : decode cX8_figure 36 = .ok (.getfield 9, 3) := dk_180 0 9 (dk_at dksX8_figure_1 14 rfl rfl)
theorem dX8_figure_39 : decode cX8_figure 39 = .ok (.aload_n 0, 1) := dk_42 (dk_at dksX8_figure_1 17 rfl rfl)
theorem dX8_figure_40 : decode cX8_figure 40 = .ok (.getfield 15, 3) := dk_180 0 15 (dk_at dksX8_figure_1 18 rfl rfl)
theorem dX8_figure_43 : decode cX8_figure 43 = .ok (.invokevirtual 25, 3) := dk_182 0 25 (dk_at dksX8_figure_1 21 rfl rfl)
theorem dX8_figure_46 : decode cX8_figure 46 = .ok (.bipush 48, 2) := dk_16 48 (dk_at dksX8_figure_2 0 rfl rfl)
theorem dX8_figure_48 : decode cX8_figure 48 = .ok (.isub, 1) := dk_100 (dk_at dksX8_figure_2 2 rfl rfl)
theorem dX8_figure_49 : decode cX8_figure 49 = .ok (.goto 4, 3) := dk_167 0 4 (dk_at dksX8_figure_2 3 rfl rfl)
theorem dX8_figure_52 : decode cX8_figure 52 = .ok (.iconst (-1), 1) := dk_2 (dk_at dksX8_figure_2 6 rfl rfl)
theorem dX8_figure_53 : decode cX8_figure 53 = .ok (.ireturn, 1) := dk_172 (dk_at dksX8_figure_2 7 rfl rfl)
abbrev cX8_takes : ByteArray := prog_6_method_4_code
def yX8_takes : MethodName := ⟨RX8, "takes", "(I)V"⟩
def dkwX8_takes_0 : List UInt8 := [42, 27, 182, 0, 33, 154, 0, 15, 187, 0, 36, 89, 42, 180, 0, 15, 183, 0, 38, 191, 177]
abbrev dktX8_takes_0 : List UInt8 := dkwX8_takes_0 ++ []
theorem dksX8_takes_0 : cX8_takes.data.toList.drop 0 = dktX8_takes_0 := by decide +kernel
theorem dX8_takes_0 : decode cX8_takes 0 = .ok (.aload_n 0, 1) := dk_42 (dk_at dksX8_takes_0 0 rfl rfl)
theorem dX8_takes_1 : decode cX8_takes 1 = .ok (.iload_n 1, 1) := dk_27 (dk_at dksX8_takes_0 1 rfl rfl)
theorem dX8_takes_2 : decode cX8_takes 2 = .ok (.invokevirtual 33, 3) := dk_182 0 33 (dk_at dksX8_takes_0 2 rfl rfl)
theorem dX8_takes_5 : decode cX8_takes 5 = .ok (.ifCond .ne 15, 3) := dk_154 0 15 (dk_at dksX8_takes_0 5 rfl rfl)
theorem dX8_takes_8 : decode cX8_takes 8 = .ok (.new 36, 3) := dk_187 0 36 (dk_at dksX8_takes_0 8 rfl rfl)
theorem dX8_takes_11 : decode cX8_takes 11 = .ok (.dup, 1) := dk_89 (dk_at dksX8_takes_0 11 rfl rfl)
theorem dX8_takes_12 : decode cX8_takes 12 = .ok (.aload_n 0, 1) := dk_42 (dk_at dksX8_takes_0 12 rfl rfl)
theorem dX8_takes_13 : decode cX8_takes 13 = .ok (.getfield 15, 3) := dk_180 0 15 (dk_at dksX8_takes_0 13 rfl rfl)
theorem dX8_takes_16 : decode cX8_takes 16 = .ok (.invokespecial 38, 3) := dk_183 0 38 (dk_at dksX8_takes_0 16 rfl rfl)
theorem dX8_takes_19 : decode cX8_takes 19 = .ok (.athrow, 1) := dk_191 (dk_at dksX8_takes_0 19 rfl rfl)
theorem dX8_takes_20 : decode cX8_takes 20 = .ok (.return_, 1) := dk_177 (dk_at dksX8_takes_0 20 rfl rfl)
abbrev cX8_goesOn : ByteArray := prog_6_method_3_code
def yX8_goesOn : MethodName := ⟨RX8, "goesOn", "(I)Z"⟩
def dkwX8_goesOn_1 : List UInt8 := [28, 172]
abbrev dktX8_goesOn_1 : List UInt8 := dkwX8_goesOn_1 ++ []
def dkwX8_goesOn_0 : List UInt8 := [42, 27, 182, 0, 29, 61, 42, 89, 180, 0, 15, 28, 153, 0, 7, 4, 167, 0, 4, 3, 96, 181, 0, 15]
abbrev dktX8_goesOn_0 : List UInt8 := dkwX8_goesOn_0 ++ dktX8_goesOn_1
theorem dksX8_goesOn_0 : cX8_goesOn.data.toList.drop 0 = dktX8_goesOn_0 := by decide +kernel
theorem dksX8_goesOn_1 : cX8_goesOn.data.toList.drop 24 = dktX8_goesOn_1 := dk_seg dksX8_goesOn_0 24 rfl rfl
theorem dX8_goesOn_0 : decode cX8_goesOn 0 = .ok (.aload_n 0, 1) := dk_42 (dk_at dksX8_goesOn_0 0 rfl rfl)
theorem dX8_goesOn_1 : decode cX8_goesOn 1 = .ok (.iload_n 1, 1) := dk_27 (dk_at dksX8_goesOn_0 1 rfl rfl)
theorem dX8_goesOn_2 : decode cX8_goesOn 2 = .ok (.invokevirtual 29, 3) := dk_182 0 29 (dk_at dksX8_goesOn_0 2 rfl rfl)
theorem dX8_goesOn_5 : decode cX8_goesOn 5 = .ok (.istore_n 2, 1) := dk_61 (dk_at dksX8_goesOn_0 5 rfl rfl)
theorem dX8_goesOn_6 : decode cX8_goesOn 6 = .ok (.aload_n 0, 1) := dk_42 (dk_at dksX8_goesOn_0 6 rfl rfl)
theorem dX8_goesOn_7 : decode cX8_goesOn 7 = .ok (.dup, 1) := dk_89 (dk_at dksX8_goesOn_0 7 rfl rfl)
theorem dX8_goesOn_8 : decode cX8_goesOn 8 = .ok (.getfield 15, 3) := dk_180 0 15 (dk_at dksX8_goesOn_0 8 rfl rfl)
theorem dX8_goesOn_11 : decode cX8_goesOn 11 = .ok (.iload_n 2, 1) := dk_28 (dk_at dksX8_goesOn_0 11 rfl rfl)
theorem dX8_goesOn_12 : decode cX8_goesOn 12 = .ok (.ifCond .eq 7, 3) := dk_153 0 7 (dk_at dksX8_goesOn_0 12 rfl rfl)
theorem dX8_goesOn_15 : decode cX8_goesOn 15 = .ok (.iconst 1, 1) := dk_4 (dk_at dksX8_goesOn_0 15 rfl rfl)
theorem dX8_goesOn_16 : decode cX8_goesOn 16 = .ok (.goto 4, 3) := dk_167 0 4 (dk_at dksX8_goesOn_0 16 rfl rfl)
theorem dX8_goesOn_19 : decode cX8_goesOn 19 = .ok (.iconst 0, 1) := dk_3 (dk_at dksX8_goesOn_0 19 rfl rfl)
theorem dX8_goesOn_20 : decode cX8_goesOn 20 = .ok (.iadd, 1) := dk_96 (dk_at dksX8_goesOn_0 20 rfl rfl)
theorem dX8_goesOn_21 : decode cX8_goesOn 21 = .ok (.putfield 15, 3) := dk_181 0 15 (dk_at dksX8_goesOn_0 21 rfl rfl)
theorem dX8_goesOn_24 : decode cX8_goesOn 24 = .ok (.iload_n 2, 1) := dk_28 (dk_at dksX8_goesOn_1 0 rfl rfl)
theorem dX8_goesOn_25 : decode cX8_goesOn 25 = .ok (.ireturn, 1) := dk_172 (dk_at dksX8_goesOn_1 1 rfl rfl)
abbrev cX8_isNow : ByteArray := prog_6_method_2_code
def yX8_isNow : MethodName := ⟨RX8, "isNow", "(I)Z"⟩
def dkwX8_isNow_1 : List UInt8 := [182, 0, 25, 27, 160, 0, 7, 4, 167, 0, 4, 3, 172]
abbrev dktX8_isNow_1 : List UInt8 := dkwX8_isNow_1 ++ []
def dkwX8_isNow_0 : List UInt8 := [42, 180, 0, 15, 42, 180, 0, 9, 182, 0, 19, 162, 0, 22, 42, 180, 0, 9, 42, 180, 0, 15]
abbrev dktX8_isNow_0 : List UInt8 := dkwX8_isNow_0 ++ dktX8_isNow_1
theorem dksX8_isNow_0 : cX8_isNow.data.toList.drop 0 = dktX8_isNow_0 := by decide +kernel
theorem dksX8_isNow_1 : cX8_isNow.data.toList.drop 22 = dktX8_isNow_1 := dk_seg dksX8_isNow_0 22 rfl rfl
theorem dX8_isNow_0 : decode cX8_isNow 0 = .ok (.aload_n 0, 1) := dk_42 (dk_at dksX8_isNow_0 0 rfl rfl)
theorem dX8_isNow_1 : decode cX8_isNow 1 = .ok (.getfield 15, 3) := dk_180 0 15 (dk_at dksX8_isNow_0 1 rfl rfl)
theorem dX8_isNow_4 : decode cX8_isNow 4 = .ok (.aload_n 0, 1) := dk_42 (dk_at dksX8_isNow_0 4 rfl rfl)
theorem dX8_isNow_5 : decode cX8_isNow 5 = .ok (.getfield 9, 3) := dk_180 0 9 (dk_at dksX8_isNow_0 5 rfl rfl)
theorem dX8_isNow_8 : decode cX8_isNow 8 = .ok (.invokevirtual 19, 3) := dk_182 0 19 (dk_at dksX8_isNow_0 8 rfl rfl)
theorem dX8_isNow_11 : decode cX8_isNow 11 = .ok (.if_icmp .ge 22, 3) := dk_162 0 22 (dk_at dksX8_isNow_0 11 rfl rfl)
theorem dX8_isNow_14 : decode cX8_isNow 14 = .ok (.aload_n 0, 1) := dk_42 (dk_at dksX8_isNow_0 14 rfl rfl)
theorem dX8_isNow_15 : decode cX8_isNow 15 = .ok (.getfield 9, 3) := dk_180 0 9 (dk_at dksX8_isNow_0 15 rfl rfl)
theorem dX8_isNow_18 : decode cX8_isNow 18 = .ok (.aload_n 0, 1) := dk_42 (dk_at dksX8_isNow_0 18 rfl rfl)
theorem dX8_isNow_19 : decode cX8_isNow 19 = .ok (.getfield 15, 3) := dk_180 0 15 (dk_at dksX8_isNow_0 19 rfl rfl)
theorem dX8_isNow_22 : decode cX8_isNow 22 = .ok (.invokevirtual 25, 3) := dk_182 0 25 (dk_at dksX8_isNow_1 0 rfl rfl)
theorem dX8_isNow_25 : decode cX8_isNow 25 = .ok (.iload_n 1, 1) := dk_27 (dk_at dksX8_isNow_1 3 rfl rfl)
theorem dX8_isNow_26 : decode cX8_isNow 26 = .ok (.if_icmp .ne 7, 3) := dk_160 0 7 (dk_at dksX8_isNow_1 4 rfl rfl)
theorem dX8_isNow_29 : decode cX8_isNow 29 = .ok (.iconst 1, 1) := dk_4 (dk_at dksX8_isNow_1 7 rfl rfl)
theorem dX8_isNow_30 : decode cX8_isNow 30 = .ok (.goto 4, 3) := dk_167 0 4 (dk_at dksX8_isNow_1 8 rfl rfl)
theorem dX8_isNow_33 : decode cX8_isNow 33 = .ok (.iconst 0, 1) := dk_3 (dk_at dksX8_isNow_1 11 rfl rfl)
theorem dX8_isNow_34 : decode cX8_isNow 34 = .ok (.ireturn, 1) := dk_172 (dk_at dksX8_isNow_1 12 rfl rfl)
abbrev cX8_entry : ByteArray := prog_6_method_8_code
def yX8_entry : MethodName := ⟨RX8, "entry", "()LPermissionDesk$Entry;"⟩
def dkwX8_entry_4 : List UInt8 := [187, 0, 55, 89, 28, 29, 21, 4, 27, 42, 16, 42, 182, 0, 33, 183, 0, 64, 176]
abbrev dktX8_entry_4 : List UInt8 := dkwX8_entry_4 ++ []
def dkwX8_entry_3 : List UInt8 := [5, 61, 167, 0, 9, 42, 16, 97, 182, 0, 52, 42, 16, 61, 182, 0, 52, 42, 182, 0, 61, 54, 4]
abbrev dktX8_entry_3 : List UInt8 := dkwX8_entry_3 ++ dktX8_entry_4
def dkwX8_entry_2 : List UInt8 := [153, 0, 15, 4, 61, 42, 16, 7, 182, 0, 57, 62, 167, 0, 23, 42, 16, 111, 182, 0, 33, 153, 0, 8]
abbrev dktX8_entry_2 : List UInt8 := dkwX8_entry_2 ++ dktX8_entry_3
def dkwX8_entry_1 : List UInt8 := [182, 0, 33, 153, 0, 15, 3, 61, 42, 16, 11, 182, 0, 57, 62, 167, 0, 44, 42, 16, 103, 182, 0, 33]
abbrev dktX8_entry_1 : List UInt8 := dkwX8_entry_1 ++ dktX8_entry_2
def dkwX8_entry_0 : List UInt8 := [42, 16, 43, 182, 0, 33, 60, 27, 154, 0, 9, 42, 16, 45, 182, 0, 52, 6, 61, 2, 62, 42, 16, 117]
abbrev dktX8_entry_0 : List UInt8 := dkwX8_entry_0 ++ dktX8_entry_1
theorem dksX8_entry_0 : cX8_entry.data.toList.drop 0 = dktX8_entry_0 := by decide +kernel
theorem dksX8_entry_1 : cX8_entry.data.toList.drop 24 = dktX8_entry_1 := dk_seg dksX8_entry_0 24 rfl rfl
theorem dksX8_entry_2 : cX8_entry.data.toList.drop 48 = dktX8_entry_2 := dk_seg dksX8_entry_1 24 rfl rfl
theorem dksX8_entry_3 : cX8_entry.data.toList.drop 72 = dktX8_entry_3 := dk_seg dksX8_entry_2 24 rfl rfl
theorem dksX8_entry_4 : cX8_entry.data.toList.drop 95 = dktX8_entry_4 := dk_seg dksX8_entry_3 23 rfl rfl
theorem dX8_entry_0 : decode cX8_entry 0 = .ok (.aload_n 0, 1) := dk_42 (dk_at dksX8_entry_0 0 rfl rfl)
theorem dX8_entry_1 : decode cX8_entry 1 = .ok (.bipush 43, 2) := dk_16 43 (dk_at dksX8_entry_0 1 rfl rfl)
theorem dX8_entry_3 : decode cX8_entry 3 = .ok (.invokevirtual 33, 3) := dk_182 0 33 (dk_at dksX8_entry_0 3 rfl rfl)
theorem dX8_entry_6 : decode cX8_entry 6 = .ok (.istore_n 1, 1) := dk_60 (dk_at dksX8_entry_0 6 rfl rfl)
theorem dX8_entry_7 : decode cX8_entry 7 = .ok (.iload_n 1, 1) := dk_27 (dk_at dksX8_entry_0 7 rfl rfl)
theorem dX8_entry_8 : decode cX8_entry 8 = .ok (.ifCond .ne 9, 3) := dk_154 0 9 (dk_at dksX8_entry_0 8 rfl rfl)
theorem dX8_entry_11 : decode cX8_entry 11 = .ok (.aload_n 0, 1) := dk_42 (dk_at dksX8_entry_0 11 rfl rfl)
theorem dX8_entry_12 : decode cX8_entry 12 = .ok (.bipush 45, 2) := dk_16 45 (dk_at dksX8_entry_0 12 rfl rfl)
theorem dX8_entry_14 : decode cX8_entry 14 = .ok (.invokevirtual 52, 3) := dk_182 0 52 (dk_at dksX8_entry_0 14 rfl rfl)
theorem dX8_entry_17 : decode cX8_entry 17 = .ok (.iconst 3, 1) := dk_6 (dk_at dksX8_entry_0 17 rfl rfl)
theorem dX8_entry_18 : decode cX8_entry 18 = .ok (.istore_n 2, 1) := dk_61 (dk_at dksX8_entry_0 18 rfl rfl)
theorem dX8_entry_19 : decode cX8_entry 19 = .ok (.iconst (-1), 1) := dk_2 (dk_at dksX8_entry_0 19 rfl rfl)
theorem dX8_entry_20 : decode cX8_entry 20 = .ok (.istore_n 3, 1) := dk_62 (dk_at dksX8_entry_0 20 rfl rfl)
theorem dX8_entry_21 : decode cX8_entry 21 = .ok (.aload_n 0, 1) := dk_42 (dk_at dksX8_entry_0 21 rfl rfl)
theorem dX8_entry_22 : decode cX8_entry 22 = .ok (.bipush 117, 2) := dk_16 117 (dk_at dksX8_entry_0 22 rfl rfl)
theorem dX8_entry_24 : decode cX8_entry 24 = .ok (.invokevirtual 33, 3) := dk_182 0 33 (dk_at dksX8_entry_1 0 rfl rfl)
theorem dX8_entry_27 : decode cX8_entry 27 = .ok (.ifCond .eq 15, 3) := dk_153 0 15 (dk_at dksX8_entry_1 3 rfl rfl)
theorem dX8_entry_30 : decode cX8_entry 30 = .ok (.iconst 0, 1) := dk_3 (dk_at dksX8_entry_1 6 rfl rfl)
theorem dX8_entry_31 : decode cX8_entry 31 = .ok (.istore_n 2, 1) := dk_61 (dk_at dksX8_entry_1 7 rfl rfl)
theorem dX8_entry_32 : decode cX8_entry 32 = .ok (.aload_n 0, 1) := dk_42 (dk_at dksX8_entry_1 8 rfl rfl)
theorem dX8_entry_33 : decode cX8_entry 33 = .ok (.bipush 11, 2) := dk_16 11 (dk_at dksX8_entry_1 9 rfl rfl)
theorem dX8_entry_35 : decode cX8_entry 35 = .ok (.invokevirtual 57, 3) := dk_182 0 57 (dk_at dksX8_entry_1 11 rfl rfl)
theorem dX8_entry_38 : decode cX8_entry 38 = .ok (.istore_n 3, 1) := dk_62 (dk_at dksX8_entry_1 14 rfl rfl)
theorem dX8_entry_39 : decode cX8_entry 39 = .ok (.goto 44, 3) := dk_167 0 44 (dk_at dksX8_entry_1 15 rfl rfl)
theorem dX8_entry_42 : decode cX8_entry 42 = .ok (.aload_n 0, 1) := dk_42 (dk_at dksX8_entry_1 18 rfl rfl)
theorem dX8_entry_43 : decode cX8_entry 43 = .ok (.bipush 103, 2) := dk_16 103 (dk_at dksX8_entry_1 19 rfl rfl)
theorem dX8_entry_45 : decode cX8_entry 45 = .ok (.invokevirtual 33, 3) := dk_182 0 33 (dk_at dksX8_entry_1 21 rfl rfl)
theorem dX8_entry_48 : decode cX8_entry 48 = .ok (.ifCond .eq 15, 3) := dk_153 0 15 (dk_at dksX8_entry_2 0 rfl rfl)
theorem dX8_entry_51 : decode cX8_entry 51 = .ok (.iconst 1, 1) := dk_4 (dk_at dksX8_entry_2 3 rfl rfl)
theorem dX8_entry_52 : decode cX8_entry 52 = .ok (.istore_n 2, 1) := dk_61 (dk_at dksX8_entry_2 4 rfl rfl)
theorem dX8_entry_53 : decode cX8_entry 53 = .ok (.aload_n 0, 1) := dk_42 (dk_at dksX8_entry_2 5 rfl rfl)
theorem dX8_entry_54 : decode cX8_entry 54 = .ok (.bipush 7, 2) := dk_16 7 (dk_at dksX8_entry_2 6 rfl rfl)
theorem dX8_entry_56 : decode cX8_entry 56 = .ok (.invokevirtual 57, 3) := dk_182 0 57 (dk_at dksX8_entry_2 8 rfl rfl)
theorem dX8_entry_59 : decode cX8_entry 59 = .ok (.istore_n 3, 1) := dk_62 (dk_at dksX8_entry_2 11 rfl rfl)
theorem dX8_entry_60 : decode cX8_entry 60 = .ok (.goto 23, 3) := dk_167 0 23 (dk_at dksX8_entry_2 12 rfl rfl)
theorem dX8_entry_63 : decode cX8_entry 63 = .ok (.aload_n 0, 1) := dk_42 (dk_at dksX8_entry_2 15 rfl rfl)
theorem dX8_entry_64 : decode cX8_entry 64 = .ok (.bipush 111, 2) := dk_16 111 (dk_at dksX8_entry_2 16 rfl rfl)
theorem dX8_entry_66 : decode cX8_entry 66 = .ok (.invokevirtual 33, 3) := dk_182 0 33 (dk_at dksX8_entry_2 18 rfl rfl)
theorem dX8_entry_69 : decode cX8_entry 69 = .ok (.ifCond .eq 8, 3) := dk_153 0 8 (dk_at dksX8_entry_2 21 rfl rfl)
theorem dX8_entry_72 : decode cX8_entry 72 = .ok (.iconst 2, 1) := dk_5 (dk_at dksX8_entry_3 0 rfl rfl)
theorem dX8_entry_73 : decode cX8_entry 73 = .ok (.istore_n 2, 1) := dk_61 (dk_at dksX8_entry_3 1 rfl rfl)
theorem dX8_entry_74 : decode cX8_entry 74 = .ok (.goto 9, 3) := dk_167 0 9 (dk_at dksX8_entry_3 2 rfl rfl)
theorem dX8_entry_77 : decode cX8_entry 77 = .ok (.aload_n 0, 1) := dk_42 (dk_at dksX8_entry_3 5 rfl rfl)
theorem dX8_entry_78 : decode cX8_entry 78 = .ok (.bipush 97, 2) := dk_16 97 (dk_at dksX8_entry_3 6 rfl rfl)
theorem dX8_entry_80 : decode cX8_entry 80 = .ok (.invokevirtual 52, 3) := dk_182 0 52 (dk_at dksX8_entry_3 8 rfl rfl)
theorem dX8_entry_83 : decode cX8_entry 83 = .ok (.aload_n 0, 1) := dk_42 (dk_at dksX8_entry_3 11 rfl rfl)
theorem dX8_entry_84 : decode cX8_entry 84 = .ok (.bipush 61, 2) := dk_16 61 (dk_at dksX8_entry_3 12 rfl rfl)
theorem dX8_entry_86 : decode cX8_entry 86 = .ok (.invokevirtual 52, 3) := dk_182 0 52 (dk_at dksX8_entry_3 14 rfl rfl)
theorem dX8_entry_89 : decode cX8_entry 89 = .ok (.aload_n 0, 1) := dk_42 (dk_at dksX8_entry_3 17 rfl rfl)
theorem dX8_entry_90 : decode cX8_entry 90 = .ok (.invokevirtual 61, 3) := dk_182 0 61 (dk_at dksX8_entry_3 18 rfl rfl)
theorem dX8_entry_93 : decode cX8_entry 93 = .ok (.istore 4, 2) := dk_54 4 (dk_at dksX8_entry_3 21 rfl rfl)
theorem dX8_entry_95 : decode cX8_entry 95 = .ok (.new 55, 3) := dk_187 0 55 (dk_at dksX8_entry_4 0 rfl rfl)
theorem dX8_entry_98 : decode cX8_entry 98 = .ok (.dup, 1) := dk_89 (dk_at dksX8_entry_4 3 rfl rfl)
theorem dX8_entry_99 : decode cX8_entry 99 = .ok (.iload_n 2, 1) := dk_28 (dk_at dksX8_entry_4 4 rfl rfl)
theorem dX8_entry_100 : decode cX8_entry 100 = .ok (.iload_n 3, 1) := dk_29 (dk_at dksX8_entry_4 5 rfl rfl)
theorem dX8_entry_101 : decode cX8_entry 101 = .ok (.iload 4, 2) := dk_21 4 (dk_at dksX8_entry_4 6 rfl rfl)
theorem dX8_entry_103 : decode cX8_entry 103 = .ok (.iload_n 1, 1) := dk_27 (dk_at dksX8_entry_4 8 rfl rfl)
theorem dX8_entry_104 : decode cX8_entry 104 = .ok (.aload_n 0, 1) := dk_42 (dk_at dksX8_entry_4 9 rfl rfl)
theorem dX8_entry_105 : decode cX8_entry 105 = .ok (.bipush 42, 2) := dk_16 42 (dk_at dksX8_entry_4 10 rfl rfl)
theorem dX8_entry_107 : decode cX8_entry 107 = .ok (.invokevirtual 33, 3) := dk_182 0 33 (dk_at dksX8_entry_4 12 rfl rfl)
theorem dX8_entry_110 : decode cX8_entry 110 = .ok (.invokespecial 64, 3) := dk_183 0 64 (dk_at dksX8_entry_4 15 rfl rfl)
theorem dX8_entry_113 : decode cX8_entry 113 = .ok (.areturn, 1) := dk_176 (dk_at dksX8_entry_4 18 rfl rfl)
abbrev cX8_rights : ByteArray := prog_6_method_7_code
def yX8_rights : MethodName := ⟨RX8, "rights", "()I"⟩
def dkwX8_rights_2 : List UInt8 := [180, 0, 15, 183, 0, 38, 191, 27, 172]
abbrev dktX8_rights_2 : List UInt8 := dkwX8_rights_2 ++ []
def dkwX8_rights_1 : List UInt8 := [120, 167, 0, 4, 3, 128, 60, 132, 2, 1, 167, 255, 226, 27, 154, 0, 15, 187, 0, 36, 89, 42]
abbrev dktX8_rights_1 : List UInt8 := dkwX8_rights_1 ++ dktX8_rights_2
def dkwX8_rights_0 : List UInt8 := [3, 60, 3, 61, 28, 7, 162, 0, 31, 27, 42, 178, 0, 48, 28, 46, 182, 0, 33, 153, 0, 9, 4, 28]
abbrev dktX8_rights_0 : List UInt8 := dkwX8_rights_0 ++ dktX8_rights_1
theorem dksX8_rights_0 : cX8_rights.data.toList.drop 0 = dktX8_rights_0 := by decide +kernel
theorem dksX8_rights_1 : cX8_rights.data.toList.drop 24 = dktX8_rights_1 := dk_seg dksX8_rights_0 24 rfl rfl
theorem dksX8_rights_2 : cX8_rights.data.toList.drop 46 = dktX8_rights_2 := dk_seg dksX8_rights_1 22 rfl rfl
theorem dX8_rights_0 : decode cX8_rights 0 = .ok (.iconst 0, 1) := dk_3 (dk_at dksX8_rights_0 0 rfl rfl)
theorem dX8_rights_1 : decode cX8_rights 1 = .ok (.istore_n 1, 1) := dk_60 (dk_at dksX8_rights_0 1 rfl rfl)
theorem dX8_rights_2 : decode cX8_rights 2 = .ok (.iconst 0, 1) := dk_3 (dk_at dksX8_rights_0 2 rfl rfl)
theorem dX8_rights_3 : decode cX8_rights 3 = .ok (.istore_n 2, 1) := dk_61 (dk_at dksX8_rights_0 3 rfl rfl)
theorem dX8_rights_4 : decode cX8_rights 4 = .ok (.iload_n 2, 1) := dk_28 (dk_at dksX8_rights_0 4 rfl rfl)
theorem dX8_rights_5 : decode cX8_rights 5 = .ok (.iconst 4, 1) := dk_7 (dk_at dksX8_rights_0 5 rfl rfl)
theorem dX8_rights_6 : decode cX8_rights 6 = .ok (.if_icmp .ge 31, 3) := dk_162 0 31 (dk_at dksX8_rights_0 6 rfl rfl)
theorem dX8_rights_9 : decode cX8_rights 9 = .ok (.iload_n 1, 1) := dk_27 (dk_at dksX8_rights_0 9 rfl rfl)
theorem dX8_rights_10 : decode cX8_rights 10 = .ok (.aload_n 0, 1) := dk_42 (dk_at dksX8_rights_0 10 rfl rfl)
theorem dX8_rights_11 : decode cX8_rights 11 = .ok (.getstatic 48, 3) := dk_178 0 48 (dk_at dksX8_rights_0 11 rfl rfl)
theorem dX8_rights_14 : decode cX8_rights 14 = .ok (.iload_n 2, 1) := dk_28 (dk_at dksX8_rights_0 14 rfl rfl)
theorem dX8_rights_15 : decode cX8_rights 15 = .ok (.iaload, 1) := dk_46 (dk_at dksX8_rights_0 15 rfl rfl)
theorem dX8_rights_16 : decode cX8_rights 16 = .ok (.invokevirtual 33, 3) := dk_182 0 33 (dk_at dksX8_rights_0 16 rfl rfl)
theorem dX8_rights_19 : decode cX8_rights 19 = .ok (.ifCond .eq 9, 3) := dk_153 0 9 (dk_at dksX8_rights_0 19 rfl rfl)
theorem dX8_rights_22 : decode cX8_rights 22 = .ok (.iconst 1, 1) := dk_4 (dk_at dksX8_rights_0 22 rfl rfl)
theorem dX8_rights_23 : decode cX8_rights 23 = .ok (.iload_n 2, 1) := dk_28 (dk_at dksX8_rights_0 23 rfl rfl)
theorem dX8_rights_24 : decode cX8_rights 24 = .ok (.ishl, 1) := dk_120 (dk_at dksX8_rights_1 0 rfl rfl)
theorem dX8_rights_25 : decode cX8_rights 25 = .ok (.goto 4, 3) := dk_167 0 4 (dk_at dksX8_rights_1 1 rfl rfl)
theorem dX8_rights_28 : decode cX8_rights 28 = .ok (.iconst 0, 1) := dk_3 (dk_at dksX8_rights_1 4 rfl rfl)
theorem dX8_rights_29 : decode cX8_rights 29 = .ok (.ior, 1) := dk_128 (dk_at dksX8_rights_1 5 rfl rfl)
theorem dX8_rights_30 : decode cX8_rights 30 = .ok (.istore_n 1, 1) := dk_60 (dk_at dksX8_rights_1 6 rfl rfl)
theorem dX8_rights_31 : decode cX8_rights 31 = .ok (.iinc 2 1, 3) := dk_132 2 1 (dk_at dksX8_rights_1 7 rfl rfl)
theorem dX8_rights_34 : decode cX8_rights 34 = .ok (.goto (-30), 3) := dk_167 255 226 (dk_at dksX8_rights_1 10 rfl rfl)
theorem dX8_rights_37 : decode cX8_rights 37 = .ok (.iload_n 1, 1) := dk_27 (dk_at dksX8_rights_1 13 rfl rfl)
theorem dX8_rights_38 : decode cX8_rights 38 = .ok (.ifCond .ne 15, 3) := dk_154 0 15 (dk_at dksX8_rights_1 14 rfl rfl)
theorem dX8_rights_41 : decode cX8_rights 41 = .ok (.new 36, 3) := dk_187 0 36 (dk_at dksX8_rights_1 17 rfl rfl)
theorem dX8_rights_44 : decode cX8_rights 44 = .ok (.dup, 1) := dk_89 (dk_at dksX8_rights_1 20 rfl rfl)
theorem dX8_rights_45 : decode cX8_rights 45 = .ok (.aload_n 0, 1) := dk_42 (dk_at dksX8_rights_1 21 rfl rfl)
theorem dX8_rights_46 : decode cX8_rights 46 = .ok (.getfield 15, 3) := dk_180 0 15 (dk_at dksX8_rights_2 0 rfl rfl)
theorem dX8_rights_49 : decode cX8_rights 49 = .ok (.invokespecial 38, 3) := dk_183 0 38 (dk_at dksX8_rights_2 3 rfl rfl)
theorem dX8_rights_52 : decode cX8_rights 52 = .ok (.athrow, 1) := dk_191 (dk_at dksX8_rights_2 6 rfl rfl)
theorem dX8_rights_53 : decode cX8_rights 53 = .ok (.iload_n 1, 1) := dk_27 (dk_at dksX8_rights_2 7 rfl rfl)
theorem dX8_rights_54 : decode cX8_rights 54 = .ok (.ireturn, 1) := dk_172 (dk_at dksX8_rights_2 8 rfl rfl)
theorem q116 : (Jvm.Cond.initialized "PermissionDesk$Reader") ∈ lw_all := lw_g (lw_at lw_m1 36 rfl) rfl
theorem q667 : (Jvm.Cond.instantiable "PermissionDesk$Reader" (2 : Nat)) ∈ lw_all := lw_g (lw_at lw_m3 107 rfl) rfl
theorem q669 : (Jvm.Cond.instanceMethod ({ cls := "PermissionDesk$Reader", name := "<init>", desc := "(Ljava/lang/StringBuilder;)V" } : Jvm.MethodName)) ∈ lw_all := lw_g (lw_at lw_m3 109 rfl) rfl
theorem q670 : (Jvm.Cond.code ({ cls := "PermissionDesk$Reader", name := "<init>", desc := "(Ljava/lang/StringBuilder;)V" } : Jvm.MethodName) prog_6_method_1_code (2 : Nat) (Option.none : Option Jvm.ClassFile.FieldType)) ∈ lw_all := lw_g (lw_at lw_m3 110 rfl) rfl
theorem q671 : (Jvm.Cond.methodLink "PermissionDesk$Reader" (3 : Nat) ({ cls := "java/lang/Object", name := "<init>", desc := "()V" } : Jvm.MethodName)) ∈ lw_all := lw_g (lw_at lw_m3 111 rfl) rfl
theorem q672 : (Jvm.Cond.fieldLink "PermissionDesk$Reader" (9 : Nat) "PermissionDesk$Reader" "text" "Ljava/lang/StringBuilder;") ∈ lw_all := lw_g (lw_at lw_m3 112 rfl) rfl
theorem q673 : (Jvm.Cond.fieldLink "PermissionDesk$Reader" (15 : Nat) "PermissionDesk$Reader" "at" "I") ∈ lw_all := lw_g (lw_at lw_m3 113 rfl) rfl
theorem q674 : (Jvm.Cond.laysFinal "PermissionDesk$Reader" "PermissionDesk$Reader" "text" "Ljava/lang/StringBuilder;") ∈ lw_all := lw_g (lw_at lw_m3 114 rfl) rfl
theorem q675 : (Jvm.Cond.soleField "PermissionDesk$Reader" "text") ∈ lw_all := lw_g (lw_at lw_m3 115 rfl) rfl
theorem q676 : (Jvm.Cond.lays "PermissionDesk$Reader" "PermissionDesk$Reader" "at" "I") ∈ lw_all := lw_g (lw_at lw_m3 116 rfl) rfl
theorem q677 : (Jvm.Cond.soleField "PermissionDesk$Reader" "at") ∈ lw_all := lw_g (lw_at lw_m3 117 rfl) rfl
theorem q678 : (Jvm.Cond.superclass "PermissionDesk$Reader" "java/lang/Object") ∈ lw_all := lw_g (lw_at lw_m3 118 rfl) rfl
theorem q680 : (Jvm.Cond.instanceMethod ({ cls := "PermissionDesk$Reader", name := "plan", desc := "()LPermissionDesk$Plan;" } : Jvm.MethodName)) ∈ lw_all := lw_g (lw_at lw_m3 120 rfl) rfl
theorem q681 : (Jvm.Cond.selects "PermissionDesk$Reader" ({ cls := "PermissionDesk$Reader", name := "plan", desc := "()LPermissionDesk$Plan;" } : Jvm.MethodName) ({ cls := "PermissionDesk$Reader", name := "plan", desc := "()LPermissionDesk$Plan;" } : Jvm.MethodName)) ∈ lw_all := lw_g (lw_at lw_m3 121 rfl) rfl
theorem q682 : (Jvm.Cond.code ({ cls := "PermissionDesk$Reader", name := "plan", desc := "()LPermissionDesk$Plan;" } : Jvm.MethodName) prog_6_method_9_code (2 : Nat) (Option.some (Jvm.ClassFile.FieldType.object "PermissionDesk$Plan"))) ∈ lw_all := lw_g (lw_at lw_m3 122 rfl) rfl
theorem q683 : (Jvm.Cond.classLink "PermissionDesk$Reader" (67 : Nat) "PermissionDesk$Plan") ∈ lw_all := lw_g (lw_at lw_m3 123 rfl) rfl
theorem q685 : (Jvm.Cond.methodLink "PermissionDesk$Reader" (57 : Nat) ({ cls := "PermissionDesk$Reader", name := "number", desc := "(I)I" } : Jvm.MethodName)) ∈ lw_all := lw_g (lw_at lw_m3 125 rfl) rfl
theorem q686 : (Jvm.Cond.privateMethod ({ cls := "PermissionDesk$Reader", name := "number", desc := "(I)I" } : Jvm.MethodName)) ∈ lw_tbl := lw_at lw_m3 126 rfl
theorem q687 : (Jvm.Cond.instanceMethod ({ cls := "PermissionDesk$Reader", name := "number", desc := "(I)I" } : Jvm.MethodName)) ∈ lw_all := lw_g (lw_at lw_m3 127 rfl) rfl
theorem q688 : (Jvm.Cond.code ({ cls := "PermissionDesk$Reader", name := "number", desc := "(I)I" } : Jvm.MethodName) prog_6_method_6_code (4 : Nat) (Option.some Jvm.ClassFile.FieldType.int)) ∈ lw_all := lw_g (lw_at lw_m3 128 rfl) rfl
theorem q689 : (Jvm.Cond.methodLink "PermissionDesk$Reader" (45 : Nat) ({ cls := "PermissionDesk$Reader", name := "figure", desc := "()I" } : Jvm.MethodName)) ∈ lw_all := lw_g (lw_at lw_m3 129 rfl) rfl
theorem q690 : (Jvm.Cond.privateMethod ({ cls := "PermissionDesk$Reader", name := "figure", desc := "()I" } : Jvm.MethodName)) ∈ lw_tbl := lw_at lw_m3 130 rfl
theorem q691 : (Jvm.Cond.instanceMethod ({ cls := "PermissionDesk$Reader", name := "figure", desc := "()I" } : Jvm.MethodName)) ∈ lw_all := lw_g (lw_at lw_m3 131 rfl) rfl
theorem q692 : (Jvm.Cond.code ({ cls := "PermissionDesk$Reader", name := "figure", desc := "()I" } : Jvm.MethodName) prog_6_method_5_code (1 : Nat) (Option.some Jvm.ClassFile.FieldType.int)) ∈ lw_all := lw_g (lw_at lw_m3 132 rfl) rfl
theorem q693 : (Jvm.Cond.methodLink "PermissionDesk$Reader" (19 : Nat) ({ cls := "java/lang/StringBuilder", name := "length", desc := "()I" } : Jvm.MethodName)) ∈ lw_all := lw_g (lw_at lw_m3 133 rfl) rfl
theorem q694 : (Jvm.Cond.methodLink "PermissionDesk$Reader" (25 : Nat) ({ cls := "java/lang/StringBuilder", name := "charAt", desc := "(I)C" } : Jvm.MethodName)) ∈ lw_all := lw_g (lw_at lw_m3 134 rfl) rfl
theorem q709 : (Jvm.Cond.methodLinkNest "PermissionDesk$Reader" (41 : Nat) ({ cls := "PermissionDesk", name := "inRange", desc := "(III)Z" } : Jvm.MethodName) "PermissionDesk") ∈ lw_tbl := lw_at lw_m3 149 rfl
theorem q712 : (Jvm.Cond.classLink "PermissionDesk$Reader" (36 : Nat) "PermissionDesk$Unread") ∈ lw_all := lw_g (lw_at lw_m3 152 rfl) rfl
theorem q721 : (Jvm.Cond.methodLink "PermissionDesk$Reader" (38 : Nat) ({ cls := "PermissionDesk$Unread", name := "<init>", desc := "(I)V" } : Jvm.MethodName)) ∈ lw_all := lw_g (lw_at lw_m3 161 rfl) rfl
theorem q734 : (Jvm.Cond.methodLink "PermissionDesk$Reader" (69 : Nat) ({ cls := "PermissionDesk$Plan", name := "<init>", desc := "(I)V" } : Jvm.MethodName)) ∈ lw_all := lw_g (lw_at lw_m3 174 rfl) rfl
theorem q742 : (Jvm.Cond.fieldLinkNest "PermissionDesk$Reader" (70 : Nat) "PermissionDesk$Plan" "entries" "Ljava/util/ArrayList;" "PermissionDesk") ∈ lw_tbl := lw_at lw_m3 182 rfl
theorem q748 : (Jvm.Cond.methodLink "PermissionDesk$Reader" (52 : Nat) ({ cls := "PermissionDesk$Reader", name := "takes", desc := "(I)V" } : Jvm.MethodName)) ∈ lw_all := lw_g (lw_at lw_m3 188 rfl) rfl
theorem q749 : (Jvm.Cond.privateMethod ({ cls := "PermissionDesk$Reader", name := "takes", desc := "(I)V" } : Jvm.MethodName)) ∈ lw_tbl := lw_at lw_m3 189 rfl
theorem q750 : (Jvm.Cond.instanceMethod ({ cls := "PermissionDesk$Reader", name := "takes", desc := "(I)V" } : Jvm.MethodName)) ∈ lw_all := lw_g (lw_at lw_m3 190 rfl) rfl
theorem q751 : (Jvm.Cond.code ({ cls := "PermissionDesk$Reader", name := "takes", desc := "(I)V" } : Jvm.MethodName) prog_6_method_4_code (2 : Nat) (Option.none : Option Jvm.ClassFile.FieldType)) ∈ lw_all := lw_g (lw_at lw_m3 191 rfl) rfl
theorem q752 : (Jvm.Cond.methodLink "PermissionDesk$Reader" (33 : Nat) ({ cls := "PermissionDesk$Reader", name := "goesOn", desc := "(I)Z" } : Jvm.MethodName)) ∈ lw_all := lw_g (lw_at lw_m3 192 rfl) rfl
theorem q753 : (Jvm.Cond.privateMethod ({ cls := "PermissionDesk$Reader", name := "goesOn", desc := "(I)Z" } : Jvm.MethodName)) ∈ lw_tbl := lw_at lw_m3 193 rfl
theorem q754 : (Jvm.Cond.instanceMethod ({ cls := "PermissionDesk$Reader", name := "goesOn", desc := "(I)Z" } : Jvm.MethodName)) ∈ lw_all := lw_g (lw_at lw_m3 194 rfl) rfl
theorem q755 : (Jvm.Cond.code ({ cls := "PermissionDesk$Reader", name := "goesOn", desc := "(I)Z" } : Jvm.MethodName) prog_6_method_3_code (3 : Nat) (Option.some Jvm.ClassFile.FieldType.boolean)) ∈ lw_all := lw_g (lw_at lw_m3 195 rfl) rfl
theorem q756 : (Jvm.Cond.methodLink "PermissionDesk$Reader" (29 : Nat) ({ cls := "PermissionDesk$Reader", name := "isNow", desc := "(I)Z" } : Jvm.MethodName)) ∈ lw_all := lw_g (lw_at lw_m3 196 rfl) rfl
theorem q757 : (Jvm.Cond.privateMethod ({ cls := "PermissionDesk$Reader", name := "isNow", desc := "(I)Z" } : Jvm.MethodName)) ∈ lw_tbl := lw_at lw_m3 197 rfl
theorem q758 : (Jvm.Cond.instanceMethod ({ cls := "PermissionDesk$Reader", name := "isNow", desc := "(I)Z" } : Jvm.MethodName)) ∈ lw_all := lw_g (lw_at lw_m3 198 rfl) rfl
theorem q759 : (Jvm.Cond.code ({ cls := "PermissionDesk$Reader", name := "isNow", desc := "(I)Z" } : Jvm.MethodName) prog_6_method_2_code (2 : Nat) (Option.some Jvm.ClassFile.FieldType.boolean)) ∈ lw_all := lw_g (lw_at lw_m3 199 rfl) rfl
theorem q760 : (Jvm.Cond.methodLink "PermissionDesk$Reader" (74 : Nat) ({ cls := "PermissionDesk$Reader", name := "entry", desc := "()LPermissionDesk$Entry;" } : Jvm.MethodName)) ∈ lw_all := lw_g (lw_at lw_m3 200 rfl) rfl
theorem q761 : (Jvm.Cond.privateMethod ({ cls := "PermissionDesk$Reader", name := "entry", desc := "()LPermissionDesk$Entry;" } : Jvm.MethodName)) ∈ lw_tbl := lw_at lw_m3 201 rfl
theorem q762 : (Jvm.Cond.instanceMethod ({ cls := "PermissionDesk$Reader", name := "entry", desc := "()LPermissionDesk$Entry;" } : Jvm.MethodName)) ∈ lw_all := lw_g (lw_at lw_m3 202 rfl) rfl
theorem q763 : (Jvm.Cond.code ({ cls := "PermissionDesk$Reader", name := "entry", desc := "()LPermissionDesk$Entry;" } : Jvm.MethodName) prog_6_method_8_code (5 : Nat) (Option.some (Jvm.ClassFile.FieldType.object "PermissionDesk$Entry"))) ∈ lw_all := lw_g (lw_at lw_m3 203 rfl) rfl
theorem q764 : (Jvm.Cond.methodLink "PermissionDesk$Reader" (61 : Nat) ({ cls := "PermissionDesk$Reader", name := "rights", desc := "()I" } : Jvm.MethodName)) ∈ lw_all := lw_g (lw_at lw_m3 204 rfl) rfl
theorem q765 : (Jvm.Cond.privateMethod ({ cls := "PermissionDesk$Reader", name := "rights", desc := "()I" } : Jvm.MethodName)) ∈ lw_tbl := lw_at lw_m3 205 rfl
theorem q766 : (Jvm.Cond.instanceMethod ({ cls := "PermissionDesk$Reader", name := "rights", desc := "()I" } : Jvm.MethodName)) ∈ lw_all := lw_g (lw_at lw_m3 206 rfl) rfl
theorem q767 : (Jvm.Cond.code ({ cls := "PermissionDesk$Reader", name := "rights", desc := "()I" } : Jvm.MethodName) prog_6_method_7_code (3 : Nat) (Option.some Jvm.ClassFile.FieldType.int)) ∈ lw_all := lw_g (lw_at lw_m3 207 rfl) rfl
theorem q768 : (Jvm.Cond.fieldLinkNest "PermissionDesk$Reader" (48 : Nat) "PermissionDesk" "LETTERS" "[I" "PermissionDesk") ∈ lw_tbl := lw_at lw_m3 208 rfl
theorem q770 : (Jvm.Cond.classLink "PermissionDesk$Reader" (55 : Nat) "PermissionDesk$Entry") ∈ lw_all := lw_g (lw_at lw_m3 210 rfl) rfl
theorem q772 : (Jvm.Cond.methodLink "PermissionDesk$Reader" (64 : Nat) ({ cls := "PermissionDesk$Entry", name := "<init>", desc := "(IIIZZ)V" } : Jvm.MethodName)) ∈ lw_all := lw_g (lw_at lw_m3 212 rfl) rfl
theorem q839 : (Jvm.Cond.methodLink "PermissionDesk$Reader" (78 : Nat) ({ cls := "java/util/ArrayList", name := "add", desc := "(Ljava/lang/Object;)Z" } : Jvm.MethodName)) ∈ lw_all := lw_g (lw_at lw_m4 39 rfl) rfl
theorem q867 : (Jvm.Cond.selects "PermissionDesk$Reader" ({ cls := "java/lang/Object", name := "getClass", desc := "()Ljava/lang/Class;" } : Jvm.MethodName) ({ cls := "java/lang/Object", name := "getClass", desc := "()Ljava/lang/Class;" } : Jvm.MethodName)) ∈ lw_all := lw_g (lw_at lw_m4 67 rfl) rfl
theorem q894 : (Jvm.Cond.methodLink "PermissionDesk$Reader" (84 : Nat) ({ cls := "java/util/ArrayList", name := "size", desc := "()I" } : Jvm.MethodName)) ∈ lw_all := lw_g (lw_at lw_m4 94 rfl) rfl
theorem q1676 : (Jvm.Cond.selects "PermissionDesk$Reader" ({ cls := "java/lang/Object", name := "toString", desc := "()Ljava/lang/String;" } : Jvm.MethodName) ({ cls := "java/lang/Object", name := "toString", desc := "()Ljava/lang/String;" } : Jvm.MethodName)) ∈ lw_all := lw_g (lw_at lw_m7 156 rfl) rfl
theorem q2608 : (Jvm.Cond.castable "PermissionDesk$Reader" "java/lang/Object") ∈ lw_tbl := lw_at lw_m11 128 rfl
theorem in_X8 : ∀ w ∈ wsX80, w ∈ lw_all := lw_in wsX80 [674, 676] (by decide +kernel) (by decide +kernel)

/-! PermissionDesk$Plan -/
set_option maxRecDepth 100000
def RX9 : String := "PermissionDesk$Plan"
def TX9 : u_T := fun k => match k with
  | 0 => ("PermissionDesk$Plan", "object", "I", true)
  | _ => ("PermissionDesk$Plan", "entries", "Ljava/util/ArrayList;", true)
def tyX9 : Nat → FieldType := fun k => match k with
  | 0 => .int
  | _ => .object "java/util/ArrayList"
abbrev wsX90 : List Cond := u_ws RX9 TX9 2
theorem nmX9 : ∀ a, a < 2 → ∀ b, b < 2 → a ≠ b → (TX9 a).2.1 ≠ (TX9 b).2.1 := by decide +kernel
theorem tyX9_ok : ∀ k, k < 2 → parseFieldDescriptor (TX9 k).2.2.1 = some (tyX9 k) := by decide +kernel
abbrev cX9_init : ByteArray := prog_5_method_1_code
def yX9_init : MethodName := ⟨RX9, "<init>", "(I)V"⟩
def dkwX9_init_0 : List UInt8 := [42, 183, 0, 1, 42, 187, 0, 7, 89, 183, 0, 9, 181, 0, 10, 42, 27, 181, 0, 16, 177]
abbrev dktX9_init_0 : List UInt8 := dkwX9_init_0 ++ []
theorem dksX9_init_0 : cX9_init.data.toList.drop 0 = dktX9_init_0 := by decide +kernel
theorem dX9_init_0 : decode cX9_init 0 = .ok (.aload_n 0, 1) := dk_42 (dk_at dksX9_init_0 0 rfl rfl)
theorem dX9_init_1 : decode cX9_init 1 = .ok (.invokespecial 1, 3) := dk_183 0 1 (dk_at dksX9_init_0 1 rfl rfl)
theorem dX9_init_4 : decode cX9_init 4 = .ok (.aload_n 0, 1) := dk_42 (dk_at dksX9_init_0 4 rfl rfl)
theorem dX9_init_5 : decode cX9_init 5 = .ok (.new 7, 3) := dk_187 0 7 (dk_at dksX9_init_0 5 rfl rfl)
theorem dX9_init_8 : decode cX9_init 8 = .ok (.dup, 1) := dk_89 (dk_at dksX9_init_0 8 rfl rfl)
theorem dX9_init_9 : decode cX9_init 9 = .ok (.invokespecial 9, 3) := dk_183 0 9 (dk_at dksX9_init_0 9 rfl rfl)
theorem dX9_init_12 : decode cX9_init 12 = .ok (.putfield 10, 3) := dk_181 0 10 (dk_at dksX9_init_0 12 rfl rfl)
theorem dX9_init_15 : decode cX9_init 15 = .ok (.aload_n 0, 1) := dk_42 (dk_at dksX9_init_0 15 rfl rfl)
theorem dX9_init_16 : decode cX9_init 16 = .ok (.iload_n 1, 1) := dk_27 (dk_at dksX9_init_0 16 rfl rfl)
theorem dX9_init_17 : decode cX9_init 17 = .ok (.putfield 16, 3) := dk_181 0 16 (dk_at dksX9_init_0 17 rfl rfl)
theorem dX9_init_20 : decode cX9_init 20 = .ok (.return_, 1) := dk_177 (dk_at dksX9_init_0 20 rfl rfl)
abbrev cX9_loads : ByteArray := prog_5_method_2_code
def yX9_loads : MethodName := ⟨RX9, "loads", "(LPermissionDesk$Land;)I"⟩
def dkwX9_loads_6 : List UInt8 := [180, 0, 10, 182, 0, 69, 172]
abbrev dktX9_loads_6 : List UInt8 := dkwX9_loads_6 ++ []
def dkwX9_loads_5 : List UInt8 := [182, 0, 62, 43, 180, 0, 55, 42, 180, 0, 16, 50, 180, 0, 59, 42, 180, 0, 10, 182, 0, 65, 87, 42]
abbrev dktX9_loads_5 : List UInt8 := dkwX9_loads_5 ++ dktX9_loads_6
def dkwX9_loads_4 : List UInt8 := [154, 0, 11, 187, 0, 52, 89, 183, 0, 54, 191, 43, 180, 0, 55, 42, 180, 0, 16, 50, 180, 0, 59]
abbrev dktX9_loads_4 : List UInt8 := dkwX9_loads_4 ++ dktX9_loads_5
def dkwX9_loads_3 : List UInt8 := [21, 6, 155, 0, 12, 43, 21, 6, 182, 0, 49, 153, 0, 7, 4, 167, 0, 4, 3, 61, 167, 255, 182, 28]
abbrev dktX9_loads_3 : List UInt8 := dkwX9_loads_3 ++ dktX9_loads_4
def dkwX9_loads_2 : List UInt8 := [4, 182, 0, 42, 54, 6, 28, 153, 0, 35, 21, 5, 155, 0, 12, 43, 21, 5, 182, 0, 46, 153, 0, 21]
abbrev dktX9_loads_2 : List UInt8 := dkwX9_loads_2 ++ dktX9_loads_3
def dkwX9_loads_1 : List UInt8 := [153, 0, 71, 45, 185, 0, 36, 1, 0, 192, 0, 40, 58, 4, 25, 4, 3, 182, 0, 42, 54, 5, 25, 4]
abbrev dktX9_loads_1 : List UInt8 := dkwX9_loads_1 ++ dktX9_loads_2
def dkwX9_loads_0 : List UInt8 := [43, 42, 180, 0, 16, 182, 0, 20, 61, 42, 180, 0, 10, 182, 0, 26, 78, 45, 185, 0, 30, 1, 0]
abbrev dktX9_loads_0 : List UInt8 := dkwX9_loads_0 ++ dktX9_loads_1
theorem dksX9_loads_0 : cX9_loads.data.toList.drop 0 = dktX9_loads_0 := by decide +kernel
theorem dksX9_loads_1 : cX9_loads.data.toList.drop 23 = dktX9_loads_1 := dk_seg dksX9_loads_0 23 rfl rfl
theorem dksX9_loads_2 : cX9_loads.data.toList.drop 47 = dktX9_loads_2 := dk_seg dksX9_loads_1 24 rfl rfl
theorem dksX9_loads_3 : cX9_loads.data.toList.drop 71 = dktX9_loads_3 := dk_seg dksX9_loads_2 24 rfl rfl
theorem dksX9_loads_4 : cX9_loads.data.toList.drop 95 = dktX9_loads_4 := dk_seg dksX9_loads_3 24 rfl rfl
theorem dksX9_loads_5 : cX9_loads.data.toList.drop 118 = dktX9_loads_5 := dk_seg dksX9_loads_4 23 rfl rfl
theorem dksX9_loads_6 : cX9_loads.data.toList.drop 142 = dktX9_loads_6 := dk_seg dksX9_loads_5 24 rfl rfl
theorem dX9_loads_0 : decode cX9_loads 0 = .ok (.aload_n 1, 1) := dk_43 (dk_at dksX9_loads_0 0 rfl rfl)
theorem dX9_loads_1 : decode cX9_loads 1 = .ok (.aload_n 0, 1) := dk_42 (dk_at dksX9_loads_0 1 rfl rfl)
theorem dX9_loads_2 : decode cX9_loads 2 = .ok (.getfield 16, 3) := dk_180 0 16 (dk_at dksX9_loads_0 2 rfl rfl)
theorem dX9_loads_5 : decode cX9_loads 5 = .ok (.invokevirtual 20, 3) := dk_182 0 20 (dk_at dksX9_loads_0 5 rfl rfl)
theorem dX9_loads_8 : decode cX9_loads 8 = .ok (.istore_n 2, 1) := dk_61 (dk_at dksX9_loads_0 8 rfl rfl)
theorem dX9_loads_9 : decode cX9_loads 9 = .ok (.aload_n 0, 1) := dk_42 (dk_at dksX9_loads_0 9 rfl rfl)
theorem dX9_loads_10 : decode cX9_loads 10 = .ok (.getfield 10, 3) := dk_180 0 10 (dk_at dksX9_loads_0 10 rfl rfl)
theorem dX9_loads_13 : decode cX9_loads 13 = .ok (.invokevirtual 26, 3) := dk_182 0 26 (dk_at dksX9_loads_0 13 rfl rfl)
theorem dX9_loads_16 : decode cX9_loads 16 = .ok (.astore_n 3, 1) := dk_78 (dk_at dksX9_loads_0 16 rfl rfl)
theorem dX9_loads_17 : decode cX9_loads 17 = .ok (.aload_n 3, 1) := dk_45 (dk_at dksX9_loads_0 17 rfl rfl)
theorem dX9_loads_18 : decode cX9_loads 18 = .ok (.invokeinterface 30 1, 5) := by decide +kernel
theorem dX9_loads_23 : decode cX9_loads 23 = .ok (.ifCond .eq 71, 3) := dk_153 0 71 (dk_at dksX9_loads_1 0 rfl rfl)
theorem dX9_loads_26 : decode cX9_loads 26 = .ok (.aload_n 3, 1) := dk_45 (dk_at dksX9_loads_1 3 rfl rfl)
theorem dX9_loads_27 : decode cX9_loads 27 = .ok (.invokeinterface 36 1, 5) := by decide +kernel
theorem dX9_loads_32 : decode cX9_loads 32 = .ok (.checkcast 40, 3) := dk_192 0 40 (dk_at dksX9_loads_1 9 rfl rfl)
theorem dX9_loads_35 : decode cX9_loads 35 = .ok (.astore 4, 2) := dk_58 4 (dk_at dksX9_loads_1 12 rfl rfl)
theorem dX9_loads_37 : decode cX9_loads 37 = .ok (.aload 4, 2) := dk_25 4 (dk_at dksX9_loads_1 14 rfl rfl)
theorem dX9_loads_39 : decode cX9_loads 39 = .ok (.iconst 0, 1) := dk_3 (dk_at dksX9_loads_1 16 rfl rfl)
theorem dX9_loads_40 : decode cX9_loads 40 = .ok (.invokevirtual 42, 3) := dk_182 0 42 (dk_at dksX9_loads_1 17 rfl rfl)
theorem dX9_loads_43 : decode cX9_loads 43 = .ok (.istore 5, 2) := dk_54 5 (dk_at dksX9_loads_1 20 rfl rfl)
theorem dX9_loads_45 : decode cX9_loads 45 = .ok (.aload 4, 2) := dk_25 4 (dk_at dksX9_loads_1 22 rfl rfl)
theorem dX9_loads_47 : decode cX9_loads 47 = .ok (.iconst 1, 1) := dk_4 (dk_at dksX9_loads_2 0 rfl rfl)
theorem dX9_loads_48 : decode cX9_loads 48 = .ok (.invokevirtual 42, 3) := dk_182 0 42 (dk_at dksX9_loads_2 1 rfl rfl)
theorem dX9_loads_51 : decode cX9_loads 51 = .ok (.istore 6, 2) := dk_54 6 (dk_at dksX9_loads_2 4 rfl rfl)
theorem dX9_loads_53 : decode cX9_loads 53 = .ok (.iload_n 2, 1) := dk_28 (dk_at dksX9_loads_2 6 rfl rfl)
theorem dX9_loads_54 : decode cX9_loads 54 = .ok (.ifCond .eq 35, 3) := dk_153 0 35 (dk_at dksX9_loads_2 7 rfl rfl)
theorem dX9_loads_57 : decode cX9_loads 57 = .ok (.iload 5, 2) := dk_21 5 (dk_at dksX9_loads_2 10 rfl rfl)
theorem dX9_loads_59 : decode cX9_loads 59 = .ok (.ifCond .lt 12, 3) := dk_155 0 12 (dk_at dksX9_loads_2 12 rfl rfl)
theorem dX9_loads_62 : decode cX9_loads 62 = .ok (.aload_n 1, 1) := dk_43 (dk_at dksX9_loads_2 15 rfl rfl)
theorem dX9_loads_63 : decode cX9_loads 63 = .ok (.iload 5, 2) := dk_21 5 (dk_at dksX9_loads_2 16 rfl rfl)
theorem dX9_loads_65 : decode cX9_loads 65 = .ok (.invokevirtual 46, 3) := dk_182 0 46 (dk_at dksX9_loads_2 18 rfl rfl)
theorem dX9_loads_68 : decode cX9_loads 68 = .ok (.ifCond .eq 21, 3) := dk_153 0 21 (dk_at dksX9_loads_2 21 rfl rfl)
theorem dX9_loads_71 : decode cX9_loads 71 = .ok (.iload 6, 2) := dk_21 6 (dk_at dksX9_loads_3 0 rfl rfl)
theorem dX9_loads_73 : decode cX9_loads 73 = .ok (.ifCond .lt 12, 3) := dk_155 0 12 (dk_at dksX9_loads_3 2 rfl rfl)
theorem dX9_loads_76 : decode cX9_loads 76 = .ok (.aload_n 1, 1) := dk_43 (dk_at dksX9_loads_3 5 rfl rfl)
theorem dX9_loads_77 : decode cX9_loads 77 = .ok (.iload 6, 2) := dk_21 6 (dk_at dksX9_loads_3 6 rfl rfl)
theorem dX9_loads_79 : decode cX9_loads 79 = .ok (.invokevirtual 49, 3) := dk_182 0 49 (dk_at dksX9_loads_3 8 rfl rfl)
theorem dX9_loads_82 : decode cX9_loads 82 = .ok (.ifCond .eq 7, 3) := dk_153 0 7 (dk_at dksX9_loads_3 11 rfl rfl)
theorem dX9_loads_85 : decode cX9_loads 85 = .ok (.iconst 1, 1) := dk_4 (dk_at dksX9_loads_3 14 rfl rfl)
theorem dX9_loads_86 : decode cX9_loads 86 = .ok (.goto 4, 3) := dk_167 0 4 (dk_at dksX9_loads_3 15 rfl rfl)
theorem dX9_loads_89 : decode cX9_loads 89 = .ok (.iconst 0, 1) := dk_3 (dk_at dksX9_loads_3 18 rfl rfl)
theorem dX9_loads_90 : decode cX9_loads 90 = .ok (.istore_n 2, 1) := dk_61 (dk_at dksX9_loads_3 19 rfl rfl)
theorem dX9_loads_91 : decode cX9_loads 91 = .ok (.goto (-74), 3) := dk_167 255 182 (dk_at dksX9_loads_3 20 rfl rfl)
theorem dX9_loads_94 : decode cX9_loads 94 = .ok (.iload_n 2, 1) := dk_28 (dk_at dksX9_loads_3 23 rfl rfl)
theorem dX9_loads_95 : decode cX9_loads 95 = .ok (.ifCond .ne 11, 3) := dk_154 0 11 (dk_at dksX9_loads_4 0 rfl rfl)
theorem dX9_loads_98 : decode cX9_loads 98 = .ok (.new 52, 3) := dk_187 0 52 (dk_at dksX9_loads_4 3 rfl rfl)
theorem dX9_loads_101 : decode cX9_loads 101 = .ok (.dup, 1) := dk_89 (dk_at dksX9_loads_4 6 rfl rfl)
theorem dX9_loads_102 : decode cX9_loads 102 = .ok (.invokespecial 54, 3) := dk_183 0 54 (dk_at dksX9_loads_4 7 rfl rfl)
theorem dX9_loads_105 : decode cX9_loads 105 = .ok (.athrow, 1) := dk_191 (dk_at dksX9_loads_4 10 rfl rfl)
theorem dX9_loads_106 : decode cX9_loads 106 = .ok (.aload_n 1, 1) := dk_43 (dk_at dksX9_loads_4 11 rfl rfl)
theorem dX9_loads_107 : decode cX9_loads 107 = .ok (.getfield 55, 3) := dk_180 0 55 (dk_at dksX9_loads_4 12 rfl rfl)
theorem dX9_loads_110 : decode cX9_loads 110 = .ok (.aload_n 0, 1) := dk_42 (dk_at dksX9_loads_4 15 rfl rfl)
theorem dX9_loads_111 : decode cX9_loads 111 = .ok (.getfield 16, 3) := dk_180 0 16 (dk_at dksX9_loads_4 16 rfl rfl)
theorem dX9_loads_114 : decode cX9_loads 114 = .ok (.aaload, 1) := dk_50 (dk_at dksX9_loads_4 19 rfl rfl)
theorem dX9_loads_115 : decode cX9_loads 115 = .ok (.getfield 59, 3) := dk_180 0 59 (dk_at dksX9_loads_4 20 rfl rfl)
theorem dX9_loads_118 : decode cX9_loads 118 = .ok (.invokevirtual 62, 3) := dk_182 0 62 (dk_at dksX9_loads_5 0 rfl rfl)
theorem dX9_loads_121 : decode cX9_loads 121 = .ok (.aload_n 1, 1) := dk_43 (dk_at dksX9_loads_5 3 rfl rfl)
theorem dX9_loads_122 : decode cX9_loads 122 = .ok (.getfield 55, 3) := dk_180 0 55 (dk_at dksX9_loads_5 4 rfl rfl)
theorem dX9_loads_125 : decode cX9_loads 125 = .ok (.aload_n 0, 1) := dk_42 (dk_at dksX9_loads_5 7 rfl rfl)
theorem dX9_loads_126 : decode cX9_loads 126 = .ok (.getfield 16, 3) := dk_180 0 16 (dk_at dksX9_loads_5 8 rfl rfl)
theorem dX9_loads_129 : decode cX9_loads 129 = .ok (.aaload, 1) := dk_50 (dk_at dksX9_loads_5 11 rfl rfl)
theorem dX9_loads_130 : decode cX9_loads 130 = .ok (.getfield 59, 3) := dk_180 0 59 (dk_at dksX9_loads_5 12 rfl rfl)
theorem dX9_loads_133 : decode cX9_loads 133 = .ok (.aload_n 0, 1) := dk_42 (dk_at dksX9_loads_5 15 rfl rfl)
theorem dX9_loads_134 : decode cX9_loads 134 = .ok (.getfield 10, 3) := dk_180 0 10 (dk_at dksX9_loads_5 16 rfl rfl)
theorem dX9_loads_137 : decode cX9_loads 137 = .ok (.invokevirtual 65, 3) := dk_182 0 65 (dk_at dksX9_loads_5 19 rfl rfl)
theorem dX9_loads_140 : decode cX9_loads 140 = .ok (.pop, 1) := dk_87 (dk_at dksX9_loads_5 22 rfl rfl)
theorem dX9_loads_141 : decode cX9_loads 141 = .ok (.aload_n 0, 1) := dk_42 (dk_at dksX9_loads_5 23 rfl rfl)
theorem dX9_loads_142 : decode cX9_loads 142 = .ok (.getfield 10, 3) := dk_180 0 10 (dk_at dksX9_loads_6 0 rfl rfl)
theorem dX9_loads_145 : decode cX9_loads 145 = .ok (.invokevirtual 69, 3) := dk_182 0 69 (dk_at dksX9_loads_6 3 rfl rfl)
theorem dX9_loads_148 : decode cX9_loads 148 = .ok (.ireturn, 1) := dk_172 (dk_at dksX9_loads_6 6 rfl rfl)
theorem q117 : (Jvm.Cond.initialized "PermissionDesk$Plan") ∈ lw_all := lw_g (lw_at lw_m1 37 rfl) rfl
theorem q196 : (Jvm.Cond.fieldLinkNest "PermissionDesk$Plan" (55 : Nat) "PermissionDesk$Land" "things" "[LPermissionDesk$Thing;" "PermissionDesk") ∈ lw_tbl := lw_at lw_m1 116 rfl
theorem q243 : (Jvm.Cond.fieldLinkNest "PermissionDesk$Plan" (59 : Nat) "PermissionDesk$Thing" "entries" "Ljava/util/ArrayList;" "PermissionDesk") ∈ lw_tbl := lw_at lw_m1 163 rfl
theorem q684 : (Jvm.Cond.instantiable "PermissionDesk$Plan" (2 : Nat)) ∈ lw_all := lw_g (lw_at lw_m3 124 rfl) rfl
theorem q735 : (Jvm.Cond.instanceMethod ({ cls := "PermissionDesk$Plan", name := "<init>", desc := "(I)V" } : Jvm.MethodName)) ∈ lw_all := lw_g (lw_at lw_m3 175 rfl) rfl
theorem q736 : (Jvm.Cond.code ({ cls := "PermissionDesk$Plan", name := "<init>", desc := "(I)V" } : Jvm.MethodName) prog_5_method_1_code (2 : Nat) (Option.none : Option Jvm.ClassFile.FieldType)) ∈ lw_all := lw_g (lw_at lw_m3 176 rfl) rfl
theorem q737 : (Jvm.Cond.methodLink "PermissionDesk$Plan" (1 : Nat) ({ cls := "java/lang/Object", name := "<init>", desc := "()V" } : Jvm.MethodName)) ∈ lw_all := lw_g (lw_at lw_m3 177 rfl) rfl
theorem q738 : (Jvm.Cond.classLink "PermissionDesk$Plan" (7 : Nat) "java/util/ArrayList") ∈ lw_all := lw_g (lw_at lw_m3 178 rfl) rfl
theorem q739 : (Jvm.Cond.methodLink "PermissionDesk$Plan" (9 : Nat) ({ cls := "java/util/ArrayList", name := "<init>", desc := "()V" } : Jvm.MethodName)) ∈ lw_all := lw_g (lw_at lw_m3 179 rfl) rfl
theorem q740 : (Jvm.Cond.fieldLink "PermissionDesk$Plan" (16 : Nat) "PermissionDesk$Plan" "object" "I") ∈ lw_all := lw_g (lw_at lw_m3 180 rfl) rfl
theorem q741 : (Jvm.Cond.fieldLink "PermissionDesk$Plan" (10 : Nat) "PermissionDesk$Plan" "entries" "Ljava/util/ArrayList;") ∈ lw_all := lw_g (lw_at lw_m3 181 rfl) rfl
theorem q743 : (Jvm.Cond.laysFinal "PermissionDesk$Plan" "PermissionDesk$Plan" "object" "I") ∈ lw_all := lw_g (lw_at lw_m3 183 rfl) rfl
theorem q744 : (Jvm.Cond.soleField "PermissionDesk$Plan" "object") ∈ lw_all := lw_g (lw_at lw_m3 184 rfl) rfl
theorem q745 : (Jvm.Cond.laysFinal "PermissionDesk$Plan" "PermissionDesk$Plan" "entries" "Ljava/util/ArrayList;") ∈ lw_all := lw_g (lw_at lw_m3 185 rfl) rfl
theorem q746 : (Jvm.Cond.soleField "PermissionDesk$Plan" "entries") ∈ lw_all := lw_g (lw_at lw_m3 186 rfl) rfl
theorem q747 : (Jvm.Cond.superclass "PermissionDesk$Plan" "java/lang/Object") ∈ lw_all := lw_g (lw_at lw_m3 187 rfl) rfl
theorem q866 : (Jvm.Cond.selects "PermissionDesk$Plan" ({ cls := "java/lang/Object", name := "getClass", desc := "()Ljava/lang/Class;" } : Jvm.MethodName) ({ cls := "java/lang/Object", name := "getClass", desc := "()Ljava/lang/Class;" } : Jvm.MethodName)) ∈ lw_all := lw_g (lw_at lw_m4 66 rfl) rfl
theorem q1574 : (Jvm.Cond.instanceMethod ({ cls := "PermissionDesk$Plan", name := "loads", desc := "(LPermissionDesk$Land;)I" } : Jvm.MethodName)) ∈ lw_all := lw_g (lw_at lw_m7 54 rfl) rfl
theorem q1575 : (Jvm.Cond.selects "PermissionDesk$Plan" ({ cls := "PermissionDesk$Plan", name := "loads", desc := "(LPermissionDesk$Land;)I" } : Jvm.MethodName) ({ cls := "PermissionDesk$Plan", name := "loads", desc := "(LPermissionDesk$Land;)I" } : Jvm.MethodName)) ∈ lw_all := lw_g (lw_at lw_m7 55 rfl) rfl
theorem q1576 : (Jvm.Cond.code ({ cls := "PermissionDesk$Plan", name := "loads", desc := "(LPermissionDesk$Land;)I" } : Jvm.MethodName) prog_5_method_2_code (7 : Nat) (Option.some Jvm.ClassFile.FieldType.int)) ∈ lw_all := lw_g (lw_at lw_m7 56 rfl) rfl
theorem q1577 : (Jvm.Cond.methodLink "PermissionDesk$Plan" (20 : Nat) ({ cls := "PermissionDesk$Land", name := "has", desc := "(I)Z" } : Jvm.MethodName)) ∈ lw_all := lw_g (lw_at lw_m7 57 rfl) rfl
theorem q1578 : (Jvm.Cond.methodLink "PermissionDesk$Plan" (26 : Nat) ({ cls := "java/util/ArrayList", name := "iterator", desc := "()Ljava/util/Iterator;" } : Jvm.MethodName)) ∈ lw_all := lw_g (lw_at lw_m7 58 rfl) rfl
theorem q1579 : (Jvm.Cond.interfaceEntry "PermissionDesk$Plan" (30 : Nat)) ∈ lw_tbl := lw_at lw_m7 59 rfl
theorem q1580 : (Jvm.Cond.methodLink "PermissionDesk$Plan" (30 : Nat) ({ cls := "java/util/Iterator", name := "hasNext", desc := "()Z" } : Jvm.MethodName)) ∈ lw_all := lw_g (lw_at lw_m7 60 rfl) rfl
theorem q1581 : (Jvm.Cond.interfaceEntry "PermissionDesk$Plan" (36 : Nat)) ∈ lw_tbl := lw_at lw_m7 61 rfl
theorem q1582 : (Jvm.Cond.methodLink "PermissionDesk$Plan" (36 : Nat) ({ cls := "java/util/Iterator", name := "next", desc := "()Ljava/lang/Object;" } : Jvm.MethodName)) ∈ lw_all := lw_g (lw_at lw_m7 62 rfl) rfl
theorem q1583 : (Jvm.Cond.classLink "PermissionDesk$Plan" (40 : Nat) "PermissionDesk$Entry") ∈ lw_all := lw_g (lw_at lw_m7 63 rfl) rfl
theorem q1584 : (Jvm.Cond.methodLink "PermissionDesk$Plan" (42 : Nat) ({ cls := "PermissionDesk$Entry", name := "whoIf", desc := "(I)I" } : Jvm.MethodName)) ∈ lw_all := lw_g (lw_at lw_m7 64 rfl) rfl
theorem q1588 : (Jvm.Cond.methodLink "PermissionDesk$Plan" (46 : Nat) ({ cls := "PermissionDesk$Land", name := "hasUser", desc := "(I)Z" } : Jvm.MethodName)) ∈ lw_all := lw_g (lw_at lw_m7 68 rfl) rfl
theorem q1589 : (Jvm.Cond.methodLink "PermissionDesk$Plan" (49 : Nat) ({ cls := "PermissionDesk$Land", name := "hasGroup", desc := "(I)Z" } : Jvm.MethodName)) ∈ lw_all := lw_g (lw_at lw_m7 69 rfl) rfl
theorem q1590 : (Jvm.Cond.classLink "PermissionDesk$Plan" (52 : Nat) "PermissionDesk$Absent") ∈ lw_all := lw_g (lw_at lw_m7 70 rfl) rfl
theorem q1599 : (Jvm.Cond.methodLinkNest "PermissionDesk$Plan" (54 : Nat) ({ cls := "PermissionDesk$Absent", name := "<init>", desc := "()V" } : Jvm.MethodName) "PermissionDesk") ∈ lw_tbl := lw_at lw_m7 79 rfl
theorem q1605 : (Jvm.Cond.methodLink "PermissionDesk$Plan" (62 : Nat) ({ cls := "java/util/ArrayList", name := "clear", desc := "()V" } : Jvm.MethodName)) ∈ lw_all := lw_g (lw_at lw_m7 85 rfl) rfl
theorem q1609 : (Jvm.Cond.methodLink "PermissionDesk$Plan" (65 : Nat) ({ cls := "java/util/ArrayList", name := "addAll", desc := "(Ljava/util/Collection;)Z" } : Jvm.MethodName)) ∈ lw_all := lw_g (lw_at lw_m7 89 rfl) rfl
theorem q1610 : (Jvm.Cond.methodLink "PermissionDesk$Plan" (69 : Nat) ({ cls := "java/util/ArrayList", name := "size", desc := "()I" } : Jvm.MethodName)) ∈ lw_all := lw_g (lw_at lw_m7 90 rfl) rfl
theorem q1675 : (Jvm.Cond.selects "PermissionDesk$Plan" ({ cls := "java/lang/Object", name := "toString", desc := "()Ljava/lang/String;" } : Jvm.MethodName) ({ cls := "java/lang/Object", name := "toString", desc := "()Ljava/lang/String;" } : Jvm.MethodName)) ∈ lw_all := lw_g (lw_at lw_m7 155 rfl) rfl
theorem q2609 : (Jvm.Cond.castable "PermissionDesk$Plan" "java/lang/Object") ∈ lw_tbl := lw_at lw_m11 129 rfl
theorem in_X9 : ∀ w ∈ wsX90, w ∈ lw_all := lw_in wsX90 [743, 745] (by decide +kernel) (by decide +kernel)
