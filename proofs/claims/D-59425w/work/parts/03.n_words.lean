theorem q966 : (Jvm.Cond.interfaceMethod "PermissionDesk$Test" "PermissionDesk$Test" "isFor" "(LPermissionDesk$Land;II)Z") ∈ lw_tbl := lw_at lw_m4 166 rfl
set_option maxRecDepth 100000
theorem q967 : (Jvm.Cond.declares ({ cls := "PermissionDesk$Test", name := "isFor", desc := "(LPermissionDesk$Land;II)Z" } : Jvm.MethodName)) ∈ lw_tbl := lw_at lw_m4 167 rfl
theorem q2591 : (Jvm.Cond.castable "PermissionDesk$Test" "java/lang/Object") ∈ lw_tbl := lw_at lw_m11 111 rfl

theorem q368 : (Jvm.Cond.sameMethod "[B" "java/lang/Object" "clone" "()Ljava/lang/Object;") ∈ lw_all := lw_g (lw_at lw_m2 48 rfl) rfl
set_option maxRecDepth 100000
theorem q371 : (Jvm.Cond.selects "[B" ({ cls := "[B", name := "clone", desc := "()Ljava/lang/Object;" } : Jvm.MethodName) ({ cls := "java/lang/Object", name := "clone", desc := "()Ljava/lang/Object;" } : Jvm.MethodName)) ∈ lw_all := lw_g (lw_at lw_m2 51 rfl) rfl
theorem q372 : (Jvm.Cond.castable "[B" "java/lang/Cloneable") ∈ lw_tbl := lw_at lw_m2 52 rfl
theorem q2620 : (Jvm.Cond.castable "[B" "java/lang/Object") ∈ lw_tbl := lw_at lw_m11 140 rfl

theorem q2618 : (Jvm.Cond.castable "[I" "java/lang/Object") ∈ lw_tbl := lw_at lw_m11 138 rfl
set_option maxRecDepth 100000

theorem q2624 : (Jvm.Cond.castable "[J" "java/lang/Object") ∈ lw_tbl := lw_at lw_m11 144 rfl
set_option maxRecDepth 100000

theorem q2619 : (Jvm.Cond.castable "[LPermissionDesk$Land;" "java/lang/Object") ∈ lw_tbl := lw_at lw_m11 139 rfl
set_option maxRecDepth 100000

theorem q2621 : (Jvm.Cond.castable "[LPermissionDesk$Test;" "java/lang/Object") ∈ lw_tbl := lw_at lw_m11 141 rfl
set_option maxRecDepth 100000

theorem q2617 : (Jvm.Cond.castable "[LPermissionDesk$Thing;" "java/lang/Object") ∈ lw_tbl := lw_at lw_m11 137 rfl
set_option maxRecDepth 100000

theorem q2614 : (Jvm.Cond.sameMethod "[Ljava/lang/Object;" "java/lang/Object" "getClass" "()Ljava/lang/Class;") ∈ lw_all := lw_g (lw_at lw_m11 134 rfl) rfl
set_option maxRecDepth 100000
theorem q2615 : (Jvm.Cond.selects "[Ljava/lang/Object;" ({ cls := "java/lang/Object", name := "getClass", desc := "()Ljava/lang/Class;" } : Jvm.MethodName) ({ cls := "java/lang/Object", name := "getClass", desc := "()Ljava/lang/Class;" } : Jvm.MethodName)) ∈ lw_all := lw_g (lw_at lw_m11 135 rfl) rfl
theorem q2622 : (Jvm.Cond.castable "[Ljava/lang/Object;" "java/lang/Object") ∈ lw_tbl := lw_at lw_m11 142 rfl

theorem q2623 : (Jvm.Cond.castable "[Z" "java/lang/Object") ∈ lw_tbl := lw_at lw_m11 143 rfl
set_option maxRecDepth 100000

theorem q107 : (Jvm.Cond.initialized "java/lang/Number") ∈ lw_all := lw_g (lw_at lw_m1 27 rfl) rfl
set_option maxRecDepth 100000

theorem q103 : (Jvm.Cond.initialized "java/lang/System") ∈ lw_all := lw_g (lw_at lw_m1 23 rfl) rfl
set_option maxRecDepth 100000
theorem q378 : (Jvm.Cond.static ({ cls := "java/lang/System", name := "arraycopy", desc := "(Ljava/lang/Object;ILjava/lang/Object;II)V" } : Jvm.MethodName)) ∈ lw_all := lw_g (lw_at lw_m2 58 rfl) rfl
theorem q379 : (Jvm.Cond.native ({ cls := "java/lang/System", name := "arraycopy", desc := "(Ljava/lang/Object;ILjava/lang/Object;II)V" } : Jvm.MethodName)) ∈ lw_all := lw_g (lw_at lw_m2 59 rfl) rfl

theorem q1099 : (Jvm.Cond.interfaceMethod "java/util/Collection" "java/util/Collection" "toArray" "()[Ljava/lang/Object;") ∈ lw_tbl := lw_at lw_m5 59 rfl
set_option maxRecDepth 100000
theorem q1100 : (Jvm.Cond.declares ({ cls := "java/util/Collection", name := "toArray", desc := "()[Ljava/lang/Object;" } : Jvm.MethodName)) ∈ lw_tbl := lw_at lw_m5 60 rfl

theorem q1045 : (Jvm.Cond.interfaceMethod "java/util/Iterator" "java/util/Iterator" "hasNext" "()Z") ∈ lw_tbl := lw_at lw_m5 5 rfl
set_option maxRecDepth 100000
theorem q1046 : (Jvm.Cond.declares ({ cls := "java/util/Iterator", name := "hasNext", desc := "()Z" } : Jvm.MethodName)) ∈ lw_tbl := lw_at lw_m5 6 rfl
theorem q1055 : (Jvm.Cond.interfaceMethod "java/util/Iterator" "java/util/Iterator" "next" "()Ljava/lang/Object;") ∈ lw_tbl := lw_at lw_m5 15 rfl
theorem q1056 : (Jvm.Cond.declares ({ cls := "java/util/Iterator", name := "next", desc := "()Ljava/lang/Object;" } : Jvm.MethodName)) ∈ lw_tbl := lw_at lw_m5 16 rfl

theorem q170 : (Jvm.Cond.arrayOver (Jvm.ClassFile.FieldType.object "PermissionDesk$Thing")) ∈ lw_tbl := lw_at lw_m1 90 rfl
set_option maxRecDepth 100000
theorem q257 : (Jvm.Cond.arrayClass Jvm.ClassFile.FieldType.int) ∈ lw_all := lw_g (lw_at lw_m1 177 rfl) rfl
theorem q261 : (Jvm.Cond.arrayOver (Jvm.ClassFile.FieldType.object "PermissionDesk$Land")) ∈ lw_tbl := lw_at lw_m1 181 rfl
theorem q294 : (Jvm.Cond.arrayClass Jvm.ClassFile.FieldType.byte) ∈ lw_all := lw_g (lw_at lw_m1 214 rfl) rfl
theorem q777 : (Jvm.Cond.arrayOver (Jvm.ClassFile.FieldType.object "PermissionDesk$Test")) ∈ lw_tbl := lw_at lw_m3 217 rfl
theorem q890 : (Jvm.Cond.arrayOver (Jvm.ClassFile.FieldType.object "java/lang/Object")) ∈ lw_tbl := lw_at lw_m4 90 rfl
theorem q1248 : (Jvm.Cond.arrayClass Jvm.ClassFile.FieldType.boolean) ∈ lw_all := lw_g (lw_at lw_m5 208 rfl) rfl
theorem q2571 : (Jvm.Cond.arrayClass Jvm.ClassFile.FieldType.long) ∈ lw_all := lw_g (lw_at lw_m11 91 rfl) rfl
