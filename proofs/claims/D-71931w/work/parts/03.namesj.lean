/-! java/util/AbstractCollection -/
set_option maxRecDepth 100000
def RJ0 : String := "java/util/AbstractCollection"
abbrev cJ0_init : ByteArray := prog_37_method_1_code
def yJ0_init : MethodName := ⟨RJ0, "<init>", "()V"⟩
theorem dJ0_init_0 : decode cJ0_init 0 = .ok (.aload_n 0, 1) := by decide +kernel
theorem dJ0_init_1 : decode cJ0_init 1 = .ok (.invokespecial 1, 3) := by decide +kernel
theorem dJ0_init_4 : decode cJ0_init 4 = .ok (.return_, 1) := by decide +kernel
abbrev cJ0_addAll : ByteArray := prog_37_method_12_code
def yJ0_addAll : MethodName := ⟨RJ0, "addAll", "(Ljava/util/Collection;)Z"⟩
def dkwJ0_addAll_1 : List UInt8 := [58, 4, 42, 25, 4, 182, 0, 82, 153, 0, 5, 4, 61, 167, 255, 228, 28, 172]
abbrev dktJ0_addAll_1 : List UInt8 := dkwJ0_addAll_1 ++ []
def dkwJ0_addAll_0 : List UInt8 := [3, 61, 43, 185, 0, 76, 1, 0, 78, 45, 185, 0, 17, 1, 0, 153, 0, 25, 45, 185, 0, 23, 1, 0]
abbrev dktJ0_addAll_0 : List UInt8 := dkwJ0_addAll_0 ++ dktJ0_addAll_1
theorem dksJ0_addAll_0 : cJ0_addAll.data.toList.drop 0 = dktJ0_addAll_0 := by decide +kernel
theorem dksJ0_addAll_1 : cJ0_addAll.data.toList.drop 24 = dktJ0_addAll_1 := dk_seg dksJ0_addAll_0 24 rfl rfl
theorem dJ0_addAll_0 : decode cJ0_addAll 0 = .ok (.iconst 0, 1) := dk_3 (dk_at dksJ0_addAll_0 0 rfl rfl)
theorem dJ0_addAll_1 : decode cJ0_addAll 1 = .ok (.istore_n 2, 1) := dk_61 (dk_at dksJ0_addAll_0 1 rfl rfl)
theorem dJ0_addAll_2 : decode cJ0_addAll 2 = .ok (.aload_n 1, 1) := dk_43 (dk_at dksJ0_addAll_0 2 rfl rfl)
theorem dJ0_addAll_3 : decode cJ0_addAll 3 = .ok (.invokeinterface 76 1, 5) := by decide +kernel
theorem dJ0_addAll_8 : decode cJ0_addAll 8 = .ok (.astore_n 3, 1) := dk_78 (dk_at dksJ0_addAll_0 8 rfl rfl)
theorem dJ0_addAll_9 : decode cJ0_addAll 9 = .ok (.aload_n 3, 1) := dk_45 (dk_at dksJ0_addAll_0 9 rfl rfl)
theorem dJ0_addAll_10 : decode cJ0_addAll 10 = .ok (.invokeinterface 17 1, 5) := by decide +kernel
theorem dJ0_addAll_15 : decode cJ0_addAll 15 = .ok (.ifCond .eq 25, 3) := dk_153 0 25 (dk_at dksJ0_addAll_0 15 rfl rfl)
theorem dJ0_addAll_18 : decode cJ0_addAll 18 = .ok (.aload_n 3, 1) := dk_45 (dk_at dksJ0_addAll_0 18 rfl rfl)
theorem dJ0_addAll_19 : decode cJ0_addAll 19 = .ok (.invokeinterface 23 1, 5) := by decide +kernel
theorem dJ0_addAll_24 : decode cJ0_addAll 24 = .ok (.astore 4, 2) := dk_58 4 (dk_at dksJ0_addAll_1 0 rfl rfl)
theorem dJ0_addAll_26 : decode cJ0_addAll 26 = .ok (.aload_n 0, 1) := dk_42 (dk_at dksJ0_addAll_1 2 rfl rfl)
theorem dJ0_addAll_27 : decode cJ0_addAll 27 = .ok (.aload 4, 2) := dk_25 4 (dk_at dksJ0_addAll_1 3 rfl rfl)
theorem dJ0_addAll_29 : decode cJ0_addAll 29 = .ok (.invokevirtual 82, 3) := dk_182 0 82 (dk_at dksJ0_addAll_1 5 rfl rfl)
theorem dJ0_addAll_32 : decode cJ0_addAll 32 = .ok (.ifCond .eq 5, 3) := dk_153 0 5 (dk_at dksJ0_addAll_1 8 rfl rfl)
theorem dJ0_addAll_35 : decode cJ0_addAll 35 = .ok (.iconst 1, 1) := dk_4 (dk_at dksJ0_addAll_1 11 rfl rfl)
theorem dJ0_addAll_36 : decode cJ0_addAll 36 = .ok (.istore_n 2, 1) := dk_61 (dk_at dksJ0_addAll_1 12 rfl rfl)
theorem dJ0_addAll_37 : decode cJ0_addAll 37 = .ok (.goto (-28), 3) := dk_167 255 228 (dk_at dksJ0_addAll_1 13 rfl rfl)
theorem dJ0_addAll_40 : decode cJ0_addAll 40 = .ok (.iload_n 2, 1) := dk_28 (dk_at dksJ0_addAll_1 16 rfl rfl)
theorem dJ0_addAll_41 : decode cJ0_addAll 41 = .ok (.ireturn, 1) := dk_172 (dk_at dksJ0_addAll_1 17 rfl rfl)
abbrev cJ0_add : ByteArray := prog_37_method_9_code
def yJ0_add : MethodName := ⟨RJ0, "add", "(Ljava/lang/Object;)Z"⟩
def dkwJ0_add_0 : List UInt8 := [187, 0, 70, 89, 183, 0, 72, 191]
abbrev dktJ0_add_0 : List UInt8 := dkwJ0_add_0 ++ []
theorem dksJ0_add_0 : cJ0_add.data.toList.drop 0 = dktJ0_add_0 := by decide +kernel
theorem dJ0_add_0 : decode cJ0_add 0 = .ok (.new 70, 3) := dk_187 0 70 (dk_at dksJ0_add_0 0 rfl rfl)
theorem dJ0_add_3 : decode cJ0_add 3 = .ok (.dup, 1) := dk_89 (dk_at dksJ0_add_0 3 rfl rfl)
theorem dJ0_add_4 : decode cJ0_add 4 = .ok (.invokespecial 72, 3) := dk_183 0 72 (dk_at dksJ0_add_0 4 rfl rfl)
theorem dJ0_add_7 : decode cJ0_add 7 = .ok (.athrow, 1) := dk_191 (dk_at dksJ0_add_0 7 rfl rfl)
theorem q107 : (Jvm.Cond.initialized "java/util/AbstractCollection") ∈ lw_all := lw_g (lw_at lw_m1 4 rfl) rfl
theorem q1275 : (Jvm.Cond.instanceMethod ({ cls := "java/util/AbstractCollection", name := "<init>", desc := "()V" } : Jvm.MethodName)) ∈ lw_all := lw_g (lw_at lw_m5 212 rfl) rfl
theorem q1276 : (Jvm.Cond.code ({ cls := "java/util/AbstractCollection", name := "<init>", desc := "()V" } : Jvm.MethodName) prog_37_method_1_code (1 : Nat) (Option.none : Option Jvm.ClassFile.FieldType)) ∈ lw_all := lw_g (lw_at lw_m5 213 rfl) rfl
theorem q1277 : (Jvm.Cond.methodLink "java/util/AbstractCollection" (1 : Nat) ({ cls := "java/lang/Object", name := "<init>", desc := "()V" } : Jvm.MethodName)) ∈ lw_all := lw_g (lw_at lw_m5 214 rfl) rfl
theorem q1570 : (Jvm.Cond.declares ({ cls := "java/util/AbstractCollection", name := "addAll", desc := "(Ljava/util/Collection;)Z" } : Jvm.MethodName)) ∈ lw_tbl := lw_at lw_m7 27 rfl
theorem q1572 : (Jvm.Cond.instanceMethod ({ cls := "java/util/AbstractCollection", name := "addAll", desc := "(Ljava/util/Collection;)Z" } : Jvm.MethodName)) ∈ lw_all := lw_g (lw_at lw_m7 29 rfl) rfl
theorem q1573 : (Jvm.Cond.code ({ cls := "java/util/AbstractCollection", name := "addAll", desc := "(Ljava/util/Collection;)Z" } : Jvm.MethodName) prog_37_method_12_code (5 : Nat) (Option.some Jvm.ClassFile.FieldType.boolean)) ∈ lw_all := lw_g (lw_at lw_m7 30 rfl) rfl
theorem q1574 : (Jvm.Cond.interfaceEntry "java/util/AbstractCollection" (76 : Nat)) ∈ lw_tbl := lw_at lw_m7 31 rfl
theorem q1575 : (Jvm.Cond.methodLink "java/util/AbstractCollection" (76 : Nat) ({ cls := "java/util/Collection", name := "iterator", desc := "()Ljava/util/Iterator;" } : Jvm.MethodName)) ∈ lw_all := lw_g (lw_at lw_m7 32 rfl) rfl
theorem q1610 : (Jvm.Cond.interfaceEntry "java/util/AbstractCollection" (17 : Nat)) ∈ lw_tbl := lw_at lw_m7 67 rfl
theorem q1611 : (Jvm.Cond.methodLink "java/util/AbstractCollection" (17 : Nat) ({ cls := "java/util/Iterator", name := "hasNext", desc := "()Z" } : Jvm.MethodName)) ∈ lw_all := lw_g (lw_at lw_m7 68 rfl) rfl
theorem q1612 : (Jvm.Cond.interfaceEntry "java/util/AbstractCollection" (23 : Nat)) ∈ lw_tbl := lw_at lw_m7 69 rfl
theorem q1613 : (Jvm.Cond.methodLink "java/util/AbstractCollection" (23 : Nat) ({ cls := "java/util/Iterator", name := "next", desc := "()Ljava/lang/Object;" } : Jvm.MethodName)) ∈ lw_all := lw_g (lw_at lw_m7 70 rfl) rfl
theorem q1614 : (Jvm.Cond.methodLink "java/util/AbstractCollection" (82 : Nat) ({ cls := "java/util/AbstractCollection", name := "add", desc := "(Ljava/lang/Object;)Z" } : Jvm.MethodName)) ∈ lw_all := lw_g (lw_at lw_m7 71 rfl) rfl
theorem q1615 : (Jvm.Cond.instanceMethod ({ cls := "java/util/AbstractCollection", name := "add", desc := "(Ljava/lang/Object;)Z" } : Jvm.MethodName)) ∈ lw_all := lw_g (lw_at lw_m7 72 rfl) rfl
theorem q1616 : (Jvm.Cond.sameMethod "java/util/AbstractCollection" "java/util/AbstractCollection" "add" "(Ljava/lang/Object;)Z") ∈ lw_all := lw_g (lw_at lw_m7 73 rfl) rfl
theorem q1620 : (Jvm.Cond.code ({ cls := "java/util/AbstractCollection", name := "add", desc := "(Ljava/lang/Object;)Z" } : Jvm.MethodName) prog_37_method_9_code (2 : Nat) (Option.some Jvm.ClassFile.FieldType.boolean)) ∈ lw_all := lw_g (lw_at lw_m7 77 rfl) rfl

/-! java/util/AbstractSet -/
set_option maxRecDepth 100000
def RJ1 : String := "java/util/AbstractSet"
abbrev cJ1_init : ByteArray := prog_42_method_1_code
def yJ1_init : MethodName := ⟨RJ1, "<init>", "()V"⟩
theorem dJ1_init_0 : decode cJ1_init 0 = .ok (.aload_n 0, 1) := by decide +kernel
theorem dJ1_init_1 : decode cJ1_init 1 = .ok (.invokespecial 1, 3) := by decide +kernel
theorem dJ1_init_4 : decode cJ1_init 4 = .ok (.return_, 1) := by decide +kernel
theorem q108 : (Jvm.Cond.initialized "java/util/AbstractSet") ∈ lw_all := lw_g (lw_at lw_m1 5 rfl) rfl
theorem q1272 : (Jvm.Cond.instanceMethod ({ cls := "java/util/AbstractSet", name := "<init>", desc := "()V" } : Jvm.MethodName)) ∈ lw_all := lw_g (lw_at lw_m5 209 rfl) rfl
theorem q1273 : (Jvm.Cond.code ({ cls := "java/util/AbstractSet", name := "<init>", desc := "()V" } : Jvm.MethodName) prog_42_method_1_code (1 : Nat) (Option.none : Option Jvm.ClassFile.FieldType)) ∈ lw_all := lw_g (lw_at lw_m5 210 rfl) rfl
theorem q1274 : (Jvm.Cond.methodLink "java/util/AbstractSet" (1 : Nat) ({ cls := "java/util/AbstractCollection", name := "<init>", desc := "()V" } : Jvm.MethodName)) ∈ lw_all := lw_g (lw_at lw_m5 211 rfl) rfl
theorem q1569 : (Jvm.Cond.sameMethod "java/util/AbstractSet" "java/util/AbstractCollection" "addAll" "(Ljava/util/Collection;)Z") ∈ lw_all := lw_g (lw_at lw_m7 26 rfl) rfl
theorem q1571 : (Jvm.Cond.superclass "java/util/AbstractSet" "java/util/AbstractCollection") ∈ lw_all := lw_g (lw_at lw_m7 28 rfl) rfl

/-! java/util/TreeSet -/
set_option maxRecDepth 100000
def RJ2 : String := "java/util/TreeSet"
def TJ2 : u_T := fun k => match k with
  | _ => ("java/util/TreeSet", "m", "Ljava/util/NavigableMap;", false)
def tyJ2 : Nat → FieldType := fun k => match k with
  | _ => .object "java/util/NavigableMap"
abbrev wsJ20 : List Cond := u_ws RJ2 TJ2 1
theorem nmJ2 : ∀ a, a < 1 → ∀ b, b < 1 → a ≠ b → (TJ2 a).2.1 ≠ (TJ2 b).2.1 := by decide +kernel
theorem tyJ2_ok : ∀ k, k < 1 → parseFieldDescriptor (TJ2 k).2.2.1 = some (tyJ2 k) := by decide +kernel
abbrev cJ2_clear : ByteArray := prog_71_method_14_code
def yJ2_clear : MethodName := ⟨RJ2, "clear", "()V"⟩
def dkwJ2_clear_0 : List UInt8 := [42, 180, 0, 7, 185, 0, 77, 1, 0, 177]
abbrev dktJ2_clear_0 : List UInt8 := dkwJ2_clear_0 ++ []
theorem dksJ2_clear_0 : cJ2_clear.data.toList.drop 0 = dktJ2_clear_0 := by decide +kernel
theorem dJ2_clear_0 : decode cJ2_clear 0 = .ok (.aload_n 0, 1) := dk_42 (dk_at dksJ2_clear_0 0 rfl rfl)
theorem dJ2_clear_1 : decode cJ2_clear 1 = .ok (.getfield 7, 3) := dk_180 0 7 (dk_at dksJ2_clear_0 1 rfl rfl)
theorem dJ2_clear_4 : decode cJ2_clear 4 = .ok (.invokeinterface 77 1, 5) := by decide +kernel
theorem dJ2_clear_9 : decode cJ2_clear 9 = .ok (.return_, 1) := dk_177 (dk_at dksJ2_clear_0 9 rfl rfl)
abbrev cJ2_size : ByteArray := prog_71_method_9_code
def yJ2_size : MethodName := ⟨RJ2, "size", "()I"⟩
def dkwJ2_size_0 : List UInt8 := [42, 180, 0, 7, 185, 0, 53, 1, 0, 172]
abbrev dktJ2_size_0 : List UInt8 := dkwJ2_size_0 ++ []
theorem dksJ2_size_0 : cJ2_size.data.toList.drop 0 = dktJ2_size_0 := by decide +kernel
theorem dJ2_size_0 : decode cJ2_size 0 = .ok (.aload_n 0, 1) := dk_42 (dk_at dksJ2_size_0 0 rfl rfl)
theorem dJ2_size_1 : decode cJ2_size 1 = .ok (.getfield 7, 3) := dk_180 0 7 (dk_at dksJ2_size_0 1 rfl rfl)
theorem dJ2_size_4 : decode cJ2_size 4 = .ok (.invokeinterface 53 1, 5) := by decide +kernel
theorem dJ2_size_9 : decode cJ2_size 9 = .ok (.ireturn, 1) := dk_172 (dk_at dksJ2_size_0 9 rfl rfl)
abbrev cJ2_add : ByteArray := prog_71_method_12_code
def yJ2_add : MethodName := ⟨RJ2, "add", "(Ljava/lang/Object;)Z"⟩
def dkwJ2_add_0 : List UInt8 := [42, 180, 0, 7, 43, 178, 0, 65, 185, 0, 69, 3, 0, 199, 0, 7, 4, 167, 0, 4, 3, 172]
abbrev dktJ2_add_0 : List UInt8 := dkwJ2_add_0 ++ []
theorem dksJ2_add_0 : cJ2_add.data.toList.drop 0 = dktJ2_add_0 := by decide +kernel
theorem dJ2_add_0 : decode cJ2_add 0 = .ok (.aload_n 0, 1) := dk_42 (dk_at dksJ2_add_0 0 rfl rfl)
theorem dJ2_add_1 : decode cJ2_add 1 = .ok (.getfield 7, 3) := dk_180 0 7 (dk_at dksJ2_add_0 1 rfl rfl)
theorem dJ2_add_4 : decode cJ2_add 4 = .ok (.aload_n 1, 1) := dk_43 (dk_at dksJ2_add_0 4 rfl rfl)
theorem dJ2_add_5 : decode cJ2_add 5 = .ok (.getstatic 65, 3) := dk_178 0 65 (dk_at dksJ2_add_0 5 rfl rfl)
theorem dJ2_add_8 : decode cJ2_add 8 = .ok (.invokeinterface 69 3, 5) := by decide +kernel
theorem dJ2_add_13 : decode cJ2_add 13 = .ok (.ifnonnull 7, 3) := dk_199 0 7 (dk_at dksJ2_add_0 13 rfl rfl)
theorem dJ2_add_16 : decode cJ2_add 16 = .ok (.iconst 1, 1) := dk_4 (dk_at dksJ2_add_0 16 rfl rfl)
theorem dJ2_add_17 : decode cJ2_add 17 = .ok (.goto 4, 3) := dk_167 0 4 (dk_at dksJ2_add_0 17 rfl rfl)
theorem dJ2_add_20 : decode cJ2_add 20 = .ok (.iconst 0, 1) := dk_3 (dk_at dksJ2_add_0 20 rfl rfl)
theorem dJ2_add_21 : decode cJ2_add 21 = .ok (.ireturn, 1) := dk_172 (dk_at dksJ2_add_0 21 rfl rfl)
abbrev cJ2_pollFirst : ByteArray := prog_71_method_29_code
def yJ2_pollFirst : MethodName := ⟨RJ2, "pollFirst", "()Ljava/lang/Object;"⟩
def dkwJ2_pollFirst_1 : List UInt8 := [176]
abbrev dktJ2_pollFirst_1 : List UInt8 := dkwJ2_pollFirst_1 ++ []
def dkwJ2_pollFirst_0 : List UInt8 := [42, 180, 0, 7, 185, 0, 137, 1, 0, 76, 43, 199, 0, 7, 1, 167, 0, 9, 43, 185, 0, 141, 1, 0]
abbrev dktJ2_pollFirst_0 : List UInt8 := dkwJ2_pollFirst_0 ++ dktJ2_pollFirst_1
theorem dksJ2_pollFirst_0 : cJ2_pollFirst.data.toList.drop 0 = dktJ2_pollFirst_0 := by decide +kernel
theorem dksJ2_pollFirst_1 : cJ2_pollFirst.data.toList.drop 24 = dktJ2_pollFirst_1 := dk_seg dksJ2_pollFirst_0 24 rfl rfl
theorem dJ2_pollFirst_0 : decode cJ2_pollFirst 0 = .ok (.aload_n 0, 1) := dk_42 (dk_at dksJ2_pollFirst_0 0 rfl rfl)
theorem dJ2_pollFirst_1 : decode cJ2_pollFirst 1 = .ok (.getfield 7, 3) := dk_180 0 7 (dk_at dksJ2_pollFirst_0 1 rfl rfl)
theorem dJ2_pollFirst_4 : decode cJ2_pollFirst 4 = .ok (.invokeinterface 137 1, 5) := by decide +kernel
theorem dJ2_pollFirst_9 : decode cJ2_pollFirst 9 = .ok (.astore_n 1, 1) := dk_76 (dk_at dksJ2_pollFirst_0 9 rfl rfl)
theorem dJ2_pollFirst_10 : decode cJ2_pollFirst 10 = .ok (.aload_n 1, 1) := dk_43 (dk_at dksJ2_pollFirst_0 10 rfl rfl)
theorem dJ2_pollFirst_11 : decode cJ2_pollFirst 11 = .ok (.ifnonnull 7, 3) := dk_199 0 7 (dk_at dksJ2_pollFirst_0 11 rfl rfl)
theorem dJ2_pollFirst_14 : decode cJ2_pollFirst 14 = .ok (.aconst_null, 1) := dk_1 (dk_at dksJ2_pollFirst_0 14 rfl rfl)
theorem dJ2_pollFirst_15 : decode cJ2_pollFirst 15 = .ok (.goto 9, 3) := dk_167 0 9 (dk_at dksJ2_pollFirst_0 15 rfl rfl)
theorem dJ2_pollFirst_18 : decode cJ2_pollFirst 18 = .ok (.aload_n 1, 1) := dk_43 (dk_at dksJ2_pollFirst_0 18 rfl rfl)
theorem dJ2_pollFirst_19 : decode cJ2_pollFirst 19 = .ok (.invokeinterface 141 1, 5) := by decide +kernel
theorem dJ2_pollFirst_24 : decode cJ2_pollFirst 24 = .ok (.areturn, 1) := dk_176 (dk_at dksJ2_pollFirst_1 0 rfl rfl)
abbrev cJ2_iterator : ByteArray := prog_71_method_6_code
def yJ2_iterator : MethodName := ⟨RJ2, "iterator", "()Ljava/util/Iterator;"⟩
def dkwJ2_iterator_0 : List UInt8 := [42, 180, 0, 7, 185, 0, 34, 1, 0, 185, 0, 40, 1, 0, 176]
abbrev dktJ2_iterator_0 : List UInt8 := dkwJ2_iterator_0 ++ []
theorem dksJ2_iterator_0 : cJ2_iterator.data.toList.drop 0 = dktJ2_iterator_0 := by decide +kernel
theorem dJ2_iterator_0 : decode cJ2_iterator 0 = .ok (.aload_n 0, 1) := dk_42 (dk_at dksJ2_iterator_0 0 rfl rfl)
theorem dJ2_iterator_1 : decode cJ2_iterator 1 = .ok (.getfield 7, 3) := dk_180 0 7 (dk_at dksJ2_iterator_0 1 rfl rfl)
theorem dJ2_iterator_4 : decode cJ2_iterator 4 = .ok (.invokeinterface 34 1, 5) := by decide +kernel
theorem dJ2_iterator_9 : decode cJ2_iterator 9 = .ok (.invokeinterface 40 1, 5) := by decide +kernel
theorem dJ2_iterator_14 : decode cJ2_iterator 14 = .ok (.areturn, 1) := dk_176 (dk_at dksJ2_iterator_0 14 rfl rfl)
abbrev cJ2_init : ByteArray := prog_71_method_2_code
def yJ2_init : MethodName := ⟨RJ2, "<init>", "()V"⟩
def dkwJ2_init_0 : List UInt8 := [42, 187, 0, 13, 89, 183, 0, 15, 183, 0, 16, 177]
abbrev dktJ2_init_0 : List UInt8 := dkwJ2_init_0 ++ []
theorem dksJ2_init_0 : cJ2_init.data.toList.drop 0 = dktJ2_init_0 := by decide +kernel
theorem dJ2_init_0 : decode cJ2_init 0 = .ok (.aload_n 0, 1) := dk_42 (dk_at dksJ2_init_0 0 rfl rfl)
theorem dJ2_init_1 : decode cJ2_init 1 = .ok (.new 13, 3) := dk_187 0 13 (dk_at dksJ2_init_0 1 rfl rfl)
theorem dJ2_init_4 : decode cJ2_init 4 = .ok (.dup, 1) := dk_89 (dk_at dksJ2_init_0 4 rfl rfl)
theorem dJ2_init_5 : decode cJ2_init 5 = .ok (.invokespecial 15, 3) := dk_183 0 15 (dk_at dksJ2_init_0 5 rfl rfl)
theorem dJ2_init_8 : decode cJ2_init 8 = .ok (.invokespecial 16, 3) := dk_183 0 16 (dk_at dksJ2_init_0 8 rfl rfl)
theorem dJ2_init_11 : decode cJ2_init 11 = .ok (.return_, 1) := dk_177 (dk_at dksJ2_init_0 11 rfl rfl)
abbrev cJ2_init_2 : ByteArray := prog_71_method_1_code
def yJ2_init_2 : MethodName := ⟨RJ2, "<init>", "(Ljava/util/NavigableMap;)V"⟩
def dkwJ2_init_2_0 : List UInt8 := [42, 183, 0, 1, 42, 43, 181, 0, 7, 177]
abbrev dktJ2_init_2_0 : List UInt8 := dkwJ2_init_2_0 ++ []
theorem dksJ2_init_2_0 : cJ2_init_2.data.toList.drop 0 = dktJ2_init_2_0 := by decide +kernel
theorem dJ2_init_2_0 : decode cJ2_init_2 0 = .ok (.aload_n 0, 1) := dk_42 (dk_at dksJ2_init_2_0 0 rfl rfl)
theorem dJ2_init_2_1 : decode cJ2_init_2 1 = .ok (.invokespecial 1, 3) := dk_183 0 1 (dk_at dksJ2_init_2_0 1 rfl rfl)
theorem dJ2_init_2_4 : decode cJ2_init_2 4 = .ok (.aload_n 0, 1) := dk_42 (dk_at dksJ2_init_2_0 4 rfl rfl)
theorem dJ2_init_2_5 : decode cJ2_init_2 5 = .ok (.aload_n 1, 1) := dk_43 (dk_at dksJ2_init_2_0 5 rfl rfl)
theorem dJ2_init_2_6 : decode cJ2_init_2 6 = .ok (.putfield 7, 3) := dk_181 0 7 (dk_at dksJ2_init_2_0 6 rfl rfl)
theorem dJ2_init_2_9 : decode cJ2_init_2 9 = .ok (.return_, 1) := dk_177 (dk_at dksJ2_init_2_0 9 rfl rfl)
abbrev cJ2_addAll : ByteArray := prog_71_method_15_code
def yJ2_addAll : MethodName := ⟨RJ2, "addAll", "(Ljava/util/Collection;)Z"⟩
def dkwJ2_addAll_3 : List UInt8 := [178, 0, 65, 182, 0, 90, 4, 172, 42, 43, 183, 0, 94, 172]
abbrev dktJ2_addAll_3 : List UInt8 := dkwJ2_addAll_3 ++ []
def dkwJ2_addAll_2 : List UInt8 := [192, 0, 28, 78, 45, 185, 0, 27, 1, 0, 44, 182, 0, 83, 184, 0, 84, 153, 0, 13, 44, 45]
abbrev dktJ2_addAll_2 : List UInt8 := dkwJ2_addAll_2 ++ dktJ2_addAll_3
def dkwJ2_addAll_1 : List UInt8 := [193, 0, 28, 153, 0, 51, 42, 180, 0, 7, 78, 45, 193, 0, 13, 153, 0, 39, 45, 192, 0, 13, 77, 43]
abbrev dktJ2_addAll_1 : List UInt8 := dkwJ2_addAll_1 ++ dktJ2_addAll_2
def dkwJ2_addAll_0 : List UInt8 := [42, 180, 0, 7, 185, 0, 53, 1, 0, 154, 0, 67, 43, 185, 0, 80, 1, 0, 158, 0, 58, 43]
abbrev dktJ2_addAll_0 : List UInt8 := dkwJ2_addAll_0 ++ dktJ2_addAll_1
theorem dksJ2_addAll_0 : cJ2_addAll.data.toList.drop 0 = dktJ2_addAll_0 := by decide +kernel
theorem dksJ2_addAll_1 : cJ2_addAll.data.toList.drop 22 = dktJ2_addAll_1 := dk_seg dksJ2_addAll_0 22 rfl rfl
theorem dksJ2_addAll_2 : cJ2_addAll.data.toList.drop 46 = dktJ2_addAll_2 := dk_seg dksJ2_addAll_1 24 rfl rfl
theorem dksJ2_addAll_3 : cJ2_addAll.data.toList.drop 68 = dktJ2_addAll_3 := dk_seg dksJ2_addAll_2 22 rfl rfl
theorem dJ2_addAll_0 : decode cJ2_addAll 0 = .ok (.aload_n 0, 1) := dk_42 (dk_at dksJ2_addAll_0 0 rfl rfl)
theorem dJ2_addAll_1 : decode cJ2_addAll 1 = .ok (.getfield 7, 3) := dk_180 0 7 (dk_at dksJ2_addAll_0 1 rfl rfl)
theorem dJ2_addAll_4 : decode cJ2_addAll 4 = .ok (.invokeinterface 53 1, 5) := by decide +kernel
theorem dJ2_addAll_9 : decode cJ2_addAll 9 = .ok (.ifCond .ne 67, 3) := dk_154 0 67 (dk_at dksJ2_addAll_0 9 rfl rfl)
theorem dJ2_addAll_12 : decode cJ2_addAll 12 = .ok (.aload_n 1, 1) := dk_43 (dk_at dksJ2_addAll_0 12 rfl rfl)
theorem dJ2_addAll_13 : decode cJ2_addAll 13 = .ok (.invokeinterface 80 1, 5) := by decide +kernel
theorem dJ2_addAll_18 : decode cJ2_addAll 18 = .ok (.ifCond .le 58, 3) := dk_158 0 58 (dk_at dksJ2_addAll_0 18 rfl rfl)
theorem dJ2_addAll_21 : decode cJ2_addAll 21 = .ok (.aload_n 1, 1) := dk_43 (dk_at dksJ2_addAll_0 21 rfl rfl)
theorem dJ2_addAll_22 : decode cJ2_addAll 22 = .ok (.instanceof 28, 3) := dk_193 0 28 (dk_at dksJ2_addAll_1 0 rfl rfl)
theorem dJ2_addAll_25 : decode cJ2_addAll 25 = .ok (.ifCond .eq 51, 3) := dk_153 0 51 (dk_at dksJ2_addAll_1 3 rfl rfl)
theorem dJ2_addAll_28 : decode cJ2_addAll 28 = .ok (.aload_n 0, 1) := dk_42 (dk_at dksJ2_addAll_1 6 rfl rfl)
theorem dJ2_addAll_29 : decode cJ2_addAll 29 = .ok (.getfield 7, 3) := dk_180 0 7 (dk_at dksJ2_addAll_1 7 rfl rfl)
theorem dJ2_addAll_32 : decode cJ2_addAll 32 = .ok (.astore_n 3, 1) := dk_78 (dk_at dksJ2_addAll_1 10 rfl rfl)
theorem dJ2_addAll_33 : decode cJ2_addAll 33 = .ok (.aload_n 3, 1) := dk_45 (dk_at dksJ2_addAll_1 11 rfl rfl)
theorem dJ2_addAll_34 : decode cJ2_addAll 34 = .ok (.instanceof 13, 3) := dk_193 0 13 (dk_at dksJ2_addAll_1 12 rfl rfl)
theorem dJ2_addAll_37 : decode cJ2_addAll 37 = .ok (.ifCond .eq 39, 3) := dk_153 0 39 (dk_at dksJ2_addAll_1 15 rfl rfl)
theorem dJ2_addAll_40 : decode cJ2_addAll 40 = .ok (.aload_n 3, 1) := dk_45 (dk_at dksJ2_addAll_1 18 rfl rfl)
theorem dJ2_addAll_41 : decode cJ2_addAll 41 = .ok (.checkcast 13, 3) := dk_192 0 13 (dk_at dksJ2_addAll_1 19 rfl rfl)
theorem dJ2_addAll_44 : decode cJ2_addAll 44 = .ok (.astore_n 2, 1) := dk_77 (dk_at dksJ2_addAll_1 22 rfl rfl)
theorem dJ2_addAll_45 : decode cJ2_addAll 45 = .ok (.aload_n 1, 1) := dk_43 (dk_at dksJ2_addAll_1 23 rfl rfl)
theorem dJ2_addAll_46 : decode cJ2_addAll 46 = .ok (.checkcast 28, 3) := dk_192 0 28 (dk_at dksJ2_addAll_2 0 rfl rfl)
theorem dJ2_addAll_49 : decode cJ2_addAll 49 = .ok (.astore_n 3, 1) := dk_78 (dk_at dksJ2_addAll_2 3 rfl rfl)
theorem dJ2_addAll_50 : decode cJ2_addAll 50 = .ok (.aload_n 3, 1) := dk_45 (dk_at dksJ2_addAll_2 4 rfl rfl)
theorem dJ2_addAll_51 : decode cJ2_addAll 51 = .ok (.invokeinterface 27 1, 5) := by decide +kernel
theorem dJ2_addAll_56 : decode cJ2_addAll 56 = .ok (.aload_n 2, 1) := dk_44 (dk_at dksJ2_addAll_2 10 rfl rfl)
theorem dJ2_addAll_57 : decode cJ2_addAll 57 = .ok (.invokevirtual 83, 3) := dk_182 0 83 (dk_at dksJ2_addAll_2 11 rfl rfl)
theorem dJ2_addAll_60 : decode cJ2_addAll 60 = .ok (.invokestatic 84, 3) := dk_184 0 84 (dk_at dksJ2_addAll_2 14 rfl rfl)
theorem dJ2_addAll_63 : decode cJ2_addAll 63 = .ok (.ifCond .eq 13, 3) := dk_153 0 13 (dk_at dksJ2_addAll_2 17 rfl rfl)
theorem dJ2_addAll_66 : decode cJ2_addAll 66 = .ok (.aload_n 2, 1) := dk_44 (dk_at dksJ2_addAll_2 20 rfl rfl)
theorem dJ2_addAll_67 : decode cJ2_addAll 67 = .ok (.aload_n 3, 1) := dk_45 (dk_at dksJ2_addAll_2 21 rfl rfl)
theorem dJ2_addAll_68 : decode cJ2_addAll 68 = .ok (.getstatic 65, 3) := dk_178 0 65 (dk_at dksJ2_addAll_3 0 rfl rfl)
theorem dJ2_addAll_71 : decode cJ2_addAll 71 = .ok (.invokevirtual 90, 3) := dk_182 0 90 (dk_at dksJ2_addAll_3 3 rfl rfl)
theorem dJ2_addAll_74 : decode cJ2_addAll 74 = .ok (.iconst 1, 1) := dk_4 (dk_at dksJ2_addAll_3 6 rfl rfl)
theorem dJ2_addAll_75 : decode cJ2_addAll 75 = .ok (.ireturn, 1) := dk_172 (dk_at dksJ2_addAll_3 7 rfl rfl)
theorem dJ2_addAll_76 : decode cJ2_addAll 76 = .ok (.aload_n 0, 1) := dk_42 (dk_at dksJ2_addAll_3 8 rfl rfl)
theorem dJ2_addAll_77 : decode cJ2_addAll 77 = .ok (.aload_n 1, 1) := dk_43 (dk_at dksJ2_addAll_3 9 rfl rfl)
theorem dJ2_addAll_78 : decode cJ2_addAll 78 = .ok (.invokespecial 94, 3) := dk_183 0 94 (dk_at dksJ2_addAll_3 10 rfl rfl)
theorem dJ2_addAll_81 : decode cJ2_addAll 81 = .ok (.ireturn, 1) := dk_172 (dk_at dksJ2_addAll_3 13 rfl rfl)
abbrev cJ2_comparator : ByteArray := prog_71_method_22_code
def yJ2_comparator : MethodName := ⟨RJ2, "comparator", "()Ljava/util/Comparator;"⟩
def dkwJ2_comparator_0 : List UInt8 := [42, 180, 0, 7, 185, 0, 117, 1, 0, 176]
abbrev dktJ2_comparator_0 : List UInt8 := dkwJ2_comparator_0 ++ []
theorem dksJ2_comparator_0 : cJ2_comparator.data.toList.drop 0 = dktJ2_comparator_0 := by decide +kernel
theorem dJ2_comparator_0 : decode cJ2_comparator 0 = .ok (.aload_n 0, 1) := dk_42 (dk_at dksJ2_comparator_0 0 rfl rfl)
theorem dJ2_comparator_1 : decode cJ2_comparator 1 = .ok (.getfield 7, 3) := dk_180 0 7 (dk_at dksJ2_comparator_0 1 rfl rfl)
theorem dJ2_comparator_4 : decode cJ2_comparator 4 = .ok (.invokeinterface 117 1, 5) := by decide +kernel
theorem dJ2_comparator_9 : decode cJ2_comparator 9 = .ok (.areturn, 1) := dk_176 (dk_at dksJ2_comparator_0 9 rfl rfl)
theorem q109 : (Jvm.Cond.initialized "java/util/TreeSet") ∈ lw_all := lw_g (lw_at lw_m1 6 rfl) rfl
theorem q545 : (Jvm.Cond.instanceMethod ({ cls := "java/util/TreeSet", name := "clear", desc := "()V" } : Jvm.MethodName)) ∈ lw_all := lw_g (lw_at lw_m2 202 rfl) rfl
theorem q546 : (Jvm.Cond.selects "java/util/TreeSet" ({ cls := "java/util/TreeSet", name := "clear", desc := "()V" } : Jvm.MethodName) ({ cls := "java/util/TreeSet", name := "clear", desc := "()V" } : Jvm.MethodName)) ∈ lw_all := lw_g (lw_at lw_m2 203 rfl) rfl
theorem q547 : (Jvm.Cond.code ({ cls := "java/util/TreeSet", name := "clear", desc := "()V" } : Jvm.MethodName) prog_71_method_14_code (1 : Nat) (Option.none : Option Jvm.ClassFile.FieldType)) ∈ lw_all := lw_g (lw_at lw_m2 204 rfl) rfl
theorem q548 : (Jvm.Cond.interfaceEntry "java/util/TreeSet" (77 : Nat)) ∈ lw_tbl := lw_at lw_m2 205 rfl
theorem q585 : (Jvm.Cond.instanceMethod ({ cls := "java/util/TreeSet", name := "size", desc := "()I" } : Jvm.MethodName)) ∈ lw_all := lw_g (lw_at lw_m3 2 rfl) rfl
theorem q586 : (Jvm.Cond.selects "java/util/TreeSet" ({ cls := "java/util/TreeSet", name := "size", desc := "()I" } : Jvm.MethodName) ({ cls := "java/util/TreeSet", name := "size", desc := "()I" } : Jvm.MethodName)) ∈ lw_all := lw_g (lw_at lw_m3 3 rfl) rfl
theorem q587 : (Jvm.Cond.code ({ cls := "java/util/TreeSet", name := "size", desc := "()I" } : Jvm.MethodName) prog_71_method_9_code (1 : Nat) (Option.some Jvm.ClassFile.FieldType.int)) ∈ lw_all := lw_g (lw_at lw_m3 4 rfl) rfl
theorem q588 : (Jvm.Cond.interfaceEntry "java/util/TreeSet" (53 : Nat)) ∈ lw_tbl := lw_at lw_m3 5 rfl
theorem q816 : (Jvm.Cond.selects "java/util/TreeSet" ({ cls := "java/lang/Object", name := "getClass", desc := "()Ljava/lang/Class;" } : Jvm.MethodName) ({ cls := "java/lang/Object", name := "getClass", desc := "()Ljava/lang/Class;" } : Jvm.MethodName)) ∈ lw_all := lw_g (lw_at lw_m3 233 rfl) rfl
theorem q1067 : (Jvm.Cond.instanceMethod ({ cls := "java/util/TreeSet", name := "add", desc := "(Ljava/lang/Object;)Z" } : Jvm.MethodName)) ∈ lw_all := lw_g (lw_at lw_m5 4 rfl) rfl
theorem q1068 : (Jvm.Cond.selects "java/util/TreeSet" ({ cls := "java/util/TreeSet", name := "add", desc := "(Ljava/lang/Object;)Z" } : Jvm.MethodName) ({ cls := "java/util/TreeSet", name := "add", desc := "(Ljava/lang/Object;)Z" } : Jvm.MethodName)) ∈ lw_all := lw_g (lw_at lw_m5 5 rfl) rfl
theorem q1069 : (Jvm.Cond.code ({ cls := "java/util/TreeSet", name := "add", desc := "(Ljava/lang/Object;)Z" } : Jvm.MethodName) prog_71_method_12_code (2 : Nat) (Option.some Jvm.ClassFile.FieldType.boolean)) ∈ lw_all := lw_g (lw_at lw_m5 6 rfl) rfl
theorem q1070 : (Jvm.Cond.fieldLink "java/util/TreeSet" (65 : Nat) "java/util/TreeSet" "PRESENT" "Ljava/lang/Object;") ∈ lw_all := lw_g (lw_at lw_m5 7 rfl) rfl
theorem q1071 : (Jvm.Cond.laysStatic "java/util/TreeSet" "PRESENT" "Ljava/lang/Object;") ∈ lw_tbl := lw_at lw_m5 8 rfl
theorem q1072 : (Jvm.Cond.interfaceEntry "java/util/TreeSet" (69 : Nat)) ∈ lw_tbl := lw_at lw_m5 9 rfl
theorem q1165 : (Jvm.Cond.instanceMethod ({ cls := "java/util/TreeSet", name := "pollFirst", desc := "()Ljava/lang/Object;" } : Jvm.MethodName)) ∈ lw_all := lw_g (lw_at lw_m5 102 rfl) rfl
theorem q1166 : (Jvm.Cond.selects "java/util/TreeSet" ({ cls := "java/util/TreeSet", name := "pollFirst", desc := "()Ljava/lang/Object;" } : Jvm.MethodName) ({ cls := "java/util/TreeSet", name := "pollFirst", desc := "()Ljava/lang/Object;" } : Jvm.MethodName)) ∈ lw_all := lw_g (lw_at lw_m5 103 rfl) rfl
theorem q1167 : (Jvm.Cond.code ({ cls := "java/util/TreeSet", name := "pollFirst", desc := "()Ljava/lang/Object;" } : Jvm.MethodName) prog_71_method_29_code (2 : Nat) (Option.some (Jvm.ClassFile.FieldType.object "java/lang/Object"))) ∈ lw_all := lw_g (lw_at lw_m5 104 rfl) rfl
theorem q1168 : (Jvm.Cond.interfaceEntry "java/util/TreeSet" (137 : Nat)) ∈ lw_tbl := lw_at lw_m5 105 rfl
theorem q1169 : (Jvm.Cond.methodLink "java/util/TreeSet" (137 : Nat) ({ cls := "java/util/NavigableMap", name := "pollFirstEntry", desc := "()Ljava/util/Map$Entry;" } : Jvm.MethodName)) ∈ lw_all := lw_g (lw_at lw_m5 106 rfl) rfl
theorem q1238 : (Jvm.Cond.interfaceEntry "java/util/TreeSet" (141 : Nat)) ∈ lw_tbl := lw_at lw_m5 175 rfl
theorem q1239 : (Jvm.Cond.methodLink "java/util/TreeSet" (141 : Nat) ({ cls := "java/util/Map$Entry", name := "getKey", desc := "()Ljava/lang/Object;" } : Jvm.MethodName)) ∈ lw_all := lw_g (lw_at lw_m5 176 rfl) rfl
theorem q1254 : (Jvm.Cond.instanceMethod ({ cls := "java/util/TreeSet", name := "iterator", desc := "()Ljava/util/Iterator;" } : Jvm.MethodName)) ∈ lw_all := lw_g (lw_at lw_m5 191 rfl) rfl
theorem q1255 : (Jvm.Cond.selects "java/util/TreeSet" ({ cls := "java/util/TreeSet", name := "iterator", desc := "()Ljava/util/Iterator;" } : Jvm.MethodName) ({ cls := "java/util/TreeSet", name := "iterator", desc := "()Ljava/util/Iterator;" } : Jvm.MethodName)) ∈ lw_all := lw_g (lw_at lw_m5 192 rfl) rfl
theorem q1256 : (Jvm.Cond.code ({ cls := "java/util/TreeSet", name := "iterator", desc := "()Ljava/util/Iterator;" } : Jvm.MethodName) prog_71_method_6_code (1 : Nat) (Option.some (Jvm.ClassFile.FieldType.object "java/util/Iterator"))) ∈ lw_all := lw_g (lw_at lw_m5 193 rfl) rfl
theorem q1257 : (Jvm.Cond.interfaceEntry "java/util/TreeSet" (34 : Nat)) ∈ lw_tbl := lw_at lw_m5 194 rfl
theorem q1258 : (Jvm.Cond.methodLink "java/util/TreeSet" (34 : Nat) ({ cls := "java/util/NavigableMap", name := "navigableKeySet", desc := "()Ljava/util/NavigableSet;" } : Jvm.MethodName)) ∈ lw_all := lw_g (lw_at lw_m5 195 rfl) rfl
theorem q1282 : (Jvm.Cond.interfaceEntry "java/util/TreeSet" (40 : Nat)) ∈ lw_tbl := lw_at lw_m5 219 rfl
theorem q1283 : (Jvm.Cond.methodLink "java/util/TreeSet" (40 : Nat) ({ cls := "java/util/NavigableSet", name := "iterator", desc := "()Ljava/util/Iterator;" } : Jvm.MethodName)) ∈ lw_all := lw_g (lw_at lw_m5 220 rfl) rfl
theorem q1323 : (Jvm.Cond.castable "java/util/TreeSet" "java/util/NavigableSet") ∈ lw_tbl := lw_at lw_m6 20 rfl
theorem q1324 : (Jvm.Cond.selects "java/util/TreeSet" ({ cls := "java/util/NavigableSet", name := "iterator", desc := "()Ljava/util/Iterator;" } : Jvm.MethodName) ({ cls := "java/util/TreeSet", name := "iterator", desc := "()Ljava/util/Iterator;" } : Jvm.MethodName)) ∈ lw_all := lw_g (lw_at lw_m6 21 rfl) rfl
theorem q1325 : (Jvm.Cond.unhidden "java/util/TreeSet" "iterator" "()Ljava/util/Iterator;") ∈ lw_tbl := lw_at lw_m6 22 rfl
theorem q1326 : (Jvm.Cond.publicMethod ({ cls := "java/util/TreeSet", name := "iterator", desc := "()Ljava/util/Iterator;" } : Jvm.MethodName)) ∈ lw_tbl := lw_at lw_m6 23 rfl
theorem q1398 : (Jvm.Cond.instantiable "java/util/TreeSet" (1 : Nat)) ∈ lw_all := lw_g (lw_at lw_m6 95 rfl) rfl
theorem q1400 : (Jvm.Cond.instanceMethod ({ cls := "java/util/TreeSet", name := "<init>", desc := "()V" } : Jvm.MethodName)) ∈ lw_all := lw_g (lw_at lw_m6 97 rfl) rfl
theorem q1401 : (Jvm.Cond.code ({ cls := "java/util/TreeSet", name := "<init>", desc := "()V" } : Jvm.MethodName) prog_71_method_2_code (1 : Nat) (Option.none : Option Jvm.ClassFile.FieldType)) ∈ lw_all := lw_g (lw_at lw_m6 98 rfl) rfl
theorem q1402 : (Jvm.Cond.classLink "java/util/TreeSet" (13 : Nat) "java/util/TreeMap") ∈ lw_all := lw_g (lw_at lw_m6 99 rfl) rfl
theorem q1403 : (Jvm.Cond.methodLink "java/util/TreeSet" (15 : Nat) ({ cls := "java/util/TreeMap", name := "<init>", desc := "()V" } : Jvm.MethodName)) ∈ lw_all := lw_g (lw_at lw_m6 100 rfl) rfl
theorem q1435 : (Jvm.Cond.methodLink "java/util/TreeSet" (16 : Nat) ({ cls := "java/util/TreeSet", name := "<init>", desc := "(Ljava/util/NavigableMap;)V" } : Jvm.MethodName)) ∈ lw_all := lw_g (lw_at lw_m6 132 rfl) rfl
theorem q1436 : (Jvm.Cond.instanceMethod ({ cls := "java/util/TreeSet", name := "<init>", desc := "(Ljava/util/NavigableMap;)V" } : Jvm.MethodName)) ∈ lw_all := lw_g (lw_at lw_m6 133 rfl) rfl
theorem q1437 : (Jvm.Cond.code ({ cls := "java/util/TreeSet", name := "<init>", desc := "(Ljava/util/NavigableMap;)V" } : Jvm.MethodName) prog_71_method_1_code (2 : Nat) (Option.none : Option Jvm.ClassFile.FieldType)) ∈ lw_all := lw_g (lw_at lw_m6 134 rfl) rfl
theorem q1438 : (Jvm.Cond.methodLink "java/util/TreeSet" (1 : Nat) ({ cls := "java/util/AbstractSet", name := "<init>", desc := "()V" } : Jvm.MethodName)) ∈ lw_all := lw_g (lw_at lw_m6 135 rfl) rfl
theorem q1439 : (Jvm.Cond.fieldLink "java/util/TreeSet" (7 : Nat) "java/util/TreeSet" "m" "Ljava/util/NavigableMap;") ∈ lw_all := lw_g (lw_at lw_m6 136 rfl) rfl
theorem q1440 : (Jvm.Cond.lays "java/util/TreeSet" "java/util/TreeSet" "m" "Ljava/util/NavigableMap;") ∈ lw_all := lw_g (lw_at lw_m6 137 rfl) rfl
theorem q1441 : (Jvm.Cond.soleField "java/util/TreeSet" "m") ∈ lw_all := lw_g (lw_at lw_m6 138 rfl) rfl
theorem q1442 : (Jvm.Cond.superclass "java/util/TreeSet" "java/util/AbstractSet") ∈ lw_all := lw_g (lw_at lw_m6 139 rfl) rfl
theorem q1459 : (Jvm.Cond.instanceMethod ({ cls := "java/util/TreeSet", name := "addAll", desc := "(Ljava/util/Collection;)Z" } : Jvm.MethodName)) ∈ lw_all := lw_g (lw_at lw_m6 156 rfl) rfl
theorem q1460 : (Jvm.Cond.selects "java/util/TreeSet" ({ cls := "java/util/TreeSet", name := "addAll", desc := "(Ljava/util/Collection;)Z" } : Jvm.MethodName) ({ cls := "java/util/TreeSet", name := "addAll", desc := "(Ljava/util/Collection;)Z" } : Jvm.MethodName)) ∈ lw_all := lw_g (lw_at lw_m6 157 rfl) rfl
theorem q1461 : (Jvm.Cond.code ({ cls := "java/util/TreeSet", name := "addAll", desc := "(Ljava/util/Collection;)Z" } : Jvm.MethodName) prog_71_method_15_code (4 : Nat) (Option.some Jvm.ClassFile.FieldType.boolean)) ∈ lw_all := lw_g (lw_at lw_m6 158 rfl) rfl
theorem q1462 : (Jvm.Cond.interfaceEntry "java/util/TreeSet" (80 : Nat)) ∈ lw_tbl := lw_at lw_m6 159 rfl
theorem q1463 : (Jvm.Cond.methodLink "java/util/TreeSet" (80 : Nat) ({ cls := "java/util/Collection", name := "size", desc := "()I" } : Jvm.MethodName)) ∈ lw_all := lw_g (lw_at lw_m6 160 rfl) rfl
theorem q1477 : (Jvm.Cond.castable "java/util/TreeSet" "java/util/Collection") ∈ lw_tbl := lw_at lw_m6 174 rfl
theorem q1478 : (Jvm.Cond.selects "java/util/TreeSet" ({ cls := "java/util/Collection", name := "size", desc := "()I" } : Jvm.MethodName) ({ cls := "java/util/TreeSet", name := "size", desc := "()I" } : Jvm.MethodName)) ∈ lw_all := lw_g (lw_at lw_m6 175 rfl) rfl
theorem q1479 : (Jvm.Cond.unhidden "java/util/TreeSet" "size" "()I") ∈ lw_tbl := lw_at lw_m6 176 rfl
theorem q1480 : (Jvm.Cond.publicMethod ({ cls := "java/util/TreeSet", name := "size", desc := "()I" } : Jvm.MethodName)) ∈ lw_tbl := lw_at lw_m6 177 rfl
theorem q1481 : (Jvm.Cond.classLink "java/util/TreeSet" (28 : Nat) "java/util/SortedSet") ∈ lw_all := lw_g (lw_at lw_m6 178 rfl) rfl
theorem q1482 : (Jvm.Cond.interfaceEntry "java/util/TreeSet" (27 : Nat)) ∈ lw_tbl := lw_at lw_m6 179 rfl
theorem q1483 : (Jvm.Cond.methodLink "java/util/TreeSet" (27 : Nat) ({ cls := "java/util/SortedSet", name := "comparator", desc := "()Ljava/util/Comparator;" } : Jvm.MethodName)) ∈ lw_all := lw_g (lw_at lw_m6 180 rfl) rfl
theorem q1500 : (Jvm.Cond.castable "java/util/TreeSet" "java/util/SortedSet") ∈ lw_tbl := lw_at lw_m6 197 rfl
theorem q1501 : (Jvm.Cond.selects "java/util/TreeSet" ({ cls := "java/util/SortedSet", name := "comparator", desc := "()Ljava/util/Comparator;" } : Jvm.MethodName) ({ cls := "java/util/TreeSet", name := "comparator", desc := "()Ljava/util/Comparator;" } : Jvm.MethodName)) ∈ lw_all := lw_g (lw_at lw_m6 198 rfl) rfl
theorem q1502 : (Jvm.Cond.unhidden "java/util/TreeSet" "comparator" "()Ljava/util/Comparator;") ∈ lw_tbl := lw_at lw_m6 199 rfl
theorem q1503 : (Jvm.Cond.instanceMethod ({ cls := "java/util/TreeSet", name := "comparator", desc := "()Ljava/util/Comparator;" } : Jvm.MethodName)) ∈ lw_all := lw_g (lw_at lw_m6 200 rfl) rfl
theorem q1504 : (Jvm.Cond.publicMethod ({ cls := "java/util/TreeSet", name := "comparator", desc := "()Ljava/util/Comparator;" } : Jvm.MethodName)) ∈ lw_tbl := lw_at lw_m6 201 rfl
theorem q1505 : (Jvm.Cond.code ({ cls := "java/util/TreeSet", name := "comparator", desc := "()Ljava/util/Comparator;" } : Jvm.MethodName) prog_71_method_22_code (1 : Nat) (Option.some (Jvm.ClassFile.FieldType.object "java/util/Comparator"))) ∈ lw_all := lw_g (lw_at lw_m6 202 rfl) rfl
theorem q1506 : (Jvm.Cond.interfaceEntry "java/util/TreeSet" (117 : Nat)) ∈ lw_tbl := lw_at lw_m6 203 rfl
theorem q1507 : (Jvm.Cond.methodLink "java/util/TreeSet" (83 : Nat) ({ cls := "java/util/TreeMap", name := "comparator", desc := "()Ljava/util/Comparator;" } : Jvm.MethodName)) ∈ lw_all := lw_g (lw_at lw_m6 204 rfl) rfl
theorem q1508 : (Jvm.Cond.methodLink "java/util/TreeSet" (84 : Nat) ({ cls := "java/util/Objects", name := "equals", desc := "(Ljava/lang/Object;Ljava/lang/Object;)Z" } : Jvm.MethodName)) ∈ lw_all := lw_g (lw_at lw_m6 205 rfl) rfl
theorem q1538 : (Jvm.Cond.methodLink "java/util/TreeSet" (90 : Nat) ({ cls := "java/util/TreeMap", name := "addAllForTreeSet", desc := "(Ljava/util/SortedSet;Ljava/lang/Object;)V" } : Jvm.MethodName)) ∈ lw_all := lw_g (lw_at lw_m6 235 rfl) rfl
theorem q1548 : (Jvm.Cond.selects "java/util/TreeSet" ({ cls := "java/lang/Iterable", name := "iterator", desc := "()Ljava/util/Iterator;" } : Jvm.MethodName) ({ cls := "java/util/TreeSet", name := "iterator", desc := "()Ljava/util/Iterator;" } : Jvm.MethodName)) ∈ lw_all := lw_g (lw_at lw_m7 5 rfl) rfl
theorem q1568 : (Jvm.Cond.methodLink "java/util/TreeSet" (94 : Nat) ({ cls := "java/util/AbstractSet", name := "addAll", desc := "(Ljava/util/Collection;)Z" } : Jvm.MethodName)) ∈ lw_all := lw_g (lw_at lw_m7 25 rfl) rfl
theorem q1609 : (Jvm.Cond.selects "java/util/TreeSet" ({ cls := "java/util/Collection", name := "iterator", desc := "()Ljava/util/Iterator;" } : Jvm.MethodName) ({ cls := "java/util/TreeSet", name := "iterator", desc := "()Ljava/util/Iterator;" } : Jvm.MethodName)) ∈ lw_all := lw_g (lw_at lw_m7 66 rfl) rfl
theorem q1619 : (Jvm.Cond.selects "java/util/TreeSet" ({ cls := "java/util/AbstractCollection", name := "add", desc := "(Ljava/lang/Object;)Z" } : Jvm.MethodName) ({ cls := "java/util/TreeSet", name := "add", desc := "(Ljava/lang/Object;)Z" } : Jvm.MethodName)) ∈ lw_all := lw_g (lw_at lw_m7 76 rfl) rfl
theorem q2301 : (Jvm.Cond.castable "java/util/TreeSet" "java/lang/Object") ∈ lw_tbl := lw_at lw_m10 38 rfl
theorem in_J2 : ∀ w ∈ wsJ20, w ∈ lw_all := lw_in wsJ20 [1440] (by decide +kernel) (by decide +kernel)

/-! java/util/AbstractMap -/
set_option maxRecDepth 100000
def RJ3 : String := "java/util/AbstractMap"
abbrev cJ3_init : ByteArray := prog_39_method_1_code
def yJ3_init : MethodName := ⟨RJ3, "<init>", "()V"⟩
theorem dJ3_init_0 : decode cJ3_init 0 = .ok (.aload_n 0, 1) := by decide +kernel
theorem dJ3_init_1 : decode cJ3_init 1 = .ok (.invokespecial 1, 3) := by decide +kernel
theorem dJ3_init_4 : decode cJ3_init 4 = .ok (.return_, 1) := by decide +kernel
theorem q110 : (Jvm.Cond.initialized "java/util/AbstractMap") ∈ lw_all := lw_g (lw_at lw_m1 7 rfl) rfl
theorem q1407 : (Jvm.Cond.instanceMethod ({ cls := "java/util/AbstractMap", name := "<init>", desc := "()V" } : Jvm.MethodName)) ∈ lw_all := lw_g (lw_at lw_m6 104 rfl) rfl
theorem q1408 : (Jvm.Cond.code ({ cls := "java/util/AbstractMap", name := "<init>", desc := "()V" } : Jvm.MethodName) prog_39_method_1_code (1 : Nat) (Option.none : Option Jvm.ClassFile.FieldType)) ∈ lw_all := lw_g (lw_at lw_m6 105 rfl) rfl
theorem q1409 : (Jvm.Cond.methodLink "java/util/AbstractMap" (1 : Nat) ({ cls := "java/lang/Object", name := "<init>", desc := "()V" } : Jvm.MethodName)) ∈ lw_all := lw_g (lw_at lw_m6 106 rfl) rfl
theorem q1431 : (Jvm.Cond.soleField "java/util/AbstractMap" "keySet") ∈ lw_all := lw_g (lw_at lw_m6 128 rfl) rfl
theorem q1433 : (Jvm.Cond.soleField "java/util/AbstractMap" "values") ∈ lw_all := lw_g (lw_at lw_m6 130 rfl) rfl

/-! java/util/TreeMap -/
set_option maxRecDepth 100000
def RJ4 : String := "java/util/TreeMap"
def TJ4 : u_T := fun k => match k with
  | 0 => ("java/util/AbstractMap", "keySet", "Ljava/util/Set;", false)
  | 1 => ("java/util/AbstractMap", "values", "Ljava/util/Collection;", false)
  | 2 => ("java/util/TreeMap", "comparator", "Ljava/util/Comparator;", true)
  | 3 => ("java/util/TreeMap", "root", "Ljava/util/TreeMap$Entry;", false)
  | 4 => ("java/util/TreeMap", "size", "I", false)
  | 5 => ("java/util/TreeMap", "modCount", "I", false)
  | 6 => ("java/util/TreeMap", "entrySet", "Ljava/util/TreeMap$EntrySet;", false)
  | 7 => ("java/util/TreeMap", "navigableKeySet", "Ljava/util/TreeMap$KeySet;", false)
  | _ => ("java/util/TreeMap", "descendingMap", "Ljava/util/NavigableMap;", false)
def tyJ4 : Nat → FieldType := fun k => match k with
  | 0 => .object "java/util/Set"
  | 1 => .object "java/util/Collection"
  | 2 => .object "java/util/Comparator"
  | 3 => .object "java/util/TreeMap$Entry"
  | 4 => .int
  | 5 => .int
  | 6 => .object "java/util/TreeMap$EntrySet"
  | 7 => .object "java/util/TreeMap$KeySet"
  | _ => .object "java/util/NavigableMap"
abbrev wsJ40 : List Cond := u_ws RJ4 TJ4 9
theorem nmJ4 : ∀ a, a < 9 → ∀ b, b < 9 → a ≠ b → (TJ4 a).2.1 ≠ (TJ4 b).2.1 := by decide +kernel
theorem tyJ4_ok : ∀ k, k < 9 → parseFieldDescriptor (TJ4 k).2.2.1 = some (tyJ4 k) := by decide +kernel
abbrev cJ4_clear : ByteArray := prog_65_method_35_code
def yJ4_clear : MethodName := ⟨RJ4, "clear", "()V"⟩
def dkwJ4_clear_0 : List UInt8 := [42, 89, 180, 0, 13, 4, 96, 181, 0, 13, 42, 3, 181, 0, 7, 42, 1, 181, 0, 101, 177]
abbrev dktJ4_clear_0 : List UInt8 := dkwJ4_clear_0 ++ []
theorem dksJ4_clear_0 : cJ4_clear.data.toList.drop 0 = dktJ4_clear_0 := by decide +kernel
theorem dJ4_clear_0 : decode cJ4_clear 0 = .ok (.aload_n 0, 1) := dk_42 (dk_at dksJ4_clear_0 0 rfl rfl)
theorem dJ4_clear_1 : decode cJ4_clear 1 = .ok (.dup, 1) := dk_89 (dk_at dksJ4_clear_0 1 rfl rfl)
theorem dJ4_clear_2 : decode cJ4_clear 2 = .ok (.getfield 13, 3) := dk_180 0 13 (dk_at dksJ4_clear_0 2 rfl rfl)
theorem dJ4_clear_5 : decode cJ4_clear 5 = .ok (.iconst 1, 1) := dk_4 (dk_at dksJ4_clear_0 5 rfl rfl)
theorem dJ4_clear_6 : decode cJ4_clear 6 = .ok (.iadd, 1) := dk_96 (dk_at dksJ4_clear_0 6 rfl rfl)
theorem dJ4_clear_7 : decode cJ4_clear 7 = .ok (.putfield 13, 3) := dk_181 0 13 (dk_at dksJ4_clear_0 7 rfl rfl)
theorem dJ4_clear_10 : decode cJ4_clear 10 = .ok (.aload_n 0, 1) := dk_42 (dk_at dksJ4_clear_0 10 rfl rfl)
theorem dJ4_clear_11 : decode cJ4_clear 11 = .ok (.iconst 0, 1) := dk_3 (dk_at dksJ4_clear_0 11 rfl rfl)
theorem dJ4_clear_12 : decode cJ4_clear 12 = .ok (.putfield 7, 3) := dk_181 0 7 (dk_at dksJ4_clear_0 12 rfl rfl)
theorem dJ4_clear_15 : decode cJ4_clear 15 = .ok (.aload_n 0, 1) := dk_42 (dk_at dksJ4_clear_0 15 rfl rfl)
theorem dJ4_clear_16 : decode cJ4_clear 16 = .ok (.aconst_null, 1) := dk_1 (dk_at dksJ4_clear_0 16 rfl rfl)
theorem dJ4_clear_17 : decode cJ4_clear 17 = .ok (.putfield 101, 3) := dk_181 0 101 (dk_at dksJ4_clear_0 17 rfl rfl)
theorem dJ4_clear_20 : decode cJ4_clear 20 = .ok (.return_, 1) := dk_177 (dk_at dksJ4_clear_0 20 rfl rfl)
abbrev cJ4_size : ByteArray := prog_65_method_5_code
def yJ4_size : MethodName := ⟨RJ4, "size", "()I"⟩
theorem dJ4_size_0 : decode cJ4_size 0 = .ok (.aload_n 0, 1) := by decide +kernel
theorem dJ4_size_1 : decode cJ4_size 1 = .ok (.getfield 7, 3) := by decide +kernel
theorem dJ4_size_4 : decode cJ4_size 4 = .ok (.ireturn, 1) := by decide +kernel
abbrev cJ4_put : ByteArray := prog_65_method_21_code
def yJ4_put : MethodName := ⟨RJ4, "put", "(Ljava/lang/Object;Ljava/lang/Object;)Ljava/lang/Object;"⟩
def dkwJ4_put_0 : List UInt8 := [42, 43, 44, 4, 182, 0, 127, 176]
abbrev dktJ4_put_0 : List UInt8 := dkwJ4_put_0 ++ []
theorem dksJ4_put_0 : cJ4_put.data.toList.drop 0 = dktJ4_put_0 := by decide +kernel
theorem dJ4_put_0 : decode cJ4_put 0 = .ok (.aload_n 0, 1) := dk_42 (dk_at dksJ4_put_0 0 rfl rfl)
theorem dJ4_put_1 : decode cJ4_put 1 = .ok (.aload_n 1, 1) := dk_43 (dk_at dksJ4_put_0 1 rfl rfl)
theorem dJ4_put_2 : decode cJ4_put 2 = .ok (.aload_n 2, 1) := dk_44 (dk_at dksJ4_put_0 2 rfl rfl)
theorem dJ4_put_3 : decode cJ4_put 3 = .ok (.iconst 1, 1) := dk_4 (dk_at dksJ4_put_0 3 rfl rfl)
theorem dJ4_put_4 : decode cJ4_put 4 = .ok (.invokevirtual 127, 3) := dk_182 0 127 (dk_at dksJ4_put_0 4 rfl rfl)
theorem dJ4_put_7 : decode cJ4_put 7 = .ok (.areturn, 1) := dk_176 (dk_at dksJ4_put_0 7 rfl rfl)
abbrev cJ4_put_2 : ByteArray := prog_65_method_31_code
def yJ4_put_2 : MethodName := ⟨RJ4, "put", "(Ljava/lang/Object;Ljava/lang/Object;Z)Ljava/lang/Object;"⟩
def dkwJ4_put_2_9 : List UInt8 := [4, 167, 0, 4, 3, 182, 0, 139, 1, 176]
abbrev dktJ4_put_2_9 : List UInt8 := dkwJ4_put_2_9 ++ []
def dkwJ4_put_2_8 : List UInt8 := [25, 4, 44, 181, 0, 58, 25, 9, 176, 25, 4, 199, 255, 181, 42, 43, 44, 25, 6, 21, 5, 156, 0, 7]
abbrev dktJ4_put_2_8 : List UInt8 := dkwJ4_put_2_8 ++ dktJ4_put_2_9
def dkwJ4_put_2_7 : List UInt8 := [180, 0, 114, 58, 4, 167, 0, 28, 25, 4, 180, 0, 58, 58, 9, 29, 154, 0, 8, 25, 9, 199, 0, 9]
abbrev dktJ4_put_2_7 : List UInt8 := dkwJ4_put_2_7 ++ dktJ4_put_2_8
def dkwJ4_put_2_6 : List UInt8 := [21, 5, 156, 0, 13, 25, 4, 180, 0, 111, 58, 4, 167, 0, 43, 21, 5, 158, 0, 13, 25, 4]
abbrev dktJ4_put_2_6 : List UInt8 := dkwJ4_put_2_6 ++ dktJ4_put_2_7
def dkwJ4_put_2_5 : List UInt8 := [192, 0, 99, 58, 8, 25, 4, 58, 6, 25, 8, 25, 4, 180, 0, 105, 185, 0, 107, 2, 0, 54, 5]
abbrev dktJ4_put_2_5 : List UInt8 := dkwJ4_put_2_5 ++ dktJ4_put_2_6
def dkwJ4_put_2_4 : List UInt8 := [25, 4, 44, 181, 0, 58, 25, 8, 176, 25, 4, 199, 255, 180, 167, 0, 92, 43, 184, 0, 95, 87, 43]
abbrev dktJ4_put_2_4 : List UInt8 := dkwJ4_put_2_4 ++ dktJ4_put_2_5
def dkwJ4_put_2_3 : List UInt8 := [180, 0, 114, 58, 4, 167, 0, 28, 25, 4, 180, 0, 58, 58, 8, 29, 154, 0, 8, 25, 8, 199, 0, 9]
abbrev dktJ4_put_2_3 : List UInt8 := dkwJ4_put_2_3 ++ dktJ4_put_2_4
def dkwJ4_put_2_2 : List UInt8 := [54, 5, 21, 5, 156, 0, 13, 25, 4, 180, 0, 111, 58, 4, 167, 0, 43, 21, 5, 158, 0, 13, 25, 4]
abbrev dktJ4_put_2_2 : List UInt8 := dkwJ4_put_2_2 ++ dktJ4_put_2_3
def dkwJ4_put_2_1 : List UInt8 := [58, 7, 25, 7, 198, 0, 85, 25, 4, 58, 6, 25, 7, 43, 25, 4, 180, 0, 105, 185, 0, 117, 3, 0]
abbrev dktJ4_put_2_1 : List UInt8 := dkwJ4_put_2_1 ++ dktJ4_put_2_2
def dkwJ4_put_2_0 : List UInt8 := [42, 180, 0, 101, 58, 4, 25, 4, 199, 0, 11, 42, 43, 44, 182, 0, 135, 1, 176, 42, 180, 0, 16]
abbrev dktJ4_put_2_0 : List UInt8 := dkwJ4_put_2_0 ++ dktJ4_put_2_1
theorem dksJ4_put_2_0 : cJ4_put_2.data.toList.drop 0 = dktJ4_put_2_0 := by decide +kernel
theorem dksJ4_put_2_1 : cJ4_put_2.data.toList.drop 23 = dktJ4_put_2_1 := dk_seg dksJ4_put_2_0 23 rfl rfl
theorem dksJ4_put_2_2 : cJ4_put_2.data.toList.drop 47 = dktJ4_put_2_2 := dk_seg dksJ4_put_2_1 24 rfl rfl
theorem dksJ4_put_2_3 : cJ4_put_2.data.toList.drop 71 = dktJ4_put_2_3 := dk_seg dksJ4_put_2_2 24 rfl rfl
theorem dksJ4_put_2_4 : cJ4_put_2.data.toList.drop 95 = dktJ4_put_2_4 := dk_seg dksJ4_put_2_3 24 rfl rfl
theorem dksJ4_put_2_5 : cJ4_put_2.data.toList.drop 118 = dktJ4_put_2_5 := dk_seg dksJ4_put_2_4 23 rfl rfl
theorem dksJ4_put_2_6 : cJ4_put_2.data.toList.drop 141 = dktJ4_put_2_6 := dk_seg dksJ4_put_2_5 23 rfl rfl
theorem dksJ4_put_2_7 : cJ4_put_2.data.toList.drop 163 = dktJ4_put_2_7 := dk_seg dksJ4_put_2_6 22 rfl rfl
theorem dksJ4_put_2_8 : cJ4_put_2.data.toList.drop 187 = dktJ4_put_2_8 := dk_seg dksJ4_put_2_7 24 rfl rfl
theorem dksJ4_put_2_9 : cJ4_put_2.data.toList.drop 211 = dktJ4_put_2_9 := dk_seg dksJ4_put_2_8 24 rfl rfl
theorem dJ4_put_2_0 : decode cJ4_put_2 0 = .ok (.aload_n 0, 1) := dk_42 (dk_at dksJ4_put_2_0 0 rfl rfl)
theorem dJ4_put_2_1 : decode cJ4_put_2 1 = .ok (.getfield 101, 3) := dk_180 0 101 (dk_at dksJ4_put_2_0 1 rfl rfl)
theorem dJ4_put_2_4 : decode cJ4_put_2 4 = .ok (.astore 4, 2) := dk_58 4 (dk_at dksJ4_put_2_0 4 rfl rfl)
theorem dJ4_put_2_6 : decode cJ4_put_2 6 = .ok (.aload 4, 2) := dk_25 4 (dk_at dksJ4_put_2_0 6 rfl rfl)
theorem dJ4_put_2_8 : decode cJ4_put_2 8 = .ok (.ifnonnull 11, 3) := dk_199 0 11 (dk_at dksJ4_put_2_0 8 rfl rfl)
theorem dJ4_put_2_11 : decode cJ4_put_2 11 = .ok (.aload_n 0, 1) := dk_42 (dk_at dksJ4_put_2_0 11 rfl rfl)
theorem dJ4_put_2_12 : decode cJ4_put_2 12 = .ok (.aload_n 1, 1) := dk_43 (dk_at dksJ4_put_2_0 12 rfl rfl)
theorem dJ4_put_2_13 : decode cJ4_put_2 13 = .ok (.aload_n 2, 1) := dk_44 (dk_at dksJ4_put_2_0 13 rfl rfl)
theorem dJ4_put_2_14 : decode cJ4_put_2 14 = .ok (.invokevirtual 135, 3) := dk_182 0 135 (dk_at dksJ4_put_2_0 14 rfl rfl)
theorem dJ4_put_2_17 : decode cJ4_put_2 17 = .ok (.aconst_null, 1) := dk_1 (dk_at dksJ4_put_2_0 17 rfl rfl)
theorem dJ4_put_2_18 : decode cJ4_put_2 18 = .ok (.areturn, 1) := dk_176 (dk_at dksJ4_put_2_0 18 rfl rfl)
theorem dJ4_put_2_19 : decode cJ4_put_2 19 = .ok (.aload_n 0, 1) := dk_42 (dk_at dksJ4_put_2_0 19 rfl rfl)
theorem dJ4_put_2_20 : decode cJ4_put_2 20 = .ok (.getfield 16, 3) := dk_180 0 16 (dk_at dksJ4_put_2_0 20 rfl rfl)
theorem dJ4_put_2_23 : decode cJ4_put_2 23 = .ok (.astore 7, 2) := dk_58 7 (dk_at dksJ4_put_2_1 0 rfl rfl)
theorem dJ4_put_2_25 : decode cJ4_put_2 25 = .ok (.aload 7, 2) := dk_25 7 (dk_at dksJ4_put_2_1 2 rfl rfl)
theorem dJ4_put_2_27 : decode cJ4_put_2 27 = .ok (.ifnull 85, 3) := dk_198 0 85 (dk_at dksJ4_put_2_1 4 rfl rfl)
theorem dJ4_put_2_30 : decode cJ4_put_2 30 = .ok (.aload 4, 2) := dk_25 4 (dk_at dksJ4_put_2_1 7 rfl rfl)
theorem dJ4_put_2_32 : decode cJ4_put_2 32 = .ok (.astore 6, 2) := dk_58 6 (dk_at dksJ4_put_2_1 9 rfl rfl)
theorem dJ4_put_2_34 : decode cJ4_put_2 34 = .ok (.aload 7, 2) := dk_25 7 (dk_at dksJ4_put_2_1 11 rfl rfl)
theorem dJ4_put_2_36 : decode cJ4_put_2 36 = .ok (.aload_n 1, 1) := dk_43 (dk_at dksJ4_put_2_1 13 rfl rfl)
theorem dJ4_put_2_37 : decode cJ4_put_2 37 = .ok (.aload 4, 2) := dk_25 4 (dk_at dksJ4_put_2_1 14 rfl rfl)
theorem dJ4_put_2_39 : decode cJ4_put_2 39 = .ok (.getfield 105, 3) := dk_180 0 105 (dk_at dksJ4_put_2_1 16 rfl rfl)
theorem dJ4_put_2_42 : decode cJ4_put_2 42 = .ok (.invokeinterface 117 3, 5) := by decide +kernel
theorem dJ4_put_2_47 : decode cJ4_put_2 47 = .ok (.istore 5, 2) := dk_54 5 (dk_at dksJ4_put_2_2 0 rfl rfl)
theorem dJ4_put_2_49 : decode cJ4_put_2 49 = .ok (.iload 5, 2) := dk_21 5 (dk_at dksJ4_put_2_2 2 rfl rfl)
theorem dJ4_put_2_51 : decode cJ4_put_2 51 = .ok (.ifCond .ge 13, 3) := dk_156 0 13 (dk_at dksJ4_put_2_2 4 rfl rfl)
theorem dJ4_put_2_54 : decode cJ4_put_2 54 = .ok (.aload 4, 2) := dk_25 4 (dk_at dksJ4_put_2_2 7 rfl rfl)
theorem dJ4_put_2_56 : decode cJ4_put_2 56 = .ok (.getfield 111, 3) := dk_180 0 111 (dk_at dksJ4_put_2_2 9 rfl rfl)
theorem dJ4_put_2_59 : decode cJ4_put_2 59 = .ok (.astore 4, 2) := dk_58 4 (dk_at dksJ4_put_2_2 12 rfl rfl)
theorem dJ4_put_2_61 : decode cJ4_put_2 61 = .ok (.goto 43, 3) := dk_167 0 43 (dk_at dksJ4_put_2_2 14 rfl rfl)
theorem dJ4_put_2_64 : decode cJ4_put_2 64 = .ok (.iload 5, 2) := dk_21 5 (dk_at dksJ4_put_2_2 17 rfl rfl)
theorem dJ4_put_2_66 : decode cJ4_put_2 66 = .ok (.ifCond .le 13, 3) := dk_158 0 13 (dk_at dksJ4_put_2_2 19 rfl rfl)
theorem dJ4_put_2_69 : decode cJ4_put_2 69 = .ok (.aload 4, 2) := dk_25 4 (dk_at dksJ4_put_2_2 22 rfl rfl)
theorem dJ4_put_2_71 : decode cJ4_put_2 71 = .ok (.getfield 114, 3) := dk_180 0 114 (dk_at dksJ4_put_2_3 0 rfl rfl)
theorem dJ4_put_2_74 : decode cJ4_put_2 74 = .ok (.astore 4, 2) := dk_58 4 (dk_at dksJ4_put_2_3 3 rfl rfl)
theorem dJ4_put_2_76 : decode cJ4_put_2 76 = .ok (.goto 28, 3) := dk_167 0 28 (dk_at dksJ4_put_2_3 5 rfl rfl)
theorem dJ4_put_2_79 : decode cJ4_put_2 79 = .ok (.aload 4, 2) := dk_25 4 (dk_at dksJ4_put_2_3 8 rfl rfl)
theorem dJ4_put_2_81 : decode cJ4_put_2 81 = .ok (.getfield 58, 3) := dk_180 0 58 (dk_at dksJ4_put_2_3 10 rfl rfl)
theorem dJ4_put_2_84 : decode cJ4_put_2 84 = .ok (.astore 8, 2) := dk_58 8 (dk_at dksJ4_put_2_3 13 rfl rfl)
theorem dJ4_put_2_86 : decode cJ4_put_2 86 = .ok (.iload_n 3, 1) := dk_29 (dk_at dksJ4_put_2_3 15 rfl rfl)
theorem dJ4_put_2_87 : decode cJ4_put_2 87 = .ok (.ifCond .ne 8, 3) := dk_154 0 8 (dk_at dksJ4_put_2_3 16 rfl rfl)
theorem dJ4_put_2_90 : decode cJ4_put_2 90 = .ok (.aload 8, 2) := dk_25 8 (dk_at dksJ4_put_2_3 19 rfl rfl)
theorem dJ4_put_2_92 : decode cJ4_put_2 92 = .ok (.ifnonnull 9, 3) := dk_199 0 9 (dk_at dksJ4_put_2_3 21 rfl rfl)
theorem dJ4_put_2_95 : decode cJ4_put_2 95 = .ok (.aload 4, 2) := dk_25 4 (dk_at dksJ4_put_2_4 0 rfl rfl)
theorem dJ4_put_2_97 : decode cJ4_put_2 97 = .ok (.aload_n 2, 1) := dk_44 (dk_at dksJ4_put_2_4 2 rfl rfl)
theorem dJ4_put_2_98 : decode cJ4_put_2 98 = .ok (.putfield 58, 3) := dk_181 0 58 (dk_at dksJ4_put_2_4 3 rfl rfl)
theorem dJ4_put_2_101 : decode cJ4_put_2 101 = .ok (.aload 8, 2) := dk_25 8 (dk_at dksJ4_put_2_4 6 rfl rfl)
theorem dJ4_put_2_103 : decode cJ4_put_2 103 = .ok (.areturn, 1) := dk_176 (dk_at dksJ4_put_2_4 8 rfl rfl)
theorem dJ4_put_2_104 : decode cJ4_put_2 104 = .ok (.aload 4, 2) := dk_25 4 (dk_at dksJ4_put_2_4 9 rfl rfl)
theorem dJ4_put_2_106 : decode cJ4_put_2 106 = .ok (.ifnonnull (-76), 3) := dk_199 255 180 (dk_at dksJ4_put_2_4 11 rfl rfl)
theorem dJ4_put_2_109 : decode cJ4_put_2 109 = .ok (.goto 92, 3) := dk_167 0 92 (dk_at dksJ4_put_2_4 14 rfl rfl)
theorem dJ4_put_2_112 : decode cJ4_put_2 112 = .ok (.aload_n 1, 1) := dk_43 (dk_at dksJ4_put_2_4 17 rfl rfl)
theorem dJ4_put_2_113 : decode cJ4_put_2 113 = .ok (.invokestatic 95, 3) := dk_184 0 95 (dk_at dksJ4_put_2_4 18 rfl rfl)
theorem dJ4_put_2_116 : decode cJ4_put_2 116 = .ok (.pop, 1) := dk_87 (dk_at dksJ4_put_2_4 21 rfl rfl)
theorem dJ4_put_2_117 : decode cJ4_put_2 117 = .ok (.aload_n 1, 1) := dk_43 (dk_at dksJ4_put_2_4 22 rfl rfl)
theorem dJ4_put_2_118 : decode cJ4_put_2 118 = .ok (.checkcast 99, 3) := dk_192 0 99 (dk_at dksJ4_put_2_5 0 rfl rfl)
theorem dJ4_put_2_121 : decode cJ4_put_2 121 = .ok (.astore 8, 2) := dk_58 8 (dk_at dksJ4_put_2_5 3 rfl rfl)
theorem dJ4_put_2_123 : decode cJ4_put_2 123 = .ok (.aload 4, 2) := dk_25 4 (dk_at dksJ4_put_2_5 5 rfl rfl)
theorem dJ4_put_2_125 : decode cJ4_put_2 125 = .ok (.astore 6, 2) := dk_58 6 (dk_at dksJ4_put_2_5 7 rfl rfl)
theorem dJ4_put_2_127 : decode cJ4_put_2 127 = .ok (.aload 8, 2) := dk_25 8 (dk_at dksJ4_put_2_5 9 rfl rfl)
theorem dJ4_put_2_129 : decode cJ4_put_2 129 = .ok (.aload 4, 2) := dk_25 4 (dk_at dksJ4_put_2_5 11 rfl rfl)
theorem dJ4_put_2_131 : decode cJ4_put_2 131 = .ok (.getfield 105, 3) := dk_180 0 105 (dk_at dksJ4_put_2_5 13 rfl rfl)
theorem dJ4_put_2_134 : decode cJ4_put_2 134 = .ok (.invokeinterface 107 2, 5) := by decide +kernel
theorem dJ4_put_2_139 : decode cJ4_put_2 139 = .ok (.istore 5, 2) := dk_54 5 (dk_at dksJ4_put_2_5 21 rfl rfl)
theorem dJ4_put_2_141 : decode cJ4_put_2 141 = .ok (.iload 5, 2) := dk_21 5 (dk_at dksJ4_put_2_6 0 rfl rfl)
theorem dJ4_put_2_143 : decode cJ4_put_2 143 = .ok (.ifCond .ge 13, 3) := dk_156 0 13 (dk_at dksJ4_put_2_6 2 rfl rfl)
theorem dJ4_put_2_146 : decode cJ4_put_2 146 = .ok (.aload 4, 2) := dk_25 4 (dk_at dksJ4_put_2_6 5 rfl rfl)
theorem dJ4_put_2_148 : decode cJ4_put_2 148 = .ok (.getfield 111, 3) := dk_180 0 111 (dk_at dksJ4_put_2_6 7 rfl rfl)
theorem dJ4_put_2_151 : decode cJ4_put_2 151 = .ok (.astore 4, 2) := dk_58 4 (dk_at dksJ4_put_2_6 10 rfl rfl)
theorem dJ4_put_2_153 : decode cJ4_put_2 153 = .ok (.goto 43, 3) := dk_167 0 43 (dk_at dksJ4_put_2_6 12 rfl rfl)
theorem dJ4_put_2_156 : decode cJ4_put_2 156 = .ok (.iload 5, 2) := dk_21 5 (dk_at dksJ4_put_2_6 15 rfl rfl)
theorem dJ4_put_2_158 : decode cJ4_put_2 158 = .ok (.ifCond .le 13, 3) := dk_158 0 13 (dk_at dksJ4_put_2_6 17 rfl rfl)
theorem dJ4_put_2_161 : decode cJ4_put_2 161 = .ok (.aload 4, 2) := dk_25 4 (dk_at dksJ4_put_2_6 20 rfl rfl)
theorem dJ4_put_2_163 : decode cJ4_put_2 163 = .ok (.getfield 114, 3) := dk_180 0 114 (dk_at dksJ4_put_2_7 0 rfl rfl)
theorem dJ4_put_2_166 : decode cJ4_put_2 166 = .ok (.astore 4, 2) := dk_58 4 (dk_at dksJ4_put_2_7 3 rfl rfl)
theorem dJ4_put_2_168 : decode cJ4_put_2 168 = .ok (.goto 28, 3) := dk_167 0 28 (dk_at dksJ4_put_2_7 5 rfl rfl)
theorem dJ4_put_2_171 : decode cJ4_put_2 171 = .ok (.aload 4, 2) := dk_25 4 (dk_at dksJ4_put_2_7 8 rfl rfl)
theorem dJ4_put_2_173 : decode cJ4_put_2 173 = .ok (.getfield 58, 3) := dk_180 0 58 (dk_at dksJ4_put_2_7 10 rfl rfl)
theorem dJ4_put_2_176 : decode cJ4_put_2 176 = .ok (.astore 9, 2) := dk_58 9 (dk_at dksJ4_put_2_7 13 rfl rfl)
theorem dJ4_put_2_178 : decode cJ4_put_2 178 = .ok (.iload_n 3, 1) := dk_29 (dk_at dksJ4_put_2_7 15 rfl rfl)
theorem dJ4_put_2_179 : decode cJ4_put_2 179 = .ok (.ifCond .ne 8, 3) := dk_154 0 8 (dk_at dksJ4_put_2_7 16 rfl rfl)
theorem dJ4_put_2_182 : decode cJ4_put_2 182 = .ok (.aload 9, 2) := dk_25 9 (dk_at dksJ4_put_2_7 19 rfl rfl)
theorem dJ4_put_2_184 : decode cJ4_put_2 184 = .ok (.ifnonnull 9, 3) := dk_199 0 9 (dk_at dksJ4_put_2_7 21 rfl rfl)
theorem dJ4_put_2_187 : decode cJ4_put_2 187 = .ok (.aload 4, 2) := dk_25 4 (dk_at dksJ4_put_2_8 0 rfl rfl)
theorem dJ4_put_2_189 : decode cJ4_put_2 189 = .ok (.aload_n 2, 1) := dk_44 (dk_at dksJ4_put_2_8 2 rfl rfl)
theorem dJ4_put_2_190 : decode cJ4_put_2 190 = .ok (.putfield 58, 3) := dk_181 0 58 (dk_at dksJ4_put_2_8 3 rfl rfl)
theorem dJ4_put_2_193 : decode cJ4_put_2 193 = .ok (.aload 9, 2) := dk_25 9 (dk_at dksJ4_put_2_8 6 rfl rfl)
theorem dJ4_put_2_195 : decode cJ4_put_2 195 = .ok (.areturn, 1) := dk_176 (dk_at dksJ4_put_2_8 8 rfl rfl)
theorem dJ4_put_2_196 : decode cJ4_put_2 196 = .ok (.aload 4, 2) := dk_25 4 (dk_at dksJ4_put_2_8 9 rfl rfl)
theorem dJ4_put_2_198 : decode cJ4_put_2 198 = .ok (.ifnonnull (-75), 3) := dk_199 255 181 (dk_at dksJ4_put_2_8 11 rfl rfl)
theorem dJ4_put_2_201 : decode cJ4_put_2 201 = .ok (.aload_n 0, 1) := dk_42 (dk_at dksJ4_put_2_8 14 rfl rfl)
theorem dJ4_put_2_202 : decode cJ4_put_2 202 = .ok (.aload_n 1, 1) := dk_43 (dk_at dksJ4_put_2_8 15 rfl rfl)
theorem dJ4_put_2_203 : decode cJ4_put_2 203 = .ok (.aload_n 2, 1) := dk_44 (dk_at dksJ4_put_2_8 16 rfl rfl)
theorem dJ4_put_2_204 : decode cJ4_put_2 204 = .ok (.aload 6, 2) := dk_25 6 (dk_at dksJ4_put_2_8 17 rfl rfl)
theorem dJ4_put_2_206 : decode cJ4_put_2 206 = .ok (.iload 5, 2) := dk_21 5 (dk_at dksJ4_put_2_8 19 rfl rfl)
theorem dJ4_put_2_208 : decode cJ4_put_2 208 = .ok (.ifCond .ge 7, 3) := dk_156 0 7 (dk_at dksJ4_put_2_8 21 rfl rfl)
theorem dJ4_put_2_211 : decode cJ4_put_2 211 = .ok (.iconst 1, 1) := dk_4 (dk_at dksJ4_put_2_9 0 rfl rfl)
theorem dJ4_put_2_212 : decode cJ4_put_2 212 = .ok (.goto 4, 3) := dk_167 0 4 (dk_at dksJ4_put_2_9 1 rfl rfl)
theorem dJ4_put_2_215 : decode cJ4_put_2 215 = .ok (.iconst 0, 1) := dk_3 (dk_at dksJ4_put_2_9 4 rfl rfl)
theorem dJ4_put_2_216 : decode cJ4_put_2 216 = .ok (.invokevirtual 139, 3) := dk_182 0 139 (dk_at dksJ4_put_2_9 5 rfl rfl)
theorem dJ4_put_2_219 : decode cJ4_put_2 219 = .ok (.aconst_null, 1) := dk_1 (dk_at dksJ4_put_2_9 8 rfl rfl)
theorem dJ4_put_2_220 : decode cJ4_put_2 220 = .ok (.areturn, 1) := dk_176 (dk_at dksJ4_put_2_9 9 rfl rfl)
abbrev cJ4_addEntryToEmptyMap : ByteArray := prog_65_method_30_code
def yJ4_addEntryToEmptyMap : MethodName := ⟨RJ4, "addEntryToEmptyMap", "(Ljava/lang/Object;Ljava/lang/Object;)V"⟩
def dkwJ4_addEntryToEmptyMap_1 : List UInt8 := [181, 0, 7, 42, 89, 180, 0, 13, 4, 96, 181, 0, 13, 177]
abbrev dktJ4_addEntryToEmptyMap_1 : List UInt8 := dkwJ4_addEntryToEmptyMap_1 ++ []
def dkwJ4_addEntryToEmptyMap_0 : List UInt8 := [42, 43, 43, 182, 0, 123, 87, 42, 187, 0, 59, 89, 43, 44, 1, 183, 0, 167, 181, 0, 101, 42, 4]
abbrev dktJ4_addEntryToEmptyMap_0 : List UInt8 := dkwJ4_addEntryToEmptyMap_0 ++ dktJ4_addEntryToEmptyMap_1
theorem dksJ4_addEntryToEmptyMap_0 : cJ4_addEntryToEmptyMap.data.toList.drop 0 = dktJ4_addEntryToEmptyMap_0 := by decide +kernel
theorem dksJ4_addEntryToEmptyMap_1 : cJ4_addEntryToEmptyMap.data.toList.drop 23 = dktJ4_addEntryToEmptyMap_1 := dk_seg dksJ4_addEntryToEmptyMap_0 23 rfl rfl
theorem dJ4_addEntryToEmptyMap_0 : decode cJ4_addEntryToEmptyMap 0 = .ok (.aload_n 0, 1) := dk_42 (dk_at dksJ4_addEntryToEmptyMap_0 0 rfl rfl)
theorem dJ4_addEntryToEmptyMap_1 : decode cJ4_addEntryToEmptyMap 1 = .ok (.aload_n 1, 1) := dk_43 (dk_at dksJ4_addEntryToEmptyMap_0 1 rfl rfl)
theorem dJ4_addEntryToEmptyMap_2 : decode cJ4_addEntryToEmptyMap 2 = .ok (.aload_n 1, 1) := dk_43 (dk_at dksJ4_addEntryToEmptyMap_0 2 rfl rfl)
theorem dJ4_addEntryToEmptyMap_3 : decode cJ4_addEntryToEmptyMap 3 = .ok (.invokevirtual 123, 3) := dk_182 0 123 (dk_at dksJ4_addEntryToEmptyMap_0 3 rfl rfl)
theorem dJ4_addEntryToEmptyMap_6 : decode cJ4_addEntryToEmptyMap 6 = .ok (.pop, 1) := dk_87 (dk_at dksJ4_addEntryToEmptyMap_0 6 rfl rfl)
theorem dJ4_addEntryToEmptyMap_7 : decode cJ4_addEntryToEmptyMap 7 = .ok (.aload_n 0, 1) := dk_42 (dk_at dksJ4_addEntryToEmptyMap_0 7 rfl rfl)
theorem dJ4_addEntryToEmptyMap_8 : decode cJ4_addEntryToEmptyMap 8 = .ok (.new 59, 3) := dk_187 0 59 (dk_at dksJ4_addEntryToEmptyMap_0 8 rfl rfl)
theorem dJ4_addEntryToEmptyMap_11 : decode cJ4_addEntryToEmptyMap 11 = .ok (.dup, 1) := dk_89 (dk_at dksJ4_addEntryToEmptyMap_0 11 rfl rfl)
theorem dJ4_addEntryToEmptyMap_12 : decode cJ4_addEntryToEmptyMap 12 = .ok (.aload_n 1, 1) := dk_43 (dk_at dksJ4_addEntryToEmptyMap_0 12 rfl rfl)
theorem dJ4_addEntryToEmptyMap_13 : decode cJ4_addEntryToEmptyMap 13 = .ok (.aload_n 2, 1) := dk_44 (dk_at dksJ4_addEntryToEmptyMap_0 13 rfl rfl)
theorem dJ4_addEntryToEmptyMap_14 : decode cJ4_addEntryToEmptyMap 14 = .ok (.aconst_null, 1) := dk_1 (dk_at dksJ4_addEntryToEmptyMap_0 14 rfl rfl)
theorem dJ4_addEntryToEmptyMap_15 : decode cJ4_addEntryToEmptyMap 15 = .ok (.invokespecial 167, 3) := dk_183 0 167 (dk_at dksJ4_addEntryToEmptyMap_0 15 rfl rfl)
theorem dJ4_addEntryToEmptyMap_18 : decode cJ4_addEntryToEmptyMap 18 = .ok (.putfield 101, 3) := dk_181 0 101 (dk_at dksJ4_addEntryToEmptyMap_0 18 rfl rfl)
theorem dJ4_addEntryToEmptyMap_21 : decode cJ4_addEntryToEmptyMap 21 = .ok (.aload_n 0, 1) := dk_42 (dk_at dksJ4_addEntryToEmptyMap_0 21 rfl rfl)
theorem dJ4_addEntryToEmptyMap_22 : decode cJ4_addEntryToEmptyMap 22 = .ok (.iconst 1, 1) := dk_4 (dk_at dksJ4_addEntryToEmptyMap_0 22 rfl rfl)
theorem dJ4_addEntryToEmptyMap_23 : decode cJ4_addEntryToEmptyMap 23 = .ok (.putfield 7, 3) := dk_181 0 7 (dk_at dksJ4_addEntryToEmptyMap_1 0 rfl rfl)
theorem dJ4_addEntryToEmptyMap_26 : decode cJ4_addEntryToEmptyMap 26 = .ok (.aload_n 0, 1) := dk_42 (dk_at dksJ4_addEntryToEmptyMap_1 3 rfl rfl)
theorem dJ4_addEntryToEmptyMap_27 : decode cJ4_addEntryToEmptyMap 27 = .ok (.dup, 1) := dk_89 (dk_at dksJ4_addEntryToEmptyMap_1 4 rfl rfl)
theorem dJ4_addEntryToEmptyMap_28 : decode cJ4_addEntryToEmptyMap 28 = .ok (.getfield 13, 3) := dk_180 0 13 (dk_at dksJ4_addEntryToEmptyMap_1 5 rfl rfl)
theorem dJ4_addEntryToEmptyMap_31 : decode cJ4_addEntryToEmptyMap 31 = .ok (.iconst 1, 1) := dk_4 (dk_at dksJ4_addEntryToEmptyMap_1 8 rfl rfl)
theorem dJ4_addEntryToEmptyMap_32 : decode cJ4_addEntryToEmptyMap 32 = .ok (.iadd, 1) := dk_96 (dk_at dksJ4_addEntryToEmptyMap_1 9 rfl rfl)
theorem dJ4_addEntryToEmptyMap_33 : decode cJ4_addEntryToEmptyMap 33 = .ok (.putfield 13, 3) := dk_181 0 13 (dk_at dksJ4_addEntryToEmptyMap_1 10 rfl rfl)
theorem dJ4_addEntryToEmptyMap_36 : decode cJ4_addEntryToEmptyMap 36 = .ok (.return_, 1) := dk_177 (dk_at dksJ4_addEntryToEmptyMap_1 13 rfl rfl)
abbrev cJ4_compare : ByteArray := prog_65_method_67_code
def yJ4_compare : MethodName := ⟨RJ4, "compare", "(Ljava/lang/Object;Ljava/lang/Object;)I"⟩
def dkwJ4_compare_1 : List UInt8 := [43, 44, 185, 0, 117, 3, 0, 172]
abbrev dktJ4_compare_1 : List UInt8 := dkwJ4_compare_1 ++ []
def dkwJ4_compare_0 : List UInt8 := [42, 180, 0, 16, 199, 0, 16, 43, 192, 0, 99, 44, 185, 0, 107, 2, 0, 167, 0, 14, 42, 180, 0, 16]
abbrev dktJ4_compare_0 : List UInt8 := dkwJ4_compare_0 ++ dktJ4_compare_1
theorem dksJ4_compare_0 : cJ4_compare.data.toList.drop 0 = dktJ4_compare_0 := by decide +kernel
theorem dksJ4_compare_1 : cJ4_compare.data.toList.drop 24 = dktJ4_compare_1 := dk_seg dksJ4_compare_0 24 rfl rfl
theorem dJ4_compare_0 : decode cJ4_compare 0 = .ok (.aload_n 0, 1) := dk_42 (dk_at dksJ4_compare_0 0 rfl rfl)
theorem dJ4_compare_1 : decode cJ4_compare 1 = .ok (.getfield 16, 3) := dk_180 0 16 (dk_at dksJ4_compare_0 1 rfl rfl)
theorem dJ4_compare_4 : decode cJ4_compare 4 = .ok (.ifnonnull 16, 3) := dk_199 0 16 (dk_at dksJ4_compare_0 4 rfl rfl)
theorem dJ4_compare_7 : decode cJ4_compare 7 = .ok (.aload_n 1, 1) := dk_43 (dk_at dksJ4_compare_0 7 rfl rfl)
theorem dJ4_compare_8 : decode cJ4_compare 8 = .ok (.checkcast 99, 3) := dk_192 0 99 (dk_at dksJ4_compare_0 8 rfl rfl)
theorem dJ4_compare_11 : decode cJ4_compare 11 = .ok (.aload_n 2, 1) := dk_44 (dk_at dksJ4_compare_0 11 rfl rfl)
theorem dJ4_compare_12 : decode cJ4_compare 12 = .ok (.invokeinterface 107 2, 5) := by decide +kernel
theorem dJ4_compare_17 : decode cJ4_compare 17 = .ok (.goto 14, 3) := dk_167 0 14 (dk_at dksJ4_compare_0 17 rfl rfl)
theorem dJ4_compare_20 : decode cJ4_compare 20 = .ok (.aload_n 0, 1) := dk_42 (dk_at dksJ4_compare_0 20 rfl rfl)
theorem dJ4_compare_21 : decode cJ4_compare 21 = .ok (.getfield 16, 3) := dk_180 0 16 (dk_at dksJ4_compare_0 21 rfl rfl)
theorem dJ4_compare_24 : decode cJ4_compare 24 = .ok (.aload_n 1, 1) := dk_43 (dk_at dksJ4_compare_1 0 rfl rfl)
theorem dJ4_compare_25 : decode cJ4_compare 25 = .ok (.aload_n 2, 1) := dk_44 (dk_at dksJ4_compare_1 1 rfl rfl)
theorem dJ4_compare_26 : decode cJ4_compare 26 = .ok (.invokeinterface 117 3, 5) := by decide +kernel
theorem dJ4_compare_31 : decode cJ4_compare 31 = .ok (.ireturn, 1) := dk_172 (dk_at dksJ4_compare_1 7 rfl rfl)
abbrev cJ4_addEntry : ByteArray := prog_65_method_29_code
def yJ4_addEntry : MethodName := ⟨RJ4, "addEntry", "(Ljava/lang/Object;Ljava/lang/Object;Ljava/util/TreeMap$Entry;Z)V"⟩
def dkwJ4_addEntry_2 : List UInt8 := [181, 0, 7, 42, 89, 180, 0, 13, 4, 96, 181, 0, 13, 177]
abbrev dktJ4_addEntry_2 : List UInt8 := dkwJ4_addEntry_2 ++ []
def dkwJ4_addEntry_1 : List UInt8 := [167, 0, 9, 45, 25, 5, 181, 0, 114, 42, 25, 5, 182, 0, 170, 42, 89, 180, 0, 7, 4, 96]
abbrev dktJ4_addEntry_1 : List UInt8 := dkwJ4_addEntry_1 ++ dktJ4_addEntry_2
def dkwJ4_addEntry_0 : List UInt8 := [187, 0, 59, 89, 43, 44, 45, 183, 0, 167, 58, 5, 21, 4, 153, 0, 12, 45, 25, 5, 181, 0, 111]
abbrev dktJ4_addEntry_0 : List UInt8 := dkwJ4_addEntry_0 ++ dktJ4_addEntry_1
theorem dksJ4_addEntry_0 : cJ4_addEntry.data.toList.drop 0 = dktJ4_addEntry_0 := by decide +kernel
theorem dksJ4_addEntry_1 : cJ4_addEntry.data.toList.drop 23 = dktJ4_addEntry_1 := dk_seg dksJ4_addEntry_0 23 rfl rfl
theorem dksJ4_addEntry_2 : cJ4_addEntry.data.toList.drop 45 = dktJ4_addEntry_2 := dk_seg dksJ4_addEntry_1 22 rfl rfl
theorem dJ4_addEntry_0 : decode cJ4_addEntry 0 = .ok (.new 59, 3) := dk_187 0 59 (dk_at dksJ4_addEntry_0 0 rfl rfl)
theorem dJ4_addEntry_3 : decode cJ4_addEntry 3 = .ok (.dup, 1) := dk_89 (dk_at dksJ4_addEntry_0 3 rfl rfl)
theorem dJ4_addEntry_4 : decode cJ4_addEntry 4 = .ok (.aload_n 1, 1) := dk_43 (dk_at dksJ4_addEntry_0 4 rfl rfl)
theorem dJ4_addEntry_5 : decode cJ4_addEntry 5 = .ok (.aload_n 2, 1) := dk_44 (dk_at dksJ4_addEntry_0 5 rfl rfl)
theorem dJ4_addEntry_6 : decode cJ4_addEntry 6 = .ok (.aload_n 3, 1) := dk_45 (dk_at dksJ4_addEntry_0 6 rfl rfl)
theorem dJ4_addEntry_7 : decode cJ4_addEntry 7 = .ok (.invokespecial 167, 3) := dk_183 0 167 (dk_at dksJ4_addEntry_0 7 rfl rfl)
theorem dJ4_addEntry_10 : decode cJ4_addEntry 10 = .ok (.astore 5, 2) := dk_58 5 (dk_at dksJ4_addEntry_0 10 rfl rfl)
theorem dJ4_addEntry_12 : decode cJ4_addEntry 12 = .ok (.iload 4, 2) := dk_21 4 (dk_at dksJ4_addEntry_0 12 rfl rfl)
theorem dJ4_addEntry_14 : decode cJ4_addEntry 14 = .ok (.ifCond .eq 12, 3) := dk_153 0 12 (dk_at dksJ4_addEntry_0 14 rfl rfl)
theorem dJ4_addEntry_17 : decode cJ4_addEntry 17 = .ok (.aload_n 3, 1) := dk_45 (dk_at dksJ4_addEntry_0 17 rfl rfl)
theorem dJ4_addEntry_18 : decode cJ4_addEntry 18 = .ok (.aload 5, 2) := dk_25 5 (dk_at dksJ4_addEntry_0 18 rfl rfl)
theorem dJ4_addEntry_20 : decode cJ4_addEntry 20 = .ok (.putfield 111, 3) := dk_181 0 111 (dk_at dksJ4_addEntry_0 20 rfl rfl)
theorem dJ4_addEntry_23 : decode cJ4_addEntry 23 = .ok (.goto 9, 3) := dk_167 0 9 (dk_at dksJ4_addEntry_1 0 rfl rfl)
theorem dJ4_addEntry_26 : decode cJ4_addEntry 26 = .ok (.aload_n 3, 1) := dk_45 (dk_at dksJ4_addEntry_1 3 rfl rfl)
theorem dJ4_addEntry_27 : decode cJ4_addEntry 27 = .ok (.aload 5, 2) := dk_25 5 (dk_at dksJ4_addEntry_1 4 rfl rfl)
theorem dJ4_addEntry_29 : decode cJ4_addEntry 29 = .ok (.putfield 114, 3) := dk_181 0 114 (dk_at dksJ4_addEntry_1 6 rfl rfl)
theorem dJ4_addEntry_32 : decode cJ4_addEntry 32 = .ok (.aload_n 0, 1) := dk_42 (dk_at dksJ4_addEntry_1 9 rfl rfl)
theorem dJ4_addEntry_33 : decode cJ4_addEntry 33 = .ok (.aload 5, 2) := dk_25 5 (dk_at dksJ4_addEntry_1 10 rfl rfl)
theorem dJ4_addEntry_35 : decode cJ4_addEntry 35 = .ok (.invokevirtual 170, 3) := dk_182 0 170 (dk_at dksJ4_addEntry_1 12 rfl rfl)
theorem dJ4_addEntry_38 : decode cJ4_addEntry 38 = .ok (.aload_n 0, 1) := dk_42 (dk_at dksJ4_addEntry_1 15 rfl rfl)
theorem dJ4_addEntry_39 : decode cJ4_addEntry 39 = .ok (.dup, 1) := dk_89 (dk_at dksJ4_addEntry_1 16 rfl rfl)
theorem dJ4_addEntry_40 : decode cJ4_addEntry 40 = .ok (.getfield 7, 3) := dk_180 0 7 (dk_at dksJ4_addEntry_1 17 rfl rfl)
theorem dJ4_addEntry_43 : decode cJ4_addEntry 43 = .ok (.iconst 1, 1) := dk_4 (dk_at dksJ4_addEntry_1 20 rfl rfl)
theorem dJ4_addEntry_44 : decode cJ4_addEntry 44 = .ok (.iadd, 1) := dk_96 (dk_at dksJ4_addEntry_1 21 rfl rfl)
theorem dJ4_addEntry_45 : decode cJ4_addEntry 45 = .ok (.putfield 7, 3) := dk_181 0 7 (dk_at dksJ4_addEntry_2 0 rfl rfl)
theorem dJ4_addEntry_48 : decode cJ4_addEntry 48 = .ok (.aload_n 0, 1) := dk_42 (dk_at dksJ4_addEntry_2 3 rfl rfl)
theorem dJ4_addEntry_49 : decode cJ4_addEntry 49 = .ok (.dup, 1) := dk_89 (dk_at dksJ4_addEntry_2 4 rfl rfl)
theorem dJ4_addEntry_50 : decode cJ4_addEntry 50 = .ok (.getfield 13, 3) := dk_180 0 13 (dk_at dksJ4_addEntry_2 5 rfl rfl)
theorem dJ4_addEntry_53 : decode cJ4_addEntry 53 = .ok (.iconst 1, 1) := dk_4 (dk_at dksJ4_addEntry_2 8 rfl rfl)
theorem dJ4_addEntry_54 : decode cJ4_addEntry 54 = .ok (.iadd, 1) := dk_96 (dk_at dksJ4_addEntry_2 9 rfl rfl)
theorem dJ4_addEntry_55 : decode cJ4_addEntry 55 = .ok (.putfield 13, 3) := dk_181 0 13 (dk_at dksJ4_addEntry_2 10 rfl rfl)
theorem dJ4_addEntry_58 : decode cJ4_addEntry 58 = .ok (.return_, 1) := dk_177 (dk_at dksJ4_addEntry_2 13 rfl rfl)
abbrev cJ4_fixAfterInsertion : ByteArray := prog_65_method_83_code
def yJ4_fixAfterInsertion : MethodName := ⟨RJ4, "fixAfterInsertion", "(Ljava/util/TreeMap$Entry;)V"⟩
def dkwJ4_fixAfterInsertion_11 : List UInt8 := [42, 180, 0, 101, 4, 181, 1, 34, 177]
abbrev dktJ4_fixAfterInsertion_11 : List UInt8 := dkwJ4_fixAfterInsertion_11 ++ []
def dkwJ4_fixAfterInsertion_10 : List UInt8 := [184, 1, 38, 184, 1, 38, 3, 184, 1, 51, 42, 43, 184, 1, 38, 184, 1, 38, 182, 1, 55, 167, 255, 6]
abbrev dktJ4_fixAfterInsertion_10 : List UInt8 := dkwJ4_fixAfterInsertion_10 ++ dktJ4_fixAfterInsertion_11
def dkwJ4_fixAfterInsertion_9 : List UInt8 := [166, 0, 13, 43, 184, 1, 38, 76, 42, 43, 182, 1, 58, 43, 184, 1, 38, 4, 184, 1, 51, 43]
abbrev dktJ4_fixAfterInsertion_9 : List UInt8 := dkwJ4_fixAfterInsertion_9 ++ dktJ4_fixAfterInsertion_10
def dkwJ4_fixAfterInsertion_8 : List UInt8 := [184, 1, 51, 43, 184, 1, 38, 184, 1, 38, 76, 167, 0, 54, 43, 43, 184, 1, 38, 184, 1, 41]
abbrev dktJ4_fixAfterInsertion_8 : List UInt8 := dkwJ4_fixAfterInsertion_8 ++ dktJ4_fixAfterInsertion_9
def dkwJ4_fixAfterInsertion_7 : List UInt8 := [154, 0, 38, 43, 184, 1, 38, 4, 184, 1, 51, 44, 4, 184, 1, 51, 43, 184, 1, 38, 184, 1, 38, 3]
abbrev dktJ4_fixAfterInsertion_7 : List UInt8 := dkwJ4_fixAfterInsertion_7 ++ dktJ4_fixAfterInsertion_8
def dkwJ4_fixAfterInsertion_6 : List UInt8 := [184, 1, 38, 182, 1, 58, 167, 255, 113, 43, 184, 1, 38, 184, 1, 38, 184, 1, 41, 77, 44, 184, 1, 47]
abbrev dktJ4_fixAfterInsertion_6 : List UInt8 := dkwJ4_fixAfterInsertion_6 ++ dktJ4_fixAfterInsertion_7
def dkwJ4_fixAfterInsertion_5 : List UInt8 := [43, 184, 1, 38, 4, 184, 1, 51, 43, 184, 1, 38, 184, 1, 38, 3, 184, 1, 51, 42, 43, 184, 1, 38]
abbrev dktJ4_fixAfterInsertion_5 : List UInt8 := dkwJ4_fixAfterInsertion_5 ++ dktJ4_fixAfterInsertion_6
def dkwJ4_fixAfterInsertion_4 : List UInt8 := [167, 0, 54, 43, 43, 184, 1, 38, 184, 1, 44, 166, 0, 13, 43, 184, 1, 38, 76, 42, 43, 182, 1, 55]
abbrev dktJ4_fixAfterInsertion_4 : List UInt8 := dkwJ4_fixAfterInsertion_4 ++ dktJ4_fixAfterInsertion_5
def dkwJ4_fixAfterInsertion_3 : List UInt8 := [184, 1, 51, 43, 184, 1, 38, 184, 1, 38, 3, 184, 1, 51, 43, 184, 1, 38, 184, 1, 38, 76]
abbrev dktJ4_fixAfterInsertion_3 : List UInt8 := dkwJ4_fixAfterInsertion_3 ++ dktJ4_fixAfterInsertion_4
def dkwJ4_fixAfterInsertion_2 : List UInt8 := [184, 1, 38, 184, 1, 44, 77, 44, 184, 1, 47, 154, 0, 38, 43, 184, 1, 38, 4, 184, 1, 51, 44, 4]
abbrev dktJ4_fixAfterInsertion_2 : List UInt8 := dkwJ4_fixAfterInsertion_2 ++ dktJ4_fixAfterInsertion_3
def dkwJ4_fixAfterInsertion_1 : List UInt8 := [154, 0, 234, 43, 184, 1, 38, 43, 184, 1, 38, 184, 1, 38, 184, 1, 41, 166, 0, 110, 43, 184, 1, 38]
abbrev dktJ4_fixAfterInsertion_1 : List UInt8 := dkwJ4_fixAfterInsertion_1 ++ dktJ4_fixAfterInsertion_2
def dkwJ4_fixAfterInsertion_0 : List UInt8 := [43, 3, 181, 1, 34, 43, 198, 0, 252, 43, 42, 180, 0, 101, 165, 0, 244, 43, 180, 0, 124, 180, 1, 34]
abbrev dktJ4_fixAfterInsertion_0 : List UInt8 := dkwJ4_fixAfterInsertion_0 ++ dktJ4_fixAfterInsertion_1
theorem dksJ4_fixAfterInsertion_0 : cJ4_fixAfterInsertion.data.toList.drop 0 = dktJ4_fixAfterInsertion_0 := by decide +kernel
theorem dksJ4_fixAfterInsertion_1 : cJ4_fixAfterInsertion.data.toList.drop 24 = dktJ4_fixAfterInsertion_1 := dk_seg dksJ4_fixAfterInsertion_0 24 rfl rfl
theorem dksJ4_fixAfterInsertion_2 : cJ4_fixAfterInsertion.data.toList.drop 48 = dktJ4_fixAfterInsertion_2 := dk_seg dksJ4_fixAfterInsertion_1 24 rfl rfl
theorem dksJ4_fixAfterInsertion_3 : cJ4_fixAfterInsertion.data.toList.drop 72 = dktJ4_fixAfterInsertion_3 := dk_seg dksJ4_fixAfterInsertion_2 24 rfl rfl
theorem dksJ4_fixAfterInsertion_4 : cJ4_fixAfterInsertion.data.toList.drop 94 = dktJ4_fixAfterInsertion_4 := dk_seg dksJ4_fixAfterInsertion_3 22 rfl rfl
theorem dksJ4_fixAfterInsertion_5 : cJ4_fixAfterInsertion.data.toList.drop 118 = dktJ4_fixAfterInsertion_5 := dk_seg dksJ4_fixAfterInsertion_4 24 rfl rfl
theorem dksJ4_fixAfterInsertion_6 : cJ4_fixAfterInsertion.data.toList.drop 142 = dktJ4_fixAfterInsertion_6 := dk_seg dksJ4_fixAfterInsertion_5 24 rfl rfl
theorem dksJ4_fixAfterInsertion_7 : cJ4_fixAfterInsertion.data.toList.drop 166 = dktJ4_fixAfterInsertion_7 := dk_seg dksJ4_fixAfterInsertion_6 24 rfl rfl
theorem dksJ4_fixAfterInsertion_8 : cJ4_fixAfterInsertion.data.toList.drop 190 = dktJ4_fixAfterInsertion_8 := dk_seg dksJ4_fixAfterInsertion_7 24 rfl rfl
theorem dksJ4_fixAfterInsertion_9 : cJ4_fixAfterInsertion.data.toList.drop 212 = dktJ4_fixAfterInsertion_9 := dk_seg dksJ4_fixAfterInsertion_8 22 rfl rfl
theorem dksJ4_fixAfterInsertion_10 : cJ4_fixAfterInsertion.data.toList.drop 234 = dktJ4_fixAfterInsertion_10 := dk_seg dksJ4_fixAfterInsertion_9 22 rfl rfl
theorem dksJ4_fixAfterInsertion_11 : cJ4_fixAfterInsertion.data.toList.drop 258 = dktJ4_fixAfterInsertion_11 := dk_seg dksJ4_fixAfterInsertion_10 24 rfl rfl
theorem dJ4_fixAfterInsertion_0 : decode cJ4_fixAfterInsertion 0 = .ok (.aload_n 1, 1) := dk_43 (dk_at dksJ4_fixAfterInsertion_0 0 rfl rfl)
theorem dJ4_fixAfterInsertion_1 : decode cJ4_fixAfterInsertion 1 = .ok (.iconst 0, 1) := dk_3 (dk_at dksJ4_fixAfterInsertion_0 1 rfl rfl)
theorem dJ4_fixAfterInsertion_2 : decode cJ4_fixAfterInsertion 2 = .ok (.putfield 290, 3) := dk_181 1 34 (dk_at dksJ4_fixAfterInsertion_0 2 rfl rfl)
theorem dJ4_fixAfterInsertion_5 : decode cJ4_fixAfterInsertion 5 = .ok (.aload_n 1, 1) := dk_43 (dk_at dksJ4_fixAfterInsertion_0 5 rfl rfl)
theorem dJ4_fixAfterInsertion_6 : decode cJ4_fixAfterInsertion 6 = .ok (.ifnull 252, 3) := dk_198 0 252 (dk_at dksJ4_fixAfterInsertion_0 6 rfl rfl)
theorem dJ4_fixAfterInsertion_9 : decode cJ4_fixAfterInsertion 9 = .ok (.aload_n 1, 1) := dk_43 (dk_at dksJ4_fixAfterInsertion_0 9 rfl rfl)
theorem dJ4_fixAfterInsertion_10 : decode cJ4_fixAfterInsertion 10 = .ok (.aload_n 0, 1) := dk_42 (dk_at dksJ4_fixAfterInsertion_0 10 rfl rfl)
theorem dJ4_fixAfterInsertion_11 : decode cJ4_fixAfterInsertion 11 = .ok (.getfield 101, 3) := dk_180 0 101 (dk_at dksJ4_fixAfterInsertion_0 11 rfl rfl)
theorem dJ4_fixAfterInsertion_14 : decode cJ4_fixAfterInsertion 14 = .ok (.if_acmp .eq 244, 3) := dk_165 0 244 (dk_at dksJ4_fixAfterInsertion_0 14 rfl rfl)
theorem dJ4_fixAfterInsertion_17 : decode cJ4_fixAfterInsertion 17 = .ok (.aload_n 1, 1) := dk_43 (dk_at dksJ4_fixAfterInsertion_0 17 rfl rfl)
theorem dJ4_fixAfterInsertion_18 : decode cJ4_fixAfterInsertion 18 = .ok (.getfield 124, 3) := dk_180 0 124 (dk_at dksJ4_fixAfterInsertion_0 18 rfl rfl)
theorem dJ4_fixAfterInsertion_21 : decode cJ4_fixAfterInsertion 21 = .ok (.getfield 290, 3) := dk_180 1 34 (dk_at dksJ4_fixAfterInsertion_0 21 rfl rfl)
theorem dJ4_fixAfterInsertion_24 : decode cJ4_fixAfterInsertion 24 = .ok (.ifCond .ne 234, 3) := dk_154 0 234 (dk_at dksJ4_fixAfterInsertion_1 0 rfl rfl)
theorem dJ4_fixAfterInsertion_27 : decode cJ4_fixAfterInsertion 27 = .ok (.aload_n 1, 1) := dk_43 (dk_at dksJ4_fixAfterInsertion_1 3 rfl rfl)
theorem dJ4_fixAfterInsertion_28 : decode cJ4_fixAfterInsertion 28 = .ok (.invokestatic 294, 3) := dk_184 1 38 (dk_at dksJ4_fixAfterInsertion_1 4 rfl rfl)
theorem dJ4_fixAfterInsertion_31 : decode cJ4_fixAfterInsertion 31 = .ok (.aload_n 1, 1) := dk_43 (dk_at dksJ4_fixAfterInsertion_1 7 rfl rfl)
theorem dJ4_fixAfterInsertion_32 : decode cJ4_fixAfterInsertion 32 = .ok (.invokestatic 294, 3) := dk_184 1 38 (dk_at dksJ4_fixAfterInsertion_1 8 rfl rfl)
theorem dJ4_fixAfterInsertion_35 : decode cJ4_fixAfterInsertion 35 = .ok (.invokestatic 294, 3) := dk_184 1 38 (dk_at dksJ4_fixAfterInsertion_1 11 rfl rfl)
theorem dJ4_fixAfterInsertion_38 : decode cJ4_fixAfterInsertion 38 = .ok (.invokestatic 297, 3) := dk_184 1 41 (dk_at dksJ4_fixAfterInsertion_1 14 rfl rfl)
theorem dJ4_fixAfterInsertion_41 : decode cJ4_fixAfterInsertion 41 = .ok (.if_acmp .ne 110, 3) := dk_166 0 110 (dk_at dksJ4_fixAfterInsertion_1 17 rfl rfl)
theorem dJ4_fixAfterInsertion_44 : decode cJ4_fixAfterInsertion 44 = .ok (.aload_n 1, 1) := dk_43 (dk_at dksJ4_fixAfterInsertion_1 20 rfl rfl)
theorem dJ4_fixAfterInsertion_45 : decode cJ4_fixAfterInsertion 45 = .ok (.invokestatic 294, 3) := dk_184 1 38 (dk_at dksJ4_fixAfterInsertion_1 21 rfl rfl)
theorem dJ4_fixAfterInsertion_48 : decode cJ4_fixAfterInsertion 48 = .ok (.invokestatic 294, 3) := dk_184 1 38 (dk_at dksJ4_fixAfterInsertion_2 0 rfl rfl)
theorem dJ4_fixAfterInsertion_51 : decode cJ4_fixAfterInsertion 51 = .ok (.invokestatic 300, 3) := dk_184 1 44 (dk_at dksJ4_fixAfterInsertion_2 3 rfl rfl)
theorem dJ4_fixAfterInsertion_54 : decode cJ4_fixAfterInsertion 54 = .ok (.astore_n 2, 1) := dk_77 (dk_at dksJ4_fixAfterInsertion_2 6 rfl rfl)
theorem dJ4_fixAfterInsertion_55 : decode cJ4_fixAfterInsertion 55 = .ok (.aload_n 2, 1) := dk_44 (dk_at dksJ4_fixAfterInsertion_2 7 rfl rfl)
theorem dJ4_fixAfterInsertion_56 : decode cJ4_fixAfterInsertion 56 = .ok (.invokestatic 303, 3) := dk_184 1 47 (dk_at dksJ4_fixAfterInsertion_2 8 rfl rfl)
theorem dJ4_fixAfterInsertion_59 : decode cJ4_fixAfterInsertion 59 = .ok (.ifCond .ne 38, 3) := dk_154 0 38 (dk_at dksJ4_fixAfterInsertion_2 11 rfl rfl)
theorem dJ4_fixAfterInsertion_62 : decode cJ4_fixAfterInsertion 62 = .ok (.aload_n 1, 1) := dk_43 (dk_at dksJ4_fixAfterInsertion_2 14 rfl rfl)
theorem dJ4_fixAfterInsertion_63 : decode cJ4_fixAfterInsertion 63 = .ok (.invokestatic 294, 3) := dk_184 1 38 (dk_at dksJ4_fixAfterInsertion_2 15 rfl rfl)
theorem dJ4_fixAfterInsertion_66 : decode cJ4_fixAfterInsertion 66 = .ok (.iconst 1, 1) := dk_4 (dk_at dksJ4_fixAfterInsertion_2 18 rfl rfl)
theorem dJ4_fixAfterInsertion_67 : decode cJ4_fixAfterInsertion 67 = .ok (.invokestatic 307, 3) := dk_184 1 51 (dk_at dksJ4_fixAfterInsertion_2 19 rfl rfl)
theorem dJ4_fixAfterInsertion_70 : decode cJ4_fixAfterInsertion 70 = .ok (.aload_n 2, 1) := dk_44 (dk_at dksJ4_fixAfterInsertion_2 22 rfl rfl)
theorem dJ4_fixAfterInsertion_71 : decode cJ4_fixAfterInsertion 71 = .ok (.iconst 1, 1) := dk_4 (dk_at dksJ4_fixAfterInsertion_2 23 rfl rfl)
theorem dJ4_fixAfterInsertion_72 : decode cJ4_fixAfterInsertion 72 = .ok (.invokestatic 307, 3) := dk_184 1 51 (dk_at dksJ4_fixAfterInsertion_3 0 rfl rfl)
theorem dJ4_fixAfterInsertion_75 : decode cJ4_fixAfterInsertion 75 = .ok (.aload_n 1, 1) := dk_43 (dk_at dksJ4_fixAfterInsertion_3 3 rfl rfl)
theorem dJ4_fixAfterInsertion_76 : decode cJ4_fixAfterInsertion 76 = .ok (.invokestatic 294, 3) := dk_184 1 38 (dk_at dksJ4_fixAfterInsertion_3 4 rfl rfl)
theorem dJ4_fixAfterInsertion_79 : decode cJ4_fixAfterInsertion 79 = .ok (.invokestatic 294, 3) := dk_184 1 38 (dk_at dksJ4_fixAfterInsertion_3 7 rfl rfl)
theorem dJ4_fixAfterInsertion_82 : decode cJ4_fixAfterInsertion 82 = .ok (.iconst 0, 1) := dk_3 (dk_at dksJ4_fixAfterInsertion_3 10 rfl rfl)
theorem dJ4_fixAfterInsertion_83 : decode cJ4_fixAfterInsertion 83 = .ok (.invokestatic 307, 3) := dk_184 1 51 (dk_at dksJ4_fixAfterInsertion_3 11 rfl rfl)
theorem dJ4_fixAfterInsertion_86 : decode cJ4_fixAfterInsertion 86 = .ok (.aload_n 1, 1) := dk_43 (dk_at dksJ4_fixAfterInsertion_3 14 rfl rfl)
theorem dJ4_fixAfterInsertion_87 : decode cJ4_fixAfterInsertion 87 = .ok (.invokestatic 294, 3) := dk_184 1 38 (dk_at dksJ4_fixAfterInsertion_3 15 rfl rfl)
theorem dJ4_fixAfterInsertion_90 : decode cJ4_fixAfterInsertion 90 = .ok (.invokestatic 294, 3) := dk_184 1 38 (dk_at dksJ4_fixAfterInsertion_3 18 rfl rfl)
theorem dJ4_fixAfterInsertion_93 : decode cJ4_fixAfterInsertion 93 = .ok (.astore_n 1, 1) := dk_76 (dk_at dksJ4_fixAfterInsertion_3 21 rfl rfl)
theorem dJ4_fixAfterInsertion_94 : decode cJ4_fixAfterInsertion 94 = .ok (.goto 54, 3) := dk_167 0 54 (dk_at dksJ4_fixAfterInsertion_4 0 rfl rfl)
theorem dJ4_fixAfterInsertion_97 : decode cJ4_fixAfterInsertion 97 = .ok (.aload_n 1, 1) := dk_43 (dk_at dksJ4_fixAfterInsertion_4 3 rfl rfl)
theorem dJ4_fixAfterInsertion_98 : decode cJ4_fixAfterInsertion 98 = .ok (.aload_n 1, 1) := dk_43 (dk_at dksJ4_fixAfterInsertion_4 4 rfl rfl)
theorem dJ4_fixAfterInsertion_99 : decode cJ4_fixAfterInsertion 99 = .ok (.invokestatic 294, 3) := dk_184 1 38 (dk_at dksJ4_fixAfterInsertion_4 5 rfl rfl)
theorem dJ4_fixAfterInsertion_102 : decode cJ4_fixAfterInsertion 102 = .ok (.invokestatic 300, 3) := dk_184 1 44 (dk_at dksJ4_fixAfterInsertion_4 8 rfl rfl)
theorem dJ4_fixAfterInsertion_105 : decode cJ4_fixAfterInsertion 105 = .ok (.if_acmp .ne 13, 3) := dk_166 0 13 (dk_at dksJ4_fixAfterInsertion_4 11 rfl rfl)
theorem dJ4_fixAfterInsertion_108 : decode cJ4_fixAfterInsertion 108 = .ok (.aload_n 1, 1) := dk_43 (dk_at dksJ4_fixAfterInsertion_4 14 rfl rfl)
theorem dJ4_fixAfterInsertion_109 : decode cJ4_fixAfterInsertion 109 = .ok (.invokestatic 294, 3) := dk_184 1 38 (dk_at dksJ4_fixAfterInsertion_4 15 rfl rfl)
theorem dJ4_fixAfterInsertion_112 : decode cJ4_fixAfterInsertion 112 = .ok (.astore_n 1, 1) := dk_76 (dk_at dksJ4_fixAfterInsertion_4 18 rfl rfl)
theorem dJ4_fixAfterInsertion_113 : decode cJ4_fixAfterInsertion 113 = .ok (.aload_n 0, 1) := dk_42 (dk_at dksJ4_fixAfterInsertion_4 19 rfl rfl)
theorem dJ4_fixAfterInsertion_114 : decode cJ4_fixAfterInsertion 114 = .ok (.aload_n 1, 1) := dk_43 (dk_at dksJ4_fixAfterInsertion_4 20 rfl rfl)
theorem dJ4_fixAfterInsertion_115 : decode cJ4_fixAfterInsertion 115 = .ok (.invokevirtual 311, 3) := dk_182 1 55 (dk_at dksJ4_fixAfterInsertion_4 21 rfl rfl)
theorem dJ4_fixAfterInsertion_118 : decode cJ4_fixAfterInsertion 118 = .ok (.aload_n 1, 1) := dk_43 (dk_at dksJ4_fixAfterInsertion_5 0 rfl rfl)
theorem dJ4_fixAfterInsertion_119 : decode cJ4_fixAfterInsertion 119 = .ok (.invokestatic 294, 3) := dk_184 1 38 (dk_at dksJ4_fixAfterInsertion_5 1 rfl rfl)
theorem dJ4_fixAfterInsertion_122 : decode cJ4_fixAfterInsertion 122 = .ok (.iconst 1, 1) := dk_4 (dk_at dksJ4_fixAfterInsertion_5 4 rfl rfl)
theorem dJ4_fixAfterInsertion_123 : decode cJ4_fixAfterInsertion 123 = .ok (.invokestatic 307, 3) := dk_184 1 51 (dk_at dksJ4_fixAfterInsertion_5 5 rfl rfl)
theorem dJ4_fixAfterInsertion_126 : decode cJ4_fixAfterInsertion 126 = .ok (.aload_n 1, 1) := dk_43 (dk_at dksJ4_fixAfterInsertion_5 8 rfl rfl)
theorem dJ4_fixAfterInsertion_127 : decode cJ4_fixAfterInsertion 127 = .ok (.invokestatic 294, 3) := dk_184 1 38 (dk_at dksJ4_fixAfterInsertion_5 9 rfl rfl)
theorem dJ4_fixAfterInsertion_130 : decode cJ4_fixAfterInsertion 130 = .ok (.invokestatic 294, 3) := dk_184 1 38 (dk_at dksJ4_fixAfterInsertion_5 12 rfl rfl)
theorem dJ4_fixAfterInsertion_133 : decode cJ4_fixAfterInsertion 133 = .ok (.iconst 0, 1) := dk_3 (dk_at dksJ4_fixAfterInsertion_5 15 rfl rfl)
theorem dJ4_fixAfterInsertion_134 : decode cJ4_fixAfterInsertion 134 = .ok (.invokestatic 307, 3) := dk_184 1 51 (dk_at dksJ4_fixAfterInsertion_5 16 rfl rfl)
theorem dJ4_fixAfterInsertion_137 : decode cJ4_fixAfterInsertion 137 = .ok (.aload_n 0, 1) := dk_42 (dk_at dksJ4_fixAfterInsertion_5 19 rfl rfl)
theorem dJ4_fixAfterInsertion_138 : decode cJ4_fixAfterInsertion 138 = .ok (.aload_n 1, 1) := dk_43 (dk_at dksJ4_fixAfterInsertion_5 20 rfl rfl)
theorem dJ4_fixAfterInsertion_139 : decode cJ4_fixAfterInsertion 139 = .ok (.invokestatic 294, 3) := dk_184 1 38 (dk_at dksJ4_fixAfterInsertion_5 21 rfl rfl)
theorem dJ4_fixAfterInsertion_142 : decode cJ4_fixAfterInsertion 142 = .ok (.invokestatic 294, 3) := dk_184 1 38 (dk_at dksJ4_fixAfterInsertion_6 0 rfl rfl)
theorem dJ4_fixAfterInsertion_145 : decode cJ4_fixAfterInsertion 145 = .ok (.invokevirtual 314, 3) := dk_182 1 58 (dk_at dksJ4_fixAfterInsertion_6 3 rfl rfl)
theorem dJ4_fixAfterInsertion_148 : decode cJ4_fixAfterInsertion 148 = .ok (.goto (-143), 3) := dk_167 255 113 (dk_at dksJ4_fixAfterInsertion_6 6 rfl rfl)
theorem dJ4_fixAfterInsertion_151 : decode cJ4_fixAfterInsertion 151 = .ok (.aload_n 1, 1) := dk_43 (dk_at dksJ4_fixAfterInsertion_6 9 rfl rfl)
theorem dJ4_fixAfterInsertion_152 : decode cJ4_fixAfterInsertion 152 = .ok (.invokestatic 294, 3) := dk_184 1 38 (dk_at dksJ4_fixAfterInsertion_6 10 rfl rfl)
theorem dJ4_fixAfterInsertion_155 : decode cJ4_fixAfterInsertion 155 = .ok (.invokestatic 294, 3) := dk_184 1 38 (dk_at dksJ4_fixAfterInsertion_6 13 rfl rfl)
theorem dJ4_fixAfterInsertion_158 : decode cJ4_fixAfterInsertion 158 = .ok (.invokestatic 297, 3) := dk_184 1 41 (dk_at dksJ4_fixAfterInsertion_6 16 rfl rfl)
theorem dJ4_fixAfterInsertion_161 : decode cJ4_fixAfterInsertion 161 = .ok (.astore_n 2, 1) := dk_77 (dk_at dksJ4_fixAfterInsertion_6 19 rfl rfl)
theorem dJ4_fixAfterInsertion_162 : decode cJ4_fixAfterInsertion 162 = .ok (.aload_n 2, 1) := dk_44 (dk_at dksJ4_fixAfterInsertion_6 20 rfl rfl)
theorem dJ4_fixAfterInsertion_163 : decode cJ4_fixAfterInsertion 163 = .ok (.invokestatic 303, 3) := dk_184 1 47 (dk_at dksJ4_fixAfterInsertion_6 21 rfl rfl)
theorem dJ4_fixAfterInsertion_166 : decode cJ4_fixAfterInsertion 166 = .ok (.ifCond .ne 38, 3) := dk_154 0 38 (dk_at dksJ4_fixAfterInsertion_7 0 rfl rfl)
theorem dJ4_fixAfterInsertion_169 : decode cJ4_fixAfterInsertion 169 = .ok (.aload_n 1, 1) := dk_43 (dk_at dksJ4_fixAfterInsertion_7 3 rfl rfl)
theorem dJ4_fixAfterInsertion_170 : decode cJ4_fixAfterInsertion 170 = .ok (.invokestatic 294, 3) := dk_184 1 38 (dk_at dksJ4_fixAfterInsertion_7 4 rfl rfl)
theorem dJ4_fixAfterInsertion_173 : decode cJ4_fixAfterInsertion 173 = .ok (.iconst 1, 1) := dk_4 (dk_at dksJ4_fixAfterInsertion_7 7 rfl rfl)
theorem dJ4_fixAfterInsertion_174 : decode cJ4_fixAfterInsertion 174 = .ok (.invokestatic 307, 3) := dk_184 1 51 (dk_at dksJ4_fixAfterInsertion_7 8 rfl rfl)
theorem dJ4_fixAfterInsertion_177 : decode cJ4_fixAfterInsertion 177 = .ok (.aload_n 2, 1) := dk_44 (dk_at dksJ4_fixAfterInsertion_7 11 rfl rfl)
theorem dJ4_fixAfterInsertion_178 : decode cJ4_fixAfterInsertion 178 = .ok (.iconst 1, 1) := dk_4 (dk_at dksJ4_fixAfterInsertion_7 12 rfl rfl)
theorem dJ4_fixAfterInsertion_179 : decode cJ4_fixAfterInsertion 179 = .ok (.invokestatic 307, 3) := dk_184 1 51 (dk_at dksJ4_fixAfterInsertion_7 13 rfl rfl)
theorem dJ4_fixAfterInsertion_182 : decode cJ4_fixAfterInsertion 182 = .ok (.aload_n 1, 1) := dk_43 (dk_at dksJ4_fixAfterInsertion_7 16 rfl rfl)
theorem dJ4_fixAfterInsertion_183 : decode cJ4_fixAfterInsertion 183 = .ok (.invokestatic 294, 3) := dk_184 1 38 (dk_at dksJ4_fixAfterInsertion_7 17 rfl rfl)
theorem dJ4_fixAfterInsertion_186 : decode cJ4_fixAfterInsertion 186 = .ok (.invokestatic 294, 3) := dk_184 1 38 (dk_at dksJ4_fixAfterInsertion_7 20 rfl rfl)
theorem dJ4_fixAfterInsertion_189 : decode cJ4_fixAfterInsertion 189 = .ok (.iconst 0, 1) := dk_3 (dk_at dksJ4_fixAfterInsertion_7 23 rfl rfl)
theorem dJ4_fixAfterInsertion_190 : decode cJ4_fixAfterInsertion 190 = .ok (.invokestatic 307, 3) := dk_184 1 51 (dk_at dksJ4_fixAfterInsertion_8 0 rfl rfl)
theorem dJ4_fixAfterInsertion_193 : decode cJ4_fixAfterInsertion 193 = .ok (.aload_n 1, 1) := dk_43 (dk_at dksJ4_fixAfterInsertion_8 3 rfl rfl)
theorem dJ4_fixAfterInsertion_194 : decode cJ4_fixAfterInsertion 194 = .ok (.invokestatic 294, 3) := dk_184 1 38 (dk_at dksJ4_fixAfterInsertion_8 4 rfl rfl)
theorem dJ4_fixAfterInsertion_197 : decode cJ4_fixAfterInsertion 197 = .ok (.invokestatic 294, 3) := dk_184 1 38 (dk_at dksJ4_fixAfterInsertion_8 7 rfl rfl)
theorem dJ4_fixAfterInsertion_200 : decode cJ4_fixAfterInsertion 200 = .ok (.astore_n 1, 1) := dk_76 (dk_at dksJ4_fixAfterInsertion_8 10 rfl rfl)
theorem dJ4_fixAfterInsertion_201 : decode cJ4_fixAfterInsertion 201 = .ok (.goto 54, 3) := dk_167 0 54 (dk_at dksJ4_fixAfterInsertion_8 11 rfl rfl)
theorem dJ4_fixAfterInsertion_204 : decode cJ4_fixAfterInsertion 204 = .ok (.aload_n 1, 1) := dk_43 (dk_at dksJ4_fixAfterInsertion_8 14 rfl rfl)
theorem dJ4_fixAfterInsertion_205 : decode cJ4_fixAfterInsertion 205 = .ok (.aload_n 1, 1) := dk_43 (dk_at dksJ4_fixAfterInsertion_8 15 rfl rfl)
theorem dJ4_fixAfterInsertion_206 : decode cJ4_fixAfterInsertion 206 = .ok (.invokestatic 294, 3) := dk_184 1 38 (dk_at dksJ4_fixAfterInsertion_8 16 rfl rfl)
theorem dJ4_fixAfterInsertion_209 : decode cJ4_fixAfterInsertion 209 = .ok (.invokestatic 297, 3) := dk_184 1 41 (dk_at dksJ4_fixAfterInsertion_8 19 rfl rfl)
theorem dJ4_fixAfterInsertion_212 : decode cJ4_fixAfterInsertion 212 = .ok (.if_acmp .ne 13, 3) := dk_166 0 13 (dk_at dksJ4_fixAfterInsertion_9 0 rfl rfl)
theorem dJ4_fixAfterInsertion_215 : decode cJ4_fixAfterInsertion 215 = .ok (.aload_n 1, 1) := dk_43 (dk_at dksJ4_fixAfterInsertion_9 3 rfl rfl)
theorem dJ4_fixAfterInsertion_216 : decode cJ4_fixAfterInsertion 216 = .ok (.invokestatic 294, 3) := dk_184 1 38 (dk_at dksJ4_fixAfterInsertion_9 4 rfl rfl)
theorem dJ4_fixAfterInsertion_219 : decode cJ4_fixAfterInsertion 219 = .ok (.astore_n 1, 1) := dk_76 (dk_at dksJ4_fixAfterInsertion_9 7 rfl rfl)
theorem dJ4_fixAfterInsertion_220 : decode cJ4_fixAfterInsertion 220 = .ok (.aload_n 0, 1) := dk_42 (dk_at dksJ4_fixAfterInsertion_9 8 rfl rfl)
theorem dJ4_fixAfterInsertion_221 : decode cJ4_fixAfterInsertion 221 = .ok (.aload_n 1, 1) := dk_43 (dk_at dksJ4_fixAfterInsertion_9 9 rfl rfl)
theorem dJ4_fixAfterInsertion_222 : decode cJ4_fixAfterInsertion 222 = .ok (.invokevirtual 314, 3) := dk_182 1 58 (dk_at dksJ4_fixAfterInsertion_9 10 rfl rfl)
theorem dJ4_fixAfterInsertion_225 : decode cJ4_fixAfterInsertion 225 = .ok (.aload_n 1, 1) := dk_43 (dk_at dksJ4_fixAfterInsertion_9 13 rfl rfl)
theorem dJ4_fixAfterInsertion_226 : decode cJ4_fixAfterInsertion 226 = .ok (.invokestatic 294, 3) := dk_184 1 38 (dk_at dksJ4_fixAfterInsertion_9 14 rfl rfl)
theorem dJ4_fixAfterInsertion_229 : decode cJ4_fixAfterInsertion 229 = .ok (.iconst 1, 1) := dk_4 (dk_at dksJ4_fixAfterInsertion_9 17 rfl rfl)
theorem dJ4_fixAfterInsertion_230 : decode cJ4_fixAfterInsertion 230 = .ok (.invokestatic 307, 3) := dk_184 1 51 (dk_at dksJ4_fixAfterInsertion_9 18 rfl rfl)
theorem dJ4_fixAfterInsertion_233 : decode cJ4_fixAfterInsertion 233 = .ok (.aload_n 1, 1) := dk_43 (dk_at dksJ4_fixAfterInsertion_9 21 rfl rfl)
theorem dJ4_fixAfterInsertion_234 : decode cJ4_fixAfterInsertion 234 = .ok (.invokestatic 294, 3) := dk_184 1 38 (dk_at dksJ4_fixAfterInsertion_10 0 rfl rfl)
theorem dJ4_fixAfterInsertion_237 : decode cJ4_fixAfterInsertion 237 = .ok (.invokestatic 294, 3) := dk_184 1 38 (dk_at dksJ4_fixAfterInsertion_10 3 rfl rfl)
theorem dJ4_fixAfterInsertion_240 : decode cJ4_fixAfterInsertion 240 = .ok (.iconst 0, 1) := dk_3 (dk_at dksJ4_fixAfterInsertion_10 6 rfl rfl)
theorem dJ4_fixAfterInsertion_241 : decode cJ4_fixAfterInsertion 241 = .ok (.invokestatic 307, 3) := dk_184 1 51 (dk_at dksJ4_fixAfterInsertion_10 7 rfl rfl)
theorem dJ4_fixAfterInsertion_244 : decode cJ4_fixAfterInsertion 244 = .ok (.aload_n 0, 1) := dk_42 (dk_at dksJ4_fixAfterInsertion_10 10 rfl rfl)
theorem dJ4_fixAfterInsertion_245 : decode cJ4_fixAfterInsertion 245 = .ok (.aload_n 1, 1) := dk_43 (dk_at dksJ4_fixAfterInsertion_10 11 rfl rfl)
theorem dJ4_fixAfterInsertion_246 : decode cJ4_fixAfterInsertion 246 = .ok (.invokestatic 294, 3) := dk_184 1 38 (dk_at dksJ4_fixAfterInsertion_10 12 rfl rfl)
theorem dJ4_fixAfterInsertion_249 : decode cJ4_fixAfterInsertion 249 = .ok (.invokestatic 294, 3) := dk_184 1 38 (dk_at dksJ4_fixAfterInsertion_10 15 rfl rfl)
theorem dJ4_fixAfterInsertion_252 : decode cJ4_fixAfterInsertion 252 = .ok (.invokevirtual 311, 3) := dk_182 1 55 (dk_at dksJ4_fixAfterInsertion_10 18 rfl rfl)
theorem dJ4_fixAfterInsertion_255 : decode cJ4_fixAfterInsertion 255 = .ok (.goto (-250), 3) := dk_167 255 6 (dk_at dksJ4_fixAfterInsertion_10 21 rfl rfl)
theorem dJ4_fixAfterInsertion_258 : decode cJ4_fixAfterInsertion 258 = .ok (.aload_n 0, 1) := dk_42 (dk_at dksJ4_fixAfterInsertion_11 0 rfl rfl)
theorem dJ4_fixAfterInsertion_259 : decode cJ4_fixAfterInsertion 259 = .ok (.getfield 101, 3) := dk_180 0 101 (dk_at dksJ4_fixAfterInsertion_11 1 rfl rfl)
theorem dJ4_fixAfterInsertion_262 : decode cJ4_fixAfterInsertion 262 = .ok (.iconst 1, 1) := dk_4 (dk_at dksJ4_fixAfterInsertion_11 4 rfl rfl)
theorem dJ4_fixAfterInsertion_263 : decode cJ4_fixAfterInsertion 263 = .ok (.putfield 290, 3) := dk_181 1 34 (dk_at dksJ4_fixAfterInsertion_11 5 rfl rfl)
theorem dJ4_fixAfterInsertion_266 : decode cJ4_fixAfterInsertion 266 = .ok (.return_, 1) := dk_177 (dk_at dksJ4_fixAfterInsertion_11 8 rfl rfl)
abbrev cJ4_parentOf : ByteArray := prog_65_method_77_code
def yJ4_parentOf : MethodName := ⟨RJ4, "parentOf", "(Ljava/util/TreeMap$Entry;)Ljava/util/TreeMap$Entry;"⟩
def dkwJ4_parentOf_0 : List UInt8 := [42, 199, 0, 7, 1, 167, 0, 7, 42, 180, 0, 124, 176]
abbrev dktJ4_parentOf_0 : List UInt8 := dkwJ4_parentOf_0 ++ []
theorem dksJ4_parentOf_0 : cJ4_parentOf.data.toList.drop 0 = dktJ4_parentOf_0 := by decide +kernel
theorem dJ4_parentOf_0 : decode cJ4_parentOf 0 = .ok (.aload_n 0, 1) := dk_42 (dk_at dksJ4_parentOf_0 0 rfl rfl)
theorem dJ4_parentOf_1 : decode cJ4_parentOf 1 = .ok (.ifnonnull 7, 3) := dk_199 0 7 (dk_at dksJ4_parentOf_0 1 rfl rfl)
theorem dJ4_parentOf_4 : decode cJ4_parentOf 4 = .ok (.aconst_null, 1) := dk_1 (dk_at dksJ4_parentOf_0 4 rfl rfl)
theorem dJ4_parentOf_5 : decode cJ4_parentOf 5 = .ok (.goto 7, 3) := dk_167 0 7 (dk_at dksJ4_parentOf_0 5 rfl rfl)
theorem dJ4_parentOf_8 : decode cJ4_parentOf 8 = .ok (.aload_n 0, 1) := dk_42 (dk_at dksJ4_parentOf_0 8 rfl rfl)
theorem dJ4_parentOf_9 : decode cJ4_parentOf 9 = .ok (.getfield 124, 3) := dk_180 0 124 (dk_at dksJ4_parentOf_0 9 rfl rfl)
theorem dJ4_parentOf_12 : decode cJ4_parentOf 12 = .ok (.areturn, 1) := dk_176 (dk_at dksJ4_parentOf_0 12 rfl rfl)
abbrev cJ4_leftOf : ByteArray := prog_65_method_79_code
def yJ4_leftOf : MethodName := ⟨RJ4, "leftOf", "(Ljava/util/TreeMap$Entry;)Ljava/util/TreeMap$Entry;"⟩
def dkwJ4_leftOf_0 : List UInt8 := [42, 199, 0, 7, 1, 167, 0, 7, 42, 180, 0, 111, 176]
abbrev dktJ4_leftOf_0 : List UInt8 := dkwJ4_leftOf_0 ++ []
theorem dksJ4_leftOf_0 : cJ4_leftOf.data.toList.drop 0 = dktJ4_leftOf_0 := by decide +kernel
theorem dJ4_leftOf_0 : decode cJ4_leftOf 0 = .ok (.aload_n 0, 1) := dk_42 (dk_at dksJ4_leftOf_0 0 rfl rfl)
theorem dJ4_leftOf_1 : decode cJ4_leftOf 1 = .ok (.ifnonnull 7, 3) := dk_199 0 7 (dk_at dksJ4_leftOf_0 1 rfl rfl)
theorem dJ4_leftOf_4 : decode cJ4_leftOf 4 = .ok (.aconst_null, 1) := dk_1 (dk_at dksJ4_leftOf_0 4 rfl rfl)
theorem dJ4_leftOf_5 : decode cJ4_leftOf 5 = .ok (.goto 7, 3) := dk_167 0 7 (dk_at dksJ4_leftOf_0 5 rfl rfl)
theorem dJ4_leftOf_8 : decode cJ4_leftOf 8 = .ok (.aload_n 0, 1) := dk_42 (dk_at dksJ4_leftOf_0 8 rfl rfl)
theorem dJ4_leftOf_9 : decode cJ4_leftOf 9 = .ok (.getfield 111, 3) := dk_180 0 111 (dk_at dksJ4_leftOf_0 9 rfl rfl)
theorem dJ4_leftOf_12 : decode cJ4_leftOf 12 = .ok (.areturn, 1) := dk_176 (dk_at dksJ4_leftOf_0 12 rfl rfl)
abbrev cJ4_rightOf : ByteArray := prog_65_method_80_code
def yJ4_rightOf : MethodName := ⟨RJ4, "rightOf", "(Ljava/util/TreeMap$Entry;)Ljava/util/TreeMap$Entry;"⟩
def dkwJ4_rightOf_0 : List UInt8 := [42, 199, 0, 7, 1, 167, 0, 7, 42, 180, 0, 114, 176]
abbrev dktJ4_rightOf_0 : List UInt8 := dkwJ4_rightOf_0 ++ []
theorem dksJ4_rightOf_0 : cJ4_rightOf.data.toList.drop 0 = dktJ4_rightOf_0 := by decide +kernel
theorem dJ4_rightOf_0 : decode cJ4_rightOf 0 = .ok (.aload_n 0, 1) := dk_42 (dk_at dksJ4_rightOf_0 0 rfl rfl)
theorem dJ4_rightOf_1 : decode cJ4_rightOf 1 = .ok (.ifnonnull 7, 3) := dk_199 0 7 (dk_at dksJ4_rightOf_0 1 rfl rfl)
theorem dJ4_rightOf_4 : decode cJ4_rightOf 4 = .ok (.aconst_null, 1) := dk_1 (dk_at dksJ4_rightOf_0 4 rfl rfl)
theorem dJ4_rightOf_5 : decode cJ4_rightOf 5 = .ok (.goto 7, 3) := dk_167 0 7 (dk_at dksJ4_rightOf_0 5 rfl rfl)
theorem dJ4_rightOf_8 : decode cJ4_rightOf 8 = .ok (.aload_n 0, 1) := dk_42 (dk_at dksJ4_rightOf_0 8 rfl rfl)
theorem dJ4_rightOf_9 : decode cJ4_rightOf 9 = .ok (.getfield 114, 3) := dk_180 0 114 (dk_at dksJ4_rightOf_0 9 rfl rfl)
theorem dJ4_rightOf_12 : decode cJ4_rightOf 12 = .ok (.areturn, 1) := dk_176 (dk_at dksJ4_rightOf_0 12 rfl rfl)
abbrev cJ4_colorOf : ByteArray := prog_65_method_76_code
def yJ4_colorOf : MethodName := ⟨RJ4, "colorOf", "(Ljava/util/TreeMap$Entry;)Z"⟩
def dkwJ4_colorOf_0 : List UInt8 := [42, 199, 0, 7, 4, 167, 0, 7, 42, 180, 1, 34, 172]
abbrev dktJ4_colorOf_0 : List UInt8 := dkwJ4_colorOf_0 ++ []
theorem dksJ4_colorOf_0 : cJ4_colorOf.data.toList.drop 0 = dktJ4_colorOf_0 := by decide +kernel
theorem dJ4_colorOf_0 : decode cJ4_colorOf 0 = .ok (.aload_n 0, 1) := dk_42 (dk_at dksJ4_colorOf_0 0 rfl rfl)
theorem dJ4_colorOf_1 : decode cJ4_colorOf 1 = .ok (.ifnonnull 7, 3) := dk_199 0 7 (dk_at dksJ4_colorOf_0 1 rfl rfl)
theorem dJ4_colorOf_4 : decode cJ4_colorOf 4 = .ok (.iconst 1, 1) := dk_4 (dk_at dksJ4_colorOf_0 4 rfl rfl)
theorem dJ4_colorOf_5 : decode cJ4_colorOf 5 = .ok (.goto 7, 3) := dk_167 0 7 (dk_at dksJ4_colorOf_0 5 rfl rfl)
theorem dJ4_colorOf_8 : decode cJ4_colorOf 8 = .ok (.aload_n 0, 1) := dk_42 (dk_at dksJ4_colorOf_0 8 rfl rfl)
theorem dJ4_colorOf_9 : decode cJ4_colorOf 9 = .ok (.getfield 290, 3) := dk_180 1 34 (dk_at dksJ4_colorOf_0 9 rfl rfl)
theorem dJ4_colorOf_12 : decode cJ4_colorOf 12 = .ok (.ireturn, 1) := dk_172 (dk_at dksJ4_colorOf_0 12 rfl rfl)
abbrev cJ4_setColor : ByteArray := prog_65_method_78_code
def yJ4_setColor : MethodName := ⟨RJ4, "setColor", "(Ljava/util/TreeMap$Entry;Z)V"⟩
def dkwJ4_setColor_0 : List UInt8 := [42, 198, 0, 8, 42, 27, 181, 1, 34, 177]
abbrev dktJ4_setColor_0 : List UInt8 := dkwJ4_setColor_0 ++ []
theorem dksJ4_setColor_0 : cJ4_setColor.data.toList.drop 0 = dktJ4_setColor_0 := by decide +kernel
theorem dJ4_setColor_0 : decode cJ4_setColor 0 = .ok (.aload_n 0, 1) := dk_42 (dk_at dksJ4_setColor_0 0 rfl rfl)
theorem dJ4_setColor_1 : decode cJ4_setColor 1 = .ok (.ifnull 8, 3) := dk_198 0 8 (dk_at dksJ4_setColor_0 1 rfl rfl)
theorem dJ4_setColor_4 : decode cJ4_setColor 4 = .ok (.aload_n 0, 1) := dk_42 (dk_at dksJ4_setColor_0 4 rfl rfl)
theorem dJ4_setColor_5 : decode cJ4_setColor 5 = .ok (.iload_n 1, 1) := dk_27 (dk_at dksJ4_setColor_0 5 rfl rfl)
theorem dJ4_setColor_6 : decode cJ4_setColor 6 = .ok (.putfield 290, 3) := dk_181 1 34 (dk_at dksJ4_setColor_0 6 rfl rfl)
theorem dJ4_setColor_9 : decode cJ4_setColor 9 = .ok (.return_, 1) := dk_177 (dk_at dksJ4_setColor_0 9 rfl rfl)
abbrev cJ4_rotateLeft : ByteArray := prog_65_method_81_code
def yJ4_rotateLeft : MethodName := ⟨RJ4, "rotateLeft", "(Ljava/util/TreeMap$Entry;)V"⟩
def dkwJ4_rotateLeft_4 : List UInt8 := [177]
abbrev dktJ4_rotateLeft_4 : List UInt8 := dkwJ4_rotateLeft_4 ++ []
def dkwJ4_rotateLeft_3 : List UInt8 := [181, 0, 111, 167, 0, 11, 43, 180, 0, 124, 44, 181, 0, 114, 44, 43, 181, 0, 111, 43, 44, 181, 0, 124]
abbrev dktJ4_rotateLeft_3 : List UInt8 := dkwJ4_rotateLeft_3 ++ dktJ4_rotateLeft_4
def dkwJ4_rotateLeft_2 : List UInt8 := [44, 181, 0, 101, 167, 0, 33, 43, 180, 0, 124, 180, 0, 111, 43, 166, 0, 14, 43, 180, 0, 124, 44]
abbrev dktJ4_rotateLeft_2 : List UInt8 := dkwJ4_rotateLeft_2 ++ dktJ4_rotateLeft_3
def dkwJ4_rotateLeft_1 : List UInt8 := [44, 180, 0, 111, 43, 181, 0, 124, 44, 43, 180, 0, 124, 181, 0, 124, 43, 180, 0, 124, 199, 0, 11, 42]
abbrev dktJ4_rotateLeft_1 : List UInt8 := dkwJ4_rotateLeft_1 ++ dktJ4_rotateLeft_2
def dkwJ4_rotateLeft_0 : List UInt8 := [43, 198, 0, 94, 43, 180, 0, 114, 77, 43, 44, 180, 0, 111, 181, 0, 114, 44, 180, 0, 111, 198, 0, 11]
abbrev dktJ4_rotateLeft_0 : List UInt8 := dkwJ4_rotateLeft_0 ++ dktJ4_rotateLeft_1
theorem dksJ4_rotateLeft_0 : cJ4_rotateLeft.data.toList.drop 0 = dktJ4_rotateLeft_0 := by decide +kernel
theorem dksJ4_rotateLeft_1 : cJ4_rotateLeft.data.toList.drop 24 = dktJ4_rotateLeft_1 := dk_seg dksJ4_rotateLeft_0 24 rfl rfl
theorem dksJ4_rotateLeft_2 : cJ4_rotateLeft.data.toList.drop 48 = dktJ4_rotateLeft_2 := dk_seg dksJ4_rotateLeft_1 24 rfl rfl
theorem dksJ4_rotateLeft_3 : cJ4_rotateLeft.data.toList.drop 71 = dktJ4_rotateLeft_3 := dk_seg dksJ4_rotateLeft_2 23 rfl rfl
theorem dksJ4_rotateLeft_4 : cJ4_rotateLeft.data.toList.drop 95 = dktJ4_rotateLeft_4 := dk_seg dksJ4_rotateLeft_3 24 rfl rfl
theorem dJ4_rotateLeft_0 : decode cJ4_rotateLeft 0 = .ok (.aload_n 1, 1) := dk_43 (dk_at dksJ4_rotateLeft_0 0 rfl rfl)
theorem dJ4_rotateLeft_1 : decode cJ4_rotateLeft 1 = .ok (.ifnull 94, 3) := dk_198 0 94 (dk_at dksJ4_rotateLeft_0 1 rfl rfl)
theorem dJ4_rotateLeft_4 : decode cJ4_rotateLeft 4 = .ok (.aload_n 1, 1) := dk_43 (dk_at dksJ4_rotateLeft_0 4 rfl rfl)
theorem dJ4_rotateLeft_5 : decode cJ4_rotateLeft 5 = .ok (.getfield 114, 3) := dk_180 0 114 (dk_at dksJ4_rotateLeft_0 5 rfl rfl)
theorem dJ4_rotateLeft_8 : decode cJ4_rotateLeft 8 = .ok (.astore_n 2, 1) := dk_77 (dk_at dksJ4_rotateLeft_0 8 rfl rfl)
theorem dJ4_rotateLeft_9 : decode cJ4_rotateLeft 9 = .ok (.aload_n 1, 1) := dk_43 (dk_at dksJ4_rotateLeft_0 9 rfl rfl)
theorem dJ4_rotateLeft_10 : decode cJ4_rotateLeft 10 = .ok (.aload_n 2, 1) := dk_44 (dk_at dksJ4_rotateLeft_0 10 rfl rfl)
theorem dJ4_rotateLeft_11 : decode cJ4_rotateLeft 11 = .ok (.getfield 111, 3) := dk_180 0 111 (dk_at dksJ4_rotateLeft_0 11 rfl rfl)
theorem dJ4_rotateLeft_14 : decode cJ4_rotateLeft 14 = .ok (.putfield 114, 3) := dk_181 0 114 (dk_at dksJ4_rotateLeft_0 14 rfl rfl)
theorem dJ4_rotateLeft_17 : decode cJ4_rotateLeft 17 = .ok (.aload_n 2, 1) := dk_44 (dk_at dksJ4_rotateLeft_0 17 rfl rfl)
theorem dJ4_rotateLeft_18 : decode cJ4_rotateLeft 18 = .ok (.getfield 111, 3) := dk_180 0 111 (dk_at dksJ4_rotateLeft_0 18 rfl rfl)
theorem dJ4_rotateLeft_21 : decode cJ4_rotateLeft 21 = .ok (.ifnull 11, 3) := dk_198 0 11 (dk_at dksJ4_rotateLeft_0 21 rfl rfl)
theorem dJ4_rotateLeft_24 : decode cJ4_rotateLeft 24 = .ok (.aload_n 2, 1) := dk_44 (dk_at dksJ4_rotateLeft_1 0 rfl rfl)
theorem dJ4_rotateLeft_25 : decode cJ4_rotateLeft 25 = .ok (.getfield 111, 3) := dk_180 0 111 (dk_at dksJ4_rotateLeft_1 1 rfl rfl)
theorem dJ4_rotateLeft_28 : decode cJ4_rotateLeft 28 = .ok (.aload_n 1, 1) := dk_43 (dk_at dksJ4_rotateLeft_1 4 rfl rfl)
theorem dJ4_rotateLeft_29 : decode cJ4_rotateLeft 29 = .ok (.putfield 124, 3) := dk_181 0 124 (dk_at dksJ4_rotateLeft_1 5 rfl rfl)
theorem dJ4_rotateLeft_32 : decode cJ4_rotateLeft 32 = .ok (.aload_n 2, 1) := dk_44 (dk_at dksJ4_rotateLeft_1 8 rfl rfl)
theorem dJ4_rotateLeft_33 : decode cJ4_rotateLeft 33 = .ok (.aload_n 1, 1) := dk_43 (dk_at dksJ4_rotateLeft_1 9 rfl rfl)
theorem dJ4_rotateLeft_34 : decode cJ4_rotateLeft 34 = .ok (.getfield 124, 3) := dk_180 0 124 (dk_at dksJ4_rotateLeft_1 10 rfl rfl)
theorem dJ4_rotateLeft_37 : decode cJ4_rotateLeft 37 = .ok (.putfield 124, 3) := dk_181 0 124 (dk_at dksJ4_rotateLeft_1 13 rfl rfl)
theorem dJ4_rotateLeft_40 : decode cJ4_rotateLeft 40 = .ok (.aload_n 1, 1) := dk_43 (dk_at dksJ4_rotateLeft_1 16 rfl rfl)
theorem dJ4_rotateLeft_41 : decode cJ4_rotateLeft 41 = .ok (.getfield 124, 3) := dk_180 0 124 (dk_at dksJ4_rotateLeft_1 17 rfl rfl)
theorem dJ4_rotateLeft_44 : decode cJ4_rotateLeft 44 = .ok (.ifnonnull 11, 3) := dk_199 0 11 (dk_at dksJ4_rotateLeft_1 20 rfl rfl)
theorem dJ4_rotateLeft_47 : decode cJ4_rotateLeft 47 = .ok (.aload_n 0, 1) := dk_42 (dk_at dksJ4_rotateLeft_1 23 rfl rfl)
theorem dJ4_rotateLeft_48 : decode cJ4_rotateLeft 48 = .ok (.aload_n 2, 1) := dk_44 (dk_at dksJ4_rotateLeft_2 0 rfl rfl)
theorem dJ4_rotateLeft_49 : decode cJ4_rotateLeft 49 = .ok (.putfield 101, 3) := dk_181 0 101 (dk_at dksJ4_rotateLeft_2 1 rfl rfl)
theorem dJ4_rotateLeft_52 : decode cJ4_rotateLeft 52 = .ok (.goto 33, 3) := dk_167 0 33 (dk_at dksJ4_rotateLeft_2 4 rfl rfl)
theorem dJ4_rotateLeft_55 : decode cJ4_rotateLeft 55 = .ok (.aload_n 1, 1) := dk_43 (dk_at dksJ4_rotateLeft_2 7 rfl rfl)
theorem dJ4_rotateLeft_56 : decode cJ4_rotateLeft 56 = .ok (.getfield 124, 3) := dk_180 0 124 (dk_at dksJ4_rotateLeft_2 8 rfl rfl)
theorem dJ4_rotateLeft_59 : decode cJ4_rotateLeft 59 = .ok (.getfield 111, 3) := dk_180 0 111 (dk_at dksJ4_rotateLeft_2 11 rfl rfl)
theorem dJ4_rotateLeft_62 : decode cJ4_rotateLeft 62 = .ok (.aload_n 1, 1) := dk_43 (dk_at dksJ4_rotateLeft_2 14 rfl rfl)
theorem dJ4_rotateLeft_63 : decode cJ4_rotateLeft 63 = .ok (.if_acmp .ne 14, 3) := dk_166 0 14 (dk_at dksJ4_rotateLeft_2 15 rfl rfl)
theorem dJ4_rotateLeft_66 : decode cJ4_rotateLeft 66 = .ok (.aload_n 1, 1) := dk_43 (dk_at dksJ4_rotateLeft_2 18 rfl rfl)
theorem dJ4_rotateLeft_67 : decode cJ4_rotateLeft 67 = .ok (.getfield 124, 3) := dk_180 0 124 (dk_at dksJ4_rotateLeft_2 19 rfl rfl)
theorem dJ4_rotateLeft_70 : decode cJ4_rotateLeft 70 = .ok (.aload_n 2, 1) := dk_44 (dk_at dksJ4_rotateLeft_2 22 rfl rfl)
theorem dJ4_rotateLeft_71 : decode cJ4_rotateLeft 71 = .ok (.putfield 111, 3) := dk_181 0 111 (dk_at dksJ4_rotateLeft_3 0 rfl rfl)
theorem dJ4_rotateLeft_74 : decode cJ4_rotateLeft 74 = .ok (.goto 11, 3) := dk_167 0 11 (dk_at dksJ4_rotateLeft_3 3 rfl rfl)
theorem dJ4_rotateLeft_77 : decode cJ4_rotateLeft 77 = .ok (.aload_n 1, 1) := dk_43 (dk_at dksJ4_rotateLeft_3 6 rfl rfl)
theorem dJ4_rotateLeft_78 : decode cJ4_rotateLeft 78 = .ok (.getfield 124, 3) := dk_180 0 124 (dk_at dksJ4_rotateLeft_3 7 rfl rfl)
theorem dJ4_rotateLeft_81 : decode cJ4_rotateLeft 81 = .ok (.aload_n 2, 1) := dk_44 (dk_at dksJ4_rotateLeft_3 10 rfl rfl)
theorem dJ4_rotateLeft_82 : decode cJ4_rotateLeft 82 = .ok (.putfield 114, 3) := dk_181 0 114 (dk_at dksJ4_rotateLeft_3 11 rfl rfl)
theorem dJ4_rotateLeft_85 : decode cJ4_rotateLeft 85 = .ok (.aload_n 2, 1) := dk_44 (dk_at dksJ4_rotateLeft_3 14 rfl rfl)
theorem dJ4_rotateLeft_86 : decode cJ4_rotateLeft 86 = .ok (.aload_n 1, 1) := dk_43 (dk_at dksJ4_rotateLeft_3 15 rfl rfl)
theorem dJ4_rotateLeft_87 : decode cJ4_rotateLeft 87 = .ok (.putfield 111, 3) := dk_181 0 111 (dk_at dksJ4_rotateLeft_3 16 rfl rfl)
theorem dJ4_rotateLeft_90 : decode cJ4_rotateLeft 90 = .ok (.aload_n 1, 1) := dk_43 (dk_at dksJ4_rotateLeft_3 19 rfl rfl)
theorem dJ4_rotateLeft_91 : decode cJ4_rotateLeft 91 = .ok (.aload_n 2, 1) := dk_44 (dk_at dksJ4_rotateLeft_3 20 rfl rfl)
theorem dJ4_rotateLeft_92 : decode cJ4_rotateLeft 92 = .ok (.putfield 124, 3) := dk_181 0 124 (dk_at dksJ4_rotateLeft_3 21 rfl rfl)
theorem dJ4_rotateLeft_95 : decode cJ4_rotateLeft 95 = .ok (.return_, 1) := dk_177 (dk_at dksJ4_rotateLeft_4 0 rfl rfl)
abbrev cJ4_rotateRight : ByteArray := prog_65_method_82_code
def yJ4_rotateRight : MethodName := ⟨RJ4, "rotateRight", "(Ljava/util/TreeMap$Entry;)V"⟩
def dkwJ4_rotateRight_4 : List UInt8 := [177]
abbrev dktJ4_rotateRight_4 : List UInt8 := dkwJ4_rotateRight_4 ++ []
def dkwJ4_rotateRight_3 : List UInt8 := [181, 0, 114, 167, 0, 11, 43, 180, 0, 124, 44, 181, 0, 111, 44, 43, 181, 0, 114, 43, 44, 181, 0, 124]
abbrev dktJ4_rotateRight_3 : List UInt8 := dkwJ4_rotateRight_3 ++ dktJ4_rotateRight_4
def dkwJ4_rotateRight_2 : List UInt8 := [44, 181, 0, 101, 167, 0, 33, 43, 180, 0, 124, 180, 0, 114, 43, 166, 0, 14, 43, 180, 0, 124, 44]
abbrev dktJ4_rotateRight_2 : List UInt8 := dkwJ4_rotateRight_2 ++ dktJ4_rotateRight_3
def dkwJ4_rotateRight_1 : List UInt8 := [44, 180, 0, 114, 43, 181, 0, 124, 44, 43, 180, 0, 124, 181, 0, 124, 43, 180, 0, 124, 199, 0, 11, 42]
abbrev dktJ4_rotateRight_1 : List UInt8 := dkwJ4_rotateRight_1 ++ dktJ4_rotateRight_2
def dkwJ4_rotateRight_0 : List UInt8 := [43, 198, 0, 94, 43, 180, 0, 111, 77, 43, 44, 180, 0, 114, 181, 0, 111, 44, 180, 0, 114, 198, 0, 11]
abbrev dktJ4_rotateRight_0 : List UInt8 := dkwJ4_rotateRight_0 ++ dktJ4_rotateRight_1
theorem dksJ4_rotateRight_0 : cJ4_rotateRight.data.toList.drop 0 = dktJ4_rotateRight_0 := by decide +kernel
theorem dksJ4_rotateRight_1 : cJ4_rotateRight.data.toList.drop 24 = dktJ4_rotateRight_1 := dk_seg dksJ4_rotateRight_0 24 rfl rfl
theorem dksJ4_rotateRight_2 : cJ4_rotateRight.data.toList.drop 48 = dktJ4_rotateRight_2 := dk_seg dksJ4_rotateRight_1 24 rfl rfl
theorem dksJ4_rotateRight_3 : cJ4_rotateRight.data.toList.drop 71 = dktJ4_rotateRight_3 := dk_seg dksJ4_rotateRight_2 23 rfl rfl
theorem dksJ4_rotateRight_4 : cJ4_rotateRight.data.toList.drop 95 = dktJ4_rotateRight_4 := dk_seg dksJ4_rotateRight_3 24 rfl rfl
theorem dJ4_rotateRight_0 : decode cJ4_rotateRight 0 = .ok (.aload_n 1, 1) := dk_43 (dk_at dksJ4_rotateRight_0 0 rfl rfl)
theorem dJ4_rotateRight_1 : decode cJ4_rotateRight 1 = .ok (.ifnull 94, 3) := dk_198 0 94 (dk_at dksJ4_rotateRight_0 1 rfl rfl)
theorem dJ4_rotateRight_4 : decode cJ4_rotateRight 4 = .ok (.aload_n 1, 1) := dk_43 (dk_at dksJ4_rotateRight_0 4 rfl rfl)
theorem dJ4_rotateRight_5 : decode cJ4_rotateRight 5 = .ok (.getfield 111, 3) := dk_180 0 111 (dk_at dksJ4_rotateRight_0 5 rfl rfl)
theorem dJ4_rotateRight_8 : decode cJ4_rotateRight 8 = .ok (.astore_n 2, 1) := dk_77 (dk_at dksJ4_rotateRight_0 8 rfl rfl)
theorem dJ4_rotateRight_9 : decode cJ4_rotateRight 9 = .ok (.aload_n 1, 1) := dk_43 (dk_at dksJ4_rotateRight_0 9 rfl rfl)
theorem dJ4_rotateRight_10 : decode cJ4_rotateRight 10 = .ok (.aload_n 2, 1) := dk_44 (dk_at dksJ4_rotateRight_0 10 rfl rfl)
theorem dJ4_rotateRight_11 : decode cJ4_rotateRight 11 = .ok (.getfield 114, 3) := dk_180 0 114 (dk_at dksJ4_rotateRight_0 11 rfl rfl)
theorem dJ4_rotateRight_14 : decode cJ4_rotateRight 14 = .ok (.putfield 111, 3) := dk_181 0 111 (dk_at dksJ4_rotateRight_0 14 rfl rfl)
theorem dJ4_rotateRight_17 : decode cJ4_rotateRight 17 = .ok (.aload_n 2, 1) := dk_44 (dk_at dksJ4_rotateRight_0 17 rfl rfl)
theorem dJ4_rotateRight_18 : decode cJ4_rotateRight 18 = .ok (.getfield 114, 3) := dk_180 0 114 (dk_at dksJ4_rotateRight_0 18 rfl rfl)
theorem dJ4_rotateRight_21 : decode cJ4_rotateRight 21 = .ok (.ifnull 11, 3) := dk_198 0 11 (dk_at dksJ4_rotateRight_0 21 rfl rfl)
theorem dJ4_rotateRight_24 : decode cJ4_rotateRight 24 = .ok (.aload_n 2, 1) := dk_44 (dk_at dksJ4_rotateRight_1 0 rfl rfl)
theorem dJ4_rotateRight_25 : decode cJ4_rotateRight 25 = .ok (.getfield 114, 3) := dk_180 0 114 (dk_at dksJ4_rotateRight_1 1 rfl rfl)
theorem dJ4_rotateRight_28 : decode cJ4_rotateRight 28 = .ok (.aload_n 1, 1) := dk_43 (dk_at dksJ4_rotateRight_1 4 rfl rfl)
theorem dJ4_rotateRight_29 : decode cJ4_rotateRight 29 = .ok (.putfield 124, 3) := dk_181 0 124 (dk_at dksJ4_rotateRight_1 5 rfl rfl)
theorem dJ4_rotateRight_32 : decode cJ4_rotateRight 32 = .ok (.aload_n 2, 1) := dk_44 (dk_at dksJ4_rotateRight_1 8 rfl rfl)
theorem dJ4_rotateRight_33 : decode cJ4_rotateRight 33 = .ok (.aload_n 1, 1) := dk_43 (dk_at dksJ4_rotateRight_1 9 rfl rfl)
theorem dJ4_rotateRight_34 : decode cJ4_rotateRight 34 = .ok (.getfield 124, 3) := dk_180 0 124 (dk_at dksJ4_rotateRight_1 10 rfl rfl)
theorem dJ4_rotateRight_37 : decode cJ4_rotateRight 37 = .ok (.putfield 124, 3) := dk_181 0 124 (dk_at dksJ4_rotateRight_1 13 rfl rfl)
theorem dJ4_rotateRight_40 : decode cJ4_rotateRight 40 = .ok (.aload_n 1, 1) := dk_43 (dk_at dksJ4_rotateRight_1 16 rfl rfl)
theorem dJ4_rotateRight_41 : decode cJ4_rotateRight 41 = .ok (.getfield 124, 3) := dk_180 0 124 (dk_at dksJ4_rotateRight_1 17 rfl rfl)
theorem dJ4_rotateRight_44 : decode cJ4_rotateRight 44 = .ok (.ifnonnull 11, 3) := dk_199 0 11 (dk_at dksJ4_rotateRight_1 20 rfl rfl)
theorem dJ4_rotateRight_47 : decode cJ4_rotateRight 47 = .ok (.aload_n 0, 1) := dk_42 (dk_at dksJ4_rotateRight_1 23 rfl rfl)
theorem dJ4_rotateRight_48 : decode cJ4_rotateRight 48 = .ok (.aload_n 2, 1) := dk_44 (dk_at dksJ4_rotateRight_2 0 rfl rfl)
theorem dJ4_rotateRight_49 : decode cJ4_rotateRight 49 = .ok (.putfield 101, 3) := dk_181 0 101 (dk_at dksJ4_rotateRight_2 1 rfl rfl)
theorem dJ4_rotateRight_52 : decode cJ4_rotateRight 52 = .ok (.goto 33, 3) := dk_167 0 33 (dk_at dksJ4_rotateRight_2 4 rfl rfl)
theorem dJ4_rotateRight_55 : decode cJ4_rotateRight 55 = .ok (.aload_n 1, 1) := dk_43 (dk_at dksJ4_rotateRight_2 7 rfl rfl)
theorem dJ4_rotateRight_56 : decode cJ4_rotateRight 56 = .ok (.getfield 124, 3) := dk_180 0 124 (dk_at dksJ4_rotateRight_2 8 rfl rfl)
theorem dJ4_rotateRight_59 : decode cJ4_rotateRight 59 = .ok (.getfield 114, 3) := dk_180 0 114 (dk_at dksJ4_rotateRight_2 11 rfl rfl)
theorem dJ4_rotateRight_62 : decode cJ4_rotateRight 62 = .ok (.aload_n 1, 1) := dk_43 (dk_at dksJ4_rotateRight_2 14 rfl rfl)
theorem dJ4_rotateRight_63 : decode cJ4_rotateRight 63 = .ok (.if_acmp .ne 14, 3) := dk_166 0 14 (dk_at dksJ4_rotateRight_2 15 rfl rfl)
theorem dJ4_rotateRight_66 : decode cJ4_rotateRight 66 = .ok (.aload_n 1, 1) := dk_43 (dk_at dksJ4_rotateRight_2 18 rfl rfl)
theorem dJ4_rotateRight_67 : decode cJ4_rotateRight 67 = .ok (.getfield 124, 3) := dk_180 0 124 (dk_at dksJ4_rotateRight_2 19 rfl rfl)
theorem dJ4_rotateRight_70 : decode cJ4_rotateRight 70 = .ok (.aload_n 2, 1) := dk_44 (dk_at dksJ4_rotateRight_2 22 rfl rfl)
theorem dJ4_rotateRight_71 : decode cJ4_rotateRight 71 = .ok (.putfield 114, 3) := dk_181 0 114 (dk_at dksJ4_rotateRight_3 0 rfl rfl)
theorem dJ4_rotateRight_74 : decode cJ4_rotateRight 74 = .ok (.goto 11, 3) := dk_167 0 11 (dk_at dksJ4_rotateRight_3 3 rfl rfl)
theorem dJ4_rotateRight_77 : decode cJ4_rotateRight 77 = .ok (.aload_n 1, 1) := dk_43 (dk_at dksJ4_rotateRight_3 6 rfl rfl)
theorem dJ4_rotateRight_78 : decode cJ4_rotateRight 78 = .ok (.getfield 124, 3) := dk_180 0 124 (dk_at dksJ4_rotateRight_3 7 rfl rfl)
theorem dJ4_rotateRight_81 : decode cJ4_rotateRight 81 = .ok (.aload_n 2, 1) := dk_44 (dk_at dksJ4_rotateRight_3 10 rfl rfl)
theorem dJ4_rotateRight_82 : decode cJ4_rotateRight 82 = .ok (.putfield 111, 3) := dk_181 0 111 (dk_at dksJ4_rotateRight_3 11 rfl rfl)
theorem dJ4_rotateRight_85 : decode cJ4_rotateRight 85 = .ok (.aload_n 2, 1) := dk_44 (dk_at dksJ4_rotateRight_3 14 rfl rfl)
theorem dJ4_rotateRight_86 : decode cJ4_rotateRight 86 = .ok (.aload_n 1, 1) := dk_43 (dk_at dksJ4_rotateRight_3 15 rfl rfl)
theorem dJ4_rotateRight_87 : decode cJ4_rotateRight 87 = .ok (.putfield 114, 3) := dk_181 0 114 (dk_at dksJ4_rotateRight_3 16 rfl rfl)
theorem dJ4_rotateRight_90 : decode cJ4_rotateRight 90 = .ok (.aload_n 1, 1) := dk_43 (dk_at dksJ4_rotateRight_3 19 rfl rfl)
theorem dJ4_rotateRight_91 : decode cJ4_rotateRight 91 = .ok (.aload_n 2, 1) := dk_44 (dk_at dksJ4_rotateRight_3 20 rfl rfl)
theorem dJ4_rotateRight_92 : decode cJ4_rotateRight 92 = .ok (.putfield 124, 3) := dk_181 0 124 (dk_at dksJ4_rotateRight_3 21 rfl rfl)
theorem dJ4_rotateRight_95 : decode cJ4_rotateRight 95 = .ok (.return_, 1) := dk_177 (dk_at dksJ4_rotateRight_4 0 rfl rfl)
abbrev cJ4_pollFirstEntry : ByteArray := prog_65_method_39_code
def yJ4_pollFirstEntry : MethodName := ⟨RJ4, "pollFirstEntry", "()Ljava/util/Map$Entry;"⟩
def dkwJ4_pollFirstEntry_0 : List UInt8 := [42, 182, 0, 54, 76, 43, 184, 0, 200, 77, 43, 198, 0, 8, 42, 43, 182, 0, 174, 44, 176]
abbrev dktJ4_pollFirstEntry_0 : List UInt8 := dkwJ4_pollFirstEntry_0 ++ []
theorem dksJ4_pollFirstEntry_0 : cJ4_pollFirstEntry.data.toList.drop 0 = dktJ4_pollFirstEntry_0 := by decide +kernel
theorem dJ4_pollFirstEntry_0 : decode cJ4_pollFirstEntry 0 = .ok (.aload_n 0, 1) := dk_42 (dk_at dksJ4_pollFirstEntry_0 0 rfl rfl)
theorem dJ4_pollFirstEntry_1 : decode cJ4_pollFirstEntry 1 = .ok (.invokevirtual 54, 3) := dk_182 0 54 (dk_at dksJ4_pollFirstEntry_0 1 rfl rfl)
theorem dJ4_pollFirstEntry_4 : decode cJ4_pollFirstEntry 4 = .ok (.astore_n 1, 1) := dk_76 (dk_at dksJ4_pollFirstEntry_0 4 rfl rfl)
theorem dJ4_pollFirstEntry_5 : decode cJ4_pollFirstEntry 5 = .ok (.aload_n 1, 1) := dk_43 (dk_at dksJ4_pollFirstEntry_0 5 rfl rfl)
theorem dJ4_pollFirstEntry_6 : decode cJ4_pollFirstEntry 6 = .ok (.invokestatic 200, 3) := dk_184 0 200 (dk_at dksJ4_pollFirstEntry_0 6 rfl rfl)
theorem dJ4_pollFirstEntry_9 : decode cJ4_pollFirstEntry 9 = .ok (.astore_n 2, 1) := dk_77 (dk_at dksJ4_pollFirstEntry_0 9 rfl rfl)
theorem dJ4_pollFirstEntry_10 : decode cJ4_pollFirstEntry 10 = .ok (.aload_n 1, 1) := dk_43 (dk_at dksJ4_pollFirstEntry_0 10 rfl rfl)
theorem dJ4_pollFirstEntry_11 : decode cJ4_pollFirstEntry 11 = .ok (.ifnull 8, 3) := dk_198 0 8 (dk_at dksJ4_pollFirstEntry_0 11 rfl rfl)
theorem dJ4_pollFirstEntry_14 : decode cJ4_pollFirstEntry 14 = .ok (.aload_n 0, 1) := dk_42 (dk_at dksJ4_pollFirstEntry_0 14 rfl rfl)
theorem dJ4_pollFirstEntry_15 : decode cJ4_pollFirstEntry 15 = .ok (.aload_n 1, 1) := dk_43 (dk_at dksJ4_pollFirstEntry_0 15 rfl rfl)
theorem dJ4_pollFirstEntry_16 : decode cJ4_pollFirstEntry 16 = .ok (.invokevirtual 174, 3) := dk_182 0 174 (dk_at dksJ4_pollFirstEntry_0 16 rfl rfl)
theorem dJ4_pollFirstEntry_19 : decode cJ4_pollFirstEntry 19 = .ok (.aload_n 2, 1) := dk_44 (dk_at dksJ4_pollFirstEntry_0 19 rfl rfl)
theorem dJ4_pollFirstEntry_20 : decode cJ4_pollFirstEntry 20 = .ok (.areturn, 1) := dk_176 (dk_at dksJ4_pollFirstEntry_0 20 rfl rfl)
abbrev cJ4_getFirstEntry : ByteArray := prog_65_method_72_code
def yJ4_getFirstEntry : MethodName := ⟨RJ4, "getFirstEntry", "()Ljava/util/TreeMap$Entry;"⟩
def dkwJ4_getFirstEntry_1 : List UInt8 := [43, 176]
abbrev dktJ4_getFirstEntry_1 : List UInt8 := dkwJ4_getFirstEntry_1 ++ []
def dkwJ4_getFirstEntry_0 : List UInt8 := [42, 180, 0, 101, 76, 43, 198, 0, 18, 43, 180, 0, 111, 198, 0, 11, 43, 180, 0, 111, 76, 167, 255, 244]
abbrev dktJ4_getFirstEntry_0 : List UInt8 := dkwJ4_getFirstEntry_0 ++ dktJ4_getFirstEntry_1
theorem dksJ4_getFirstEntry_0 : cJ4_getFirstEntry.data.toList.drop 0 = dktJ4_getFirstEntry_0 := by decide +kernel
theorem dksJ4_getFirstEntry_1 : cJ4_getFirstEntry.data.toList.drop 24 = dktJ4_getFirstEntry_1 := dk_seg dksJ4_getFirstEntry_0 24 rfl rfl
theorem dJ4_getFirstEntry_0 : decode cJ4_getFirstEntry 0 = .ok (.aload_n 0, 1) := dk_42 (dk_at dksJ4_getFirstEntry_0 0 rfl rfl)
theorem dJ4_getFirstEntry_1 : decode cJ4_getFirstEntry 1 = .ok (.getfield 101, 3) := dk_180 0 101 (dk_at dksJ4_getFirstEntry_0 1 rfl rfl)
theorem dJ4_getFirstEntry_4 : decode cJ4_getFirstEntry 4 = .ok (.astore_n 1, 1) := dk_76 (dk_at dksJ4_getFirstEntry_0 4 rfl rfl)
theorem dJ4_getFirstEntry_5 : decode cJ4_getFirstEntry 5 = .ok (.aload_n 1, 1) := dk_43 (dk_at dksJ4_getFirstEntry_0 5 rfl rfl)
theorem dJ4_getFirstEntry_6 : decode cJ4_getFirstEntry 6 = .ok (.ifnull 18, 3) := dk_198 0 18 (dk_at dksJ4_getFirstEntry_0 6 rfl rfl)
theorem dJ4_getFirstEntry_9 : decode cJ4_getFirstEntry 9 = .ok (.aload_n 1, 1) := dk_43 (dk_at dksJ4_getFirstEntry_0 9 rfl rfl)
theorem dJ4_getFirstEntry_10 : decode cJ4_getFirstEntry 10 = .ok (.getfield 111, 3) := dk_180 0 111 (dk_at dksJ4_getFirstEntry_0 10 rfl rfl)
theorem dJ4_getFirstEntry_13 : decode cJ4_getFirstEntry 13 = .ok (.ifnull 11, 3) := dk_198 0 11 (dk_at dksJ4_getFirstEntry_0 13 rfl rfl)
theorem dJ4_getFirstEntry_16 : decode cJ4_getFirstEntry 16 = .ok (.aload_n 1, 1) := dk_43 (dk_at dksJ4_getFirstEntry_0 16 rfl rfl)
theorem dJ4_getFirstEntry_17 : decode cJ4_getFirstEntry 17 = .ok (.getfield 111, 3) := dk_180 0 111 (dk_at dksJ4_getFirstEntry_0 17 rfl rfl)
theorem dJ4_getFirstEntry_20 : decode cJ4_getFirstEntry 20 = .ok (.astore_n 1, 1) := dk_76 (dk_at dksJ4_getFirstEntry_0 20 rfl rfl)
theorem dJ4_getFirstEntry_21 : decode cJ4_getFirstEntry 21 = .ok (.goto (-12), 3) := dk_167 255 244 (dk_at dksJ4_getFirstEntry_0 21 rfl rfl)
theorem dJ4_getFirstEntry_24 : decode cJ4_getFirstEntry 24 = .ok (.aload_n 1, 1) := dk_43 (dk_at dksJ4_getFirstEntry_1 0 rfl rfl)
theorem dJ4_getFirstEntry_25 : decode cJ4_getFirstEntry 25 = .ok (.areturn, 1) := dk_176 (dk_at dksJ4_getFirstEntry_1 1 rfl rfl)
abbrev cJ4_exportEntry : ByteArray := prog_65_method_69_code
def yJ4_exportEntry : MethodName := ⟨RJ4, "exportEntry", "(Ljava/util/TreeMap$Entry;)Ljava/util/Map$Entry;"⟩
def dkwJ4_exportEntry_0 : List UInt8 := [42, 199, 0, 7, 1, 167, 0, 11, 187, 1, 26, 89, 42, 183, 1, 28, 176]
abbrev dktJ4_exportEntry_0 : List UInt8 := dkwJ4_exportEntry_0 ++ []
theorem dksJ4_exportEntry_0 : cJ4_exportEntry.data.toList.drop 0 = dktJ4_exportEntry_0 := by decide +kernel
theorem dJ4_exportEntry_0 : decode cJ4_exportEntry 0 = .ok (.aload_n 0, 1) := dk_42 (dk_at dksJ4_exportEntry_0 0 rfl rfl)
theorem dJ4_exportEntry_1 : decode cJ4_exportEntry 1 = .ok (.ifnonnull 7, 3) := dk_199 0 7 (dk_at dksJ4_exportEntry_0 1 rfl rfl)
theorem dJ4_exportEntry_4 : decode cJ4_exportEntry 4 = .ok (.aconst_null, 1) := dk_1 (dk_at dksJ4_exportEntry_0 4 rfl rfl)
theorem dJ4_exportEntry_5 : decode cJ4_exportEntry 5 = .ok (.goto 11, 3) := dk_167 0 11 (dk_at dksJ4_exportEntry_0 5 rfl rfl)
theorem dJ4_exportEntry_8 : decode cJ4_exportEntry 8 = .ok (.new 282, 3) := dk_187 1 26 (dk_at dksJ4_exportEntry_0 8 rfl rfl)
theorem dJ4_exportEntry_11 : decode cJ4_exportEntry 11 = .ok (.dup, 1) := dk_89 (dk_at dksJ4_exportEntry_0 11 rfl rfl)
theorem dJ4_exportEntry_12 : decode cJ4_exportEntry 12 = .ok (.aload_n 0, 1) := dk_42 (dk_at dksJ4_exportEntry_0 12 rfl rfl)
theorem dJ4_exportEntry_13 : decode cJ4_exportEntry 13 = .ok (.invokespecial 284, 3) := dk_183 1 28 (dk_at dksJ4_exportEntry_0 13 rfl rfl)
theorem dJ4_exportEntry_16 : decode cJ4_exportEntry 16 = .ok (.areturn, 1) := dk_176 (dk_at dksJ4_exportEntry_0 16 rfl rfl)
abbrev cJ4_deleteEntry : ByteArray := prog_65_method_84_code
def yJ4_deleteEntry : MethodName := ⟨RJ4, "deleteEntry", "(Ljava/util/TreeMap$Entry;)V"⟩
def dkwJ4_deleteEntry_10 : List UInt8 := [180, 0, 124, 1, 181, 0, 114, 43, 1, 181, 0, 124, 177]
abbrev dktJ4_deleteEntry_10 : List UInt8 := dkwJ4_deleteEntry_10 ++ []
def dkwJ4_deleteEntry_9 : List UInt8 := [180, 0, 124, 1, 181, 0, 111, 167, 0, 22, 43, 43, 180, 0, 124, 180, 0, 114, 166, 0, 11, 43]
abbrev dktJ4_deleteEntry_9 : List UInt8 := dkwJ4_deleteEntry_9 ++ dktJ4_deleteEntry_10
def dkwJ4_deleteEntry_8 : List UInt8 := [182, 1, 61, 43, 180, 0, 124, 198, 0, 49, 43, 43, 180, 0, 124, 180, 0, 111, 166, 0, 14, 43]
abbrev dktJ4_deleteEntry_8 : List UInt8 := dkwJ4_deleteEntry_8 ++ dktJ4_deleteEntry_9
def dkwJ4_deleteEntry_7 : List UInt8 := [180, 0, 124, 199, 0, 11, 42, 1, 181, 0, 101, 167, 0, 69, 43, 180, 1, 34, 4, 160, 0, 8, 42, 43]
abbrev dktJ4_deleteEntry_7 : List UInt8 := dkwJ4_deleteEntry_7 ++ dktJ4_deleteEntry_8
def dkwJ4_deleteEntry_6 : List UInt8 := [181, 0, 114, 181, 0, 111, 43, 180, 1, 34, 4, 160, 0, 92, 42, 44, 182, 1, 61, 167, 0, 84, 43]
abbrev dktJ4_deleteEntry_6 : List UInt8 := dkwJ4_deleteEntry_6 ++ dktJ4_deleteEntry_7
def dkwJ4_deleteEntry_5 : List UInt8 := [181, 0, 111, 167, 0, 11, 43, 180, 0, 124, 44, 181, 0, 114, 43, 43, 43, 1, 90, 181, 0, 124, 90]
abbrev dktJ4_deleteEntry_5 : List UInt8 := dkwJ4_deleteEntry_5 ++ dktJ4_deleteEntry_6
def dkwJ4_deleteEntry_4 : List UInt8 := [44, 181, 0, 101, 167, 0, 33, 43, 43, 180, 0, 124, 180, 0, 111, 166, 0, 14, 43, 180, 0, 124, 44]
abbrev dktJ4_deleteEntry_4 : List UInt8 := dkwJ4_deleteEntry_4 ++ dktJ4_deleteEntry_5
def dkwJ4_deleteEntry_3 : List UInt8 := [180, 0, 114, 77, 44, 198, 0, 87, 44, 43, 180, 0, 124, 181, 0, 124, 43, 180, 0, 124, 199, 0, 11, 42]
abbrev dktJ4_deleteEntry_3 : List UInt8 := dkwJ4_deleteEntry_3 ++ dktJ4_deleteEntry_4
def dkwJ4_deleteEntry_2 : List UInt8 := [44, 180, 0, 58, 181, 0, 58, 44, 76, 43, 180, 0, 111, 198, 0, 10, 43, 180, 0, 111, 167, 0, 7, 43]
abbrev dktJ4_deleteEntry_2 : List UInt8 := dkwJ4_deleteEntry_2 ++ dktJ4_deleteEntry_3
def dkwJ4_deleteEntry_1 : List UInt8 := [198, 0, 33, 43, 180, 0, 114, 198, 0, 26, 43, 184, 0, 68, 77, 43, 44, 180, 0, 105, 181, 0, 105, 43]
abbrev dktJ4_deleteEntry_1 : List UInt8 := dkwJ4_deleteEntry_1 ++ dktJ4_deleteEntry_2
def dkwJ4_deleteEntry_0 : List UInt8 := [42, 89, 180, 0, 13, 4, 96, 181, 0, 13, 42, 89, 180, 0, 7, 4, 100, 181, 0, 7, 43, 180, 0, 111]
abbrev dktJ4_deleteEntry_0 : List UInt8 := dkwJ4_deleteEntry_0 ++ dktJ4_deleteEntry_1
theorem dksJ4_deleteEntry_0 : cJ4_deleteEntry.data.toList.drop 0 = dktJ4_deleteEntry_0 := by decide +kernel
theorem dksJ4_deleteEntry_1 : cJ4_deleteEntry.data.toList.drop 24 = dktJ4_deleteEntry_1 := dk_seg dksJ4_deleteEntry_0 24 rfl rfl
theorem dksJ4_deleteEntry_2 : cJ4_deleteEntry.data.toList.drop 48 = dktJ4_deleteEntry_2 := dk_seg dksJ4_deleteEntry_1 24 rfl rfl
theorem dksJ4_deleteEntry_3 : cJ4_deleteEntry.data.toList.drop 72 = dktJ4_deleteEntry_3 := dk_seg dksJ4_deleteEntry_2 24 rfl rfl
theorem dksJ4_deleteEntry_4 : cJ4_deleteEntry.data.toList.drop 96 = dktJ4_deleteEntry_4 := dk_seg dksJ4_deleteEntry_3 24 rfl rfl
theorem dksJ4_deleteEntry_5 : cJ4_deleteEntry.data.toList.drop 119 = dktJ4_deleteEntry_5 := dk_seg dksJ4_deleteEntry_4 23 rfl rfl
theorem dksJ4_deleteEntry_6 : cJ4_deleteEntry.data.toList.drop 142 = dktJ4_deleteEntry_6 := dk_seg dksJ4_deleteEntry_5 23 rfl rfl
theorem dksJ4_deleteEntry_7 : cJ4_deleteEntry.data.toList.drop 165 = dktJ4_deleteEntry_7 := dk_seg dksJ4_deleteEntry_6 23 rfl rfl
theorem dksJ4_deleteEntry_8 : cJ4_deleteEntry.data.toList.drop 189 = dktJ4_deleteEntry_8 := dk_seg dksJ4_deleteEntry_7 24 rfl rfl
theorem dksJ4_deleteEntry_9 : cJ4_deleteEntry.data.toList.drop 211 = dktJ4_deleteEntry_9 := dk_seg dksJ4_deleteEntry_8 22 rfl rfl
theorem dksJ4_deleteEntry_10 : cJ4_deleteEntry.data.toList.drop 233 = dktJ4_deleteEntry_10 := dk_seg dksJ4_deleteEntry_9 22 rfl rfl
theorem dJ4_deleteEntry_0 : decode cJ4_deleteEntry 0 = .ok (.aload_n 0, 1) := dk_42 (dk_at dksJ4_deleteEntry_0 0 rfl rfl)
theorem dJ4_deleteEntry_1 : decode cJ4_deleteEntry 1 = .ok (.dup, 1) := dk_89 (dk_at dksJ4_deleteEntry_0 1 rfl rfl)
theorem dJ4_deleteEntry_2 : decode cJ4_deleteEntry 2 = .ok (.getfield 13, 3) := dk_180 0 13 (dk_at dksJ4_deleteEntry_0 2 rfl rfl)
theorem dJ4_deleteEntry_5 : decode cJ4_deleteEntry 5 = .ok (.iconst 1, 1) := dk_4 (dk_at dksJ4_deleteEntry_0 5 rfl rfl)
theorem dJ4_deleteEntry_6 : decode cJ4_deleteEntry 6 = .ok (.iadd, 1) := dk_96 (dk_at dksJ4_deleteEntry_0 6 rfl rfl)
theorem dJ4_deleteEntry_7 : decode cJ4_deleteEntry 7 = .ok (.putfield 13, 3) := dk_181 0 13 (dk_at dksJ4_deleteEntry_0 7 rfl rfl)
theorem dJ4_deleteEntry_10 : decode cJ4_deleteEntry 10 = .ok (.aload_n 0, 1) := dk_42 (dk_at dksJ4_deleteEntry_0 10 rfl rfl)
theorem dJ4_deleteEntry_11 : decode cJ4_deleteEntry 11 = .ok (.dup, 1) := dk_89 (dk_at dksJ4_deleteEntry_0 11 rfl rfl)
theorem dJ4_deleteEntry_12 : decode cJ4_deleteEntry 12 = .ok (.getfield 7, 3) := dk_180 0 7 (dk_at dksJ4_deleteEntry_0 12 rfl rfl)
theorem dJ4_deleteEntry_15 : decode cJ4_deleteEntry 15 = .ok (.iconst 1, 1) := dk_4 (dk_at dksJ4_deleteEntry_0 15 rfl rfl)
theorem dJ4_deleteEntry_16 : decode cJ4_deleteEntry 16 = .ok (.isub, 1) := dk_100 (dk_at dksJ4_deleteEntry_0 16 rfl rfl)
theorem dJ4_deleteEntry_17 : decode cJ4_deleteEntry 17 = .ok (.putfield 7, 3) := dk_181 0 7 (dk_at dksJ4_deleteEntry_0 17 rfl rfl)
theorem dJ4_deleteEntry_20 : decode cJ4_deleteEntry 20 = .ok (.aload_n 1, 1) := dk_43 (dk_at dksJ4_deleteEntry_0 20 rfl rfl)
theorem dJ4_deleteEntry_21 : decode cJ4_deleteEntry 21 = .ok (.getfield 111, 3) := dk_180 0 111 (dk_at dksJ4_deleteEntry_0 21 rfl rfl)
theorem dJ4_deleteEntry_24 : decode cJ4_deleteEntry 24 = .ok (.ifnull 33, 3) := dk_198 0 33 (dk_at dksJ4_deleteEntry_1 0 rfl rfl)
theorem dJ4_deleteEntry_27 : decode cJ4_deleteEntry 27 = .ok (.aload_n 1, 1) := dk_43 (dk_at dksJ4_deleteEntry_1 3 rfl rfl)
theorem dJ4_deleteEntry_28 : decode cJ4_deleteEntry 28 = .ok (.getfield 114, 3) := dk_180 0 114 (dk_at dksJ4_deleteEntry_1 4 rfl rfl)
theorem dJ4_deleteEntry_31 : decode cJ4_deleteEntry 31 = .ok (.ifnull 26, 3) := dk_198 0 26 (dk_at dksJ4_deleteEntry_1 7 rfl rfl)
theorem dJ4_deleteEntry_34 : decode cJ4_deleteEntry 34 = .ok (.aload_n 1, 1) := dk_43 (dk_at dksJ4_deleteEntry_1 10 rfl rfl)
theorem dJ4_deleteEntry_35 : decode cJ4_deleteEntry 35 = .ok (.invokestatic 68, 3) := dk_184 0 68 (dk_at dksJ4_deleteEntry_1 11 rfl rfl)
theorem dJ4_deleteEntry_38 : decode cJ4_deleteEntry 38 = .ok (.astore_n 2, 1) := dk_77 (dk_at dksJ4_deleteEntry_1 14 rfl rfl)
theorem dJ4_deleteEntry_39 : decode cJ4_deleteEntry 39 = .ok (.aload_n 1, 1) := dk_43 (dk_at dksJ4_deleteEntry_1 15 rfl rfl)
theorem dJ4_deleteEntry_40 : decode cJ4_deleteEntry 40 = .ok (.aload_n 2, 1) := dk_44 (dk_at dksJ4_deleteEntry_1 16 rfl rfl)
theorem dJ4_deleteEntry_41 : decode cJ4_deleteEntry 41 = .ok (.getfield 105, 3) := dk_180 0 105 (dk_at dksJ4_deleteEntry_1 17 rfl rfl)
theorem dJ4_deleteEntry_44 : decode cJ4_deleteEntry 44 = .ok (.putfield 105, 3) := dk_181 0 105 (dk_at dksJ4_deleteEntry_1 20 rfl rfl)
theorem dJ4_deleteEntry_47 : decode cJ4_deleteEntry 47 = .ok (.aload_n 1, 1) := dk_43 (dk_at dksJ4_deleteEntry_1 23 rfl rfl)
theorem dJ4_deleteEntry_48 : decode cJ4_deleteEntry 48 = .ok (.aload_n 2, 1) := dk_44 (dk_at dksJ4_deleteEntry_2 0 rfl rfl)
theorem dJ4_deleteEntry_49 : decode cJ4_deleteEntry 49 = .ok (.getfield 58, 3) := dk_180 0 58 (dk_at dksJ4_deleteEntry_2 1 rfl rfl)
theorem dJ4_deleteEntry_52 : decode cJ4_deleteEntry 52 = .ok (.putfield 58, 3) := dk_181 0 58 (dk_at dksJ4_deleteEntry_2 4 rfl rfl)
theorem dJ4_deleteEntry_55 : decode cJ4_deleteEntry 55 = .ok (.aload_n 2, 1) := dk_44 (dk_at dksJ4_deleteEntry_2 7 rfl rfl)
theorem dJ4_deleteEntry_56 : decode cJ4_deleteEntry 56 = .ok (.astore_n 1, 1) := dk_76 (dk_at dksJ4_deleteEntry_2 8 rfl rfl)
theorem dJ4_deleteEntry_57 : decode cJ4_deleteEntry 57 = .ok (.aload_n 1, 1) := dk_43 (dk_at dksJ4_deleteEntry_2 9 rfl rfl)
theorem dJ4_deleteEntry_58 : decode cJ4_deleteEntry 58 = .ok (.getfield 111, 3) := dk_180 0 111 (dk_at dksJ4_deleteEntry_2 10 rfl rfl)
theorem dJ4_deleteEntry_61 : decode cJ4_deleteEntry 61 = .ok (.ifnull 10, 3) := dk_198 0 10 (dk_at dksJ4_deleteEntry_2 13 rfl rfl)
theorem dJ4_deleteEntry_64 : decode cJ4_deleteEntry 64 = .ok (.aload_n 1, 1) := dk_43 (dk_at dksJ4_deleteEntry_2 16 rfl rfl)
theorem dJ4_deleteEntry_65 : decode cJ4_deleteEntry 65 = .ok (.getfield 111, 3) := dk_180 0 111 (dk_at dksJ4_deleteEntry_2 17 rfl rfl)
theorem dJ4_deleteEntry_68 : decode cJ4_deleteEntry 68 = .ok (.goto 7, 3) := dk_167 0 7 (dk_at dksJ4_deleteEntry_2 20 rfl rfl)
theorem dJ4_deleteEntry_71 : decode cJ4_deleteEntry 71 = .ok (.aload_n 1, 1) := dk_43 (dk_at dksJ4_deleteEntry_2 23 rfl rfl)
theorem dJ4_deleteEntry_72 : decode cJ4_deleteEntry 72 = .ok (.getfield 114, 3) := dk_180 0 114 (dk_at dksJ4_deleteEntry_3 0 rfl rfl)
theorem dJ4_deleteEntry_75 : decode cJ4_deleteEntry 75 = .ok (.astore_n 2, 1) := dk_77 (dk_at dksJ4_deleteEntry_3 3 rfl rfl)
theorem dJ4_deleteEntry_76 : decode cJ4_deleteEntry 76 = .ok (.aload_n 2, 1) := dk_44 (dk_at dksJ4_deleteEntry_3 4 rfl rfl)
theorem dJ4_deleteEntry_77 : decode cJ4_deleteEntry 77 = .ok (.ifnull 87, 3) := dk_198 0 87 (dk_at dksJ4_deleteEntry_3 5 rfl rfl)
theorem dJ4_deleteEntry_80 : decode cJ4_deleteEntry 80 = .ok (.aload_n 2, 1) := dk_44 (dk_at dksJ4_deleteEntry_3 8 rfl rfl)
theorem dJ4_deleteEntry_81 : decode cJ4_deleteEntry 81 = .ok (.aload_n 1, 1) := dk_43 (dk_at dksJ4_deleteEntry_3 9 rfl rfl)
theorem dJ4_deleteEntry_82 : decode cJ4_deleteEntry 82 = .ok (.getfield 124, 3) := dk_180 0 124 (dk_at dksJ4_deleteEntry_3 10 rfl rfl)
theorem dJ4_deleteEntry_85 : decode cJ4_deleteEntry 85 = .ok (.putfield 124, 3) := dk_181 0 124 (dk_at dksJ4_deleteEntry_3 13 rfl rfl)
theorem dJ4_deleteEntry_88 : decode cJ4_deleteEntry 88 = .ok (.aload_n 1, 1) := dk_43 (dk_at dksJ4_deleteEntry_3 16 rfl rfl)
theorem dJ4_deleteEntry_89 : decode cJ4_deleteEntry 89 = .ok (.getfield 124, 3) := dk_180 0 124 (dk_at dksJ4_deleteEntry_3 17 rfl rfl)
theorem dJ4_deleteEntry_92 : decode cJ4_deleteEntry 92 = .ok (.ifnonnull 11, 3) := dk_199 0 11 (dk_at dksJ4_deleteEntry_3 20 rfl rfl)
theorem dJ4_deleteEntry_95 : decode cJ4_deleteEntry 95 = .ok (.aload_n 0, 1) := dk_42 (dk_at dksJ4_deleteEntry_3 23 rfl rfl)
theorem dJ4_deleteEntry_96 : decode cJ4_deleteEntry 96 = .ok (.aload_n 2, 1) := dk_44 (dk_at dksJ4_deleteEntry_4 0 rfl rfl)
theorem dJ4_deleteEntry_97 : decode cJ4_deleteEntry 97 = .ok (.putfield 101, 3) := dk_181 0 101 (dk_at dksJ4_deleteEntry_4 1 rfl rfl)
theorem dJ4_deleteEntry_100 : decode cJ4_deleteEntry 100 = .ok (.goto 33, 3) := dk_167 0 33 (dk_at dksJ4_deleteEntry_4 4 rfl rfl)
theorem dJ4_deleteEntry_103 : decode cJ4_deleteEntry 103 = .ok (.aload_n 1, 1) := dk_43 (dk_at dksJ4_deleteEntry_4 7 rfl rfl)
theorem dJ4_deleteEntry_104 : decode cJ4_deleteEntry 104 = .ok (.aload_n 1, 1) := dk_43 (dk_at dksJ4_deleteEntry_4 8 rfl rfl)
theorem dJ4_deleteEntry_105 : decode cJ4_deleteEntry 105 = .ok (.getfield 124, 3) := dk_180 0 124 (dk_at dksJ4_deleteEntry_4 9 rfl rfl)
theorem dJ4_deleteEntry_108 : decode cJ4_deleteEntry 108 = .ok (.getfield 111, 3) := dk_180 0 111 (dk_at dksJ4_deleteEntry_4 12 rfl rfl)
theorem dJ4_deleteEntry_111 : decode cJ4_deleteEntry 111 = .ok (.if_acmp .ne 14, 3) := dk_166 0 14 (dk_at dksJ4_deleteEntry_4 15 rfl rfl)
theorem dJ4_deleteEntry_114 : decode cJ4_deleteEntry 114 = .ok (.aload_n 1, 1) := dk_43 (dk_at dksJ4_deleteEntry_4 18 rfl rfl)
theorem dJ4_deleteEntry_115 : decode cJ4_deleteEntry 115 = .ok (.getfield 124, 3) := dk_180 0 124 (dk_at dksJ4_deleteEntry_4 19 rfl rfl)
theorem dJ4_deleteEntry_118 : decode cJ4_deleteEntry 118 = .ok (.aload_n 2, 1) := dk_44 (dk_at dksJ4_deleteEntry_4 22 rfl rfl)
theorem dJ4_deleteEntry_119 : decode cJ4_deleteEntry 119 = .ok (.putfield 111, 3) := dk_181 0 111 (dk_at dksJ4_deleteEntry_5 0 rfl rfl)
theorem dJ4_deleteEntry_122 : decode cJ4_deleteEntry 122 = .ok (.goto 11, 3) := dk_167 0 11 (dk_at dksJ4_deleteEntry_5 3 rfl rfl)
theorem dJ4_deleteEntry_125 : decode cJ4_deleteEntry 125 = .ok (.aload_n 1, 1) := dk_43 (dk_at dksJ4_deleteEntry_5 6 rfl rfl)
theorem dJ4_deleteEntry_126 : decode cJ4_deleteEntry 126 = .ok (.getfield 124, 3) := dk_180 0 124 (dk_at dksJ4_deleteEntry_5 7 rfl rfl)
theorem dJ4_deleteEntry_129 : decode cJ4_deleteEntry 129 = .ok (.aload_n 2, 1) := dk_44 (dk_at dksJ4_deleteEntry_5 10 rfl rfl)
theorem dJ4_deleteEntry_130 : decode cJ4_deleteEntry 130 = .ok (.putfield 114, 3) := dk_181 0 114 (dk_at dksJ4_deleteEntry_5 11 rfl rfl)
theorem dJ4_deleteEntry_133 : decode cJ4_deleteEntry 133 = .ok (.aload_n 1, 1) := dk_43 (dk_at dksJ4_deleteEntry_5 14 rfl rfl)
theorem dJ4_deleteEntry_134 : decode cJ4_deleteEntry 134 = .ok (.aload_n 1, 1) := dk_43 (dk_at dksJ4_deleteEntry_5 15 rfl rfl)
theorem dJ4_deleteEntry_135 : decode cJ4_deleteEntry 135 = .ok (.aload_n 1, 1) := dk_43 (dk_at dksJ4_deleteEntry_5 16 rfl rfl)
theorem dJ4_deleteEntry_136 : decode cJ4_deleteEntry 136 = .ok (.aconst_null, 1) := dk_1 (dk_at dksJ4_deleteEntry_5 17 rfl rfl)
theorem dJ4_deleteEntry_137 : decode cJ4_deleteEntry 137 = .ok (.dup_x1, 1) := dk_90 (dk_at dksJ4_deleteEntry_5 18 rfl rfl)
theorem dJ4_deleteEntry_138 : decode cJ4_deleteEntry 138 = .ok (.putfield 124, 3) := dk_181 0 124 (dk_at dksJ4_deleteEntry_5 19 rfl rfl)
theorem dJ4_deleteEntry_141 : decode cJ4_deleteEntry 141 = .ok (.dup_x1, 1) := dk_90 (dk_at dksJ4_deleteEntry_5 22 rfl rfl)
theorem dJ4_deleteEntry_142 : decode cJ4_deleteEntry 142 = .ok (.putfield 114, 3) := dk_181 0 114 (dk_at dksJ4_deleteEntry_6 0 rfl rfl)
theorem dJ4_deleteEntry_145 : decode cJ4_deleteEntry 145 = .ok (.putfield 111, 3) := dk_181 0 111 (dk_at dksJ4_deleteEntry_6 3 rfl rfl)
theorem dJ4_deleteEntry_148 : decode cJ4_deleteEntry 148 = .ok (.aload_n 1, 1) := dk_43 (dk_at dksJ4_deleteEntry_6 6 rfl rfl)
theorem dJ4_deleteEntry_149 : decode cJ4_deleteEntry 149 = .ok (.getfield 290, 3) := dk_180 1 34 (dk_at dksJ4_deleteEntry_6 7 rfl rfl)
theorem dJ4_deleteEntry_152 : decode cJ4_deleteEntry 152 = .ok (.iconst 1, 1) := dk_4 (dk_at dksJ4_deleteEntry_6 10 rfl rfl)
theorem dJ4_deleteEntry_153 : decode cJ4_deleteEntry 153 = .ok (.if_icmp .ne 92, 3) := dk_160 0 92 (dk_at dksJ4_deleteEntry_6 11 rfl rfl)
theorem dJ4_deleteEntry_156 : decode cJ4_deleteEntry 156 = .ok (.aload_n 0, 1) := dk_42 (dk_at dksJ4_deleteEntry_6 14 rfl rfl)
theorem dJ4_deleteEntry_157 : decode cJ4_deleteEntry 157 = .ok (.aload_n 2, 1) := dk_44 (dk_at dksJ4_deleteEntry_6 15 rfl rfl)
theorem dJ4_deleteEntry_158 : decode cJ4_deleteEntry 158 = .ok (.invokevirtual 317, 3) := dk_182 1 61 (dk_at dksJ4_deleteEntry_6 16 rfl rfl)
theorem dJ4_deleteEntry_161 : decode cJ4_deleteEntry 161 = .ok (.goto 84, 3) := dk_167 0 84 (dk_at dksJ4_deleteEntry_6 19 rfl rfl)
theorem dJ4_deleteEntry_164 : decode cJ4_deleteEntry 164 = .ok (.aload_n 1, 1) := dk_43 (dk_at dksJ4_deleteEntry_6 22 rfl rfl)
theorem dJ4_deleteEntry_165 : decode cJ4_deleteEntry 165 = .ok (.getfield 124, 3) := dk_180 0 124 (dk_at dksJ4_deleteEntry_7 0 rfl rfl)
theorem dJ4_deleteEntry_168 : decode cJ4_deleteEntry 168 = .ok (.ifnonnull 11, 3) := dk_199 0 11 (dk_at dksJ4_deleteEntry_7 3 rfl rfl)
theorem dJ4_deleteEntry_171 : decode cJ4_deleteEntry 171 = .ok (.aload_n 0, 1) := dk_42 (dk_at dksJ4_deleteEntry_7 6 rfl rfl)
theorem dJ4_deleteEntry_172 : decode cJ4_deleteEntry 172 = .ok (.aconst_null, 1) := dk_1 (dk_at dksJ4_deleteEntry_7 7 rfl rfl)
theorem dJ4_deleteEntry_173 : decode cJ4_deleteEntry 173 = .ok (.putfield 101, 3) := dk_181 0 101 (dk_at dksJ4_deleteEntry_7 8 rfl rfl)
theorem dJ4_deleteEntry_176 : decode cJ4_deleteEntry 176 = .ok (.goto 69, 3) := dk_167 0 69 (dk_at dksJ4_deleteEntry_7 11 rfl rfl)
theorem dJ4_deleteEntry_179 : decode cJ4_deleteEntry 179 = .ok (.aload_n 1, 1) := dk_43 (dk_at dksJ4_deleteEntry_7 14 rfl rfl)
theorem dJ4_deleteEntry_180 : decode cJ4_deleteEntry 180 = .ok (.getfield 290, 3) := dk_180 1 34 (dk_at dksJ4_deleteEntry_7 15 rfl rfl)
theorem dJ4_deleteEntry_183 : decode cJ4_deleteEntry 183 = .ok (.iconst 1, 1) := dk_4 (dk_at dksJ4_deleteEntry_7 18 rfl rfl)
theorem dJ4_deleteEntry_184 : decode cJ4_deleteEntry 184 = .ok (.if_icmp .ne 8, 3) := dk_160 0 8 (dk_at dksJ4_deleteEntry_7 19 rfl rfl)
theorem dJ4_deleteEntry_187 : decode cJ4_deleteEntry 187 = .ok (.aload_n 0, 1) := dk_42 (dk_at dksJ4_deleteEntry_7 22 rfl rfl)
theorem dJ4_deleteEntry_188 : decode cJ4_deleteEntry 188 = .ok (.aload_n 1, 1) := dk_43 (dk_at dksJ4_deleteEntry_7 23 rfl rfl)
theorem dJ4_deleteEntry_189 : decode cJ4_deleteEntry 189 = .ok (.invokevirtual 317, 3) := dk_182 1 61 (dk_at dksJ4_deleteEntry_8 0 rfl rfl)
theorem dJ4_deleteEntry_192 : decode cJ4_deleteEntry 192 = .ok (.aload_n 1, 1) := dk_43 (dk_at dksJ4_deleteEntry_8 3 rfl rfl)
theorem dJ4_deleteEntry_193 : decode cJ4_deleteEntry 193 = .ok (.getfield 124, 3) := dk_180 0 124 (dk_at dksJ4_deleteEntry_8 4 rfl rfl)
theorem dJ4_deleteEntry_196 : decode cJ4_deleteEntry 196 = .ok (.ifnull 49, 3) := dk_198 0 49 (dk_at dksJ4_deleteEntry_8 7 rfl rfl)
theorem dJ4_deleteEntry_199 : decode cJ4_deleteEntry 199 = .ok (.aload_n 1, 1) := dk_43 (dk_at dksJ4_deleteEntry_8 10 rfl rfl)
theorem dJ4_deleteEntry_200 : decode cJ4_deleteEntry 200 = .ok (.aload_n 1, 1) := dk_43 (dk_at dksJ4_deleteEntry_8 11 rfl rfl)
theorem dJ4_deleteEntry_201 : decode cJ4_deleteEntry 201 = .ok (.getfield 124, 3) := dk_180 0 124 (dk_at dksJ4_deleteEntry_8 12 rfl rfl)
theorem dJ4_deleteEntry_204 : decode cJ4_deleteEntry 204 = .ok (.getfield 111, 3) := dk_180 0 111 (dk_at dksJ4_deleteEntry_8 15 rfl rfl)
theorem dJ4_deleteEntry_207 : decode cJ4_deleteEntry 207 = .ok (.if_acmp .ne 14, 3) := dk_166 0 14 (dk_at dksJ4_deleteEntry_8 18 rfl rfl)
theorem dJ4_deleteEntry_210 : decode cJ4_deleteEntry 210 = .ok (.aload_n 1, 1) := dk_43 (dk_at dksJ4_deleteEntry_8 21 rfl rfl)
theorem dJ4_deleteEntry_211 : decode cJ4_deleteEntry 211 = .ok (.getfield 124, 3) := dk_180 0 124 (dk_at dksJ4_deleteEntry_9 0 rfl rfl)
theorem dJ4_deleteEntry_214 : decode cJ4_deleteEntry 214 = .ok (.aconst_null, 1) := dk_1 (dk_at dksJ4_deleteEntry_9 3 rfl rfl)
theorem dJ4_deleteEntry_215 : decode cJ4_deleteEntry 215 = .ok (.putfield 111, 3) := dk_181 0 111 (dk_at dksJ4_deleteEntry_9 4 rfl rfl)
theorem dJ4_deleteEntry_218 : decode cJ4_deleteEntry 218 = .ok (.goto 22, 3) := dk_167 0 22 (dk_at dksJ4_deleteEntry_9 7 rfl rfl)
theorem dJ4_deleteEntry_221 : decode cJ4_deleteEntry 221 = .ok (.aload_n 1, 1) := dk_43 (dk_at dksJ4_deleteEntry_9 10 rfl rfl)
theorem dJ4_deleteEntry_222 : decode cJ4_deleteEntry 222 = .ok (.aload_n 1, 1) := dk_43 (dk_at dksJ4_deleteEntry_9 11 rfl rfl)
theorem dJ4_deleteEntry_223 : decode cJ4_deleteEntry 223 = .ok (.getfield 124, 3) := dk_180 0 124 (dk_at dksJ4_deleteEntry_9 12 rfl rfl)
theorem dJ4_deleteEntry_226 : decode cJ4_deleteEntry 226 = .ok (.getfield 114, 3) := dk_180 0 114 (dk_at dksJ4_deleteEntry_9 15 rfl rfl)
theorem dJ4_deleteEntry_229 : decode cJ4_deleteEntry 229 = .ok (.if_acmp .ne 11, 3) := dk_166 0 11 (dk_at dksJ4_deleteEntry_9 18 rfl rfl)
theorem dJ4_deleteEntry_232 : decode cJ4_deleteEntry 232 = .ok (.aload_n 1, 1) := dk_43 (dk_at dksJ4_deleteEntry_9 21 rfl rfl)
theorem dJ4_deleteEntry_233 : decode cJ4_deleteEntry 233 = .ok (.getfield 124, 3) := dk_180 0 124 (dk_at dksJ4_deleteEntry_10 0 rfl rfl)
theorem dJ4_deleteEntry_236 : decode cJ4_deleteEntry 236 = .ok (.aconst_null, 1) := dk_1 (dk_at dksJ4_deleteEntry_10 3 rfl rfl)
theorem dJ4_deleteEntry_237 : decode cJ4_deleteEntry 237 = .ok (.putfield 114, 3) := dk_181 0 114 (dk_at dksJ4_deleteEntry_10 4 rfl rfl)
theorem dJ4_deleteEntry_240 : decode cJ4_deleteEntry 240 = .ok (.aload_n 1, 1) := dk_43 (dk_at dksJ4_deleteEntry_10 7 rfl rfl)
theorem dJ4_deleteEntry_241 : decode cJ4_deleteEntry 241 = .ok (.aconst_null, 1) := dk_1 (dk_at dksJ4_deleteEntry_10 8 rfl rfl)
theorem dJ4_deleteEntry_242 : decode cJ4_deleteEntry 242 = .ok (.putfield 124, 3) := dk_181 0 124 (dk_at dksJ4_deleteEntry_10 9 rfl rfl)
theorem dJ4_deleteEntry_245 : decode cJ4_deleteEntry 245 = .ok (.return_, 1) := dk_177 (dk_at dksJ4_deleteEntry_10 12 rfl rfl)
abbrev cJ4_successor : ByteArray := prog_65_method_74_code
def yJ4_successor : MethodName := ⟨RJ4, "successor", "(Ljava/util/TreeMap$Entry;)Ljava/util/TreeMap$Entry;"⟩
def dkwJ4_successor_2 : List UInt8 := [44, 43, 180, 0, 114, 166, 0, 13, 43, 77, 43, 180, 0, 124, 76, 167, 255, 237, 43, 176]
abbrev dktJ4_successor_2 : List UInt8 := dkwJ4_successor_2 ++ []
def dkwJ4_successor_1 : List UInt8 := [198, 0, 11, 43, 180, 0, 111, 76, 167, 255, 244, 43, 176, 42, 180, 0, 124, 76, 42, 77, 43, 198, 0, 21]
abbrev dktJ4_successor_1 : List UInt8 := dkwJ4_successor_1 ++ dktJ4_successor_2
def dkwJ4_successor_0 : List UInt8 := [42, 199, 0, 5, 1, 176, 42, 180, 0, 114, 198, 0, 25, 42, 180, 0, 114, 76, 43, 180, 0, 111]
abbrev dktJ4_successor_0 : List UInt8 := dkwJ4_successor_0 ++ dktJ4_successor_1
theorem dksJ4_successor_0 : cJ4_successor.data.toList.drop 0 = dktJ4_successor_0 := by decide +kernel
theorem dksJ4_successor_1 : cJ4_successor.data.toList.drop 22 = dktJ4_successor_1 := dk_seg dksJ4_successor_0 22 rfl rfl
theorem dksJ4_successor_2 : cJ4_successor.data.toList.drop 46 = dktJ4_successor_2 := dk_seg dksJ4_successor_1 24 rfl rfl
theorem dJ4_successor_0 : decode cJ4_successor 0 = .ok (.aload_n 0, 1) := dk_42 (dk_at dksJ4_successor_0 0 rfl rfl)
theorem dJ4_successor_1 : decode cJ4_successor 1 = .ok (.ifnonnull 5, 3) := dk_199 0 5 (dk_at dksJ4_successor_0 1 rfl rfl)
theorem dJ4_successor_4 : decode cJ4_successor 4 = .ok (.aconst_null, 1) := dk_1 (dk_at dksJ4_successor_0 4 rfl rfl)
theorem dJ4_successor_5 : decode cJ4_successor 5 = .ok (.areturn, 1) := dk_176 (dk_at dksJ4_successor_0 5 rfl rfl)
theorem dJ4_successor_6 : decode cJ4_successor 6 = .ok (.aload_n 0, 1) := dk_42 (dk_at dksJ4_successor_0 6 rfl rfl)
theorem dJ4_successor_7 : decode cJ4_successor 7 = .ok (.getfield 114, 3) := dk_180 0 114 (dk_at dksJ4_successor_0 7 rfl rfl)
theorem dJ4_successor_10 : decode cJ4_successor 10 = .ok (.ifnull 25, 3) := dk_198 0 25 (dk_at dksJ4_successor_0 10 rfl rfl)
theorem dJ4_successor_13 : decode cJ4_successor 13 = .ok (.aload_n 0, 1) := dk_42 (dk_at dksJ4_successor_0 13 rfl rfl)
theorem dJ4_successor_14 : decode cJ4_successor 14 = .ok (.getfield 114, 3) := dk_180 0 114 (dk_at dksJ4_successor_0 14 rfl rfl)
theorem dJ4_successor_17 : decode cJ4_successor 17 = .ok (.astore_n 1, 1) := dk_76 (dk_at dksJ4_successor_0 17 rfl rfl)
theorem dJ4_successor_18 : decode cJ4_successor 18 = .ok (.aload_n 1, 1) := dk_43 (dk_at dksJ4_successor_0 18 rfl rfl)
theorem dJ4_successor_19 : decode cJ4_successor 19 = .ok (.getfield 111, 3) := dk_180 0 111 (dk_at dksJ4_successor_0 19 rfl rfl)
theorem dJ4_successor_22 : decode cJ4_successor 22 = .ok (.ifnull 11, 3) := dk_198 0 11 (dk_at dksJ4_successor_1 0 rfl rfl)
theorem dJ4_successor_25 : decode cJ4_successor 25 = .ok (.aload_n 1, 1) := dk_43 (dk_at dksJ4_successor_1 3 rfl rfl)
theorem dJ4_successor_26 : decode cJ4_successor 26 = .ok (.getfield 111, 3) := dk_180 0 111 (dk_at dksJ4_successor_1 4 rfl rfl)
theorem dJ4_successor_29 : decode cJ4_successor 29 = .ok (.astore_n 1, 1) := dk_76 (dk_at dksJ4_successor_1 7 rfl rfl)
theorem dJ4_successor_30 : decode cJ4_successor 30 = .ok (.goto (-12), 3) := dk_167 255 244 (dk_at dksJ4_successor_1 8 rfl rfl)
theorem dJ4_successor_33 : decode cJ4_successor 33 = .ok (.aload_n 1, 1) := dk_43 (dk_at dksJ4_successor_1 11 rfl rfl)
theorem dJ4_successor_34 : decode cJ4_successor 34 = .ok (.areturn, 1) := dk_176 (dk_at dksJ4_successor_1 12 rfl rfl)
theorem dJ4_successor_35 : decode cJ4_successor 35 = .ok (.aload_n 0, 1) := dk_42 (dk_at dksJ4_successor_1 13 rfl rfl)
theorem dJ4_successor_36 : decode cJ4_successor 36 = .ok (.getfield 124, 3) := dk_180 0 124 (dk_at dksJ4_successor_1 14 rfl rfl)
theorem dJ4_successor_39 : decode cJ4_successor 39 = .ok (.astore_n 1, 1) := dk_76 (dk_at dksJ4_successor_1 17 rfl rfl)
theorem dJ4_successor_40 : decode cJ4_successor 40 = .ok (.aload_n 0, 1) := dk_42 (dk_at dksJ4_successor_1 18 rfl rfl)
theorem dJ4_successor_41 : decode cJ4_successor 41 = .ok (.astore_n 2, 1) := dk_77 (dk_at dksJ4_successor_1 19 rfl rfl)
theorem dJ4_successor_42 : decode cJ4_successor 42 = .ok (.aload_n 1, 1) := dk_43 (dk_at dksJ4_successor_1 20 rfl rfl)
theorem dJ4_successor_43 : decode cJ4_successor 43 = .ok (.ifnull 21, 3) := dk_198 0 21 (dk_at dksJ4_successor_1 21 rfl rfl)
theorem dJ4_successor_46 : decode cJ4_successor 46 = .ok (.aload_n 2, 1) := dk_44 (dk_at dksJ4_successor_2 0 rfl rfl)
theorem dJ4_successor_47 : decode cJ4_successor 47 = .ok (.aload_n 1, 1) := dk_43 (dk_at dksJ4_successor_2 1 rfl rfl)
theorem dJ4_successor_48 : decode cJ4_successor 48 = .ok (.getfield 114, 3) := dk_180 0 114 (dk_at dksJ4_successor_2 2 rfl rfl)
theorem dJ4_successor_51 : decode cJ4_successor 51 = .ok (.if_acmp .ne 13, 3) := dk_166 0 13 (dk_at dksJ4_successor_2 5 rfl rfl)
theorem dJ4_successor_54 : decode cJ4_successor 54 = .ok (.aload_n 1, 1) := dk_43 (dk_at dksJ4_successor_2 8 rfl rfl)
theorem dJ4_successor_55 : decode cJ4_successor 55 = .ok (.astore_n 2, 1) := dk_77 (dk_at dksJ4_successor_2 9 rfl rfl)
theorem dJ4_successor_56 : decode cJ4_successor 56 = .ok (.aload_n 1, 1) := dk_43 (dk_at dksJ4_successor_2 10 rfl rfl)
theorem dJ4_successor_57 : decode cJ4_successor 57 = .ok (.getfield 124, 3) := dk_180 0 124 (dk_at dksJ4_successor_2 11 rfl rfl)
theorem dJ4_successor_60 : decode cJ4_successor 60 = .ok (.astore_n 1, 1) := dk_76 (dk_at dksJ4_successor_2 14 rfl rfl)
theorem dJ4_successor_61 : decode cJ4_successor 61 = .ok (.goto (-19), 3) := dk_167 255 237 (dk_at dksJ4_successor_2 15 rfl rfl)
theorem dJ4_successor_64 : decode cJ4_successor 64 = .ok (.aload_n 1, 1) := dk_43 (dk_at dksJ4_successor_2 18 rfl rfl)
theorem dJ4_successor_65 : decode cJ4_successor 65 = .ok (.areturn, 1) := dk_176 (dk_at dksJ4_successor_2 19 rfl rfl)
abbrev cJ4_fixAfterDeletion : ByteArray := prog_65_method_85_code
def yJ4_fixAfterDeletion : MethodName := ⟨RJ4, "fixAfterDeletion", "(Ljava/util/TreeMap$Entry;)V"⟩
def dkwJ4_fixAfterDeletion_14 : List UInt8 := [182, 1, 58, 42, 180, 0, 101, 76, 167, 254, 170, 43, 4, 184, 1, 51, 177]
abbrev dktJ4_fixAfterDeletion_14 : List UInt8 := dkwJ4_fixAfterDeletion_14 ++ []
def dkwJ4_fixAfterDeletion_13 : List UInt8 := [184, 1, 51, 43, 184, 1, 38, 4, 184, 1, 51, 44, 184, 1, 41, 4, 184, 1, 51, 42, 43, 184, 1, 38]
abbrev dktJ4_fixAfterDeletion_13 : List UInt8 := dkwJ4_fixAfterDeletion_13 ++ dktJ4_fixAfterDeletion_14
def dkwJ4_fixAfterDeletion_12 : List UInt8 := [184, 1, 51, 42, 44, 182, 1, 55, 43, 184, 1, 38, 184, 1, 41, 77, 44, 43, 184, 1, 38, 184, 1, 47]
abbrev dktJ4_fixAfterDeletion_12 : List UInt8 := dkwJ4_fixAfterDeletion_12 ++ dktJ4_fixAfterDeletion_13
def dkwJ4_fixAfterDeletion_11 : List UInt8 := [167, 0, 80, 44, 184, 1, 41, 184, 1, 47, 4, 160, 0, 29, 44, 184, 1, 44, 4, 184, 1, 51, 44, 3]
abbrev dktJ4_fixAfterDeletion_11 : List UInt8 := dkwJ4_fixAfterDeletion_11 ++ dktJ4_fixAfterDeletion_12
def dkwJ4_fixAfterDeletion_10 : List UInt8 := [160, 0, 27, 44, 184, 1, 41, 184, 1, 47, 4, 160, 0, 16, 44, 3, 184, 1, 51, 43, 184, 1, 38, 76]
abbrev dktJ4_fixAfterDeletion_10 : List UInt8 := dkwJ4_fixAfterDeletion_10 ++ dktJ4_fixAfterDeletion_11
def dkwJ4_fixAfterDeletion_9 : List UInt8 := [42, 43, 184, 1, 38, 182, 1, 58, 43, 184, 1, 38, 184, 1, 41, 77, 44, 184, 1, 44, 184, 1, 47, 4]
abbrev dktJ4_fixAfterDeletion_9 : List UInt8 := dkwJ4_fixAfterDeletion_9 ++ dktJ4_fixAfterDeletion_10
def dkwJ4_fixAfterDeletion_8 : List UInt8 := [184, 1, 41, 77, 44, 184, 1, 47, 154, 0, 32, 44, 4, 184, 1, 51, 43, 184, 1, 38, 3, 184, 1, 51]
abbrev dktJ4_fixAfterDeletion_8 : List UInt8 := dkwJ4_fixAfterDeletion_8 ++ dktJ4_fixAfterDeletion_9
def dkwJ4_fixAfterDeletion_7 : List UInt8 := [4, 184, 1, 51, 42, 43, 184, 1, 38, 182, 1, 55, 42, 180, 0, 101, 76, 167, 255, 73, 43, 184, 1, 38]
abbrev dktJ4_fixAfterDeletion_7 : List UInt8 := dkwJ4_fixAfterDeletion_7 ++ dktJ4_fixAfterDeletion_8
def dkwJ4_fixAfterDeletion_6 : List UInt8 := [77, 44, 43, 184, 1, 38, 184, 1, 47, 184, 1, 51, 43, 184, 1, 38, 4, 184, 1, 51, 44, 184, 1, 44]
abbrev dktJ4_fixAfterDeletion_6 : List UInt8 := dkwJ4_fixAfterDeletion_6 ++ dktJ4_fixAfterDeletion_7
def dkwJ4_fixAfterDeletion_5 : List UInt8 := [184, 1, 41, 4, 184, 1, 51, 44, 3, 184, 1, 51, 42, 44, 182, 1, 58, 43, 184, 1, 38, 184, 1, 44]
abbrev dktJ4_fixAfterDeletion_5 : List UInt8 := dkwJ4_fixAfterDeletion_5 ++ dktJ4_fixAfterDeletion_6
def dkwJ4_fixAfterDeletion_4 : List UInt8 := [184, 1, 51, 43, 184, 1, 38, 76, 167, 0, 80, 44, 184, 1, 44, 184, 1, 47, 4, 160, 0, 29, 44]
abbrev dktJ4_fixAfterDeletion_4 : List UInt8 := dkwJ4_fixAfterDeletion_4 ++ dktJ4_fixAfterDeletion_5
def dkwJ4_fixAfterDeletion_3 : List UInt8 := [184, 1, 41, 184, 1, 47, 4, 160, 0, 27, 44, 184, 1, 44, 184, 1, 47, 4, 160, 0, 16, 44, 3]
abbrev dktJ4_fixAfterDeletion_3 : List UInt8 := dkwJ4_fixAfterDeletion_3 ++ dktJ4_fixAfterDeletion_4
def dkwJ4_fixAfterDeletion_2 : List UInt8 := [184, 1, 38, 3, 184, 1, 51, 42, 43, 184, 1, 38, 182, 1, 55, 43, 184, 1, 38, 184, 1, 44, 77, 44]
abbrev dktJ4_fixAfterDeletion_2 : List UInt8 := dkwJ4_fixAfterDeletion_2 ++ dktJ4_fixAfterDeletion_3
def dkwJ4_fixAfterDeletion_1 : List UInt8 := [166, 0, 162, 43, 184, 1, 38, 184, 1, 44, 77, 44, 184, 1, 47, 154, 0, 32, 44, 4, 184, 1, 51, 43]
abbrev dktJ4_fixAfterDeletion_1 : List UInt8 := dkwJ4_fixAfterDeletion_1 ++ dktJ4_fixAfterDeletion_2
def dkwJ4_fixAfterDeletion_0 : List UInt8 := [43, 42, 180, 0, 101, 165, 1, 84, 43, 184, 1, 47, 4, 160, 1, 76, 43, 43, 184, 1, 38, 184, 1, 41]
abbrev dktJ4_fixAfterDeletion_0 : List UInt8 := dkwJ4_fixAfterDeletion_0 ++ dktJ4_fixAfterDeletion_1
theorem dksJ4_fixAfterDeletion_0 : cJ4_fixAfterDeletion.data.toList.drop 0 = dktJ4_fixAfterDeletion_0 := by decide +kernel
theorem dksJ4_fixAfterDeletion_1 : cJ4_fixAfterDeletion.data.toList.drop 24 = dktJ4_fixAfterDeletion_1 := dk_seg dksJ4_fixAfterDeletion_0 24 rfl rfl
theorem dksJ4_fixAfterDeletion_2 : cJ4_fixAfterDeletion.data.toList.drop 48 = dktJ4_fixAfterDeletion_2 := dk_seg dksJ4_fixAfterDeletion_1 24 rfl rfl
theorem dksJ4_fixAfterDeletion_3 : cJ4_fixAfterDeletion.data.toList.drop 72 = dktJ4_fixAfterDeletion_3 := dk_seg dksJ4_fixAfterDeletion_2 24 rfl rfl
theorem dksJ4_fixAfterDeletion_4 : cJ4_fixAfterDeletion.data.toList.drop 95 = dktJ4_fixAfterDeletion_4 := dk_seg dksJ4_fixAfterDeletion_3 23 rfl rfl
theorem dksJ4_fixAfterDeletion_5 : cJ4_fixAfterDeletion.data.toList.drop 118 = dktJ4_fixAfterDeletion_5 := dk_seg dksJ4_fixAfterDeletion_4 23 rfl rfl
theorem dksJ4_fixAfterDeletion_6 : cJ4_fixAfterDeletion.data.toList.drop 142 = dktJ4_fixAfterDeletion_6 := dk_seg dksJ4_fixAfterDeletion_5 24 rfl rfl
theorem dksJ4_fixAfterDeletion_7 : cJ4_fixAfterDeletion.data.toList.drop 166 = dktJ4_fixAfterDeletion_7 := dk_seg dksJ4_fixAfterDeletion_6 24 rfl rfl
theorem dksJ4_fixAfterDeletion_8 : cJ4_fixAfterDeletion.data.toList.drop 190 = dktJ4_fixAfterDeletion_8 := dk_seg dksJ4_fixAfterDeletion_7 24 rfl rfl
theorem dksJ4_fixAfterDeletion_9 : cJ4_fixAfterDeletion.data.toList.drop 214 = dktJ4_fixAfterDeletion_9 := dk_seg dksJ4_fixAfterDeletion_8 24 rfl rfl
theorem dksJ4_fixAfterDeletion_10 : cJ4_fixAfterDeletion.data.toList.drop 238 = dktJ4_fixAfterDeletion_10 := dk_seg dksJ4_fixAfterDeletion_9 24 rfl rfl
theorem dksJ4_fixAfterDeletion_11 : cJ4_fixAfterDeletion.data.toList.drop 262 = dktJ4_fixAfterDeletion_11 := dk_seg dksJ4_fixAfterDeletion_10 24 rfl rfl
theorem dksJ4_fixAfterDeletion_12 : cJ4_fixAfterDeletion.data.toList.drop 286 = dktJ4_fixAfterDeletion_12 := dk_seg dksJ4_fixAfterDeletion_11 24 rfl rfl
theorem dksJ4_fixAfterDeletion_13 : cJ4_fixAfterDeletion.data.toList.drop 310 = dktJ4_fixAfterDeletion_13 := dk_seg dksJ4_fixAfterDeletion_12 24 rfl rfl
theorem dksJ4_fixAfterDeletion_14 : cJ4_fixAfterDeletion.data.toList.drop 334 = dktJ4_fixAfterDeletion_14 := dk_seg dksJ4_fixAfterDeletion_13 24 rfl rfl
theorem dJ4_fixAfterDeletion_0 : decode cJ4_fixAfterDeletion 0 = .ok (.aload_n 1, 1) := dk_43 (dk_at dksJ4_fixAfterDeletion_0 0 rfl rfl)
theorem dJ4_fixAfterDeletion_1 : decode cJ4_fixAfterDeletion 1 = .ok (.aload_n 0, 1) := dk_42 (dk_at dksJ4_fixAfterDeletion_0 1 rfl rfl)
theorem dJ4_fixAfterDeletion_2 : decode cJ4_fixAfterDeletion 2 = .ok (.getfield 101, 3) := dk_180 0 101 (dk_at dksJ4_fixAfterDeletion_0 2 rfl rfl)
theorem dJ4_fixAfterDeletion_5 : decode cJ4_fixAfterDeletion 5 = .ok (.if_acmp .eq 340, 3) := dk_165 1 84 (dk_at dksJ4_fixAfterDeletion_0 5 rfl rfl)
theorem dJ4_fixAfterDeletion_8 : decode cJ4_fixAfterDeletion 8 = .ok (.aload_n 1, 1) := dk_43 (dk_at dksJ4_fixAfterDeletion_0 8 rfl rfl)
theorem dJ4_fixAfterDeletion_9 : decode cJ4_fixAfterDeletion 9 = .ok (.invokestatic 303, 3) := dk_184 1 47 (dk_at dksJ4_fixAfterDeletion_0 9 rfl rfl)
theorem dJ4_fixAfterDeletion_12 : decode cJ4_fixAfterDeletion 12 = .ok (.iconst 1, 1) := dk_4 (dk_at dksJ4_fixAfterDeletion_0 12 rfl rfl)
theorem dJ4_fixAfterDeletion_13 : decode cJ4_fixAfterDeletion 13 = .ok (.if_icmp .ne 332, 3) := dk_160 1 76 (dk_at dksJ4_fixAfterDeletion_0 13 rfl rfl)
theorem dJ4_fixAfterDeletion_16 : decode cJ4_fixAfterDeletion 16 = .ok (.aload_n 1, 1) := dk_43 (dk_at dksJ4_fixAfterDeletion_0 16 rfl rfl)
theorem dJ4_fixAfterDeletion_17 : decode cJ4_fixAfterDeletion 17 = .ok (.aload_n 1, 1) := dk_43 (dk_at dksJ4_fixAfterDeletion_0 17 rfl rfl)
theorem dJ4_fixAfterDeletion_18 : decode cJ4_fixAfterDeletion 18 = .ok (.invokestatic 294, 3) := dk_184 1 38 (dk_at dksJ4_fixAfterDeletion_0 18 rfl rfl)
theorem dJ4_fixAfterDeletion_21 : decode cJ4_fixAfterDeletion 21 = .ok (.invokestatic 297, 3) := dk_184 1 41 (dk_at dksJ4_fixAfterDeletion_0 21 rfl rfl)
theorem dJ4_fixAfterDeletion_24 : decode cJ4_fixAfterDeletion 24 = .ok (.if_acmp .ne 162, 3) := dk_166 0 162 (dk_at dksJ4_fixAfterDeletion_1 0 rfl rfl)
theorem dJ4_fixAfterDeletion_27 : decode cJ4_fixAfterDeletion 27 = .ok (.aload_n 1, 1) := dk_43 (dk_at dksJ4_fixAfterDeletion_1 3 rfl rfl)
theorem dJ4_fixAfterDeletion_28 : decode cJ4_fixAfterDeletion 28 = .ok (.invokestatic 294, 3) := dk_184 1 38 (dk_at dksJ4_fixAfterDeletion_1 4 rfl rfl)
theorem dJ4_fixAfterDeletion_31 : decode cJ4_fixAfterDeletion 31 = .ok (.invokestatic 300, 3) := dk_184 1 44 (dk_at dksJ4_fixAfterDeletion_1 7 rfl rfl)
theorem dJ4_fixAfterDeletion_34 : decode cJ4_fixAfterDeletion 34 = .ok (.astore_n 2, 1) := dk_77 (dk_at dksJ4_fixAfterDeletion_1 10 rfl rfl)
theorem dJ4_fixAfterDeletion_35 : decode cJ4_fixAfterDeletion 35 = .ok (.aload_n 2, 1) := dk_44 (dk_at dksJ4_fixAfterDeletion_1 11 rfl rfl)
theorem dJ4_fixAfterDeletion_36 : decode cJ4_fixAfterDeletion 36 = .ok (.invokestatic 303, 3) := dk_184 1 47 (dk_at dksJ4_fixAfterDeletion_1 12 rfl rfl)
theorem dJ4_fixAfterDeletion_39 : decode cJ4_fixAfterDeletion 39 = .ok (.ifCond .ne 32, 3) := dk_154 0 32 (dk_at dksJ4_fixAfterDeletion_1 15 rfl rfl)
theorem dJ4_fixAfterDeletion_42 : decode cJ4_fixAfterDeletion 42 = .ok (.aload_n 2, 1) := dk_44 (dk_at dksJ4_fixAfterDeletion_1 18 rfl rfl)
theorem dJ4_fixAfterDeletion_43 : decode cJ4_fixAfterDeletion 43 = .ok (.iconst 1, 1) := dk_4 (dk_at dksJ4_fixAfterDeletion_1 19 rfl rfl)
theorem dJ4_fixAfterDeletion_44 : decode cJ4_fixAfterDeletion 44 = .ok (.invokestatic 307, 3) := dk_184 1 51 (dk_at dksJ4_fixAfterDeletion_1 20 rfl rfl)
theorem dJ4_fixAfterDeletion_47 : decode cJ4_fixAfterDeletion 47 = .ok (.aload_n 1, 1) := dk_43 (dk_at dksJ4_fixAfterDeletion_1 23 rfl rfl)
theorem dJ4_fixAfterDeletion_48 : decode cJ4_fixAfterDeletion 48 = .ok (.invokestatic 294, 3) := dk_184 1 38 (dk_at dksJ4_fixAfterDeletion_2 0 rfl rfl)
theorem dJ4_fixAfterDeletion_51 : decode cJ4_fixAfterDeletion 51 = .ok (.iconst 0, 1) := dk_3 (dk_at dksJ4_fixAfterDeletion_2 3 rfl rfl)
theorem dJ4_fixAfterDeletion_52 : decode cJ4_fixAfterDeletion 52 = .ok (.invokestatic 307, 3) := dk_184 1 51 (dk_at dksJ4_fixAfterDeletion_2 4 rfl rfl)
theorem dJ4_fixAfterDeletion_55 : decode cJ4_fixAfterDeletion 55 = .ok (.aload_n 0, 1) := dk_42 (dk_at dksJ4_fixAfterDeletion_2 7 rfl rfl)
theorem dJ4_fixAfterDeletion_56 : decode cJ4_fixAfterDeletion 56 = .ok (.aload_n 1, 1) := dk_43 (dk_at dksJ4_fixAfterDeletion_2 8 rfl rfl)
theorem dJ4_fixAfterDeletion_57 : decode cJ4_fixAfterDeletion 57 = .ok (.invokestatic 294, 3) := dk_184 1 38 (dk_at dksJ4_fixAfterDeletion_2 9 rfl rfl)
theorem dJ4_fixAfterDeletion_60 : decode cJ4_fixAfterDeletion 60 = .ok (.invokevirtual 311, 3) := dk_182 1 55 (dk_at dksJ4_fixAfterDeletion_2 12 rfl rfl)
theorem dJ4_fixAfterDeletion_63 : decode cJ4_fixAfterDeletion 63 = .ok (.aload_n 1, 1) := dk_43 (dk_at dksJ4_fixAfterDeletion_2 15 rfl rfl)
theorem dJ4_fixAfterDeletion_64 : decode cJ4_fixAfterDeletion 64 = .ok (.invokestatic 294, 3) := dk_184 1 38 (dk_at dksJ4_fixAfterDeletion_2 16 rfl rfl)
theorem dJ4_fixAfterDeletion_67 : decode cJ4_fixAfterDeletion 67 = .ok (.invokestatic 300, 3) := dk_184 1 44 (dk_at dksJ4_fixAfterDeletion_2 19 rfl rfl)
theorem dJ4_fixAfterDeletion_70 : decode cJ4_fixAfterDeletion 70 = .ok (.astore_n 2, 1) := dk_77 (dk_at dksJ4_fixAfterDeletion_2 22 rfl rfl)
theorem dJ4_fixAfterDeletion_71 : decode cJ4_fixAfterDeletion 71 = .ok (.aload_n 2, 1) := dk_44 (dk_at dksJ4_fixAfterDeletion_2 23 rfl rfl)
theorem dJ4_fixAfterDeletion_72 : decode cJ4_fixAfterDeletion 72 = .ok (.invokestatic 297, 3) := dk_184 1 41 (dk_at dksJ4_fixAfterDeletion_3 0 rfl rfl)
theorem dJ4_fixAfterDeletion_75 : decode cJ4_fixAfterDeletion 75 = .ok (.invokestatic 303, 3) := dk_184 1 47 (dk_at dksJ4_fixAfterDeletion_3 3 rfl rfl)
theorem dJ4_fixAfterDeletion_78 : decode cJ4_fixAfterDeletion 78 = .ok (.iconst 1, 1) := dk_4 (dk_at dksJ4_fixAfterDeletion_3 6 rfl rfl)
theorem dJ4_fixAfterDeletion_79 : decode cJ4_fixAfterDeletion 79 = .ok (.if_icmp .ne 27, 3) := dk_160 0 27 (dk_at dksJ4_fixAfterDeletion_3 7 rfl rfl)
theorem dJ4_fixAfterDeletion_82 : decode cJ4_fixAfterDeletion 82 = .ok (.aload_n 2, 1) := dk_44 (dk_at dksJ4_fixAfterDeletion_3 10 rfl rfl)
theorem dJ4_fixAfterDeletion_83 : decode cJ4_fixAfterDeletion 83 = .ok (.invokestatic 300, 3) := dk_184 1 44 (dk_at dksJ4_fixAfterDeletion_3 11 rfl rfl)
theorem dJ4_fixAfterDeletion_86 : decode cJ4_fixAfterDeletion 86 = .ok (.invokestatic 303, 3) := dk_184 1 47 (dk_at dksJ4_fixAfterDeletion_3 14 rfl rfl)
theorem dJ4_fixAfterDeletion_89 : decode cJ4_fixAfterDeletion 89 = .ok (.iconst 1, 1) := dk_4 (dk_at dksJ4_fixAfterDeletion_3 17 rfl rfl)
theorem dJ4_fixAfterDeletion_90 : decode cJ4_fixAfterDeletion 90 = .ok (.if_icmp .ne 16, 3) := dk_160 0 16 (dk_at dksJ4_fixAfterDeletion_3 18 rfl rfl)
theorem dJ4_fixAfterDeletion_93 : decode cJ4_fixAfterDeletion 93 = .ok (.aload_n 2, 1) := dk_44 (dk_at dksJ4_fixAfterDeletion_3 21 rfl rfl)
theorem dJ4_fixAfterDeletion_94 : decode cJ4_fixAfterDeletion 94 = .ok (.iconst 0, 1) := dk_3 (dk_at dksJ4_fixAfterDeletion_3 22 rfl rfl)
theorem dJ4_fixAfterDeletion_95 : decode cJ4_fixAfterDeletion 95 = .ok (.invokestatic 307, 3) := dk_184 1 51 (dk_at dksJ4_fixAfterDeletion_4 0 rfl rfl)
theorem dJ4_fixAfterDeletion_98 : decode cJ4_fixAfterDeletion 98 = .ok (.aload_n 1, 1) := dk_43 (dk_at dksJ4_fixAfterDeletion_4 3 rfl rfl)
theorem dJ4_fixAfterDeletion_99 : decode cJ4_fixAfterDeletion 99 = .ok (.invokestatic 294, 3) := dk_184 1 38 (dk_at dksJ4_fixAfterDeletion_4 4 rfl rfl)
theorem dJ4_fixAfterDeletion_102 : decode cJ4_fixAfterDeletion 102 = .ok (.astore_n 1, 1) := dk_76 (dk_at dksJ4_fixAfterDeletion_4 7 rfl rfl)
theorem dJ4_fixAfterDeletion_103 : decode cJ4_fixAfterDeletion 103 = .ok (.goto 80, 3) := dk_167 0 80 (dk_at dksJ4_fixAfterDeletion_4 8 rfl rfl)
theorem dJ4_fixAfterDeletion_106 : decode cJ4_fixAfterDeletion 106 = .ok (.aload_n 2, 1) := dk_44 (dk_at dksJ4_fixAfterDeletion_4 11 rfl rfl)
theorem dJ4_fixAfterDeletion_107 : decode cJ4_fixAfterDeletion 107 = .ok (.invokestatic 300, 3) := dk_184 1 44 (dk_at dksJ4_fixAfterDeletion_4 12 rfl rfl)
theorem dJ4_fixAfterDeletion_110 : decode cJ4_fixAfterDeletion 110 = .ok (.invokestatic 303, 3) := dk_184 1 47 (dk_at dksJ4_fixAfterDeletion_4 15 rfl rfl)
theorem dJ4_fixAfterDeletion_113 : decode cJ4_fixAfterDeletion 113 = .ok (.iconst 1, 1) := dk_4 (dk_at dksJ4_fixAfterDeletion_4 18 rfl rfl)
theorem dJ4_fixAfterDeletion_114 : decode cJ4_fixAfterDeletion 114 = .ok (.if_icmp .ne 29, 3) := dk_160 0 29 (dk_at dksJ4_fixAfterDeletion_4 19 rfl rfl)
theorem dJ4_fixAfterDeletion_117 : decode cJ4_fixAfterDeletion 117 = .ok (.aload_n 2, 1) := dk_44 (dk_at dksJ4_fixAfterDeletion_4 22 rfl rfl)
theorem dJ4_fixAfterDeletion_118 : decode cJ4_fixAfterDeletion 118 = .ok (.invokestatic 297, 3) := dk_184 1 41 (dk_at dksJ4_fixAfterDeletion_5 0 rfl rfl)
theorem dJ4_fixAfterDeletion_121 : decode cJ4_fixAfterDeletion 121 = .ok (.iconst 1, 1) := dk_4 (dk_at dksJ4_fixAfterDeletion_5 3 rfl rfl)
theorem dJ4_fixAfterDeletion_122 : decode cJ4_fixAfterDeletion 122 = .ok (.invokestatic 307, 3) := dk_184 1 51 (dk_at dksJ4_fixAfterDeletion_5 4 rfl rfl)
theorem dJ4_fixAfterDeletion_125 : decode cJ4_fixAfterDeletion 125 = .ok (.aload_n 2, 1) := dk_44 (dk_at dksJ4_fixAfterDeletion_5 7 rfl rfl)
theorem dJ4_fixAfterDeletion_126 : decode cJ4_fixAfterDeletion 126 = .ok (.iconst 0, 1) := dk_3 (dk_at dksJ4_fixAfterDeletion_5 8 rfl rfl)
theorem dJ4_fixAfterDeletion_127 : decode cJ4_fixAfterDeletion 127 = .ok (.invokestatic 307, 3) := dk_184 1 51 (dk_at dksJ4_fixAfterDeletion_5 9 rfl rfl)
theorem dJ4_fixAfterDeletion_130 : decode cJ4_fixAfterDeletion 130 = .ok (.aload_n 0, 1) := dk_42 (dk_at dksJ4_fixAfterDeletion_5 12 rfl rfl)
theorem dJ4_fixAfterDeletion_131 : decode cJ4_fixAfterDeletion 131 = .ok (.aload_n 2, 1) := dk_44 (dk_at dksJ4_fixAfterDeletion_5 13 rfl rfl)
theorem dJ4_fixAfterDeletion_132 : decode cJ4_fixAfterDeletion 132 = .ok (.invokevirtual 314, 3) := dk_182 1 58 (dk_at dksJ4_fixAfterDeletion_5 14 rfl rfl)
theorem dJ4_fixAfterDeletion_135 : decode cJ4_fixAfterDeletion 135 = .ok (.aload_n 1, 1) := dk_43 (dk_at dksJ4_fixAfterDeletion_5 17 rfl rfl)
theorem dJ4_fixAfterDeletion_136 : decode cJ4_fixAfterDeletion 136 = .ok (.invokestatic 294, 3) := dk_184 1 38 (dk_at dksJ4_fixAfterDeletion_5 18 rfl rfl)
theorem dJ4_fixAfterDeletion_139 : decode cJ4_fixAfterDeletion 139 = .ok (.invokestatic 300, 3) := dk_184 1 44 (dk_at dksJ4_fixAfterDeletion_5 21 rfl rfl)
theorem dJ4_fixAfterDeletion_142 : decode cJ4_fixAfterDeletion 142 = .ok (.astore_n 2, 1) := dk_77 (dk_at dksJ4_fixAfterDeletion_6 0 rfl rfl)
theorem dJ4_fixAfterDeletion_143 : decode cJ4_fixAfterDeletion 143 = .ok (.aload_n 2, 1) := dk_44 (dk_at dksJ4_fixAfterDeletion_6 1 rfl rfl)
theorem dJ4_fixAfterDeletion_144 : decode cJ4_fixAfterDeletion 144 = .ok (.aload_n 1, 1) := dk_43 (dk_at dksJ4_fixAfterDeletion_6 2 rfl rfl)
theorem dJ4_fixAfterDeletion_145 : decode cJ4_fixAfterDeletion 145 = .ok (.invokestatic 294, 3) := dk_184 1 38 (dk_at dksJ4_fixAfterDeletion_6 3 rfl rfl)
theorem dJ4_fixAfterDeletion_148 : decode cJ4_fixAfterDeletion 148 = .ok (.invokestatic 303, 3) := dk_184 1 47 (dk_at dksJ4_fixAfterDeletion_6 6 rfl rfl)
theorem dJ4_fixAfterDeletion_151 : decode cJ4_fixAfterDeletion 151 = .ok (.invokestatic 307, 3) := dk_184 1 51 (dk_at dksJ4_fixAfterDeletion_6 9 rfl rfl)
theorem dJ4_fixAfterDeletion_154 : decode cJ4_fixAfterDeletion 154 = .ok (.aload_n 1, 1) := dk_43 (dk_at dksJ4_fixAfterDeletion_6 12 rfl rfl)
theorem dJ4_fixAfterDeletion_155 : decode cJ4_fixAfterDeletion 155 = .ok (.invokestatic 294, 3) := dk_184 1 38 (dk_at dksJ4_fixAfterDeletion_6 13 rfl rfl)
theorem dJ4_fixAfterDeletion_158 : decode cJ4_fixAfterDeletion 158 = .ok (.iconst 1, 1) := dk_4 (dk_at dksJ4_fixAfterDeletion_6 16 rfl rfl)
theorem dJ4_fixAfterDeletion_159 : decode cJ4_fixAfterDeletion 159 = .ok (.invokestatic 307, 3) := dk_184 1 51 (dk_at dksJ4_fixAfterDeletion_6 17 rfl rfl)
theorem dJ4_fixAfterDeletion_162 : decode cJ4_fixAfterDeletion 162 = .ok (.aload_n 2, 1) := dk_44 (dk_at dksJ4_fixAfterDeletion_6 20 rfl rfl)
theorem dJ4_fixAfterDeletion_163 : decode cJ4_fixAfterDeletion 163 = .ok (.invokestatic 300, 3) := dk_184 1 44 (dk_at dksJ4_fixAfterDeletion_6 21 rfl rfl)
theorem dJ4_fixAfterDeletion_166 : decode cJ4_fixAfterDeletion 166 = .ok (.iconst 1, 1) := dk_4 (dk_at dksJ4_fixAfterDeletion_7 0 rfl rfl)
theorem dJ4_fixAfterDeletion_167 : decode cJ4_fixAfterDeletion 167 = .ok (.invokestatic 307, 3) := dk_184 1 51 (dk_at dksJ4_fixAfterDeletion_7 1 rfl rfl)
theorem dJ4_fixAfterDeletion_170 : decode cJ4_fixAfterDeletion 170 = .ok (.aload_n 0, 1) := dk_42 (dk_at dksJ4_fixAfterDeletion_7 4 rfl rfl)
theorem dJ4_fixAfterDeletion_171 : decode cJ4_fixAfterDeletion 171 = .ok (.aload_n 1, 1) := dk_43 (dk_at dksJ4_fixAfterDeletion_7 5 rfl rfl)
theorem dJ4_fixAfterDeletion_172 : decode cJ4_fixAfterDeletion 172 = .ok (.invokestatic 294, 3) := dk_184 1 38 (dk_at dksJ4_fixAfterDeletion_7 6 rfl rfl)
theorem dJ4_fixAfterDeletion_175 : decode cJ4_fixAfterDeletion 175 = .ok (.invokevirtual 311, 3) := dk_182 1 55 (dk_at dksJ4_fixAfterDeletion_7 9 rfl rfl)
theorem dJ4_fixAfterDeletion_178 : decode cJ4_fixAfterDeletion 178 = .ok (.aload_n 0, 1) := dk_42 (dk_at dksJ4_fixAfterDeletion_7 12 rfl rfl)
theorem dJ4_fixAfterDeletion_179 : decode cJ4_fixAfterDeletion 179 = .ok (.getfield 101, 3) := dk_180 0 101 (dk_at dksJ4_fixAfterDeletion_7 13 rfl rfl)
theorem dJ4_fixAfterDeletion_182 : decode cJ4_fixAfterDeletion 182 = .ok (.astore_n 1, 1) := dk_76 (dk_at dksJ4_fixAfterDeletion_7 16 rfl rfl)
theorem dJ4_fixAfterDeletion_183 : decode cJ4_fixAfterDeletion 183 = .ok (.goto (-183), 3) := dk_167 255 73 (dk_at dksJ4_fixAfterDeletion_7 17 rfl rfl)
theorem dJ4_fixAfterDeletion_186 : decode cJ4_fixAfterDeletion 186 = .ok (.aload_n 1, 1) := dk_43 (dk_at dksJ4_fixAfterDeletion_7 20 rfl rfl)
theorem dJ4_fixAfterDeletion_187 : decode cJ4_fixAfterDeletion 187 = .ok (.invokestatic 294, 3) := dk_184 1 38 (dk_at dksJ4_fixAfterDeletion_7 21 rfl rfl)
theorem dJ4_fixAfterDeletion_190 : decode cJ4_fixAfterDeletion 190 = .ok (.invokestatic 297, 3) := dk_184 1 41 (dk_at dksJ4_fixAfterDeletion_8 0 rfl rfl)
theorem dJ4_fixAfterDeletion_193 : decode cJ4_fixAfterDeletion 193 = .ok (.astore_n 2, 1) := dk_77 (dk_at dksJ4_fixAfterDeletion_8 3 rfl rfl)
theorem dJ4_fixAfterDeletion_194 : decode cJ4_fixAfterDeletion 194 = .ok (.aload_n 2, 1) := dk_44 (dk_at dksJ4_fixAfterDeletion_8 4 rfl rfl)
theorem dJ4_fixAfterDeletion_195 : decode cJ4_fixAfterDeletion 195 = .ok (.invokestatic 303, 3) := dk_184 1 47 (dk_at dksJ4_fixAfterDeletion_8 5 rfl rfl)
theorem dJ4_fixAfterDeletion_198 : decode cJ4_fixAfterDeletion 198 = .ok (.ifCond .ne 32, 3) := dk_154 0 32 (dk_at dksJ4_fixAfterDeletion_8 8 rfl rfl)
theorem dJ4_fixAfterDeletion_201 : decode cJ4_fixAfterDeletion 201 = .ok (.aload_n 2, 1) := dk_44 (dk_at dksJ4_fixAfterDeletion_8 11 rfl rfl)
theorem dJ4_fixAfterDeletion_202 : decode cJ4_fixAfterDeletion 202 = .ok (.iconst 1, 1) := dk_4 (dk_at dksJ4_fixAfterDeletion_8 12 rfl rfl)
theorem dJ4_fixAfterDeletion_203 : decode cJ4_fixAfterDeletion 203 = .ok (.invokestatic 307, 3) := dk_184 1 51 (dk_at dksJ4_fixAfterDeletion_8 13 rfl rfl)
theorem dJ4_fixAfterDeletion_206 : decode cJ4_fixAfterDeletion 206 = .ok (.aload_n 1, 1) := dk_43 (dk_at dksJ4_fixAfterDeletion_8 16 rfl rfl)
theorem dJ4_fixAfterDeletion_207 : decode cJ4_fixAfterDeletion 207 = .ok (.invokestatic 294, 3) := dk_184 1 38 (dk_at dksJ4_fixAfterDeletion_8 17 rfl rfl)
theorem dJ4_fixAfterDeletion_210 : decode cJ4_fixAfterDeletion 210 = .ok (.iconst 0, 1) := dk_3 (dk_at dksJ4_fixAfterDeletion_8 20 rfl rfl)
theorem dJ4_fixAfterDeletion_211 : decode cJ4_fixAfterDeletion 211 = .ok (.invokestatic 307, 3) := dk_184 1 51 (dk_at dksJ4_fixAfterDeletion_8 21 rfl rfl)
theorem dJ4_fixAfterDeletion_214 : decode cJ4_fixAfterDeletion 214 = .ok (.aload_n 0, 1) := dk_42 (dk_at dksJ4_fixAfterDeletion_9 0 rfl rfl)
theorem dJ4_fixAfterDeletion_215 : decode cJ4_fixAfterDeletion 215 = .ok (.aload_n 1, 1) := dk_43 (dk_at dksJ4_fixAfterDeletion_9 1 rfl rfl)
theorem dJ4_fixAfterDeletion_216 : decode cJ4_fixAfterDeletion 216 = .ok (.invokestatic 294, 3) := dk_184 1 38 (dk_at dksJ4_fixAfterDeletion_9 2 rfl rfl)
theorem dJ4_fixAfterDeletion_219 : decode cJ4_fixAfterDeletion 219 = .ok (.invokevirtual 314, 3) := dk_182 1 58 (dk_at dksJ4_fixAfterDeletion_9 5 rfl rfl)
theorem dJ4_fixAfterDeletion_222 : decode cJ4_fixAfterDeletion 222 = .ok (.aload_n 1, 1) := dk_43 (dk_at dksJ4_fixAfterDeletion_9 8 rfl rfl)
theorem dJ4_fixAfterDeletion_223 : decode cJ4_fixAfterDeletion 223 = .ok (.invokestatic 294, 3) := dk_184 1 38 (dk_at dksJ4_fixAfterDeletion_9 9 rfl rfl)
theorem dJ4_fixAfterDeletion_226 : decode cJ4_fixAfterDeletion 226 = .ok (.invokestatic 297, 3) := dk_184 1 41 (dk_at dksJ4_fixAfterDeletion_9 12 rfl rfl)
theorem dJ4_fixAfterDeletion_229 : decode cJ4_fixAfterDeletion 229 = .ok (.astore_n 2, 1) := dk_77 (dk_at dksJ4_fixAfterDeletion_9 15 rfl rfl)
theorem dJ4_fixAfterDeletion_230 : decode cJ4_fixAfterDeletion 230 = .ok (.aload_n 2, 1) := dk_44 (dk_at dksJ4_fixAfterDeletion_9 16 rfl rfl)
theorem dJ4_fixAfterDeletion_231 : decode cJ4_fixAfterDeletion 231 = .ok (.invokestatic 300, 3) := dk_184 1 44 (dk_at dksJ4_fixAfterDeletion_9 17 rfl rfl)
theorem dJ4_fixAfterDeletion_234 : decode cJ4_fixAfterDeletion 234 = .ok (.invokestatic 303, 3) := dk_184 1 47 (dk_at dksJ4_fixAfterDeletion_9 20 rfl rfl)
theorem dJ4_fixAfterDeletion_237 : decode cJ4_fixAfterDeletion 237 = .ok (.iconst 1, 1) := dk_4 (dk_at dksJ4_fixAfterDeletion_9 23 rfl rfl)
theorem dJ4_fixAfterDeletion_238 : decode cJ4_fixAfterDeletion 238 = .ok (.if_icmp .ne 27, 3) := dk_160 0 27 (dk_at dksJ4_fixAfterDeletion_10 0 rfl rfl)
theorem dJ4_fixAfterDeletion_241 : decode cJ4_fixAfterDeletion 241 = .ok (.aload_n 2, 1) := dk_44 (dk_at dksJ4_fixAfterDeletion_10 3 rfl rfl)
theorem dJ4_fixAfterDeletion_242 : decode cJ4_fixAfterDeletion 242 = .ok (.invokestatic 297, 3) := dk_184 1 41 (dk_at dksJ4_fixAfterDeletion_10 4 rfl rfl)
theorem dJ4_fixAfterDeletion_245 : decode cJ4_fixAfterDeletion 245 = .ok (.invokestatic 303, 3) := dk_184 1 47 (dk_at dksJ4_fixAfterDeletion_10 7 rfl rfl)
theorem dJ4_fixAfterDeletion_248 : decode cJ4_fixAfterDeletion 248 = .ok (.iconst 1, 1) := dk_4 (dk_at dksJ4_fixAfterDeletion_10 10 rfl rfl)
theorem dJ4_fixAfterDeletion_249 : decode cJ4_fixAfterDeletion 249 = .ok (.if_icmp .ne 16, 3) := dk_160 0 16 (dk_at dksJ4_fixAfterDeletion_10 11 rfl rfl)
theorem dJ4_fixAfterDeletion_252 : decode cJ4_fixAfterDeletion 252 = .ok (.aload_n 2, 1) := dk_44 (dk_at dksJ4_fixAfterDeletion_10 14 rfl rfl)
theorem dJ4_fixAfterDeletion_253 : decode cJ4_fixAfterDeletion 253 = .ok (.iconst 0, 1) := dk_3 (dk_at dksJ4_fixAfterDeletion_10 15 rfl rfl)
theorem dJ4_fixAfterDeletion_254 : decode cJ4_fixAfterDeletion 254 = .ok (.invokestatic 307, 3) := dk_184 1 51 (dk_at dksJ4_fixAfterDeletion_10 16 rfl rfl)
theorem dJ4_fixAfterDeletion_257 : decode cJ4_fixAfterDeletion 257 = .ok (.aload_n 1, 1) := dk_43 (dk_at dksJ4_fixAfterDeletion_10 19 rfl rfl)
theorem dJ4_fixAfterDeletion_258 : decode cJ4_fixAfterDeletion 258 = .ok (.invokestatic 294, 3) := dk_184 1 38 (dk_at dksJ4_fixAfterDeletion_10 20 rfl rfl)
theorem dJ4_fixAfterDeletion_261 : decode cJ4_fixAfterDeletion 261 = .ok (.astore_n 1, 1) := dk_76 (dk_at dksJ4_fixAfterDeletion_10 23 rfl rfl)
theorem dJ4_fixAfterDeletion_262 : decode cJ4_fixAfterDeletion 262 = .ok (.goto 80, 3) := dk_167 0 80 (dk_at dksJ4_fixAfterDeletion_11 0 rfl rfl)
theorem dJ4_fixAfterDeletion_265 : decode cJ4_fixAfterDeletion 265 = .ok (.aload_n 2, 1) := dk_44 (dk_at dksJ4_fixAfterDeletion_11 3 rfl rfl)
theorem dJ4_fixAfterDeletion_266 : decode cJ4_fixAfterDeletion 266 = .ok (.invokestatic 297, 3) := dk_184 1 41 (dk_at dksJ4_fixAfterDeletion_11 4 rfl rfl)
theorem dJ4_fixAfterDeletion_269 : decode cJ4_fixAfterDeletion 269 = .ok (.invokestatic 303, 3) := dk_184 1 47 (dk_at dksJ4_fixAfterDeletion_11 7 rfl rfl)
theorem dJ4_fixAfterDeletion_272 : decode cJ4_fixAfterDeletion 272 = .ok (.iconst 1, 1) := dk_4 (dk_at dksJ4_fixAfterDeletion_11 10 rfl rfl)
theorem dJ4_fixAfterDeletion_273 : decode cJ4_fixAfterDeletion 273 = .ok (.if_icmp .ne 29, 3) := dk_160 0 29 (dk_at dksJ4_fixAfterDeletion_11 11 rfl rfl)
theorem dJ4_fixAfterDeletion_276 : decode cJ4_fixAfterDeletion 276 = .ok (.aload_n 2, 1) := dk_44 (dk_at dksJ4_fixAfterDeletion_11 14 rfl rfl)
theorem dJ4_fixAfterDeletion_277 : decode cJ4_fixAfterDeletion 277 = .ok (.invokestatic 300, 3) := dk_184 1 44 (dk_at dksJ4_fixAfterDeletion_11 15 rfl rfl)
theorem dJ4_fixAfterDeletion_280 : decode cJ4_fixAfterDeletion 280 = .ok (.iconst 1, 1) := dk_4 (dk_at dksJ4_fixAfterDeletion_11 18 rfl rfl)
theorem dJ4_fixAfterDeletion_281 : decode cJ4_fixAfterDeletion 281 = .ok (.invokestatic 307, 3) := dk_184 1 51 (dk_at dksJ4_fixAfterDeletion_11 19 rfl rfl)
theorem dJ4_fixAfterDeletion_284 : decode cJ4_fixAfterDeletion 284 = .ok (.aload_n 2, 1) := dk_44 (dk_at dksJ4_fixAfterDeletion_11 22 rfl rfl)
theorem dJ4_fixAfterDeletion_285 : decode cJ4_fixAfterDeletion 285 = .ok (.iconst 0, 1) := dk_3 (dk_at dksJ4_fixAfterDeletion_11 23 rfl rfl)
theorem dJ4_fixAfterDeletion_286 : decode cJ4_fixAfterDeletion 286 = .ok (.invokestatic 307, 3) := dk_184 1 51 (dk_at dksJ4_fixAfterDeletion_12 0 rfl rfl)
theorem dJ4_fixAfterDeletion_289 : decode cJ4_fixAfterDeletion 289 = .ok (.aload_n 0, 1) := dk_42 (dk_at dksJ4_fixAfterDeletion_12 3 rfl rfl)
theorem dJ4_fixAfterDeletion_290 : decode cJ4_fixAfterDeletion 290 = .ok (.aload_n 2, 1) := dk_44 (dk_at dksJ4_fixAfterDeletion_12 4 rfl rfl)
theorem dJ4_fixAfterDeletion_291 : decode cJ4_fixAfterDeletion 291 = .ok (.invokevirtual 311, 3) := dk_182 1 55 (dk_at dksJ4_fixAfterDeletion_12 5 rfl rfl)
theorem dJ4_fixAfterDeletion_294 : decode cJ4_fixAfterDeletion 294 = .ok (.aload_n 1, 1) := dk_43 (dk_at dksJ4_fixAfterDeletion_12 8 rfl rfl)
theorem dJ4_fixAfterDeletion_295 : decode cJ4_fixAfterDeletion 295 = .ok (.invokestatic 294, 3) := dk_184 1 38 (dk_at dksJ4_fixAfterDeletion_12 9 rfl rfl)
theorem dJ4_fixAfterDeletion_298 : decode cJ4_fixAfterDeletion 298 = .ok (.invokestatic 297, 3) := dk_184 1 41 (dk_at dksJ4_fixAfterDeletion_12 12 rfl rfl)
theorem dJ4_fixAfterDeletion_301 : decode cJ4_fixAfterDeletion 301 = .ok (.astore_n 2, 1) := dk_77 (dk_at dksJ4_fixAfterDeletion_12 15 rfl rfl)
theorem dJ4_fixAfterDeletion_302 : decode cJ4_fixAfterDeletion 302 = .ok (.aload_n 2, 1) := dk_44 (dk_at dksJ4_fixAfterDeletion_12 16 rfl rfl)
theorem dJ4_fixAfterDeletion_303 : decode cJ4_fixAfterDeletion 303 = .ok (.aload_n 1, 1) := dk_43 (dk_at dksJ4_fixAfterDeletion_12 17 rfl rfl)
theorem dJ4_fixAfterDeletion_304 : decode cJ4_fixAfterDeletion 304 = .ok (.invokestatic 294, 3) := dk_184 1 38 (dk_at dksJ4_fixAfterDeletion_12 18 rfl rfl)
theorem dJ4_fixAfterDeletion_307 : decode cJ4_fixAfterDeletion 307 = .ok (.invokestatic 303, 3) := dk_184 1 47 (dk_at dksJ4_fixAfterDeletion_12 21 rfl rfl)
theorem dJ4_fixAfterDeletion_310 : decode cJ4_fixAfterDeletion 310 = .ok (.invokestatic 307, 3) := dk_184 1 51 (dk_at dksJ4_fixAfterDeletion_13 0 rfl rfl)
theorem dJ4_fixAfterDeletion_313 : decode cJ4_fixAfterDeletion 313 = .ok (.aload_n 1, 1) := dk_43 (dk_at dksJ4_fixAfterDeletion_13 3 rfl rfl)
theorem dJ4_fixAfterDeletion_314 : decode cJ4_fixAfterDeletion 314 = .ok (.invokestatic 294, 3) := dk_184 1 38 (dk_at dksJ4_fixAfterDeletion_13 4 rfl rfl)
theorem dJ4_fixAfterDeletion_317 : decode cJ4_fixAfterDeletion 317 = .ok (.iconst 1, 1) := dk_4 (dk_at dksJ4_fixAfterDeletion_13 7 rfl rfl)
theorem dJ4_fixAfterDeletion_318 : decode cJ4_fixAfterDeletion 318 = .ok (.invokestatic 307, 3) := dk_184 1 51 (dk_at dksJ4_fixAfterDeletion_13 8 rfl rfl)
theorem dJ4_fixAfterDeletion_321 : decode cJ4_fixAfterDeletion 321 = .ok (.aload_n 2, 1) := dk_44 (dk_at dksJ4_fixAfterDeletion_13 11 rfl rfl)
theorem dJ4_fixAfterDeletion_322 : decode cJ4_fixAfterDeletion 322 = .ok (.invokestatic 297, 3) := dk_184 1 41 (dk_at dksJ4_fixAfterDeletion_13 12 rfl rfl)
theorem dJ4_fixAfterDeletion_325 : decode cJ4_fixAfterDeletion 325 = .ok (.iconst 1, 1) := dk_4 (dk_at dksJ4_fixAfterDeletion_13 15 rfl rfl)
theorem dJ4_fixAfterDeletion_326 : decode cJ4_fixAfterDeletion 326 = .ok (.invokestatic 307, 3) := dk_184 1 51 (dk_at dksJ4_fixAfterDeletion_13 16 rfl rfl)
theorem dJ4_fixAfterDeletion_329 : decode cJ4_fixAfterDeletion 329 = .ok (.aload_n 0, 1) := dk_42 (dk_at dksJ4_fixAfterDeletion_13 19 rfl rfl)
theorem dJ4_fixAfterDeletion_330 : decode cJ4_fixAfterDeletion 330 = .ok (.aload_n 1, 1) := dk_43 (dk_at dksJ4_fixAfterDeletion_13 20 rfl rfl)
theorem dJ4_fixAfterDeletion_331 : decode cJ4_fixAfterDeletion 331 = .ok (.invokestatic 294, 3) := dk_184 1 38 (dk_at dksJ4_fixAfterDeletion_13 21 rfl rfl)
theorem dJ4_fixAfterDeletion_334 : decode cJ4_fixAfterDeletion 334 = .ok (.invokevirtual 314, 3) := dk_182 1 58 (dk_at dksJ4_fixAfterDeletion_14 0 rfl rfl)
theorem dJ4_fixAfterDeletion_337 : decode cJ4_fixAfterDeletion 337 = .ok (.aload_n 0, 1) := dk_42 (dk_at dksJ4_fixAfterDeletion_14 3 rfl rfl)
theorem dJ4_fixAfterDeletion_338 : decode cJ4_fixAfterDeletion 338 = .ok (.getfield 101, 3) := dk_180 0 101 (dk_at dksJ4_fixAfterDeletion_14 4 rfl rfl)
theorem dJ4_fixAfterDeletion_341 : decode cJ4_fixAfterDeletion 341 = .ok (.astore_n 1, 1) := dk_76 (dk_at dksJ4_fixAfterDeletion_14 7 rfl rfl)
theorem dJ4_fixAfterDeletion_342 : decode cJ4_fixAfterDeletion 342 = .ok (.goto (-342), 3) := dk_167 254 170 (dk_at dksJ4_fixAfterDeletion_14 8 rfl rfl)
theorem dJ4_fixAfterDeletion_345 : decode cJ4_fixAfterDeletion 345 = .ok (.aload_n 1, 1) := dk_43 (dk_at dksJ4_fixAfterDeletion_14 11 rfl rfl)
theorem dJ4_fixAfterDeletion_346 : decode cJ4_fixAfterDeletion 346 = .ok (.iconst 1, 1) := dk_4 (dk_at dksJ4_fixAfterDeletion_14 12 rfl rfl)
theorem dJ4_fixAfterDeletion_347 : decode cJ4_fixAfterDeletion 347 = .ok (.invokestatic 307, 3) := dk_184 1 51 (dk_at dksJ4_fixAfterDeletion_14 13 rfl rfl)
theorem dJ4_fixAfterDeletion_350 : decode cJ4_fixAfterDeletion 350 = .ok (.return_, 1) := dk_177 (dk_at dksJ4_fixAfterDeletion_14 16 rfl rfl)
abbrev cJ4_navigableKeySet : ByteArray := prog_65_method_50_code
def yJ4_navigableKeySet : MethodName := ⟨RJ4, "navigableKeySet", "()Ljava/util/NavigableSet;"⟩
def dkwJ4_navigableKeySet_1 : List UInt8 := [181, 0, 191, 176]
abbrev dktJ4_navigableKeySet_1 : List UInt8 := dkwJ4_navigableKeySet_1 ++ []
def dkwJ4_navigableKeySet_0 : List UInt8 := [42, 180, 0, 191, 76, 43, 198, 0, 7, 43, 167, 0, 16, 42, 187, 0, 222, 89, 42, 183, 0, 224, 90]
abbrev dktJ4_navigableKeySet_0 : List UInt8 := dkwJ4_navigableKeySet_0 ++ dktJ4_navigableKeySet_1
theorem dksJ4_navigableKeySet_0 : cJ4_navigableKeySet.data.toList.drop 0 = dktJ4_navigableKeySet_0 := by decide +kernel
theorem dksJ4_navigableKeySet_1 : cJ4_navigableKeySet.data.toList.drop 23 = dktJ4_navigableKeySet_1 := dk_seg dksJ4_navigableKeySet_0 23 rfl rfl
theorem dJ4_navigableKeySet_0 : decode cJ4_navigableKeySet 0 = .ok (.aload_n 0, 1) := dk_42 (dk_at dksJ4_navigableKeySet_0 0 rfl rfl)
theorem dJ4_navigableKeySet_1 : decode cJ4_navigableKeySet 1 = .ok (.getfield 191, 3) := dk_180 0 191 (dk_at dksJ4_navigableKeySet_0 1 rfl rfl)
theorem dJ4_navigableKeySet_4 : decode cJ4_navigableKeySet 4 = .ok (.astore_n 1, 1) := dk_76 (dk_at dksJ4_navigableKeySet_0 4 rfl rfl)
theorem dJ4_navigableKeySet_5 : decode cJ4_navigableKeySet 5 = .ok (.aload_n 1, 1) := dk_43 (dk_at dksJ4_navigableKeySet_0 5 rfl rfl)
theorem dJ4_navigableKeySet_6 : decode cJ4_navigableKeySet 6 = .ok (.ifnull 7, 3) := dk_198 0 7 (dk_at dksJ4_navigableKeySet_0 6 rfl rfl)
theorem dJ4_navigableKeySet_9 : decode cJ4_navigableKeySet 9 = .ok (.aload_n 1, 1) := dk_43 (dk_at dksJ4_navigableKeySet_0 9 rfl rfl)
theorem dJ4_navigableKeySet_10 : decode cJ4_navigableKeySet 10 = .ok (.goto 16, 3) := dk_167 0 16 (dk_at dksJ4_navigableKeySet_0 10 rfl rfl)
theorem dJ4_navigableKeySet_13 : decode cJ4_navigableKeySet 13 = .ok (.aload_n 0, 1) := dk_42 (dk_at dksJ4_navigableKeySet_0 13 rfl rfl)
theorem dJ4_navigableKeySet_14 : decode cJ4_navigableKeySet 14 = .ok (.new 222, 3) := dk_187 0 222 (dk_at dksJ4_navigableKeySet_0 14 rfl rfl)
theorem dJ4_navigableKeySet_17 : decode cJ4_navigableKeySet 17 = .ok (.dup, 1) := dk_89 (dk_at dksJ4_navigableKeySet_0 17 rfl rfl)
theorem dJ4_navigableKeySet_18 : decode cJ4_navigableKeySet 18 = .ok (.aload_n 0, 1) := dk_42 (dk_at dksJ4_navigableKeySet_0 18 rfl rfl)
theorem dJ4_navigableKeySet_19 : decode cJ4_navigableKeySet 19 = .ok (.invokespecial 224, 3) := dk_183 0 224 (dk_at dksJ4_navigableKeySet_0 19 rfl rfl)
theorem dJ4_navigableKeySet_22 : decode cJ4_navigableKeySet 22 = .ok (.dup_x1, 1) := dk_90 (dk_at dksJ4_navigableKeySet_0 22 rfl rfl)
theorem dJ4_navigableKeySet_23 : decode cJ4_navigableKeySet 23 = .ok (.putfield 191, 3) := dk_181 0 191 (dk_at dksJ4_navigableKeySet_1 0 rfl rfl)
theorem dJ4_navigableKeySet_26 : decode cJ4_navigableKeySet 26 = .ok (.areturn, 1) := dk_176 (dk_at dksJ4_navigableKeySet_1 3 rfl rfl)
abbrev cJ4_keyIterator : ByteArray := prog_65_method_65_code
def yJ4_keyIterator : MethodName := ⟨RJ4, "keyIterator", "()Ljava/util/Iterator;"⟩
def dkwJ4_keyIterator_0 : List UInt8 := [187, 1, 13, 89, 42, 42, 182, 0, 54, 183, 1, 15, 176]
abbrev dktJ4_keyIterator_0 : List UInt8 := dkwJ4_keyIterator_0 ++ []
theorem dksJ4_keyIterator_0 : cJ4_keyIterator.data.toList.drop 0 = dktJ4_keyIterator_0 := by decide +kernel
theorem dJ4_keyIterator_0 : decode cJ4_keyIterator 0 = .ok (.new 269, 3) := dk_187 1 13 (dk_at dksJ4_keyIterator_0 0 rfl rfl)
theorem dJ4_keyIterator_3 : decode cJ4_keyIterator 3 = .ok (.dup, 1) := dk_89 (dk_at dksJ4_keyIterator_0 3 rfl rfl)
theorem dJ4_keyIterator_4 : decode cJ4_keyIterator 4 = .ok (.aload_n 0, 1) := dk_42 (dk_at dksJ4_keyIterator_0 4 rfl rfl)
theorem dJ4_keyIterator_5 : decode cJ4_keyIterator 5 = .ok (.aload_n 0, 1) := dk_42 (dk_at dksJ4_keyIterator_0 5 rfl rfl)
theorem dJ4_keyIterator_6 : decode cJ4_keyIterator 6 = .ok (.invokevirtual 54, 3) := dk_182 0 54 (dk_at dksJ4_keyIterator_0 6 rfl rfl)
theorem dJ4_keyIterator_9 : decode cJ4_keyIterator 9 = .ok (.invokespecial 271, 3) := dk_183 1 15 (dk_at dksJ4_keyIterator_0 9 rfl rfl)
theorem dJ4_keyIterator_12 : decode cJ4_keyIterator 12 = .ok (.areturn, 1) := dk_176 (dk_at dksJ4_keyIterator_0 12 rfl rfl)
abbrev cJ4_init : ByteArray := prog_65_method_1_code
def yJ4_init : MethodName := ⟨RJ4, "<init>", "()V"⟩
def dkwJ4_init_0 : List UInt8 := [42, 183, 0, 1, 42, 3, 181, 0, 7, 42, 3, 181, 0, 13, 42, 1, 181, 0, 16, 177]
abbrev dktJ4_init_0 : List UInt8 := dkwJ4_init_0 ++ []
theorem dksJ4_init_0 : cJ4_init.data.toList.drop 0 = dktJ4_init_0 := by decide +kernel
theorem dJ4_init_0 : decode cJ4_init 0 = .ok (.aload_n 0, 1) := dk_42 (dk_at dksJ4_init_0 0 rfl rfl)
theorem dJ4_init_1 : decode cJ4_init 1 = .ok (.invokespecial 1, 3) := dk_183 0 1 (dk_at dksJ4_init_0 1 rfl rfl)
theorem dJ4_init_4 : decode cJ4_init 4 = .ok (.aload_n 0, 1) := dk_42 (dk_at dksJ4_init_0 4 rfl rfl)
theorem dJ4_init_5 : decode cJ4_init 5 = .ok (.iconst 0, 1) := dk_3 (dk_at dksJ4_init_0 5 rfl rfl)
theorem dJ4_init_6 : decode cJ4_init 6 = .ok (.putfield 7, 3) := dk_181 0 7 (dk_at dksJ4_init_0 6 rfl rfl)
theorem dJ4_init_9 : decode cJ4_init 9 = .ok (.aload_n 0, 1) := dk_42 (dk_at dksJ4_init_0 9 rfl rfl)
theorem dJ4_init_10 : decode cJ4_init 10 = .ok (.iconst 0, 1) := dk_3 (dk_at dksJ4_init_0 10 rfl rfl)
theorem dJ4_init_11 : decode cJ4_init 11 = .ok (.putfield 13, 3) := dk_181 0 13 (dk_at dksJ4_init_0 11 rfl rfl)
theorem dJ4_init_14 : decode cJ4_init 14 = .ok (.aload_n 0, 1) := dk_42 (dk_at dksJ4_init_0 14 rfl rfl)
theorem dJ4_init_15 : decode cJ4_init 15 = .ok (.aconst_null, 1) := dk_1 (dk_at dksJ4_init_0 15 rfl rfl)
theorem dJ4_init_16 : decode cJ4_init 16 = .ok (.putfield 16, 3) := dk_181 0 16 (dk_at dksJ4_init_0 16 rfl rfl)
theorem dJ4_init_19 : decode cJ4_init 19 = .ok (.return_, 1) := dk_177 (dk_at dksJ4_init_0 19 rfl rfl)
abbrev cJ4_comparator : ByteArray := prog_65_method_9_code
def yJ4_comparator : MethodName := ⟨RJ4, "comparator", "()Ljava/util/Comparator;"⟩
theorem dJ4_comparator_0 : decode cJ4_comparator 0 = .ok (.aload_n 0, 1) := by decide +kernel
theorem dJ4_comparator_1 : decode cJ4_comparator 1 = .ok (.getfield 16, 3) := by decide +kernel
theorem dJ4_comparator_4 : decode cJ4_comparator 4 = .ok (.areturn, 1) := by decide +kernel
abbrev cJ4_addAllForTreeSet : ByteArray := prog_65_method_89_code
def yJ4_addAllForTreeSet : MethodName := ⟨RJ4, "addAllForTreeSet", "(Ljava/util/SortedSet;Ljava/lang/Object;)V"⟩
def dkwJ4_addAllForTreeSet_0 : List UInt8 := [42, 43, 185, 1, 102, 1, 0, 43, 185, 1, 105, 1, 0, 1, 44, 182, 0, 42, 167, 0, 4, 78, 177]
abbrev dktJ4_addAllForTreeSet_0 : List UInt8 := dkwJ4_addAllForTreeSet_0 ++ []
theorem dksJ4_addAllForTreeSet_0 : cJ4_addAllForTreeSet.data.toList.drop 0 = dktJ4_addAllForTreeSet_0 := by decide +kernel
theorem dJ4_addAllForTreeSet_0 : decode cJ4_addAllForTreeSet 0 = .ok (.aload_n 0, 1) := dk_42 (dk_at dksJ4_addAllForTreeSet_0 0 rfl rfl)
theorem dJ4_addAllForTreeSet_1 : decode cJ4_addAllForTreeSet 1 = .ok (.aload_n 1, 1) := dk_43 (dk_at dksJ4_addAllForTreeSet_0 1 rfl rfl)
theorem dJ4_addAllForTreeSet_2 : decode cJ4_addAllForTreeSet 2 = .ok (.invokeinterface 358 1, 5) := by decide +kernel
theorem dJ4_addAllForTreeSet_7 : decode cJ4_addAllForTreeSet 7 = .ok (.aload_n 1, 1) := dk_43 (dk_at dksJ4_addAllForTreeSet_0 7 rfl rfl)
theorem dJ4_addAllForTreeSet_8 : decode cJ4_addAllForTreeSet 8 = .ok (.invokeinterface 361 1, 5) := by decide +kernel
theorem dJ4_addAllForTreeSet_13 : decode cJ4_addAllForTreeSet 13 = .ok (.aconst_null, 1) := dk_1 (dk_at dksJ4_addAllForTreeSet_0 13 rfl rfl)
theorem dJ4_addAllForTreeSet_14 : decode cJ4_addAllForTreeSet 14 = .ok (.aload_n 2, 1) := dk_44 (dk_at dksJ4_addAllForTreeSet_0 14 rfl rfl)
theorem dJ4_addAllForTreeSet_15 : decode cJ4_addAllForTreeSet 15 = .ok (.invokevirtual 42, 3) := dk_182 0 42 (dk_at dksJ4_addAllForTreeSet_0 15 rfl rfl)
theorem dJ4_addAllForTreeSet_18 : decode cJ4_addAllForTreeSet 18 = .ok (.goto 4, 3) := dk_167 0 4 (dk_at dksJ4_addAllForTreeSet_0 18 rfl rfl)
theorem dJ4_addAllForTreeSet_21 : decode cJ4_addAllForTreeSet 21 = .ok (.astore_n 3, 1) := dk_78 (dk_at dksJ4_addAllForTreeSet_0 21 rfl rfl)
theorem dJ4_addAllForTreeSet_22 : decode cJ4_addAllForTreeSet 22 = .ok (.return_, 1) := dk_177 (dk_at dksJ4_addAllForTreeSet_0 22 rfl rfl)
abbrev cJ4_buildFromSorted : ByteArray := prog_65_method_90_code
def yJ4_buildFromSorted : MethodName := ⟨RJ4, "buildFromSorted", "(ILjava/util/Iterator;Ljava/io/ObjectInputStream;Ljava/lang/Object;)V"⟩
def dkwJ4_buildFromSorted_1 : List UInt8 := [181, 0, 101, 177]
abbrev dktJ4_buildFromSorted_1 : List UInt8 := dkwJ4_buildFromSorted_1 ++ []
def dkwJ4_buildFromSorted_0 : List UInt8 := [42, 27, 181, 0, 7, 42, 42, 3, 3, 27, 4, 100, 27, 184, 1, 106, 44, 45, 25, 4, 182, 1, 110]
abbrev dktJ4_buildFromSorted_0 : List UInt8 := dkwJ4_buildFromSorted_0 ++ dktJ4_buildFromSorted_1
theorem dksJ4_buildFromSorted_0 : cJ4_buildFromSorted.data.toList.drop 0 = dktJ4_buildFromSorted_0 := by decide +kernel
theorem dksJ4_buildFromSorted_1 : cJ4_buildFromSorted.data.toList.drop 23 = dktJ4_buildFromSorted_1 := dk_seg dksJ4_buildFromSorted_0 23 rfl rfl
theorem dJ4_buildFromSorted_0 : decode cJ4_buildFromSorted 0 = .ok (.aload_n 0, 1) := dk_42 (dk_at dksJ4_buildFromSorted_0 0 rfl rfl)
theorem dJ4_buildFromSorted_1 : decode cJ4_buildFromSorted 1 = .ok (.iload_n 1, 1) := dk_27 (dk_at dksJ4_buildFromSorted_0 1 rfl rfl)
theorem dJ4_buildFromSorted_2 : decode cJ4_buildFromSorted 2 = .ok (.putfield 7, 3) := dk_181 0 7 (dk_at dksJ4_buildFromSorted_0 2 rfl rfl)
theorem dJ4_buildFromSorted_5 : decode cJ4_buildFromSorted 5 = .ok (.aload_n 0, 1) := dk_42 (dk_at dksJ4_buildFromSorted_0 5 rfl rfl)
theorem dJ4_buildFromSorted_6 : decode cJ4_buildFromSorted 6 = .ok (.aload_n 0, 1) := dk_42 (dk_at dksJ4_buildFromSorted_0 6 rfl rfl)
theorem dJ4_buildFromSorted_7 : decode cJ4_buildFromSorted 7 = .ok (.iconst 0, 1) := dk_3 (dk_at dksJ4_buildFromSorted_0 7 rfl rfl)
theorem dJ4_buildFromSorted_8 : decode cJ4_buildFromSorted 8 = .ok (.iconst 0, 1) := dk_3 (dk_at dksJ4_buildFromSorted_0 8 rfl rfl)
theorem dJ4_buildFromSorted_9 : decode cJ4_buildFromSorted 9 = .ok (.iload_n 1, 1) := dk_27 (dk_at dksJ4_buildFromSorted_0 9 rfl rfl)
theorem dJ4_buildFromSorted_10 : decode cJ4_buildFromSorted 10 = .ok (.iconst 1, 1) := dk_4 (dk_at dksJ4_buildFromSorted_0 10 rfl rfl)
theorem dJ4_buildFromSorted_11 : decode cJ4_buildFromSorted 11 = .ok (.isub, 1) := dk_100 (dk_at dksJ4_buildFromSorted_0 11 rfl rfl)
theorem dJ4_buildFromSorted_12 : decode cJ4_buildFromSorted 12 = .ok (.iload_n 1, 1) := dk_27 (dk_at dksJ4_buildFromSorted_0 12 rfl rfl)
theorem dJ4_buildFromSorted_13 : decode cJ4_buildFromSorted 13 = .ok (.invokestatic 362, 3) := dk_184 1 106 (dk_at dksJ4_buildFromSorted_0 13 rfl rfl)
theorem dJ4_buildFromSorted_16 : decode cJ4_buildFromSorted 16 = .ok (.aload_n 2, 1) := dk_44 (dk_at dksJ4_buildFromSorted_0 16 rfl rfl)
theorem dJ4_buildFromSorted_17 : decode cJ4_buildFromSorted 17 = .ok (.aload_n 3, 1) := dk_45 (dk_at dksJ4_buildFromSorted_0 17 rfl rfl)
theorem dJ4_buildFromSorted_18 : decode cJ4_buildFromSorted 18 = .ok (.aload 4, 2) := dk_25 4 (dk_at dksJ4_buildFromSorted_0 18 rfl rfl)
theorem dJ4_buildFromSorted_20 : decode cJ4_buildFromSorted 20 = .ok (.invokevirtual 366, 3) := dk_182 1 110 (dk_at dksJ4_buildFromSorted_0 20 rfl rfl)
theorem dJ4_buildFromSorted_23 : decode cJ4_buildFromSorted 23 = .ok (.putfield 101, 3) := dk_181 0 101 (dk_at dksJ4_buildFromSorted_1 0 rfl rfl)
theorem dJ4_buildFromSorted_26 : decode cJ4_buildFromSorted 26 = .ok (.return_, 1) := dk_177 (dk_at dksJ4_buildFromSorted_1 3 rfl rfl)
abbrev cJ4_computeRedLevel : ByteArray := prog_65_method_92_code
def yJ4_computeRedLevel : MethodName := ⟨RJ4, "computeRedLevel", "(I)I"⟩
def dkwJ4_computeRedLevel_0 : List UInt8 := [16, 31, 26, 4, 96, 184, 1, 116, 100, 172]
abbrev dktJ4_computeRedLevel_0 : List UInt8 := dkwJ4_computeRedLevel_0 ++ []
theorem dksJ4_computeRedLevel_0 : cJ4_computeRedLevel.data.toList.drop 0 = dktJ4_computeRedLevel_0 := by decide +kernel
theorem dJ4_computeRedLevel_0 : decode cJ4_computeRedLevel 0 = .ok (.bipush 31, 2) := dk_16 31 (dk_at dksJ4_computeRedLevel_0 0 rfl rfl)
theorem dJ4_computeRedLevel_2 : decode cJ4_computeRedLevel 2 = .ok (.iload_n 0, 1) := dk_26 (dk_at dksJ4_computeRedLevel_0 2 rfl rfl)
theorem dJ4_computeRedLevel_3 : decode cJ4_computeRedLevel 3 = .ok (.iconst 1, 1) := dk_4 (dk_at dksJ4_computeRedLevel_0 3 rfl rfl)
theorem dJ4_computeRedLevel_4 : decode cJ4_computeRedLevel 4 = .ok (.iadd, 1) := dk_96 (dk_at dksJ4_computeRedLevel_0 4 rfl rfl)
theorem dJ4_computeRedLevel_5 : decode cJ4_computeRedLevel 5 = .ok (.invokestatic 372, 3) := dk_184 1 116 (dk_at dksJ4_computeRedLevel_0 5 rfl rfl)
theorem dJ4_computeRedLevel_8 : decode cJ4_computeRedLevel 8 = .ok (.isub, 1) := dk_100 (dk_at dksJ4_computeRedLevel_0 8 rfl rfl)
theorem dJ4_computeRedLevel_9 : decode cJ4_computeRedLevel 9 = .ok (.ireturn, 1) := dk_172 (dk_at dksJ4_computeRedLevel_0 9 rfl rfl)
abbrev cJ4_buildFromSorted_2 : ByteArray := prog_65_method_91_code
def yJ4_buildFromSorted_2 : MethodName := ⟨RJ4, "buildFromSorted", "(IIIILjava/util/Iterator;Ljava/io/ObjectInputStream;Ljava/lang/Object;)Ljava/util/TreeMap$Entry;"⟩
def dkwJ4_buildFromSorted_2_9 : List UInt8 := [25, 13, 25, 12, 181, 0, 124, 25, 12, 176]
abbrev dktJ4_buildFromSorted_2_9 : List UInt8 := dkwJ4_buildFromSorted_2_9 ++ []
def dkwJ4_buildFromSorted_2_8 : List UInt8 := [4, 96, 29, 21, 4, 25, 5, 25, 6, 25, 7, 182, 1, 110, 58, 13, 25, 12, 25, 13, 181, 0, 114]
abbrev dktJ4_buildFromSorted_2_8 : List UInt8 := dkwJ4_buildFromSorted_2_8 ++ dktJ4_buildFromSorted_2_9
def dkwJ4_buildFromSorted_2_7 : List UInt8 := [25, 9, 181, 0, 111, 25, 9, 25, 12, 181, 0, 124, 21, 8, 29, 162, 0, 39, 42, 27, 4, 96, 21, 8]
abbrev dktJ4_buildFromSorted_2_7 : List UInt8 := dkwJ4_buildFromSorted_2_7 ++ dktJ4_buildFromSorted_2_8
def dkwJ4_buildFromSorted_2_6 : List UInt8 := [183, 0, 167, 58, 12, 27, 21, 4, 160, 0, 9, 25, 12, 3, 181, 1, 34, 25, 9, 198, 0, 17, 25, 12]
abbrev dktJ4_buildFromSorted_2_6 : List UInt8 := dkwJ4_buildFromSorted_2_6 ++ dktJ4_buildFromSorted_2_7
def dkwJ4_buildFromSorted_2_5 : List UInt8 := [198, 0, 8, 25, 7, 167, 0, 8, 25, 6, 182, 1, 113, 58, 11, 187, 0, 59, 89, 25, 10, 25, 11, 1]
abbrev dktJ4_buildFromSorted_2_5 : List UInt8 := dkwJ4_buildFromSorted_2_5 ++ dktJ4_buildFromSorted_2_6
def dkwJ4_buildFromSorted_2_4 : List UInt8 := [185, 1, 79, 1, 0, 58, 10, 25, 7, 58, 11, 167, 0, 27, 25, 6, 182, 1, 113, 58, 10, 25, 7]
abbrev dktJ4_buildFromSorted_2_4 : List UInt8 := dkwJ4_buildFromSorted_2_4 ++ dktJ4_buildFromSorted_2_5
def dkwJ4_buildFromSorted_2_3 : List UInt8 := [185, 1, 84, 1, 0, 58, 10, 25, 12, 185, 1, 91, 1, 0, 58, 11, 167, 0, 43, 25, 5]
abbrev dktJ4_buildFromSorted_2_3 : List UInt8 := dkwJ4_buildFromSorted_2_3 ++ dktJ4_buildFromSorted_2_4
def dkwJ4_buildFromSorted_2_2 : List UInt8 := [198, 0, 57, 25, 7, 199, 0, 36, 25, 5, 185, 1, 79, 1, 0, 192, 1, 82, 58, 12, 25, 12]
abbrev dktJ4_buildFromSorted_2_2 : List UInt8 := dkwJ4_buildFromSorted_2_2 ++ dktJ4_buildFromSorted_2_3
def dkwJ4_buildFromSorted_2_1 : List UInt8 := [27, 4, 96, 28, 21, 8, 4, 100, 21, 4, 25, 5, 25, 6, 25, 7, 182, 1, 110, 58, 9, 25, 5]
abbrev dktJ4_buildFromSorted_2_1 : List UInt8 := dkwJ4_buildFromSorted_2_1 ++ dktJ4_buildFromSorted_2_2
def dkwJ4_buildFromSorted_2_0 : List UInt8 := [29, 28, 162, 0, 5, 1, 176, 28, 29, 96, 4, 124, 54, 8, 1, 58, 9, 28, 21, 8, 162, 0, 25, 42]
abbrev dktJ4_buildFromSorted_2_0 : List UInt8 := dkwJ4_buildFromSorted_2_0 ++ dktJ4_buildFromSorted_2_1
theorem dksJ4_buildFromSorted_2_0 : cJ4_buildFromSorted_2.data.toList.drop 0 = dktJ4_buildFromSorted_2_0 := by decide +kernel
theorem dksJ4_buildFromSorted_2_1 : cJ4_buildFromSorted_2.data.toList.drop 24 = dktJ4_buildFromSorted_2_1 := dk_seg dksJ4_buildFromSorted_2_0 24 rfl rfl
theorem dksJ4_buildFromSorted_2_2 : cJ4_buildFromSorted_2.data.toList.drop 47 = dktJ4_buildFromSorted_2_2 := dk_seg dksJ4_buildFromSorted_2_1 23 rfl rfl
theorem dksJ4_buildFromSorted_2_3 : cJ4_buildFromSorted_2.data.toList.drop 69 = dktJ4_buildFromSorted_2_3 := dk_seg dksJ4_buildFromSorted_2_2 22 rfl rfl
theorem dksJ4_buildFromSorted_2_4 : cJ4_buildFromSorted_2.data.toList.drop 90 = dktJ4_buildFromSorted_2_4 := dk_seg dksJ4_buildFromSorted_2_3 21 rfl rfl
theorem dksJ4_buildFromSorted_2_5 : cJ4_buildFromSorted_2.data.toList.drop 113 = dktJ4_buildFromSorted_2_5 := dk_seg dksJ4_buildFromSorted_2_4 23 rfl rfl
theorem dksJ4_buildFromSorted_2_6 : cJ4_buildFromSorted_2.data.toList.drop 137 = dktJ4_buildFromSorted_2_6 := dk_seg dksJ4_buildFromSorted_2_5 24 rfl rfl
theorem dksJ4_buildFromSorted_2_7 : cJ4_buildFromSorted_2.data.toList.drop 161 = dktJ4_buildFromSorted_2_7 := dk_seg dksJ4_buildFromSorted_2_6 24 rfl rfl
theorem dksJ4_buildFromSorted_2_8 : cJ4_buildFromSorted_2.data.toList.drop 185 = dktJ4_buildFromSorted_2_8 := dk_seg dksJ4_buildFromSorted_2_7 24 rfl rfl
theorem dksJ4_buildFromSorted_2_9 : cJ4_buildFromSorted_2.data.toList.drop 208 = dktJ4_buildFromSorted_2_9 := dk_seg dksJ4_buildFromSorted_2_8 23 rfl rfl
theorem dJ4_buildFromSorted_2_0 : decode cJ4_buildFromSorted_2 0 = .ok (.iload_n 3, 1) := dk_29 (dk_at dksJ4_buildFromSorted_2_0 0 rfl rfl)
theorem dJ4_buildFromSorted_2_1 : decode cJ4_buildFromSorted_2 1 = .ok (.iload_n 2, 1) := dk_28 (dk_at dksJ4_buildFromSorted_2_0 1 rfl rfl)
theorem dJ4_buildFromSorted_2_2 : decode cJ4_buildFromSorted_2 2 = .ok (.if_icmp .ge 5, 3) := dk_162 0 5 (dk_at dksJ4_buildFromSorted_2_0 2 rfl rfl)
theorem dJ4_buildFromSorted_2_5 : decode cJ4_buildFromSorted_2 5 = .ok (.aconst_null, 1) := dk_1 (dk_at dksJ4_buildFromSorted_2_0 5 rfl rfl)
theorem dJ4_buildFromSorted_2_6 : decode cJ4_buildFromSorted_2 6 = .ok (.areturn, 1) := dk_176 (dk_at dksJ4_buildFromSorted_2_0 6 rfl rfl)
theorem dJ4_buildFromSorted_2_7 : decode cJ4_buildFromSorted_2 7 = .ok (.iload_n 2, 1) := dk_28 (dk_at dksJ4_buildFromSorted_2_0 7 rfl rfl)
theorem dJ4_buildFromSorted_2_8 : decode cJ4_buildFromSorted_2 8 = .ok (.iload_n 3, 1) := dk_29 (dk_at dksJ4_buildFromSorted_2_0 8 rfl rfl)
theorem dJ4_buildFromSorted_2_9 : decode cJ4_buildFromSorted_2 9 = .ok (.iadd, 1) := dk_96 (dk_at dksJ4_buildFromSorted_2_0 9 rfl rfl)
theorem dJ4_buildFromSorted_2_10 : decode cJ4_buildFromSorted_2 10 = .ok (.iconst 1, 1) := dk_4 (dk_at dksJ4_buildFromSorted_2_0 10 rfl rfl)
theorem dJ4_buildFromSorted_2_11 : decode cJ4_buildFromSorted_2 11 = .ok (.iushr, 1) := dk_124 (dk_at dksJ4_buildFromSorted_2_0 11 rfl rfl)
theorem dJ4_buildFromSorted_2_12 : decode cJ4_buildFromSorted_2 12 = .ok (.istore 8, 2) := dk_54 8 (dk_at dksJ4_buildFromSorted_2_0 12 rfl rfl)
theorem dJ4_buildFromSorted_2_14 : decode cJ4_buildFromSorted_2 14 = .ok (.aconst_null, 1) := dk_1 (dk_at dksJ4_buildFromSorted_2_0 14 rfl rfl)
theorem dJ4_buildFromSorted_2_15 : decode cJ4_buildFromSorted_2 15 = .ok (.astore 9, 2) := dk_58 9 (dk_at dksJ4_buildFromSorted_2_0 15 rfl rfl)
theorem dJ4_buildFromSorted_2_17 : decode cJ4_buildFromSorted_2 17 = .ok (.iload_n 2, 1) := dk_28 (dk_at dksJ4_buildFromSorted_2_0 17 rfl rfl)
theorem dJ4_buildFromSorted_2_18 : decode cJ4_buildFromSorted_2 18 = .ok (.iload 8, 2) := dk_21 8 (dk_at dksJ4_buildFromSorted_2_0 18 rfl rfl)
theorem dJ4_buildFromSorted_2_20 : decode cJ4_buildFromSorted_2 20 = .ok (.if_icmp .ge 25, 3) := dk_162 0 25 (dk_at dksJ4_buildFromSorted_2_0 20 rfl rfl)
theorem dJ4_buildFromSorted_2_23 : decode cJ4_buildFromSorted_2 23 = .ok (.aload_n 0, 1) := dk_42 (dk_at dksJ4_buildFromSorted_2_0 23 rfl rfl)
theorem dJ4_buildFromSorted_2_24 : decode cJ4_buildFromSorted_2 24 = .ok (.iload_n 1, 1) := dk_27 (dk_at dksJ4_buildFromSorted_2_1 0 rfl rfl)
theorem dJ4_buildFromSorted_2_25 : decode cJ4_buildFromSorted_2 25 = .ok (.iconst 1, 1) := dk_4 (dk_at dksJ4_buildFromSorted_2_1 1 rfl rfl)
theorem dJ4_buildFromSorted_2_26 : decode cJ4_buildFromSorted_2 26 = .ok (.iadd, 1) := dk_96 (dk_at dksJ4_buildFromSorted_2_1 2 rfl rfl)
theorem dJ4_buildFromSorted_2_27 : decode cJ4_buildFromSorted_2 27 = .ok (.iload_n 2, 1) := dk_28 (dk_at dksJ4_buildFromSorted_2_1 3 rfl rfl)
theorem dJ4_buildFromSorted_2_28 : decode cJ4_buildFromSorted_2 28 = .ok (.iload 8, 2) := dk_21 8 (dk_at dksJ4_buildFromSorted_2_1 4 rfl rfl)
theorem dJ4_buildFromSorted_2_30 : decode cJ4_buildFromSorted_2 30 = .ok (.iconst 1, 1) := dk_4 (dk_at dksJ4_buildFromSorted_2_1 6 rfl rfl)
theorem dJ4_buildFromSorted_2_31 : decode cJ4_buildFromSorted_2 31 = .ok (.isub, 1) := dk_100 (dk_at dksJ4_buildFromSorted_2_1 7 rfl rfl)
theorem dJ4_buildFromSorted_2_32 : decode cJ4_buildFromSorted_2 32 = .ok (.iload 4, 2) := dk_21 4 (dk_at dksJ4_buildFromSorted_2_1 8 rfl rfl)
theorem dJ4_buildFromSorted_2_34 : decode cJ4_buildFromSorted_2 34 = .ok (.aload 5, 2) := dk_25 5 (dk_at dksJ4_buildFromSorted_2_1 10 rfl rfl)
theorem dJ4_buildFromSorted_2_36 : decode cJ4_buildFromSorted_2 36 = .ok (.aload 6, 2) := dk_25 6 (dk_at dksJ4_buildFromSorted_2_1 12 rfl rfl)
theorem dJ4_buildFromSorted_2_38 : decode cJ4_buildFromSorted_2 38 = .ok (.aload 7, 2) := dk_25 7 (dk_at dksJ4_buildFromSorted_2_1 14 rfl rfl)
theorem dJ4_buildFromSorted_2_40 : decode cJ4_buildFromSorted_2 40 = .ok (.invokevirtual 366, 3) := dk_182 1 110 (dk_at dksJ4_buildFromSorted_2_1 16 rfl rfl)
theorem dJ4_buildFromSorted_2_43 : decode cJ4_buildFromSorted_2 43 = .ok (.astore 9, 2) := dk_58 9 (dk_at dksJ4_buildFromSorted_2_1 19 rfl rfl)
theorem dJ4_buildFromSorted_2_45 : decode cJ4_buildFromSorted_2 45 = .ok (.aload 5, 2) := dk_25 5 (dk_at dksJ4_buildFromSorted_2_1 21 rfl rfl)
theorem dJ4_buildFromSorted_2_47 : decode cJ4_buildFromSorted_2 47 = .ok (.ifnull 57, 3) := dk_198 0 57 (dk_at dksJ4_buildFromSorted_2_2 0 rfl rfl)
theorem dJ4_buildFromSorted_2_50 : decode cJ4_buildFromSorted_2 50 = .ok (.aload 7, 2) := dk_25 7 (dk_at dksJ4_buildFromSorted_2_2 3 rfl rfl)
theorem dJ4_buildFromSorted_2_52 : decode cJ4_buildFromSorted_2 52 = .ok (.ifnonnull 36, 3) := dk_199 0 36 (dk_at dksJ4_buildFromSorted_2_2 5 rfl rfl)
theorem dJ4_buildFromSorted_2_55 : decode cJ4_buildFromSorted_2 55 = .ok (.aload 5, 2) := dk_25 5 (dk_at dksJ4_buildFromSorted_2_2 8 rfl rfl)
theorem dJ4_buildFromSorted_2_57 : decode cJ4_buildFromSorted_2 57 = .ok (.invokeinterface 335 1, 5) := by decide +kernel
theorem dJ4_buildFromSorted_2_62 : decode cJ4_buildFromSorted_2 62 = .ok (.checkcast 338, 3) := dk_192 1 82 (dk_at dksJ4_buildFromSorted_2_2 15 rfl rfl)
theorem dJ4_buildFromSorted_2_65 : decode cJ4_buildFromSorted_2 65 = .ok (.astore 12, 2) := dk_58 12 (dk_at dksJ4_buildFromSorted_2_2 18 rfl rfl)
theorem dJ4_buildFromSorted_2_67 : decode cJ4_buildFromSorted_2 67 = .ok (.aload 12, 2) := dk_25 12 (dk_at dksJ4_buildFromSorted_2_2 20 rfl rfl)
theorem dJ4_buildFromSorted_2_69 : decode cJ4_buildFromSorted_2 69 = .ok (.invokeinterface 340 1, 5) := by decide +kernel
theorem dJ4_buildFromSorted_2_74 : decode cJ4_buildFromSorted_2 74 = .ok (.astore 10, 2) := dk_58 10 (dk_at dksJ4_buildFromSorted_2_3 5 rfl rfl)
theorem dJ4_buildFromSorted_2_76 : decode cJ4_buildFromSorted_2 76 = .ok (.aload 12, 2) := dk_25 12 (dk_at dksJ4_buildFromSorted_2_3 7 rfl rfl)
theorem dJ4_buildFromSorted_2_78 : decode cJ4_buildFromSorted_2 78 = .ok (.invokeinterface 347 1, 5) := by decide +kernel
theorem dJ4_buildFromSorted_2_83 : decode cJ4_buildFromSorted_2 83 = .ok (.astore 11, 2) := dk_58 11 (dk_at dksJ4_buildFromSorted_2_3 14 rfl rfl)
theorem dJ4_buildFromSorted_2_85 : decode cJ4_buildFromSorted_2 85 = .ok (.goto 43, 3) := dk_167 0 43 (dk_at dksJ4_buildFromSorted_2_3 16 rfl rfl)
theorem dJ4_buildFromSorted_2_88 : decode cJ4_buildFromSorted_2 88 = .ok (.aload 5, 2) := dk_25 5 (dk_at dksJ4_buildFromSorted_2_3 19 rfl rfl)
theorem dJ4_buildFromSorted_2_90 : decode cJ4_buildFromSorted_2 90 = .ok (.invokeinterface 335 1, 5) := by decide +kernel
theorem dJ4_buildFromSorted_2_95 : decode cJ4_buildFromSorted_2 95 = .ok (.astore 10, 2) := dk_58 10 (dk_at dksJ4_buildFromSorted_2_4 5 rfl rfl)
theorem dJ4_buildFromSorted_2_97 : decode cJ4_buildFromSorted_2 97 = .ok (.aload 7, 2) := dk_25 7 (dk_at dksJ4_buildFromSorted_2_4 7 rfl rfl)
theorem dJ4_buildFromSorted_2_99 : decode cJ4_buildFromSorted_2 99 = .ok (.astore 11, 2) := dk_58 11 (dk_at dksJ4_buildFromSorted_2_4 9 rfl rfl)
theorem dJ4_buildFromSorted_2_101 : decode cJ4_buildFromSorted_2 101 = .ok (.goto 27, 3) := dk_167 0 27 (dk_at dksJ4_buildFromSorted_2_4 11 rfl rfl)
theorem dJ4_buildFromSorted_2_104 : decode cJ4_buildFromSorted_2 104 = .ok (.aload 6, 2) := dk_25 6 (dk_at dksJ4_buildFromSorted_2_4 14 rfl rfl)
theorem dJ4_buildFromSorted_2_106 : decode cJ4_buildFromSorted_2 106 = .ok (.invokevirtual 369, 3) := dk_182 1 113 (dk_at dksJ4_buildFromSorted_2_4 16 rfl rfl)
theorem dJ4_buildFromSorted_2_109 : decode cJ4_buildFromSorted_2 109 = .ok (.astore 10, 2) := dk_58 10 (dk_at dksJ4_buildFromSorted_2_4 19 rfl rfl)
theorem dJ4_buildFromSorted_2_111 : decode cJ4_buildFromSorted_2 111 = .ok (.aload 7, 2) := dk_25 7 (dk_at dksJ4_buildFromSorted_2_4 21 rfl rfl)
theorem dJ4_buildFromSorted_2_113 : decode cJ4_buildFromSorted_2 113 = .ok (.ifnull 8, 3) := dk_198 0 8 (dk_at dksJ4_buildFromSorted_2_5 0 rfl rfl)
theorem dJ4_buildFromSorted_2_116 : decode cJ4_buildFromSorted_2 116 = .ok (.aload 7, 2) := dk_25 7 (dk_at dksJ4_buildFromSorted_2_5 3 rfl rfl)
theorem dJ4_buildFromSorted_2_118 : decode cJ4_buildFromSorted_2 118 = .ok (.goto 8, 3) := dk_167 0 8 (dk_at dksJ4_buildFromSorted_2_5 5 rfl rfl)
theorem dJ4_buildFromSorted_2_121 : decode cJ4_buildFromSorted_2 121 = .ok (.aload 6, 2) := dk_25 6 (dk_at dksJ4_buildFromSorted_2_5 8 rfl rfl)
theorem dJ4_buildFromSorted_2_123 : decode cJ4_buildFromSorted_2 123 = .ok (.invokevirtual 369, 3) := dk_182 1 113 (dk_at dksJ4_buildFromSorted_2_5 10 rfl rfl)
theorem dJ4_buildFromSorted_2_126 : decode cJ4_buildFromSorted_2 126 = .ok (.astore 11, 2) := dk_58 11 (dk_at dksJ4_buildFromSorted_2_5 13 rfl rfl)
theorem dJ4_buildFromSorted_2_128 : decode cJ4_buildFromSorted_2 128 = .ok (.new 59, 3) := dk_187 0 59 (dk_at dksJ4_buildFromSorted_2_5 15 rfl rfl)
theorem dJ4_buildFromSorted_2_131 : decode cJ4_buildFromSorted_2 131 = .ok (.dup, 1) := dk_89 (dk_at dksJ4_buildFromSorted_2_5 18 rfl rfl)
theorem dJ4_buildFromSorted_2_132 : decode cJ4_buildFromSorted_2 132 = .ok (.aload 10, 2) := dk_25 10 (dk_at dksJ4_buildFromSorted_2_5 19 rfl rfl)
theorem dJ4_buildFromSorted_2_134 : decode cJ4_buildFromSorted_2 134 = .ok (.aload 11, 2) := dk_25 11 (dk_at dksJ4_buildFromSorted_2_5 21 rfl rfl)
theorem dJ4_buildFromSorted_2_136 : decode cJ4_buildFromSorted_2 136 = .ok (.aconst_null, 1) := dk_1 (dk_at dksJ4_buildFromSorted_2_5 23 rfl rfl)
theorem dJ4_buildFromSorted_2_137 : decode cJ4_buildFromSorted_2 137 = .ok (.invokespecial 167, 3) := dk_183 0 167 (dk_at dksJ4_buildFromSorted_2_6 0 rfl rfl)
theorem dJ4_buildFromSorted_2_140 : decode cJ4_buildFromSorted_2 140 = .ok (.astore 12, 2) := dk_58 12 (dk_at dksJ4_buildFromSorted_2_6 3 rfl rfl)
theorem dJ4_buildFromSorted_2_142 : decode cJ4_buildFromSorted_2 142 = .ok (.iload_n 1, 1) := dk_27 (dk_at dksJ4_buildFromSorted_2_6 5 rfl rfl)
theorem dJ4_buildFromSorted_2_143 : decode cJ4_buildFromSorted_2 143 = .ok (.iload 4, 2) := dk_21 4 (dk_at dksJ4_buildFromSorted_2_6 6 rfl rfl)
theorem dJ4_buildFromSorted_2_145 : decode cJ4_buildFromSorted_2 145 = .ok (.if_icmp .ne 9, 3) := dk_160 0 9 (dk_at dksJ4_buildFromSorted_2_6 8 rfl rfl)
theorem dJ4_buildFromSorted_2_148 : decode cJ4_buildFromSorted_2 148 = .ok (.aload 12, 2) := dk_25 12 (dk_at dksJ4_buildFromSorted_2_6 11 rfl rfl)
theorem dJ4_buildFromSorted_2_150 : decode cJ4_buildFromSorted_2 150 = .ok (.iconst 0, 1) := dk_3 (dk_at dksJ4_buildFromSorted_2_6 13 rfl rfl)
theorem dJ4_buildFromSorted_2_151 : decode cJ4_buildFromSorted_2 151 = .ok (.putfield 290, 3) := dk_181 1 34 (dk_at dksJ4_buildFromSorted_2_6 14 rfl rfl)
theorem dJ4_buildFromSorted_2_154 : decode cJ4_buildFromSorted_2 154 = .ok (.aload 9, 2) := dk_25 9 (dk_at dksJ4_buildFromSorted_2_6 17 rfl rfl)
theorem dJ4_buildFromSorted_2_156 : decode cJ4_buildFromSorted_2 156 = .ok (.ifnull 17, 3) := dk_198 0 17 (dk_at dksJ4_buildFromSorted_2_6 19 rfl rfl)
theorem dJ4_buildFromSorted_2_159 : decode cJ4_buildFromSorted_2 159 = .ok (.aload 12, 2) := dk_25 12 (dk_at dksJ4_buildFromSorted_2_6 22 rfl rfl)
theorem dJ4_buildFromSorted_2_161 : decode cJ4_buildFromSorted_2 161 = .ok (.aload 9, 2) := dk_25 9 (dk_at dksJ4_buildFromSorted_2_7 0 rfl rfl)
theorem dJ4_buildFromSorted_2_163 : decode cJ4_buildFromSorted_2 163 = .ok (.putfield 111, 3) := dk_181 0 111 (dk_at dksJ4_buildFromSorted_2_7 2 rfl rfl)
theorem dJ4_buildFromSorted_2_166 : decode cJ4_buildFromSorted_2 166 = .ok (.aload 9, 2) := dk_25 9 (dk_at dksJ4_buildFromSorted_2_7 5 rfl rfl)
theorem dJ4_buildFromSorted_2_168 : decode cJ4_buildFromSorted_2 168 = .ok (.aload 12, 2) := dk_25 12 (dk_at dksJ4_buildFromSorted_2_7 7 rfl rfl)
theorem dJ4_buildFromSorted_2_170 : decode cJ4_buildFromSorted_2 170 = .ok (.putfield 124, 3) := dk_181 0 124 (dk_at dksJ4_buildFromSorted_2_7 9 rfl rfl)
theorem dJ4_buildFromSorted_2_173 : decode cJ4_buildFromSorted_2 173 = .ok (.iload 8, 2) := dk_21 8 (dk_at dksJ4_buildFromSorted_2_7 12 rfl rfl)
theorem dJ4_buildFromSorted_2_175 : decode cJ4_buildFromSorted_2 175 = .ok (.iload_n 3, 1) := dk_29 (dk_at dksJ4_buildFromSorted_2_7 14 rfl rfl)
theorem dJ4_buildFromSorted_2_176 : decode cJ4_buildFromSorted_2 176 = .ok (.if_icmp .ge 39, 3) := dk_162 0 39 (dk_at dksJ4_buildFromSorted_2_7 15 rfl rfl)
theorem dJ4_buildFromSorted_2_179 : decode cJ4_buildFromSorted_2 179 = .ok (.aload_n 0, 1) := dk_42 (dk_at dksJ4_buildFromSorted_2_7 18 rfl rfl)
theorem dJ4_buildFromSorted_2_180 : decode cJ4_buildFromSorted_2 180 = .ok (.iload_n 1, 1) := dk_27 (dk_at dksJ4_buildFromSorted_2_7 19 rfl rfl)
theorem dJ4_buildFromSorted_2_181 : decode cJ4_buildFromSorted_2 181 = .ok (.iconst 1, 1) := dk_4 (dk_at dksJ4_buildFromSorted_2_7 20 rfl rfl)
theorem dJ4_buildFromSorted_2_182 : decode cJ4_buildFromSorted_2 182 = .ok (.iadd, 1) := dk_96 (dk_at dksJ4_buildFromSorted_2_7 21 rfl rfl)
theorem dJ4_buildFromSorted_2_183 : decode cJ4_buildFromSorted_2 183 = .ok (.iload 8, 2) := dk_21 8 (dk_at dksJ4_buildFromSorted_2_7 22 rfl rfl)
theorem dJ4_buildFromSorted_2_185 : decode cJ4_buildFromSorted_2 185 = .ok (.iconst 1, 1) := dk_4 (dk_at dksJ4_buildFromSorted_2_8 0 rfl rfl)
theorem dJ4_buildFromSorted_2_186 : decode cJ4_buildFromSorted_2 186 = .ok (.iadd, 1) := dk_96 (dk_at dksJ4_buildFromSorted_2_8 1 rfl rfl)
theorem dJ4_buildFromSorted_2_187 : decode cJ4_buildFromSorted_2 187 = .ok (.iload_n 3, 1) := dk_29 (dk_at dksJ4_buildFromSorted_2_8 2 rfl rfl)
theorem dJ4_buildFromSorted_2_188 : decode cJ4_buildFromSorted_2 188 = .ok (.iload 4, 2) := dk_21 4 (dk_at dksJ4_buildFromSorted_2_8 3 rfl rfl)
theorem dJ4_buildFromSorted_2_190 : decode cJ4_buildFromSorted_2 190 = .ok (.aload 5, 2) := dk_25 5 (dk_at dksJ4_buildFromSorted_2_8 5 rfl rfl)
theorem dJ4_buildFromSorted_2_192 : decode cJ4_buildFromSorted_2 192 = .ok (.aload 6, 2) := dk_25 6 (dk_at dksJ4_buildFromSorted_2_8 7 rfl rfl)
theorem dJ4_buildFromSorted_2_194 : decode cJ4_buildFromSorted_2 194 = .ok (.aload 7, 2) := dk_25 7 (dk_at dksJ4_buildFromSorted_2_8 9 rfl rfl)
theorem dJ4_buildFromSorted_2_196 : decode cJ4_buildFromSorted_2 196 = .ok (.invokevirtual 366, 3) := dk_182 1 110 (dk_at dksJ4_buildFromSorted_2_8 11 rfl rfl)
theorem dJ4_buildFromSorted_2_199 : decode cJ4_buildFromSorted_2 199 = .ok (.astore 13, 2) := dk_58 13 (dk_at dksJ4_buildFromSorted_2_8 14 rfl rfl)
theorem dJ4_buildFromSorted_2_201 : decode cJ4_buildFromSorted_2 201 = .ok (.aload 12, 2) := dk_25 12 (dk_at dksJ4_buildFromSorted_2_8 16 rfl rfl)
theorem dJ4_buildFromSorted_2_203 : decode cJ4_buildFromSorted_2 203 = .ok (.aload 13, 2) := dk_25 13 (dk_at dksJ4_buildFromSorted_2_8 18 rfl rfl)
theorem dJ4_buildFromSorted_2_205 : decode cJ4_buildFromSorted_2 205 = .ok (.putfield 114, 3) := dk_181 0 114 (dk_at dksJ4_buildFromSorted_2_8 20 rfl rfl)
theorem dJ4_buildFromSorted_2_208 : decode cJ4_buildFromSorted_2 208 = .ok (.aload 13, 2) := dk_25 13 (dk_at dksJ4_buildFromSorted_2_9 0 rfl rfl)
theorem dJ4_buildFromSorted_2_210 : decode cJ4_buildFromSorted_2 210 = .ok (.aload 12, 2) := dk_25 12 (dk_at dksJ4_buildFromSorted_2_9 2 rfl rfl)
theorem dJ4_buildFromSorted_2_212 : decode cJ4_buildFromSorted_2 212 = .ok (.putfield 124, 3) := dk_181 0 124 (dk_at dksJ4_buildFromSorted_2_9 4 rfl rfl)
theorem dJ4_buildFromSorted_2_215 : decode cJ4_buildFromSorted_2 215 = .ok (.aload 12, 2) := dk_25 12 (dk_at dksJ4_buildFromSorted_2_9 7 rfl rfl)
theorem dJ4_buildFromSorted_2_217 : decode cJ4_buildFromSorted_2 217 = .ok (.areturn, 1) := dk_176 (dk_at dksJ4_buildFromSorted_2_9 9 rfl rfl)
theorem q111 : (Jvm.Cond.initialized "java/util/TreeMap") ∈ lw_all := lw_g (lw_at lw_m1 8 rfl) rfl
theorem q551 : (Jvm.Cond.castable "java/util/TreeMap" "java/util/NavigableMap") ∈ lw_tbl := lw_at lw_m2 208 rfl
theorem q552 : (Jvm.Cond.selects "java/util/TreeMap" ({ cls := "java/util/Map", name := "clear", desc := "()V" } : Jvm.MethodName) ({ cls := "java/util/TreeMap", name := "clear", desc := "()V" } : Jvm.MethodName)) ∈ lw_all := lw_g (lw_at lw_m2 209 rfl) rfl
theorem q553 : (Jvm.Cond.unhidden "java/util/TreeMap" "clear" "()V") ∈ lw_tbl := lw_at lw_m2 210 rfl
theorem q554 : (Jvm.Cond.instanceMethod ({ cls := "java/util/TreeMap", name := "clear", desc := "()V" } : Jvm.MethodName)) ∈ lw_all := lw_g (lw_at lw_m2 211 rfl) rfl
theorem q555 : (Jvm.Cond.publicMethod ({ cls := "java/util/TreeMap", name := "clear", desc := "()V" } : Jvm.MethodName)) ∈ lw_tbl := lw_at lw_m2 212 rfl
theorem q556 : (Jvm.Cond.code ({ cls := "java/util/TreeMap", name := "clear", desc := "()V" } : Jvm.MethodName) prog_65_method_35_code (1 : Nat) (Option.none : Option Jvm.ClassFile.FieldType)) ∈ lw_all := lw_g (lw_at lw_m2 213 rfl) rfl
theorem q591 : (Jvm.Cond.selects "java/util/TreeMap" ({ cls := "java/util/Map", name := "size", desc := "()I" } : Jvm.MethodName) ({ cls := "java/util/TreeMap", name := "size", desc := "()I" } : Jvm.MethodName)) ∈ lw_all := lw_g (lw_at lw_m3 8 rfl) rfl
theorem q592 : (Jvm.Cond.unhidden "java/util/TreeMap" "size" "()I") ∈ lw_tbl := lw_at lw_m3 9 rfl
theorem q593 : (Jvm.Cond.instanceMethod ({ cls := "java/util/TreeMap", name := "size", desc := "()I" } : Jvm.MethodName)) ∈ lw_all := lw_g (lw_at lw_m3 10 rfl) rfl
theorem q594 : (Jvm.Cond.publicMethod ({ cls := "java/util/TreeMap", name := "size", desc := "()I" } : Jvm.MethodName)) ∈ lw_tbl := lw_at lw_m3 11 rfl
theorem q595 : (Jvm.Cond.code ({ cls := "java/util/TreeMap", name := "size", desc := "()I" } : Jvm.MethodName) prog_65_method_5_code (1 : Nat) (Option.some Jvm.ClassFile.FieldType.int)) ∈ lw_all := lw_g (lw_at lw_m3 12 rfl) rfl
theorem q812 : (Jvm.Cond.selects "java/util/TreeMap" ({ cls := "java/lang/Object", name := "getClass", desc := "()Ljava/lang/Class;" } : Jvm.MethodName) ({ cls := "java/lang/Object", name := "getClass", desc := "()Ljava/lang/Class;" } : Jvm.MethodName)) ∈ lw_all := lw_g (lw_at lw_m3 229 rfl) rfl
theorem q1075 : (Jvm.Cond.selects "java/util/TreeMap" ({ cls := "java/util/Map", name := "put", desc := "(Ljava/lang/Object;Ljava/lang/Object;)Ljava/lang/Object;" } : Jvm.MethodName) ({ cls := "java/util/TreeMap", name := "put", desc := "(Ljava/lang/Object;Ljava/lang/Object;)Ljava/lang/Object;" } : Jvm.MethodName)) ∈ lw_all := lw_g (lw_at lw_m5 12 rfl) rfl
theorem q1076 : (Jvm.Cond.unhidden "java/util/TreeMap" "put" "(Ljava/lang/Object;Ljava/lang/Object;)Ljava/lang/Object;") ∈ lw_tbl := lw_at lw_m5 13 rfl
theorem q1077 : (Jvm.Cond.instanceMethod ({ cls := "java/util/TreeMap", name := "put", desc := "(Ljava/lang/Object;Ljava/lang/Object;)Ljava/lang/Object;" } : Jvm.MethodName)) ∈ lw_all := lw_g (lw_at lw_m5 14 rfl) rfl
theorem q1078 : (Jvm.Cond.publicMethod ({ cls := "java/util/TreeMap", name := "put", desc := "(Ljava/lang/Object;Ljava/lang/Object;)Ljava/lang/Object;" } : Jvm.MethodName)) ∈ lw_tbl := lw_at lw_m5 15 rfl
theorem q1079 : (Jvm.Cond.code ({ cls := "java/util/TreeMap", name := "put", desc := "(Ljava/lang/Object;Ljava/lang/Object;)Ljava/lang/Object;" } : Jvm.MethodName) prog_65_method_21_code (3 : Nat) (Option.some (Jvm.ClassFile.FieldType.object "java/lang/Object"))) ∈ lw_all := lw_g (lw_at lw_m5 16 rfl) rfl
theorem q1080 : (Jvm.Cond.methodLink "java/util/TreeMap" (127 : Nat) ({ cls := "java/util/TreeMap", name := "put", desc := "(Ljava/lang/Object;Ljava/lang/Object;Z)Ljava/lang/Object;" } : Jvm.MethodName)) ∈ lw_all := lw_g (lw_at lw_m5 17 rfl) rfl
theorem q1081 : (Jvm.Cond.privateMethod ({ cls := "java/util/TreeMap", name := "put", desc := "(Ljava/lang/Object;Ljava/lang/Object;Z)Ljava/lang/Object;" } : Jvm.MethodName)) ∈ lw_tbl := lw_at lw_m5 18 rfl
theorem q1082 : (Jvm.Cond.instanceMethod ({ cls := "java/util/TreeMap", name := "put", desc := "(Ljava/lang/Object;Ljava/lang/Object;Z)Ljava/lang/Object;" } : Jvm.MethodName)) ∈ lw_all := lw_g (lw_at lw_m5 19 rfl) rfl
theorem q1083 : (Jvm.Cond.instantiable "java/util/TreeMap" (9 : Nat)) ∈ lw_all := lw_g (lw_at lw_m5 20 rfl) rfl
theorem q1084 : (Jvm.Cond.code ({ cls := "java/util/TreeMap", name := "put", desc := "(Ljava/lang/Object;Ljava/lang/Object;Z)Ljava/lang/Object;" } : Jvm.MethodName) prog_65_method_31_code (10 : Nat) (Option.some (Jvm.ClassFile.FieldType.object "java/lang/Object"))) ∈ lw_all := lw_g (lw_at lw_m5 21 rfl) rfl
theorem q1085 : (Jvm.Cond.methodLink "java/util/TreeMap" (135 : Nat) ({ cls := "java/util/TreeMap", name := "addEntryToEmptyMap", desc := "(Ljava/lang/Object;Ljava/lang/Object;)V" } : Jvm.MethodName)) ∈ lw_all := lw_g (lw_at lw_m5 22 rfl) rfl
theorem q1086 : (Jvm.Cond.privateMethod ({ cls := "java/util/TreeMap", name := "addEntryToEmptyMap", desc := "(Ljava/lang/Object;Ljava/lang/Object;)V" } : Jvm.MethodName)) ∈ lw_tbl := lw_at lw_m5 23 rfl
theorem q1087 : (Jvm.Cond.instanceMethod ({ cls := "java/util/TreeMap", name := "addEntryToEmptyMap", desc := "(Ljava/lang/Object;Ljava/lang/Object;)V" } : Jvm.MethodName)) ∈ lw_all := lw_g (lw_at lw_m5 24 rfl) rfl
theorem q1088 : (Jvm.Cond.code ({ cls := "java/util/TreeMap", name := "addEntryToEmptyMap", desc := "(Ljava/lang/Object;Ljava/lang/Object;)V" } : Jvm.MethodName) prog_65_method_30_code (3 : Nat) (Option.none : Option Jvm.ClassFile.FieldType)) ∈ lw_all := lw_g (lw_at lw_m5 25 rfl) rfl
theorem q1089 : (Jvm.Cond.methodLink "java/util/TreeMap" (123 : Nat) ({ cls := "java/util/TreeMap", name := "compare", desc := "(Ljava/lang/Object;Ljava/lang/Object;)I" } : Jvm.MethodName)) ∈ lw_all := lw_g (lw_at lw_m5 26 rfl) rfl
theorem q1090 : (Jvm.Cond.instanceMethod ({ cls := "java/util/TreeMap", name := "compare", desc := "(Ljava/lang/Object;Ljava/lang/Object;)I" } : Jvm.MethodName)) ∈ lw_all := lw_g (lw_at lw_m5 27 rfl) rfl
theorem q1091 : (Jvm.Cond.selects "java/util/TreeMap" ({ cls := "java/util/TreeMap", name := "compare", desc := "(Ljava/lang/Object;Ljava/lang/Object;)I" } : Jvm.MethodName) ({ cls := "java/util/TreeMap", name := "compare", desc := "(Ljava/lang/Object;Ljava/lang/Object;)I" } : Jvm.MethodName)) ∈ lw_all := lw_g (lw_at lw_m5 28 rfl) rfl
theorem q1092 : (Jvm.Cond.code ({ cls := "java/util/TreeMap", name := "compare", desc := "(Ljava/lang/Object;Ljava/lang/Object;)I" } : Jvm.MethodName) prog_65_method_67_code (3 : Nat) (Option.some Jvm.ClassFile.FieldType.int)) ∈ lw_all := lw_g (lw_at lw_m5 29 rfl) rfl
theorem q1093 : (Jvm.Cond.classLink "java/util/TreeMap" (99 : Nat) "java/lang/Comparable") ∈ lw_all := lw_g (lw_at lw_m5 30 rfl) rfl
theorem q1094 : (Jvm.Cond.interfaceEntry "java/util/TreeMap" (107 : Nat)) ∈ lw_tbl := lw_at lw_m5 31 rfl
theorem q1095 : (Jvm.Cond.methodLink "java/util/TreeMap" (107 : Nat) ({ cls := "java/lang/Comparable", name := "compareTo", desc := "(Ljava/lang/Object;)I" } : Jvm.MethodName)) ∈ lw_all := lw_g (lw_at lw_m5 32 rfl) rfl
theorem q1096 : (Jvm.Cond.interfaceEntry "java/util/TreeMap" (117 : Nat)) ∈ lw_tbl := lw_at lw_m5 33 rfl
theorem q1097 : (Jvm.Cond.methodLink "java/util/TreeMap" (117 : Nat) ({ cls := "java/util/Comparator", name := "compare", desc := "(Ljava/lang/Object;Ljava/lang/Object;)I" } : Jvm.MethodName)) ∈ lw_all := lw_g (lw_at lw_m5 34 rfl) rfl
theorem q1098 : (Jvm.Cond.classLink "java/util/TreeMap" (59 : Nat) "java/util/TreeMap$Entry") ∈ lw_all := lw_g (lw_at lw_m5 35 rfl) rfl
theorem q1100 : (Jvm.Cond.methodLink "java/util/TreeMap" (167 : Nat) ({ cls := "java/util/TreeMap$Entry", name := "<init>", desc := "(Ljava/lang/Object;Ljava/lang/Object;Ljava/util/TreeMap$Entry;)V" } : Jvm.MethodName)) ∈ lw_all := lw_g (lw_at lw_m5 37 rfl) rfl
theorem q1106 : (Jvm.Cond.fieldLink "java/util/TreeMap" (105 : Nat) "java/util/TreeMap$Entry" "key" "Ljava/lang/Object;") ∈ lw_all := lw_g (lw_at lw_m5 43 rfl) rfl
theorem q1108 : (Jvm.Cond.fieldLink "java/util/TreeMap" (58 : Nat) "java/util/TreeMap$Entry" "value" "Ljava/lang/Object;") ∈ lw_all := lw_g (lw_at lw_m5 45 rfl) rfl
theorem q1109 : (Jvm.Cond.fieldLink "java/util/TreeMap" (111 : Nat) "java/util/TreeMap$Entry" "left" "Ljava/util/TreeMap$Entry;") ∈ lw_all := lw_g (lw_at lw_m5 46 rfl) rfl
theorem q1110 : (Jvm.Cond.fieldLink "java/util/TreeMap" (114 : Nat) "java/util/TreeMap$Entry" "right" "Ljava/util/TreeMap$Entry;") ∈ lw_all := lw_g (lw_at lw_m5 47 rfl) rfl
theorem q1112 : (Jvm.Cond.fieldLink "java/util/TreeMap" (124 : Nat) "java/util/TreeMap$Entry" "parent" "Ljava/util/TreeMap$Entry;") ∈ lw_all := lw_g (lw_at lw_m5 49 rfl) rfl
theorem q1114 : (Jvm.Cond.fieldLink "java/util/TreeMap" (290 : Nat) "java/util/TreeMap$Entry" "color" "Z") ∈ lw_all := lw_g (lw_at lw_m5 51 rfl) rfl
theorem q1128 : (Jvm.Cond.methodLink "java/util/TreeMap" (95 : Nat) ({ cls := "java/util/Objects", name := "requireNonNull", desc := "(Ljava/lang/Object;)Ljava/lang/Object;" } : Jvm.MethodName)) ∈ lw_all := lw_g (lw_at lw_m5 65 rfl) rfl
theorem q1133 : (Jvm.Cond.methodLink "java/util/TreeMap" (139 : Nat) ({ cls := "java/util/TreeMap", name := "addEntry", desc := "(Ljava/lang/Object;Ljava/lang/Object;Ljava/util/TreeMap$Entry;Z)V" } : Jvm.MethodName)) ∈ lw_all := lw_g (lw_at lw_m5 70 rfl) rfl
theorem q1134 : (Jvm.Cond.privateMethod ({ cls := "java/util/TreeMap", name := "addEntry", desc := "(Ljava/lang/Object;Ljava/lang/Object;Ljava/util/TreeMap$Entry;Z)V" } : Jvm.MethodName)) ∈ lw_tbl := lw_at lw_m5 71 rfl
theorem q1135 : (Jvm.Cond.instanceMethod ({ cls := "java/util/TreeMap", name := "addEntry", desc := "(Ljava/lang/Object;Ljava/lang/Object;Ljava/util/TreeMap$Entry;Z)V" } : Jvm.MethodName)) ∈ lw_all := lw_g (lw_at lw_m5 72 rfl) rfl
theorem q1136 : (Jvm.Cond.code ({ cls := "java/util/TreeMap", name := "addEntry", desc := "(Ljava/lang/Object;Ljava/lang/Object;Ljava/util/TreeMap$Entry;Z)V" } : Jvm.MethodName) prog_65_method_29_code (6 : Nat) (Option.none : Option Jvm.ClassFile.FieldType)) ∈ lw_all := lw_g (lw_at lw_m5 73 rfl) rfl
theorem q1137 : (Jvm.Cond.methodLink "java/util/TreeMap" (170 : Nat) ({ cls := "java/util/TreeMap", name := "fixAfterInsertion", desc := "(Ljava/util/TreeMap$Entry;)V" } : Jvm.MethodName)) ∈ lw_all := lw_g (lw_at lw_m5 74 rfl) rfl
theorem q1138 : (Jvm.Cond.privateMethod ({ cls := "java/util/TreeMap", name := "fixAfterInsertion", desc := "(Ljava/util/TreeMap$Entry;)V" } : Jvm.MethodName)) ∈ lw_tbl := lw_at lw_m5 75 rfl
theorem q1139 : (Jvm.Cond.instanceMethod ({ cls := "java/util/TreeMap", name := "fixAfterInsertion", desc := "(Ljava/util/TreeMap$Entry;)V" } : Jvm.MethodName)) ∈ lw_all := lw_g (lw_at lw_m5 76 rfl) rfl
theorem q1140 : (Jvm.Cond.code ({ cls := "java/util/TreeMap", name := "fixAfterInsertion", desc := "(Ljava/util/TreeMap$Entry;)V" } : Jvm.MethodName) prog_65_method_83_code (3 : Nat) (Option.none : Option Jvm.ClassFile.FieldType)) ∈ lw_all := lw_g (lw_at lw_m5 77 rfl) rfl
theorem q1141 : (Jvm.Cond.methodLink "java/util/TreeMap" (294 : Nat) ({ cls := "java/util/TreeMap", name := "parentOf", desc := "(Ljava/util/TreeMap$Entry;)Ljava/util/TreeMap$Entry;" } : Jvm.MethodName)) ∈ lw_all := lw_g (lw_at lw_m5 78 rfl) rfl
theorem q1142 : (Jvm.Cond.static ({ cls := "java/util/TreeMap", name := "parentOf", desc := "(Ljava/util/TreeMap$Entry;)Ljava/util/TreeMap$Entry;" } : Jvm.MethodName)) ∈ lw_all := lw_g (lw_at lw_m5 79 rfl) rfl
theorem q1143 : (Jvm.Cond.code ({ cls := "java/util/TreeMap", name := "parentOf", desc := "(Ljava/util/TreeMap$Entry;)Ljava/util/TreeMap$Entry;" } : Jvm.MethodName) prog_65_method_77_code (1 : Nat) (Option.some (Jvm.ClassFile.FieldType.object "java/util/TreeMap$Entry"))) ∈ lw_all := lw_g (lw_at lw_m5 80 rfl) rfl
theorem q1144 : (Jvm.Cond.methodLink "java/util/TreeMap" (297 : Nat) ({ cls := "java/util/TreeMap", name := "leftOf", desc := "(Ljava/util/TreeMap$Entry;)Ljava/util/TreeMap$Entry;" } : Jvm.MethodName)) ∈ lw_all := lw_g (lw_at lw_m5 81 rfl) rfl
theorem q1145 : (Jvm.Cond.static ({ cls := "java/util/TreeMap", name := "leftOf", desc := "(Ljava/util/TreeMap$Entry;)Ljava/util/TreeMap$Entry;" } : Jvm.MethodName)) ∈ lw_all := lw_g (lw_at lw_m5 82 rfl) rfl
theorem q1146 : (Jvm.Cond.code ({ cls := "java/util/TreeMap", name := "leftOf", desc := "(Ljava/util/TreeMap$Entry;)Ljava/util/TreeMap$Entry;" } : Jvm.MethodName) prog_65_method_79_code (1 : Nat) (Option.some (Jvm.ClassFile.FieldType.object "java/util/TreeMap$Entry"))) ∈ lw_all := lw_g (lw_at lw_m5 83 rfl) rfl
theorem q1147 : (Jvm.Cond.methodLink "java/util/TreeMap" (300 : Nat) ({ cls := "java/util/TreeMap", name := "rightOf", desc := "(Ljava/util/TreeMap$Entry;)Ljava/util/TreeMap$Entry;" } : Jvm.MethodName)) ∈ lw_all := lw_g (lw_at lw_m5 84 rfl) rfl
theorem q1148 : (Jvm.Cond.static ({ cls := "java/util/TreeMap", name := "rightOf", desc := "(Ljava/util/TreeMap$Entry;)Ljava/util/TreeMap$Entry;" } : Jvm.MethodName)) ∈ lw_all := lw_g (lw_at lw_m5 85 rfl) rfl
theorem q1149 : (Jvm.Cond.code ({ cls := "java/util/TreeMap", name := "rightOf", desc := "(Ljava/util/TreeMap$Entry;)Ljava/util/TreeMap$Entry;" } : Jvm.MethodName) prog_65_method_80_code (1 : Nat) (Option.some (Jvm.ClassFile.FieldType.object "java/util/TreeMap$Entry"))) ∈ lw_all := lw_g (lw_at lw_m5 86 rfl) rfl
theorem q1150 : (Jvm.Cond.methodLink "java/util/TreeMap" (303 : Nat) ({ cls := "java/util/TreeMap", name := "colorOf", desc := "(Ljava/util/TreeMap$Entry;)Z" } : Jvm.MethodName)) ∈ lw_all := lw_g (lw_at lw_m5 87 rfl) rfl
theorem q1151 : (Jvm.Cond.static ({ cls := "java/util/TreeMap", name := "colorOf", desc := "(Ljava/util/TreeMap$Entry;)Z" } : Jvm.MethodName)) ∈ lw_all := lw_g (lw_at lw_m5 88 rfl) rfl
theorem q1152 : (Jvm.Cond.code ({ cls := "java/util/TreeMap", name := "colorOf", desc := "(Ljava/util/TreeMap$Entry;)Z" } : Jvm.MethodName) prog_65_method_76_code (1 : Nat) (Option.some Jvm.ClassFile.FieldType.boolean)) ∈ lw_all := lw_g (lw_at lw_m5 89 rfl) rfl
theorem q1153 : (Jvm.Cond.methodLink "java/util/TreeMap" (307 : Nat) ({ cls := "java/util/TreeMap", name := "setColor", desc := "(Ljava/util/TreeMap$Entry;Z)V" } : Jvm.MethodName)) ∈ lw_all := lw_g (lw_at lw_m5 90 rfl) rfl
theorem q1154 : (Jvm.Cond.static ({ cls := "java/util/TreeMap", name := "setColor", desc := "(Ljava/util/TreeMap$Entry;Z)V" } : Jvm.MethodName)) ∈ lw_all := lw_g (lw_at lw_m5 91 rfl) rfl
theorem q1155 : (Jvm.Cond.code ({ cls := "java/util/TreeMap", name := "setColor", desc := "(Ljava/util/TreeMap$Entry;Z)V" } : Jvm.MethodName) prog_65_method_78_code (2 : Nat) (Option.none : Option Jvm.ClassFile.FieldType)) ∈ lw_all := lw_g (lw_at lw_m5 92 rfl) rfl
theorem q1156 : (Jvm.Cond.methodLink "java/util/TreeMap" (311 : Nat) ({ cls := "java/util/TreeMap", name := "rotateLeft", desc := "(Ljava/util/TreeMap$Entry;)V" } : Jvm.MethodName)) ∈ lw_all := lw_g (lw_at lw_m5 93 rfl) rfl
theorem q1157 : (Jvm.Cond.privateMethod ({ cls := "java/util/TreeMap", name := "rotateLeft", desc := "(Ljava/util/TreeMap$Entry;)V" } : Jvm.MethodName)) ∈ lw_tbl := lw_at lw_m5 94 rfl
theorem q1158 : (Jvm.Cond.instanceMethod ({ cls := "java/util/TreeMap", name := "rotateLeft", desc := "(Ljava/util/TreeMap$Entry;)V" } : Jvm.MethodName)) ∈ lw_all := lw_g (lw_at lw_m5 95 rfl) rfl
theorem q1159 : (Jvm.Cond.code ({ cls := "java/util/TreeMap", name := "rotateLeft", desc := "(Ljava/util/TreeMap$Entry;)V" } : Jvm.MethodName) prog_65_method_81_code (3 : Nat) (Option.none : Option Jvm.ClassFile.FieldType)) ∈ lw_all := lw_g (lw_at lw_m5 96 rfl) rfl
theorem q1160 : (Jvm.Cond.methodLink "java/util/TreeMap" (314 : Nat) ({ cls := "java/util/TreeMap", name := "rotateRight", desc := "(Ljava/util/TreeMap$Entry;)V" } : Jvm.MethodName)) ∈ lw_all := lw_g (lw_at lw_m5 97 rfl) rfl
theorem q1161 : (Jvm.Cond.privateMethod ({ cls := "java/util/TreeMap", name := "rotateRight", desc := "(Ljava/util/TreeMap$Entry;)V" } : Jvm.MethodName)) ∈ lw_tbl := lw_at lw_m5 98 rfl
theorem q1162 : (Jvm.Cond.instanceMethod ({ cls := "java/util/TreeMap", name := "rotateRight", desc := "(Ljava/util/TreeMap$Entry;)V" } : Jvm.MethodName)) ∈ lw_all := lw_g (lw_at lw_m5 99 rfl) rfl
theorem q1163 : (Jvm.Cond.code ({ cls := "java/util/TreeMap", name := "rotateRight", desc := "(Ljava/util/TreeMap$Entry;)V" } : Jvm.MethodName) prog_65_method_82_code (3 : Nat) (Option.none : Option Jvm.ClassFile.FieldType)) ∈ lw_all := lw_g (lw_at lw_m5 100 rfl) rfl
theorem q1172 : (Jvm.Cond.selects "java/util/TreeMap" ({ cls := "java/util/NavigableMap", name := "pollFirstEntry", desc := "()Ljava/util/Map$Entry;" } : Jvm.MethodName) ({ cls := "java/util/TreeMap", name := "pollFirstEntry", desc := "()Ljava/util/Map$Entry;" } : Jvm.MethodName)) ∈ lw_all := lw_g (lw_at lw_m5 109 rfl) rfl
theorem q1173 : (Jvm.Cond.unhidden "java/util/TreeMap" "pollFirstEntry" "()Ljava/util/Map$Entry;") ∈ lw_tbl := lw_at lw_m5 110 rfl
theorem q1174 : (Jvm.Cond.instanceMethod ({ cls := "java/util/TreeMap", name := "pollFirstEntry", desc := "()Ljava/util/Map$Entry;" } : Jvm.MethodName)) ∈ lw_all := lw_g (lw_at lw_m5 111 rfl) rfl
theorem q1175 : (Jvm.Cond.publicMethod ({ cls := "java/util/TreeMap", name := "pollFirstEntry", desc := "()Ljava/util/Map$Entry;" } : Jvm.MethodName)) ∈ lw_tbl := lw_at lw_m5 112 rfl
theorem q1176 : (Jvm.Cond.code ({ cls := "java/util/TreeMap", name := "pollFirstEntry", desc := "()Ljava/util/Map$Entry;" } : Jvm.MethodName) prog_65_method_39_code (3 : Nat) (Option.some (Jvm.ClassFile.FieldType.object "java/util/Map$Entry"))) ∈ lw_all := lw_g (lw_at lw_m5 113 rfl) rfl
theorem q1177 : (Jvm.Cond.methodLink "java/util/TreeMap" (54 : Nat) ({ cls := "java/util/TreeMap", name := "getFirstEntry", desc := "()Ljava/util/TreeMap$Entry;" } : Jvm.MethodName)) ∈ lw_all := lw_g (lw_at lw_m5 114 rfl) rfl
theorem q1178 : (Jvm.Cond.instanceMethod ({ cls := "java/util/TreeMap", name := "getFirstEntry", desc := "()Ljava/util/TreeMap$Entry;" } : Jvm.MethodName)) ∈ lw_all := lw_g (lw_at lw_m5 115 rfl) rfl
theorem q1179 : (Jvm.Cond.selects "java/util/TreeMap" ({ cls := "java/util/TreeMap", name := "getFirstEntry", desc := "()Ljava/util/TreeMap$Entry;" } : Jvm.MethodName) ({ cls := "java/util/TreeMap", name := "getFirstEntry", desc := "()Ljava/util/TreeMap$Entry;" } : Jvm.MethodName)) ∈ lw_all := lw_g (lw_at lw_m5 116 rfl) rfl
theorem q1180 : (Jvm.Cond.code ({ cls := "java/util/TreeMap", name := "getFirstEntry", desc := "()Ljava/util/TreeMap$Entry;" } : Jvm.MethodName) prog_65_method_72_code (2 : Nat) (Option.some (Jvm.ClassFile.FieldType.object "java/util/TreeMap$Entry"))) ∈ lw_all := lw_g (lw_at lw_m5 117 rfl) rfl
theorem q1181 : (Jvm.Cond.methodLink "java/util/TreeMap" (200 : Nat) ({ cls := "java/util/TreeMap", name := "exportEntry", desc := "(Ljava/util/TreeMap$Entry;)Ljava/util/Map$Entry;" } : Jvm.MethodName)) ∈ lw_all := lw_g (lw_at lw_m5 118 rfl) rfl
theorem q1182 : (Jvm.Cond.static ({ cls := "java/util/TreeMap", name := "exportEntry", desc := "(Ljava/util/TreeMap$Entry;)Ljava/util/Map$Entry;" } : Jvm.MethodName)) ∈ lw_all := lw_g (lw_at lw_m5 119 rfl) rfl
theorem q1183 : (Jvm.Cond.code ({ cls := "java/util/TreeMap", name := "exportEntry", desc := "(Ljava/util/TreeMap$Entry;)Ljava/util/Map$Entry;" } : Jvm.MethodName) prog_65_method_69_code (1 : Nat) (Option.some (Jvm.ClassFile.FieldType.object "java/util/Map$Entry"))) ∈ lw_all := lw_g (lw_at lw_m5 120 rfl) rfl
theorem q1184 : (Jvm.Cond.classLink "java/util/TreeMap" (282 : Nat) "java/util/AbstractMap$SimpleImmutableEntry") ∈ lw_all := lw_g (lw_at lw_m5 121 rfl) rfl
theorem q1186 : (Jvm.Cond.methodLink "java/util/TreeMap" (284 : Nat) ({ cls := "java/util/AbstractMap$SimpleImmutableEntry", name := "<init>", desc := "(Ljava/util/Map$Entry;)V" } : Jvm.MethodName)) ∈ lw_all := lw_g (lw_at lw_m5 123 rfl) rfl
theorem q1227 : (Jvm.Cond.methodLink "java/util/TreeMap" (174 : Nat) ({ cls := "java/util/TreeMap", name := "deleteEntry", desc := "(Ljava/util/TreeMap$Entry;)V" } : Jvm.MethodName)) ∈ lw_all := lw_g (lw_at lw_m5 164 rfl) rfl
theorem q1228 : (Jvm.Cond.privateMethod ({ cls := "java/util/TreeMap", name := "deleteEntry", desc := "(Ljava/util/TreeMap$Entry;)V" } : Jvm.MethodName)) ∈ lw_tbl := lw_at lw_m5 165 rfl
theorem q1229 : (Jvm.Cond.instanceMethod ({ cls := "java/util/TreeMap", name := "deleteEntry", desc := "(Ljava/util/TreeMap$Entry;)V" } : Jvm.MethodName)) ∈ lw_all := lw_g (lw_at lw_m5 166 rfl) rfl
theorem q1230 : (Jvm.Cond.code ({ cls := "java/util/TreeMap", name := "deleteEntry", desc := "(Ljava/util/TreeMap$Entry;)V" } : Jvm.MethodName) prog_65_method_84_code (3 : Nat) (Option.none : Option Jvm.ClassFile.FieldType)) ∈ lw_all := lw_g (lw_at lw_m5 167 rfl) rfl
theorem q1231 : (Jvm.Cond.methodLink "java/util/TreeMap" (68 : Nat) ({ cls := "java/util/TreeMap", name := "successor", desc := "(Ljava/util/TreeMap$Entry;)Ljava/util/TreeMap$Entry;" } : Jvm.MethodName)) ∈ lw_all := lw_g (lw_at lw_m5 168 rfl) rfl
theorem q1232 : (Jvm.Cond.static ({ cls := "java/util/TreeMap", name := "successor", desc := "(Ljava/util/TreeMap$Entry;)Ljava/util/TreeMap$Entry;" } : Jvm.MethodName)) ∈ lw_all := lw_g (lw_at lw_m5 169 rfl) rfl
theorem q1233 : (Jvm.Cond.code ({ cls := "java/util/TreeMap", name := "successor", desc := "(Ljava/util/TreeMap$Entry;)Ljava/util/TreeMap$Entry;" } : Jvm.MethodName) prog_65_method_74_code (3 : Nat) (Option.some (Jvm.ClassFile.FieldType.object "java/util/TreeMap$Entry"))) ∈ lw_all := lw_g (lw_at lw_m5 170 rfl) rfl
theorem q1234 : (Jvm.Cond.methodLink "java/util/TreeMap" (317 : Nat) ({ cls := "java/util/TreeMap", name := "fixAfterDeletion", desc := "(Ljava/util/TreeMap$Entry;)V" } : Jvm.MethodName)) ∈ lw_all := lw_g (lw_at lw_m5 171 rfl) rfl
theorem q1235 : (Jvm.Cond.privateMethod ({ cls := "java/util/TreeMap", name := "fixAfterDeletion", desc := "(Ljava/util/TreeMap$Entry;)V" } : Jvm.MethodName)) ∈ lw_tbl := lw_at lw_m5 172 rfl
theorem q1236 : (Jvm.Cond.instanceMethod ({ cls := "java/util/TreeMap", name := "fixAfterDeletion", desc := "(Ljava/util/TreeMap$Entry;)V" } : Jvm.MethodName)) ∈ lw_all := lw_g (lw_at lw_m5 173 rfl) rfl
theorem q1237 : (Jvm.Cond.code ({ cls := "java/util/TreeMap", name := "fixAfterDeletion", desc := "(Ljava/util/TreeMap$Entry;)V" } : Jvm.MethodName) prog_65_method_85_code (3 : Nat) (Option.none : Option Jvm.ClassFile.FieldType)) ∈ lw_all := lw_g (lw_at lw_m5 174 rfl) rfl
theorem q1261 : (Jvm.Cond.selects "java/util/TreeMap" ({ cls := "java/util/NavigableMap", name := "navigableKeySet", desc := "()Ljava/util/NavigableSet;" } : Jvm.MethodName) ({ cls := "java/util/TreeMap", name := "navigableKeySet", desc := "()Ljava/util/NavigableSet;" } : Jvm.MethodName)) ∈ lw_all := lw_g (lw_at lw_m5 198 rfl) rfl
theorem q1262 : (Jvm.Cond.unhidden "java/util/TreeMap" "navigableKeySet" "()Ljava/util/NavigableSet;") ∈ lw_tbl := lw_at lw_m5 199 rfl
theorem q1263 : (Jvm.Cond.instanceMethod ({ cls := "java/util/TreeMap", name := "navigableKeySet", desc := "()Ljava/util/NavigableSet;" } : Jvm.MethodName)) ∈ lw_all := lw_g (lw_at lw_m5 200 rfl) rfl
theorem q1264 : (Jvm.Cond.publicMethod ({ cls := "java/util/TreeMap", name := "navigableKeySet", desc := "()Ljava/util/NavigableSet;" } : Jvm.MethodName)) ∈ lw_tbl := lw_at lw_m5 201 rfl
theorem q1265 : (Jvm.Cond.code ({ cls := "java/util/TreeMap", name := "navigableKeySet", desc := "()Ljava/util/NavigableSet;" } : Jvm.MethodName) prog_65_method_50_code (2 : Nat) (Option.some (Jvm.ClassFile.FieldType.object "java/util/NavigableSet"))) ∈ lw_all := lw_g (lw_at lw_m5 202 rfl) rfl
theorem q1266 : (Jvm.Cond.classLink "java/util/TreeMap" (222 : Nat) "java/util/TreeMap$KeySet") ∈ lw_all := lw_g (lw_at lw_m5 203 rfl) rfl
theorem q1268 : (Jvm.Cond.methodLink "java/util/TreeMap" (224 : Nat) ({ cls := "java/util/TreeMap$KeySet", name := "<init>", desc := "(Ljava/util/NavigableMap;)V" } : Jvm.MethodName)) ∈ lw_all := lw_g (lw_at lw_m5 205 rfl) rfl
theorem q1294 : (Jvm.Cond.instanceMethod ({ cls := "java/util/TreeMap", name := "keyIterator", desc := "()Ljava/util/Iterator;" } : Jvm.MethodName)) ∈ lw_all := lw_g (lw_at lw_m5 231 rfl) rfl
theorem q1295 : (Jvm.Cond.selects "java/util/TreeMap" ({ cls := "java/util/TreeMap", name := "keyIterator", desc := "()Ljava/util/Iterator;" } : Jvm.MethodName) ({ cls := "java/util/TreeMap", name := "keyIterator", desc := "()Ljava/util/Iterator;" } : Jvm.MethodName)) ∈ lw_all := lw_g (lw_at lw_m5 232 rfl) rfl
theorem q1296 : (Jvm.Cond.code ({ cls := "java/util/TreeMap", name := "keyIterator", desc := "()Ljava/util/Iterator;" } : Jvm.MethodName) prog_65_method_65_code (1 : Nat) (Option.some (Jvm.ClassFile.FieldType.object "java/util/Iterator"))) ∈ lw_all := lw_g (lw_at lw_m5 233 rfl) rfl
theorem q1297 : (Jvm.Cond.classLink "java/util/TreeMap" (269 : Nat) "java/util/TreeMap$KeyIterator") ∈ lw_all := lw_g (lw_at lw_m5 234 rfl) rfl
theorem q1299 : (Jvm.Cond.methodLink "java/util/TreeMap" (271 : Nat) ({ cls := "java/util/TreeMap$KeyIterator", name := "<init>", desc := "(Ljava/util/TreeMap;Ljava/util/TreeMap$Entry;)V" } : Jvm.MethodName)) ∈ lw_all := lw_g (lw_at lw_m5 236 rfl) rfl
theorem q1404 : (Jvm.Cond.instanceMethod ({ cls := "java/util/TreeMap", name := "<init>", desc := "()V" } : Jvm.MethodName)) ∈ lw_all := lw_g (lw_at lw_m6 101 rfl) rfl
theorem q1405 : (Jvm.Cond.code ({ cls := "java/util/TreeMap", name := "<init>", desc := "()V" } : Jvm.MethodName) prog_65_method_1_code (1 : Nat) (Option.none : Option Jvm.ClassFile.FieldType)) ∈ lw_all := lw_g (lw_at lw_m6 102 rfl) rfl
theorem q1406 : (Jvm.Cond.methodLink "java/util/TreeMap" (1 : Nat) ({ cls := "java/util/AbstractMap", name := "<init>", desc := "()V" } : Jvm.MethodName)) ∈ lw_all := lw_g (lw_at lw_m6 103 rfl) rfl
theorem q1410 : (Jvm.Cond.fieldLink "java/util/TreeMap" (16 : Nat) "java/util/TreeMap" "comparator" "Ljava/util/Comparator;") ∈ lw_all := lw_g (lw_at lw_m6 107 rfl) rfl
theorem q1411 : (Jvm.Cond.fieldLink "java/util/TreeMap" (101 : Nat) "java/util/TreeMap" "root" "Ljava/util/TreeMap$Entry;") ∈ lw_all := lw_g (lw_at lw_m6 108 rfl) rfl
theorem q1412 : (Jvm.Cond.fieldLink "java/util/TreeMap" (7 : Nat) "java/util/TreeMap" "size" "I") ∈ lw_all := lw_g (lw_at lw_m6 109 rfl) rfl
theorem q1413 : (Jvm.Cond.fieldLink "java/util/TreeMap" (13 : Nat) "java/util/TreeMap" "modCount" "I") ∈ lw_all := lw_g (lw_at lw_m6 110 rfl) rfl
theorem q1415 : (Jvm.Cond.fieldLink "java/util/TreeMap" (191 : Nat) "java/util/TreeMap" "navigableKeySet" "Ljava/util/TreeMap$KeySet;") ∈ lw_all := lw_g (lw_at lw_m6 112 rfl) rfl
theorem q1416 : (Jvm.Cond.laysFinal "java/util/TreeMap" "java/util/TreeMap" "comparator" "Ljava/util/Comparator;") ∈ lw_all := lw_g (lw_at lw_m6 113 rfl) rfl
theorem q1417 : (Jvm.Cond.soleField "java/util/TreeMap" "comparator") ∈ lw_all := lw_g (lw_at lw_m6 114 rfl) rfl
theorem q1418 : (Jvm.Cond.lays "java/util/TreeMap" "java/util/TreeMap" "root" "Ljava/util/TreeMap$Entry;") ∈ lw_all := lw_g (lw_at lw_m6 115 rfl) rfl
theorem q1419 : (Jvm.Cond.soleField "java/util/TreeMap" "root") ∈ lw_all := lw_g (lw_at lw_m6 116 rfl) rfl
theorem q1420 : (Jvm.Cond.lays "java/util/TreeMap" "java/util/TreeMap" "size" "I") ∈ lw_all := lw_g (lw_at lw_m6 117 rfl) rfl
theorem q1421 : (Jvm.Cond.soleField "java/util/TreeMap" "size") ∈ lw_all := lw_g (lw_at lw_m6 118 rfl) rfl
theorem q1422 : (Jvm.Cond.lays "java/util/TreeMap" "java/util/TreeMap" "modCount" "I") ∈ lw_all := lw_g (lw_at lw_m6 119 rfl) rfl
theorem q1423 : (Jvm.Cond.soleField "java/util/TreeMap" "modCount") ∈ lw_all := lw_g (lw_at lw_m6 120 rfl) rfl
theorem q1424 : (Jvm.Cond.lays "java/util/TreeMap" "java/util/TreeMap" "entrySet" "Ljava/util/TreeMap$EntrySet;") ∈ lw_all := lw_g (lw_at lw_m6 121 rfl) rfl
theorem q1425 : (Jvm.Cond.soleField "java/util/TreeMap" "entrySet") ∈ lw_all := lw_g (lw_at lw_m6 122 rfl) rfl
theorem q1426 : (Jvm.Cond.lays "java/util/TreeMap" "java/util/TreeMap" "navigableKeySet" "Ljava/util/TreeMap$KeySet;") ∈ lw_all := lw_g (lw_at lw_m6 123 rfl) rfl
theorem q1427 : (Jvm.Cond.soleField "java/util/TreeMap" "navigableKeySet") ∈ lw_all := lw_g (lw_at lw_m6 124 rfl) rfl
theorem q1428 : (Jvm.Cond.lays "java/util/TreeMap" "java/util/TreeMap" "descendingMap" "Ljava/util/NavigableMap;") ∈ lw_all := lw_g (lw_at lw_m6 125 rfl) rfl
theorem q1429 : (Jvm.Cond.soleField "java/util/TreeMap" "descendingMap") ∈ lw_all := lw_g (lw_at lw_m6 126 rfl) rfl
theorem q1430 : (Jvm.Cond.lays "java/util/TreeMap" "java/util/AbstractMap" "keySet" "Ljava/util/Set;") ∈ lw_all := lw_g (lw_at lw_m6 127 rfl) rfl
theorem q1432 : (Jvm.Cond.lays "java/util/TreeMap" "java/util/AbstractMap" "values" "Ljava/util/Collection;") ∈ lw_all := lw_g (lw_at lw_m6 129 rfl) rfl
theorem q1434 : (Jvm.Cond.superclass "java/util/TreeMap" "java/util/AbstractMap") ∈ lw_all := lw_g (lw_at lw_m6 131 rfl) rfl
theorem q1495 : (Jvm.Cond.selects "java/util/TreeMap" ({ cls := "java/util/SortedMap", name := "comparator", desc := "()Ljava/util/Comparator;" } : Jvm.MethodName) ({ cls := "java/util/TreeMap", name := "comparator", desc := "()Ljava/util/Comparator;" } : Jvm.MethodName)) ∈ lw_all := lw_g (lw_at lw_m6 192 rfl) rfl
theorem q1496 : (Jvm.Cond.unhidden "java/util/TreeMap" "comparator" "()Ljava/util/Comparator;") ∈ lw_tbl := lw_at lw_m6 193 rfl
theorem q1497 : (Jvm.Cond.instanceMethod ({ cls := "java/util/TreeMap", name := "comparator", desc := "()Ljava/util/Comparator;" } : Jvm.MethodName)) ∈ lw_all := lw_g (lw_at lw_m6 194 rfl) rfl
theorem q1498 : (Jvm.Cond.publicMethod ({ cls := "java/util/TreeMap", name := "comparator", desc := "()Ljava/util/Comparator;" } : Jvm.MethodName)) ∈ lw_tbl := lw_at lw_m6 195 rfl
theorem q1499 : (Jvm.Cond.code ({ cls := "java/util/TreeMap", name := "comparator", desc := "()Ljava/util/Comparator;" } : Jvm.MethodName) prog_65_method_9_code (1 : Nat) (Option.some (Jvm.ClassFile.FieldType.object "java/util/Comparator"))) ∈ lw_all := lw_g (lw_at lw_m6 196 rfl) rfl
theorem q1539 : (Jvm.Cond.instanceMethod ({ cls := "java/util/TreeMap", name := "addAllForTreeSet", desc := "(Ljava/util/SortedSet;Ljava/lang/Object;)V" } : Jvm.MethodName)) ∈ lw_all := lw_g (lw_at lw_m6 236 rfl) rfl
theorem q1540 : (Jvm.Cond.selects "java/util/TreeMap" ({ cls := "java/util/TreeMap", name := "addAllForTreeSet", desc := "(Ljava/util/SortedSet;Ljava/lang/Object;)V" } : Jvm.MethodName) ({ cls := "java/util/TreeMap", name := "addAllForTreeSet", desc := "(Ljava/util/SortedSet;Ljava/lang/Object;)V" } : Jvm.MethodName)) ∈ lw_all := lw_g (lw_at lw_m6 237 rfl) rfl
theorem q1541 : (Jvm.Cond.codeWith ({ cls := "java/util/TreeMap", name := "addAllForTreeSet", desc := "(Ljava/util/SortedSet;Ljava/lang/Object;)V" } : Jvm.MethodName) prog_65_method_89_code (4 : Nat) (Option.none : Option Jvm.ClassFile.FieldType) [((0 : Nat), (18 : Nat), (21 : Nat), (46 : Nat)), ((0 : Nat), (18 : Nat), (21 : Nat), (48 : Nat))]) ∈ lw_all := lw_g (lw_at lw_m6 238 rfl) rfl
theorem q1542 : (Jvm.Cond.interfaceEntry "java/util/TreeMap" (358 : Nat)) ∈ lw_tbl := lw_at lw_m6 239 rfl
theorem q1544 : (Jvm.Cond.interfaceEntry "java/util/TreeMap" (361 : Nat)) ∈ lw_tbl := lw_at lw_m7 1 rfl
theorem q1549 : (Jvm.Cond.methodLink "java/util/TreeMap" (42 : Nat) ({ cls := "java/util/TreeMap", name := "buildFromSorted", desc := "(ILjava/util/Iterator;Ljava/io/ObjectInputStream;Ljava/lang/Object;)V" } : Jvm.MethodName)) ∈ lw_all := lw_g (lw_at lw_m7 6 rfl) rfl
theorem q1550 : (Jvm.Cond.privateMethod ({ cls := "java/util/TreeMap", name := "buildFromSorted", desc := "(ILjava/util/Iterator;Ljava/io/ObjectInputStream;Ljava/lang/Object;)V" } : Jvm.MethodName)) ∈ lw_tbl := lw_at lw_m7 7 rfl
theorem q1551 : (Jvm.Cond.instanceMethod ({ cls := "java/util/TreeMap", name := "buildFromSorted", desc := "(ILjava/util/Iterator;Ljava/io/ObjectInputStream;Ljava/lang/Object;)V" } : Jvm.MethodName)) ∈ lw_all := lw_g (lw_at lw_m7 8 rfl) rfl
theorem q1552 : (Jvm.Cond.code ({ cls := "java/util/TreeMap", name := "buildFromSorted", desc := "(ILjava/util/Iterator;Ljava/io/ObjectInputStream;Ljava/lang/Object;)V" } : Jvm.MethodName) prog_65_method_90_code (5 : Nat) (Option.none : Option Jvm.ClassFile.FieldType)) ∈ lw_all := lw_g (lw_at lw_m7 9 rfl) rfl
theorem q1553 : (Jvm.Cond.methodLink "java/util/TreeMap" (362 : Nat) ({ cls := "java/util/TreeMap", name := "computeRedLevel", desc := "(I)I" } : Jvm.MethodName)) ∈ lw_all := lw_g (lw_at lw_m7 10 rfl) rfl
theorem q1554 : (Jvm.Cond.static ({ cls := "java/util/TreeMap", name := "computeRedLevel", desc := "(I)I" } : Jvm.MethodName)) ∈ lw_all := lw_g (lw_at lw_m7 11 rfl) rfl
theorem q1555 : (Jvm.Cond.code ({ cls := "java/util/TreeMap", name := "computeRedLevel", desc := "(I)I" } : Jvm.MethodName) prog_65_method_92_code (1 : Nat) (Option.some Jvm.ClassFile.FieldType.int)) ∈ lw_all := lw_g (lw_at lw_m7 12 rfl) rfl
theorem q1556 : (Jvm.Cond.methodLink "java/util/TreeMap" (372 : Nat) ({ cls := "java/lang/Integer", name := "numberOfLeadingZeros", desc := "(I)I" } : Jvm.MethodName)) ∈ lw_all := lw_g (lw_at lw_m7 13 rfl) rfl
theorem q1557 : (Jvm.Cond.methodLink "java/util/TreeMap" (366 : Nat) ({ cls := "java/util/TreeMap", name := "buildFromSorted", desc := "(IIIILjava/util/Iterator;Ljava/io/ObjectInputStream;Ljava/lang/Object;)Ljava/util/TreeMap$Entry;" } : Jvm.MethodName)) ∈ lw_all := lw_g (lw_at lw_m7 14 rfl) rfl
theorem q1558 : (Jvm.Cond.privateMethod ({ cls := "java/util/TreeMap", name := "buildFromSorted", desc := "(IIIILjava/util/Iterator;Ljava/io/ObjectInputStream;Ljava/lang/Object;)Ljava/util/TreeMap$Entry;" } : Jvm.MethodName)) ∈ lw_tbl := lw_at lw_m7 15 rfl
theorem q1559 : (Jvm.Cond.instanceMethod ({ cls := "java/util/TreeMap", name := "buildFromSorted", desc := "(IIIILjava/util/Iterator;Ljava/io/ObjectInputStream;Ljava/lang/Object;)Ljava/util/TreeMap$Entry;" } : Jvm.MethodName)) ∈ lw_all := lw_g (lw_at lw_m7 16 rfl) rfl
theorem q1560 : (Jvm.Cond.code ({ cls := "java/util/TreeMap", name := "buildFromSorted", desc := "(IIIILjava/util/Iterator;Ljava/io/ObjectInputStream;Ljava/lang/Object;)Ljava/util/TreeMap$Entry;" } : Jvm.MethodName) prog_65_method_91_code (14 : Nat) (Option.some (Jvm.ClassFile.FieldType.object "java/util/TreeMap$Entry"))) ∈ lw_all := lw_g (lw_at lw_m7 17 rfl) rfl
theorem q1561 : (Jvm.Cond.interfaceEntry "java/util/TreeMap" (335 : Nat)) ∈ lw_tbl := lw_at lw_m7 18 rfl
theorem q1562 : (Jvm.Cond.methodLink "java/util/TreeMap" (335 : Nat) ({ cls := "java/util/Iterator", name := "next", desc := "()Ljava/lang/Object;" } : Jvm.MethodName)) ∈ lw_all := lw_g (lw_at lw_m7 19 rfl) rfl
theorem q1563 : (Jvm.Cond.classLink "java/util/TreeMap" (338 : Nat) "java/util/Map$Entry") ∈ lw_all := lw_g (lw_at lw_m7 20 rfl) rfl
theorem q1564 : (Jvm.Cond.interfaceEntry "java/util/TreeMap" (340 : Nat)) ∈ lw_tbl := lw_at lw_m7 21 rfl
theorem q1565 : (Jvm.Cond.methodLink "java/util/TreeMap" (340 : Nat) ({ cls := "java/util/Map$Entry", name := "getKey", desc := "()Ljava/lang/Object;" } : Jvm.MethodName)) ∈ lw_all := lw_g (lw_at lw_m7 22 rfl) rfl
theorem q1566 : (Jvm.Cond.interfaceEntry "java/util/TreeMap" (347 : Nat)) ∈ lw_tbl := lw_at lw_m7 23 rfl
theorem q1567 : (Jvm.Cond.methodLink "java/util/TreeMap" (347 : Nat) ({ cls := "java/util/Map$Entry", name := "getValue", desc := "()Ljava/lang/Object;" } : Jvm.MethodName)) ∈ lw_all := lw_g (lw_at lw_m7 24 rfl) rfl
theorem q2293 : (Jvm.Cond.selects "java/util/TreeMap" ({ cls := "java/util/TreeMap", name := "comparator", desc := "()Ljava/util/Comparator;" } : Jvm.MethodName) ({ cls := "java/util/TreeMap", name := "comparator", desc := "()Ljava/util/Comparator;" } : Jvm.MethodName)) ∈ lw_all := lw_g (lw_at lw_m10 30 rfl) rfl
theorem q2302 : (Jvm.Cond.castable "java/util/TreeMap" "java/lang/Object") ∈ lw_tbl := lw_at lw_m10 39 rfl
theorem in_J4 : ∀ w ∈ wsJ40, w ∈ lw_all := lw_in wsJ40 [1430, 1432, 1416, 1418, 1420, 1422, 1424, 1426, 1428] (by decide +kernel) (by decide +kernel)

/-! java/util/AbstractQueue -/
set_option maxRecDepth 100000
def RJ5 : String := "java/util/AbstractQueue"
abbrev cJ5_init : ByteArray := prog_41_method_1_code
def yJ5_init : MethodName := ⟨RJ5, "<init>", "()V"⟩
theorem dJ5_init_0 : decode cJ5_init 0 = .ok (.aload_n 0, 1) := by decide +kernel
theorem dJ5_init_1 : decode cJ5_init 1 = .ok (.invokespecial 1, 3) := by decide +kernel
theorem dJ5_init_4 : decode cJ5_init 4 = .ok (.return_, 1) := by decide +kernel
theorem q112 : (Jvm.Cond.initialized "java/util/AbstractQueue") ∈ lw_all := lw_g (lw_at lw_m1 9 rfl) rfl
theorem q1650 : (Jvm.Cond.instanceMethod ({ cls := "java/util/AbstractQueue", name := "<init>", desc := "()V" } : Jvm.MethodName)) ∈ lw_all := lw_g (lw_at lw_m7 107 rfl) rfl
theorem q1651 : (Jvm.Cond.code ({ cls := "java/util/AbstractQueue", name := "<init>", desc := "()V" } : Jvm.MethodName) prog_41_method_1_code (1 : Nat) (Option.none : Option Jvm.ClassFile.FieldType)) ∈ lw_all := lw_g (lw_at lw_m7 108 rfl) rfl
theorem q1652 : (Jvm.Cond.methodLink "java/util/AbstractQueue" (1 : Nat) ({ cls := "java/util/AbstractCollection", name := "<init>", desc := "()V" } : Jvm.MethodName)) ∈ lw_all := lw_g (lw_at lw_m7 109 rfl) rfl

/-! java/util/PriorityQueue -/
set_option maxRecDepth 100000
def RJ6 : String := "java/util/PriorityQueue"
def TJ6 : u_T := fun k => match k with
  | 0 => ("java/util/PriorityQueue", "queue", "[Ljava/lang/Object;", false)
  | 1 => ("java/util/PriorityQueue", "size", "I", false)
  | 2 => ("java/util/PriorityQueue", "comparator", "Ljava/util/Comparator;", true)
  | _ => ("java/util/PriorityQueue", "modCount", "I", false)
def tyJ6 : Nat → FieldType := fun k => match k with
  | 0 => .array (.object "java/lang/Object")
  | 1 => .int
  | 2 => .object "java/util/Comparator"
  | _ => .int
abbrev wsJ60 : List Cond := u_ws RJ6 TJ6 4
theorem nmJ6 : ∀ a, a < 4 → ∀ b, b < 4 → a ≠ b → (TJ6 a).2.1 ≠ (TJ6 b).2.1 := by decide +kernel
theorem tyJ6_ok : ∀ k, k < 4 → parseFieldDescriptor (TJ6 k).2.2.1 = some (tyJ6 k) := by decide +kernel
abbrev cJ6_add : ByteArray := prog_55_method_13_code
def yJ6_add : MethodName := ⟨RJ6, "add", "(Ljava/lang/Object;)Z"⟩
def dkwJ6_add_0 : List UInt8 := [42, 43, 182, 0, 89, 172]
abbrev dktJ6_add_0 : List UInt8 := dkwJ6_add_0 ++ []
theorem dksJ6_add_0 : cJ6_add.data.toList.drop 0 = dktJ6_add_0 := by decide +kernel
theorem dJ6_add_0 : decode cJ6_add 0 = .ok (.aload_n 0, 1) := dk_42 (dk_at dksJ6_add_0 0 rfl rfl)
theorem dJ6_add_1 : decode cJ6_add 1 = .ok (.aload_n 1, 1) := dk_43 (dk_at dksJ6_add_0 1 rfl rfl)
theorem dJ6_add_2 : decode cJ6_add 2 = .ok (.invokevirtual 89, 3) := dk_182 0 89 (dk_at dksJ6_add_0 2 rfl rfl)
theorem dJ6_add_5 : decode cJ6_add 5 = .ok (.ireturn, 1) := dk_172 (dk_at dksJ6_add_0 5 rfl rfl)
abbrev cJ6_offer : ByteArray := prog_55_method_14_code
def yJ6_offer : MethodName := ⟨RJ6, "offer", "(Ljava/lang/Object;)Z"⟩
def dkwJ6_offer_2 : List UInt8 := [182, 0, 100, 42, 28, 4, 96, 181, 0, 58, 4, 172]
abbrev dktJ6_offer_2 : List UInt8 := dkwJ6_offer_2 ++ []
def dkwJ6_offer_1 : List UInt8 := [180, 0, 58, 61, 28, 42, 180, 0, 17, 190, 161, 0, 10, 42, 28, 4, 96, 182, 0, 96, 42, 28, 43]
abbrev dktJ6_offer_1 : List UInt8 := dkwJ6_offer_1 ++ dktJ6_offer_2
def dkwJ6_offer_0 : List UInt8 := [43, 199, 0, 11, 187, 0, 74, 89, 183, 0, 76, 191, 42, 89, 180, 0, 93, 4, 96, 181, 0, 93, 42]
abbrev dktJ6_offer_0 : List UInt8 := dkwJ6_offer_0 ++ dktJ6_offer_1
theorem dksJ6_offer_0 : cJ6_offer.data.toList.drop 0 = dktJ6_offer_0 := by decide +kernel
theorem dksJ6_offer_1 : cJ6_offer.data.toList.drop 23 = dktJ6_offer_1 := dk_seg dksJ6_offer_0 23 rfl rfl
theorem dksJ6_offer_2 : cJ6_offer.data.toList.drop 46 = dktJ6_offer_2 := dk_seg dksJ6_offer_1 23 rfl rfl
theorem dJ6_offer_0 : decode cJ6_offer 0 = .ok (.aload_n 1, 1) := dk_43 (dk_at dksJ6_offer_0 0 rfl rfl)
theorem dJ6_offer_1 : decode cJ6_offer 1 = .ok (.ifnonnull 11, 3) := dk_199 0 11 (dk_at dksJ6_offer_0 1 rfl rfl)
theorem dJ6_offer_4 : decode cJ6_offer 4 = .ok (.new 74, 3) := dk_187 0 74 (dk_at dksJ6_offer_0 4 rfl rfl)
theorem dJ6_offer_7 : decode cJ6_offer 7 = .ok (.dup, 1) := dk_89 (dk_at dksJ6_offer_0 7 rfl rfl)
theorem dJ6_offer_8 : decode cJ6_offer 8 = .ok (.invokespecial 76, 3) := dk_183 0 76 (dk_at dksJ6_offer_0 8 rfl rfl)
theorem dJ6_offer_11 : decode cJ6_offer 11 = .ok (.athrow, 1) := dk_191 (dk_at dksJ6_offer_0 11 rfl rfl)
theorem dJ6_offer_12 : decode cJ6_offer 12 = .ok (.aload_n 0, 1) := dk_42 (dk_at dksJ6_offer_0 12 rfl rfl)
theorem dJ6_offer_13 : decode cJ6_offer 13 = .ok (.dup, 1) := dk_89 (dk_at dksJ6_offer_0 13 rfl rfl)
theorem dJ6_offer_14 : decode cJ6_offer 14 = .ok (.getfield 93, 3) := dk_180 0 93 (dk_at dksJ6_offer_0 14 rfl rfl)
theorem dJ6_offer_17 : decode cJ6_offer 17 = .ok (.iconst 1, 1) := dk_4 (dk_at dksJ6_offer_0 17 rfl rfl)
theorem dJ6_offer_18 : decode cJ6_offer 18 = .ok (.iadd, 1) := dk_96 (dk_at dksJ6_offer_0 18 rfl rfl)
theorem dJ6_offer_19 : decode cJ6_offer 19 = .ok (.putfield 93, 3) := dk_181 0 93 (dk_at dksJ6_offer_0 19 rfl rfl)
theorem dJ6_offer_22 : decode cJ6_offer 22 = .ok (.aload_n 0, 1) := dk_42 (dk_at dksJ6_offer_0 22 rfl rfl)
theorem dJ6_offer_23 : decode cJ6_offer 23 = .ok (.getfield 58, 3) := dk_180 0 58 (dk_at dksJ6_offer_1 0 rfl rfl)
theorem dJ6_offer_26 : decode cJ6_offer 26 = .ok (.istore_n 2, 1) := dk_61 (dk_at dksJ6_offer_1 3 rfl rfl)
theorem dJ6_offer_27 : decode cJ6_offer 27 = .ok (.iload_n 2, 1) := dk_28 (dk_at dksJ6_offer_1 4 rfl rfl)
theorem dJ6_offer_28 : decode cJ6_offer 28 = .ok (.aload_n 0, 1) := dk_42 (dk_at dksJ6_offer_1 5 rfl rfl)
theorem dJ6_offer_29 : decode cJ6_offer 29 = .ok (.getfield 17, 3) := dk_180 0 17 (dk_at dksJ6_offer_1 6 rfl rfl)
theorem dJ6_offer_32 : decode cJ6_offer 32 = .ok (.arraylength, 1) := dk_190 (dk_at dksJ6_offer_1 9 rfl rfl)
theorem dJ6_offer_33 : decode cJ6_offer 33 = .ok (.if_icmp .lt 10, 3) := dk_161 0 10 (dk_at dksJ6_offer_1 10 rfl rfl)
theorem dJ6_offer_36 : decode cJ6_offer 36 = .ok (.aload_n 0, 1) := dk_42 (dk_at dksJ6_offer_1 13 rfl rfl)
theorem dJ6_offer_37 : decode cJ6_offer 37 = .ok (.iload_n 2, 1) := dk_28 (dk_at dksJ6_offer_1 14 rfl rfl)
theorem dJ6_offer_38 : decode cJ6_offer 38 = .ok (.iconst 1, 1) := dk_4 (dk_at dksJ6_offer_1 15 rfl rfl)
theorem dJ6_offer_39 : decode cJ6_offer 39 = .ok (.iadd, 1) := dk_96 (dk_at dksJ6_offer_1 16 rfl rfl)
theorem dJ6_offer_40 : decode cJ6_offer 40 = .ok (.invokevirtual 96, 3) := dk_182 0 96 (dk_at dksJ6_offer_1 17 rfl rfl)
theorem dJ6_offer_43 : decode cJ6_offer 43 = .ok (.aload_n 0, 1) := dk_42 (dk_at dksJ6_offer_1 20 rfl rfl)
theorem dJ6_offer_44 : decode cJ6_offer 44 = .ok (.iload_n 2, 1) := dk_28 (dk_at dksJ6_offer_1 21 rfl rfl)
theorem dJ6_offer_45 : decode cJ6_offer 45 = .ok (.aload_n 1, 1) := dk_43 (dk_at dksJ6_offer_1 22 rfl rfl)
theorem dJ6_offer_46 : decode cJ6_offer 46 = .ok (.invokevirtual 100, 3) := dk_182 0 100 (dk_at dksJ6_offer_2 0 rfl rfl)
theorem dJ6_offer_49 : decode cJ6_offer 49 = .ok (.aload_n 0, 1) := dk_42 (dk_at dksJ6_offer_2 3 rfl rfl)
theorem dJ6_offer_50 : decode cJ6_offer 50 = .ok (.iload_n 2, 1) := dk_28 (dk_at dksJ6_offer_2 4 rfl rfl)
theorem dJ6_offer_51 : decode cJ6_offer 51 = .ok (.iconst 1, 1) := dk_4 (dk_at dksJ6_offer_2 5 rfl rfl)
theorem dJ6_offer_52 : decode cJ6_offer 52 = .ok (.iadd, 1) := dk_96 (dk_at dksJ6_offer_2 6 rfl rfl)
theorem dJ6_offer_53 : decode cJ6_offer 53 = .ok (.putfield 58, 3) := dk_181 0 58 (dk_at dksJ6_offer_2 7 rfl rfl)
theorem dJ6_offer_56 : decode cJ6_offer 56 = .ok (.iconst 1, 1) := dk_4 (dk_at dksJ6_offer_2 10 rfl rfl)
theorem dJ6_offer_57 : decode cJ6_offer 57 = .ok (.ireturn, 1) := dk_172 (dk_at dksJ6_offer_2 11 rfl rfl)
abbrev cJ6_grow : ByteArray := prog_55_method_12_code
def yJ6_grow : MethodName := ⟨RJ6, "grow", "(I)V"⟩
def dkwJ6_grow_1 : List UInt8 := [122, 184, 0, 80, 62, 42, 42, 180, 0, 17, 29, 184, 0, 86, 181, 0, 17, 177]
abbrev dktJ6_grow_1 : List UInt8 := dkwJ6_grow_1 ++ []
def dkwJ6_grow_0 : List UInt8 := [42, 180, 0, 17, 190, 61, 28, 27, 28, 100, 28, 16, 64, 162, 0, 9, 28, 5, 96, 167, 0, 6, 28, 4]
abbrev dktJ6_grow_0 : List UInt8 := dkwJ6_grow_0 ++ dktJ6_grow_1
theorem dksJ6_grow_0 : cJ6_grow.data.toList.drop 0 = dktJ6_grow_0 := by decide +kernel
theorem dksJ6_grow_1 : cJ6_grow.data.toList.drop 24 = dktJ6_grow_1 := dk_seg dksJ6_grow_0 24 rfl rfl
theorem dJ6_grow_0 : decode cJ6_grow 0 = .ok (.aload_n 0, 1) := dk_42 (dk_at dksJ6_grow_0 0 rfl rfl)
theorem dJ6_grow_1 : decode cJ6_grow 1 = .ok (.getfield 17, 3) := dk_180 0 17 (dk_at dksJ6_grow_0 1 rfl rfl)
theorem dJ6_grow_4 : decode cJ6_grow 4 = .ok (.arraylength, 1) := dk_190 (dk_at dksJ6_grow_0 4 rfl rfl)
theorem dJ6_grow_5 : decode cJ6_grow 5 = .ok (.istore_n 2, 1) := dk_61 (dk_at dksJ6_grow_0 5 rfl rfl)
theorem dJ6_grow_6 : decode cJ6_grow 6 = .ok (.iload_n 2, 1) := dk_28 (dk_at dksJ6_grow_0 6 rfl rfl)
theorem dJ6_grow_7 : decode cJ6_grow 7 = .ok (.iload_n 1, 1) := dk_27 (dk_at dksJ6_grow_0 7 rfl rfl)
theorem dJ6_grow_8 : decode cJ6_grow 8 = .ok (.iload_n 2, 1) := dk_28 (dk_at dksJ6_grow_0 8 rfl rfl)
theorem dJ6_grow_9 : decode cJ6_grow 9 = .ok (.isub, 1) := dk_100 (dk_at dksJ6_grow_0 9 rfl rfl)
theorem dJ6_grow_10 : decode cJ6_grow 10 = .ok (.iload_n 2, 1) := dk_28 (dk_at dksJ6_grow_0 10 rfl rfl)
theorem dJ6_grow_11 : decode cJ6_grow 11 = .ok (.bipush 64, 2) := dk_16 64 (dk_at dksJ6_grow_0 11 rfl rfl)
theorem dJ6_grow_13 : decode cJ6_grow 13 = .ok (.if_icmp .ge 9, 3) := dk_162 0 9 (dk_at dksJ6_grow_0 13 rfl rfl)
theorem dJ6_grow_16 : decode cJ6_grow 16 = .ok (.iload_n 2, 1) := dk_28 (dk_at dksJ6_grow_0 16 rfl rfl)
theorem dJ6_grow_17 : decode cJ6_grow 17 = .ok (.iconst 2, 1) := dk_5 (dk_at dksJ6_grow_0 17 rfl rfl)
theorem dJ6_grow_18 : decode cJ6_grow 18 = .ok (.iadd, 1) := dk_96 (dk_at dksJ6_grow_0 18 rfl rfl)
theorem dJ6_grow_19 : decode cJ6_grow 19 = .ok (.goto 6, 3) := dk_167 0 6 (dk_at dksJ6_grow_0 19 rfl rfl)
theorem dJ6_grow_22 : decode cJ6_grow 22 = .ok (.iload_n 2, 1) := dk_28 (dk_at dksJ6_grow_0 22 rfl rfl)
theorem dJ6_grow_23 : decode cJ6_grow 23 = .ok (.iconst 1, 1) := dk_4 (dk_at dksJ6_grow_0 23 rfl rfl)
theorem dJ6_grow_24 : decode cJ6_grow 24 = .ok (.ishr, 1) := dk_122 (dk_at dksJ6_grow_1 0 rfl rfl)
theorem dJ6_grow_25 : decode cJ6_grow 25 = .ok (.invokestatic 80, 3) := dk_184 0 80 (dk_at dksJ6_grow_1 1 rfl rfl)
theorem dJ6_grow_28 : decode cJ6_grow 28 = .ok (.istore_n 3, 1) := dk_62 (dk_at dksJ6_grow_1 4 rfl rfl)
theorem dJ6_grow_29 : decode cJ6_grow 29 = .ok (.aload_n 0, 1) := dk_42 (dk_at dksJ6_grow_1 5 rfl rfl)
theorem dJ6_grow_30 : decode cJ6_grow 30 = .ok (.aload_n 0, 1) := dk_42 (dk_at dksJ6_grow_1 6 rfl rfl)
theorem dJ6_grow_31 : decode cJ6_grow 31 = .ok (.getfield 17, 3) := dk_180 0 17 (dk_at dksJ6_grow_1 7 rfl rfl)
theorem dJ6_grow_34 : decode cJ6_grow 34 = .ok (.iload_n 3, 1) := dk_29 (dk_at dksJ6_grow_1 10 rfl rfl)
theorem dJ6_grow_35 : decode cJ6_grow 35 = .ok (.invokestatic 86, 3) := dk_184 0 86 (dk_at dksJ6_grow_1 11 rfl rfl)
theorem dJ6_grow_38 : decode cJ6_grow 38 = .ok (.putfield 17, 3) := dk_181 0 17 (dk_at dksJ6_grow_1 14 rfl rfl)
theorem dJ6_grow_41 : decode cJ6_grow 41 = .ok (.return_, 1) := dk_177 (dk_at dksJ6_grow_1 17 rfl rfl)
abbrev cJ6_siftUp : ByteArray := prog_55_method_27_code
def yJ6_siftUp : MethodName := ⟨RJ6, "siftUp", "(ILjava/lang/Object;)V"⟩
def dkwJ6_siftUp_1 : List UInt8 := [44, 42, 180, 0, 17, 184, 0, 140, 177]
abbrev dktJ6_siftUp_1 : List UInt8 := dkwJ6_siftUp_1 ++ []
def dkwJ6_siftUp_0 : List UInt8 := [42, 180, 0, 21, 198, 0, 19, 27, 44, 42, 180, 0, 17, 42, 180, 0, 21, 184, 0, 136, 167, 0, 12, 27]
abbrev dktJ6_siftUp_0 : List UInt8 := dkwJ6_siftUp_0 ++ dktJ6_siftUp_1
theorem dksJ6_siftUp_0 : cJ6_siftUp.data.toList.drop 0 = dktJ6_siftUp_0 := by decide +kernel
theorem dksJ6_siftUp_1 : cJ6_siftUp.data.toList.drop 24 = dktJ6_siftUp_1 := dk_seg dksJ6_siftUp_0 24 rfl rfl
theorem dJ6_siftUp_0 : decode cJ6_siftUp 0 = .ok (.aload_n 0, 1) := dk_42 (dk_at dksJ6_siftUp_0 0 rfl rfl)
theorem dJ6_siftUp_1 : decode cJ6_siftUp 1 = .ok (.getfield 21, 3) := dk_180 0 21 (dk_at dksJ6_siftUp_0 1 rfl rfl)
theorem dJ6_siftUp_4 : decode cJ6_siftUp 4 = .ok (.ifnull 19, 3) := dk_198 0 19 (dk_at dksJ6_siftUp_0 4 rfl rfl)
theorem dJ6_siftUp_7 : decode cJ6_siftUp 7 = .ok (.iload_n 1, 1) := dk_27 (dk_at dksJ6_siftUp_0 7 rfl rfl)
theorem dJ6_siftUp_8 : decode cJ6_siftUp 8 = .ok (.aload_n 2, 1) := dk_44 (dk_at dksJ6_siftUp_0 8 rfl rfl)
theorem dJ6_siftUp_9 : decode cJ6_siftUp 9 = .ok (.aload_n 0, 1) := dk_42 (dk_at dksJ6_siftUp_0 9 rfl rfl)
theorem dJ6_siftUp_10 : decode cJ6_siftUp 10 = .ok (.getfield 17, 3) := dk_180 0 17 (dk_at dksJ6_siftUp_0 10 rfl rfl)
theorem dJ6_siftUp_13 : decode cJ6_siftUp 13 = .ok (.aload_n 0, 1) := dk_42 (dk_at dksJ6_siftUp_0 13 rfl rfl)
theorem dJ6_siftUp_14 : decode cJ6_siftUp 14 = .ok (.getfield 21, 3) := dk_180 0 21 (dk_at dksJ6_siftUp_0 14 rfl rfl)
theorem dJ6_siftUp_17 : decode cJ6_siftUp 17 = .ok (.invokestatic 136, 3) := dk_184 0 136 (dk_at dksJ6_siftUp_0 17 rfl rfl)
theorem dJ6_siftUp_20 : decode cJ6_siftUp 20 = .ok (.goto 12, 3) := dk_167 0 12 (dk_at dksJ6_siftUp_0 20 rfl rfl)
theorem dJ6_siftUp_23 : decode cJ6_siftUp 23 = .ok (.iload_n 1, 1) := dk_27 (dk_at dksJ6_siftUp_0 23 rfl rfl)
theorem dJ6_siftUp_24 : decode cJ6_siftUp 24 = .ok (.aload_n 2, 1) := dk_44 (dk_at dksJ6_siftUp_1 0 rfl rfl)
theorem dJ6_siftUp_25 : decode cJ6_siftUp 25 = .ok (.aload_n 0, 1) := dk_42 (dk_at dksJ6_siftUp_1 1 rfl rfl)
theorem dJ6_siftUp_26 : decode cJ6_siftUp 26 = .ok (.getfield 17, 3) := dk_180 0 17 (dk_at dksJ6_siftUp_1 2 rfl rfl)
theorem dJ6_siftUp_29 : decode cJ6_siftUp 29 = .ok (.invokestatic 140, 3) := dk_184 0 140 (dk_at dksJ6_siftUp_1 5 rfl rfl)
theorem dJ6_siftUp_32 : decode cJ6_siftUp 32 = .ok (.return_, 1) := dk_177 (dk_at dksJ6_siftUp_1 8 rfl rfl)
abbrev cJ6_siftUpUsingComparator : ByteArray := prog_55_method_29_code
def yJ6_siftUpUsingComparator : MethodName := ⟨RJ6, "siftUpUsingComparator", "(ILjava/lang/Object;[Ljava/lang/Object;Ljava/util/Comparator;)V"⟩
def dkwJ6_siftUpUsingComparator_2 : List UInt8 := [43, 83, 177]
abbrev dktJ6_siftUpUsingComparator_2 : List UInt8 := dkwJ6_siftUpUsingComparator_2 ++ []
def dkwJ6_siftUpUsingComparator_1 : List UInt8 := [185, 0, 149, 3, 0, 155, 0, 6, 167, 0, 14, 44, 26, 25, 5, 83, 21, 4, 59, 167, 255, 216, 44, 26]
abbrev dktJ6_siftUpUsingComparator_1 : List UInt8 := dkwJ6_siftUpUsingComparator_1 ++ dktJ6_siftUpUsingComparator_2
def dkwJ6_siftUpUsingComparator_0 : List UInt8 := [26, 158, 0, 42, 26, 4, 100, 4, 124, 54, 4, 44, 21, 4, 50, 58, 5, 45, 43, 25, 5]
abbrev dktJ6_siftUpUsingComparator_0 : List UInt8 := dkwJ6_siftUpUsingComparator_0 ++ dktJ6_siftUpUsingComparator_1
theorem dksJ6_siftUpUsingComparator_0 : cJ6_siftUpUsingComparator.data.toList.drop 0 = dktJ6_siftUpUsingComparator_0 := by decide +kernel
theorem dksJ6_siftUpUsingComparator_1 : cJ6_siftUpUsingComparator.data.toList.drop 21 = dktJ6_siftUpUsingComparator_1 := dk_seg dksJ6_siftUpUsingComparator_0 21 rfl rfl
theorem dksJ6_siftUpUsingComparator_2 : cJ6_siftUpUsingComparator.data.toList.drop 45 = dktJ6_siftUpUsingComparator_2 := dk_seg dksJ6_siftUpUsingComparator_1 24 rfl rfl
theorem dJ6_siftUpUsingComparator_0 : decode cJ6_siftUpUsingComparator 0 = .ok (.iload_n 0, 1) := dk_26 (dk_at dksJ6_siftUpUsingComparator_0 0 rfl rfl)
theorem dJ6_siftUpUsingComparator_1 : decode cJ6_siftUpUsingComparator 1 = .ok (.ifCond .le 42, 3) := dk_158 0 42 (dk_at dksJ6_siftUpUsingComparator_0 1 rfl rfl)
theorem dJ6_siftUpUsingComparator_4 : decode cJ6_siftUpUsingComparator 4 = .ok (.iload_n 0, 1) := dk_26 (dk_at dksJ6_siftUpUsingComparator_0 4 rfl rfl)
theorem dJ6_siftUpUsingComparator_5 : decode cJ6_siftUpUsingComparator 5 = .ok (.iconst 1, 1) := dk_4 (dk_at dksJ6_siftUpUsingComparator_0 5 rfl rfl)
theorem dJ6_siftUpUsingComparator_6 : decode cJ6_siftUpUsingComparator 6 = .ok (.isub, 1) := dk_100 (dk_at dksJ6_siftUpUsingComparator_0 6 rfl rfl)
theorem dJ6_siftUpUsingComparator_7 : decode cJ6_siftUpUsingComparator 7 = .ok (.iconst 1, 1) := dk_4 (dk_at dksJ6_siftUpUsingComparator_0 7 rfl rfl)
theorem dJ6_siftUpUsingComparator_8 : decode cJ6_siftUpUsingComparator 8 = .ok (.iushr, 1) := dk_124 (dk_at dksJ6_siftUpUsingComparator_0 8 rfl rfl)
theorem dJ6_siftUpUsingComparator_9 : decode cJ6_siftUpUsingComparator 9 = .ok (.istore 4, 2) := dk_54 4 (dk_at dksJ6_siftUpUsingComparator_0 9 rfl rfl)
theorem dJ6_siftUpUsingComparator_11 : decode cJ6_siftUpUsingComparator 11 = .ok (.aload_n 2, 1) := dk_44 (dk_at dksJ6_siftUpUsingComparator_0 11 rfl rfl)
theorem dJ6_siftUpUsingComparator_12 : decode cJ6_siftUpUsingComparator 12 = .ok (.iload 4, 2) := dk_21 4 (dk_at dksJ6_siftUpUsingComparator_0 12 rfl rfl)
theorem dJ6_siftUpUsingComparator_14 : decode cJ6_siftUpUsingComparator 14 = .ok (.aaload, 1) := dk_50 (dk_at dksJ6_siftUpUsingComparator_0 14 rfl rfl)
theorem dJ6_siftUpUsingComparator_15 : decode cJ6_siftUpUsingComparator 15 = .ok (.astore 5, 2) := dk_58 5 (dk_at dksJ6_siftUpUsingComparator_0 15 rfl rfl)
theorem dJ6_siftUpUsingComparator_17 : decode cJ6_siftUpUsingComparator 17 = .ok (.aload_n 3, 1) := dk_45 (dk_at dksJ6_siftUpUsingComparator_0 17 rfl rfl)
theorem dJ6_siftUpUsingComparator_18 : decode cJ6_siftUpUsingComparator 18 = .ok (.aload_n 1, 1) := dk_43 (dk_at dksJ6_siftUpUsingComparator_0 18 rfl rfl)
theorem dJ6_siftUpUsingComparator_19 : decode cJ6_siftUpUsingComparator 19 = .ok (.aload 5, 2) := dk_25 5 (dk_at dksJ6_siftUpUsingComparator_0 19 rfl rfl)
theorem dJ6_siftUpUsingComparator_21 : decode cJ6_siftUpUsingComparator 21 = .ok (.invokeinterface 149 3, 5) := by decide +kernel
theorem dJ6_siftUpUsingComparator_26 : decode cJ6_siftUpUsingComparator 26 = .ok (.ifCond .lt 6, 3) := dk_155 0 6 (dk_at dksJ6_siftUpUsingComparator_1 5 rfl rfl)
theorem dJ6_siftUpUsingComparator_29 : decode cJ6_siftUpUsingComparator 29 = .ok (.goto 14, 3) := dk_167 0 14 (dk_at dksJ6_siftUpUsingComparator_1 8 rfl rfl)
theorem dJ6_siftUpUsingComparator_32 : decode cJ6_siftUpUsingComparator 32 = .ok (.aload_n 2, 1) := dk_44 (dk_at dksJ6_siftUpUsingComparator_1 11 rfl rfl)
theorem dJ6_siftUpUsingComparator_33 : decode cJ6_siftUpUsingComparator 33 = .ok (.iload_n 0, 1) := dk_26 (dk_at dksJ6_siftUpUsingComparator_1 12 rfl rfl)
theorem dJ6_siftUpUsingComparator_34 : decode cJ6_siftUpUsingComparator 34 = .ok (.aload 5, 2) := dk_25 5 (dk_at dksJ6_siftUpUsingComparator_1 13 rfl rfl)
theorem dJ6_siftUpUsingComparator_36 : decode cJ6_siftUpUsingComparator 36 = .ok (.aastore, 1) := dk_83 (dk_at dksJ6_siftUpUsingComparator_1 15 rfl rfl)
theorem dJ6_siftUpUsingComparator_37 : decode cJ6_siftUpUsingComparator 37 = .ok (.iload 4, 2) := dk_21 4 (dk_at dksJ6_siftUpUsingComparator_1 16 rfl rfl)
theorem dJ6_siftUpUsingComparator_39 : decode cJ6_siftUpUsingComparator 39 = .ok (.istore_n 0, 1) := dk_59 (dk_at dksJ6_siftUpUsingComparator_1 18 rfl rfl)
theorem dJ6_siftUpUsingComparator_40 : decode cJ6_siftUpUsingComparator 40 = .ok (.goto (-40), 3) := dk_167 255 216 (dk_at dksJ6_siftUpUsingComparator_1 19 rfl rfl)
theorem dJ6_siftUpUsingComparator_43 : decode cJ6_siftUpUsingComparator 43 = .ok (.aload_n 2, 1) := dk_44 (dk_at dksJ6_siftUpUsingComparator_1 22 rfl rfl)
theorem dJ6_siftUpUsingComparator_44 : decode cJ6_siftUpUsingComparator 44 = .ok (.iload_n 0, 1) := dk_26 (dk_at dksJ6_siftUpUsingComparator_1 23 rfl rfl)
theorem dJ6_siftUpUsingComparator_45 : decode cJ6_siftUpUsingComparator 45 = .ok (.aload_n 1, 1) := dk_43 (dk_at dksJ6_siftUpUsingComparator_2 0 rfl rfl)
theorem dJ6_siftUpUsingComparator_46 : decode cJ6_siftUpUsingComparator 46 = .ok (.aastore, 1) := dk_83 (dk_at dksJ6_siftUpUsingComparator_2 1 rfl rfl)
theorem dJ6_siftUpUsingComparator_47 : decode cJ6_siftUpUsingComparator 47 = .ok (.return_, 1) := dk_177 (dk_at dksJ6_siftUpUsingComparator_2 2 rfl rfl)
abbrev cJ6_siftUpComparable : ByteArray := prog_55_method_28_code
def yJ6_siftUpComparable : MethodName := ⟨RJ6, "siftUpComparable", "(ILjava/lang/Object;[Ljava/lang/Object;)V"⟩
def dkwJ6_siftUpComparable_2 : List UInt8 := [44, 26, 45, 83, 177]
abbrev dktJ6_siftUpComparable_2 : List UInt8 := dkwJ6_siftUpComparable_2 ++ []
def dkwJ6_siftUpComparable_1 : List UInt8 := [25, 5, 185, 0, 146, 2, 0, 155, 0, 6, 167, 0, 14, 44, 26, 25, 5, 83, 21, 4, 59, 167, 255, 217]
abbrev dktJ6_siftUpComparable_1 : List UInt8 := dkwJ6_siftUpComparable_1 ++ dktJ6_siftUpComparable_2
def dkwJ6_siftUpComparable_0 : List UInt8 := [43, 192, 0, 144, 78, 26, 158, 0, 41, 26, 4, 100, 4, 124, 54, 4, 44, 21, 4, 50, 58, 5, 45]
abbrev dktJ6_siftUpComparable_0 : List UInt8 := dkwJ6_siftUpComparable_0 ++ dktJ6_siftUpComparable_1
theorem dksJ6_siftUpComparable_0 : cJ6_siftUpComparable.data.toList.drop 0 = dktJ6_siftUpComparable_0 := by decide +kernel
theorem dksJ6_siftUpComparable_1 : cJ6_siftUpComparable.data.toList.drop 23 = dktJ6_siftUpComparable_1 := dk_seg dksJ6_siftUpComparable_0 23 rfl rfl
theorem dksJ6_siftUpComparable_2 : cJ6_siftUpComparable.data.toList.drop 47 = dktJ6_siftUpComparable_2 := dk_seg dksJ6_siftUpComparable_1 24 rfl rfl
theorem dJ6_siftUpComparable_0 : decode cJ6_siftUpComparable 0 = .ok (.aload_n 1, 1) := dk_43 (dk_at dksJ6_siftUpComparable_0 0 rfl rfl)
theorem dJ6_siftUpComparable_1 : decode cJ6_siftUpComparable 1 = .ok (.checkcast 144, 3) := dk_192 0 144 (dk_at dksJ6_siftUpComparable_0 1 rfl rfl)
theorem dJ6_siftUpComparable_4 : decode cJ6_siftUpComparable 4 = .ok (.astore_n 3, 1) := dk_78 (dk_at dksJ6_siftUpComparable_0 4 rfl rfl)
theorem dJ6_siftUpComparable_5 : decode cJ6_siftUpComparable 5 = .ok (.iload_n 0, 1) := dk_26 (dk_at dksJ6_siftUpComparable_0 5 rfl rfl)
theorem dJ6_siftUpComparable_6 : decode cJ6_siftUpComparable 6 = .ok (.ifCond .le 41, 3) := dk_158 0 41 (dk_at dksJ6_siftUpComparable_0 6 rfl rfl)
theorem dJ6_siftUpComparable_9 : decode cJ6_siftUpComparable 9 = .ok (.iload_n 0, 1) := dk_26 (dk_at dksJ6_siftUpComparable_0 9 rfl rfl)
theorem dJ6_siftUpComparable_10 : decode cJ6_siftUpComparable 10 = .ok (.iconst 1, 1) := dk_4 (dk_at dksJ6_siftUpComparable_0 10 rfl rfl)
theorem dJ6_siftUpComparable_11 : decode cJ6_siftUpComparable 11 = .ok (.isub, 1) := dk_100 (dk_at dksJ6_siftUpComparable_0 11 rfl rfl)
theorem dJ6_siftUpComparable_12 : decode cJ6_siftUpComparable 12 = .ok (.iconst 1, 1) := dk_4 (dk_at dksJ6_siftUpComparable_0 12 rfl rfl)
theorem dJ6_siftUpComparable_13 : decode cJ6_siftUpComparable 13 = .ok (.iushr, 1) := dk_124 (dk_at dksJ6_siftUpComparable_0 13 rfl rfl)
theorem dJ6_siftUpComparable_14 : decode cJ6_siftUpComparable 14 = .ok (.istore 4, 2) := dk_54 4 (dk_at dksJ6_siftUpComparable_0 14 rfl rfl)
theorem dJ6_siftUpComparable_16 : decode cJ6_siftUpComparable 16 = .ok (.aload_n 2, 1) := dk_44 (dk_at dksJ6_siftUpComparable_0 16 rfl rfl)
theorem dJ6_siftUpComparable_17 : decode cJ6_siftUpComparable 17 = .ok (.iload 4, 2) := dk_21 4 (dk_at dksJ6_siftUpComparable_0 17 rfl rfl)
theorem dJ6_siftUpComparable_19 : decode cJ6_siftUpComparable 19 = .ok (.aaload, 1) := dk_50 (dk_at dksJ6_siftUpComparable_0 19 rfl rfl)
theorem dJ6_siftUpComparable_20 : decode cJ6_siftUpComparable 20 = .ok (.astore 5, 2) := dk_58 5 (dk_at dksJ6_siftUpComparable_0 20 rfl rfl)
theorem dJ6_siftUpComparable_22 : decode cJ6_siftUpComparable 22 = .ok (.aload_n 3, 1) := dk_45 (dk_at dksJ6_siftUpComparable_0 22 rfl rfl)
theorem dJ6_siftUpComparable_23 : decode cJ6_siftUpComparable 23 = .ok (.aload 5, 2) := dk_25 5 (dk_at dksJ6_siftUpComparable_1 0 rfl rfl)
theorem dJ6_siftUpComparable_25 : decode cJ6_siftUpComparable 25 = .ok (.invokeinterface 146 2, 5) := by decide +kernel
theorem dJ6_siftUpComparable_30 : decode cJ6_siftUpComparable 30 = .ok (.ifCond .lt 6, 3) := dk_155 0 6 (dk_at dksJ6_siftUpComparable_1 7 rfl rfl)
theorem dJ6_siftUpComparable_33 : decode cJ6_siftUpComparable 33 = .ok (.goto 14, 3) := dk_167 0 14 (dk_at dksJ6_siftUpComparable_1 10 rfl rfl)
theorem dJ6_siftUpComparable_36 : decode cJ6_siftUpComparable 36 = .ok (.aload_n 2, 1) := dk_44 (dk_at dksJ6_siftUpComparable_1 13 rfl rfl)
theorem dJ6_siftUpComparable_37 : decode cJ6_siftUpComparable 37 = .ok (.iload_n 0, 1) := dk_26 (dk_at dksJ6_siftUpComparable_1 14 rfl rfl)
theorem dJ6_siftUpComparable_38 : decode cJ6_siftUpComparable 38 = .ok (.aload 5, 2) := dk_25 5 (dk_at dksJ6_siftUpComparable_1 15 rfl rfl)
theorem dJ6_siftUpComparable_40 : decode cJ6_siftUpComparable 40 = .ok (.aastore, 1) := dk_83 (dk_at dksJ6_siftUpComparable_1 17 rfl rfl)
theorem dJ6_siftUpComparable_41 : decode cJ6_siftUpComparable 41 = .ok (.iload 4, 2) := dk_21 4 (dk_at dksJ6_siftUpComparable_1 18 rfl rfl)
theorem dJ6_siftUpComparable_43 : decode cJ6_siftUpComparable 43 = .ok (.istore_n 0, 1) := dk_59 (dk_at dksJ6_siftUpComparable_1 20 rfl rfl)
theorem dJ6_siftUpComparable_44 : decode cJ6_siftUpComparable 44 = .ok (.goto (-39), 3) := dk_167 255 217 (dk_at dksJ6_siftUpComparable_1 21 rfl rfl)
theorem dJ6_siftUpComparable_47 : decode cJ6_siftUpComparable 47 = .ok (.aload_n 2, 1) := dk_44 (dk_at dksJ6_siftUpComparable_2 0 rfl rfl)
theorem dJ6_siftUpComparable_48 : decode cJ6_siftUpComparable 48 = .ok (.iload_n 0, 1) := dk_26 (dk_at dksJ6_siftUpComparable_2 1 rfl rfl)
theorem dJ6_siftUpComparable_49 : decode cJ6_siftUpComparable 49 = .ok (.aload_n 3, 1) := dk_45 (dk_at dksJ6_siftUpComparable_2 2 rfl rfl)
theorem dJ6_siftUpComparable_50 : decode cJ6_siftUpComparable 50 = .ok (.aastore, 1) := dk_83 (dk_at dksJ6_siftUpComparable_2 3 rfl rfl)
theorem dJ6_siftUpComparable_51 : decode cJ6_siftUpComparable 51 = .ok (.return_, 1) := dk_177 (dk_at dksJ6_siftUpComparable_2 4 rfl rfl)
abbrev cJ6_size : ByteArray := prog_55_method_23_code
def yJ6_size : MethodName := ⟨RJ6, "size", "()I"⟩
theorem dJ6_size_0 : decode cJ6_size 0 = .ok (.aload_n 0, 1) := by decide +kernel
theorem dJ6_size_1 : decode cJ6_size 1 = .ok (.getfield 58, 3) := by decide +kernel
theorem dJ6_size_4 : decode cJ6_size 4 = .ok (.ireturn, 1) := by decide +kernel
abbrev cJ6_poll : ByteArray := prog_55_method_25_code
def yJ6_poll : MethodName := ⟨RJ6, "poll", "()Ljava/lang/Object;"⟩
def dkwJ6_poll_3 : List UInt8 := [43, 29, 25, 5, 184, 0, 129, 44, 176]
abbrev dktJ6_poll_3 : List UInt8 := dkwJ6_poll_3 ++ []
def dkwJ6_poll_2 : List UInt8 := [42, 180, 0, 21, 89, 58, 5, 199, 0, 14, 3, 25, 4, 43, 29, 184, 0, 125, 167, 0, 13, 3, 25, 4]
abbrev dktJ6_poll_2 : List UInt8 := dkwJ6_poll_2 ++ dktJ6_poll_3
def dkwJ6_poll_1 : List UInt8 := [42, 89, 180, 0, 58, 4, 100, 90, 181, 0, 58, 89, 62, 50, 58, 4, 43, 29, 1, 83, 29, 158, 0, 34]
abbrev dktJ6_poll_1 : List UInt8 := dkwJ6_poll_1 ++ dktJ6_poll_2
def dkwJ6_poll_0 : List UInt8 := [42, 180, 0, 17, 89, 76, 3, 50, 89, 77, 198, 0, 69, 42, 89, 180, 0, 93, 4, 96, 181, 0, 93, 43]
abbrev dktJ6_poll_0 : List UInt8 := dkwJ6_poll_0 ++ dktJ6_poll_1
theorem dksJ6_poll_0 : cJ6_poll.data.toList.drop 0 = dktJ6_poll_0 := by decide +kernel
theorem dksJ6_poll_1 : cJ6_poll.data.toList.drop 24 = dktJ6_poll_1 := dk_seg dksJ6_poll_0 24 rfl rfl
theorem dksJ6_poll_2 : cJ6_poll.data.toList.drop 48 = dktJ6_poll_2 := dk_seg dksJ6_poll_1 24 rfl rfl
theorem dksJ6_poll_3 : cJ6_poll.data.toList.drop 72 = dktJ6_poll_3 := dk_seg dksJ6_poll_2 24 rfl rfl
theorem dJ6_poll_0 : decode cJ6_poll 0 = .ok (.aload_n 0, 1) := dk_42 (dk_at dksJ6_poll_0 0 rfl rfl)
theorem dJ6_poll_1 : decode cJ6_poll 1 = .ok (.getfield 17, 3) := dk_180 0 17 (dk_at dksJ6_poll_0 1 rfl rfl)
theorem dJ6_poll_4 : decode cJ6_poll 4 = .ok (.dup, 1) := dk_89 (dk_at dksJ6_poll_0 4 rfl rfl)
theorem dJ6_poll_5 : decode cJ6_poll 5 = .ok (.astore_n 1, 1) := dk_76 (dk_at dksJ6_poll_0 5 rfl rfl)
theorem dJ6_poll_6 : decode cJ6_poll 6 = .ok (.iconst 0, 1) := dk_3 (dk_at dksJ6_poll_0 6 rfl rfl)
theorem dJ6_poll_7 : decode cJ6_poll 7 = .ok (.aaload, 1) := dk_50 (dk_at dksJ6_poll_0 7 rfl rfl)
theorem dJ6_poll_8 : decode cJ6_poll 8 = .ok (.dup, 1) := dk_89 (dk_at dksJ6_poll_0 8 rfl rfl)
theorem dJ6_poll_9 : decode cJ6_poll 9 = .ok (.astore_n 2, 1) := dk_77 (dk_at dksJ6_poll_0 9 rfl rfl)
theorem dJ6_poll_10 : decode cJ6_poll 10 = .ok (.ifnull 69, 3) := dk_198 0 69 (dk_at dksJ6_poll_0 10 rfl rfl)
theorem dJ6_poll_13 : decode cJ6_poll 13 = .ok (.aload_n 0, 1) := dk_42 (dk_at dksJ6_poll_0 13 rfl rfl)
theorem dJ6_poll_14 : decode cJ6_poll 14 = .ok (.dup, 1) := dk_89 (dk_at dksJ6_poll_0 14 rfl rfl)
theorem dJ6_poll_15 : decode cJ6_poll 15 = .ok (.getfield 93, 3) := dk_180 0 93 (dk_at dksJ6_poll_0 15 rfl rfl)
theorem dJ6_poll_18 : decode cJ6_poll 18 = .ok (.iconst 1, 1) := dk_4 (dk_at dksJ6_poll_0 18 rfl rfl)
theorem dJ6_poll_19 : decode cJ6_poll 19 = .ok (.iadd, 1) := dk_96 (dk_at dksJ6_poll_0 19 rfl rfl)
theorem dJ6_poll_20 : decode cJ6_poll 20 = .ok (.putfield 93, 3) := dk_181 0 93 (dk_at dksJ6_poll_0 20 rfl rfl)
theorem dJ6_poll_23 : decode cJ6_poll 23 = .ok (.aload_n 1, 1) := dk_43 (dk_at dksJ6_poll_0 23 rfl rfl)
theorem dJ6_poll_24 : decode cJ6_poll 24 = .ok (.aload_n 0, 1) := dk_42 (dk_at dksJ6_poll_1 0 rfl rfl)
theorem dJ6_poll_25 : decode cJ6_poll 25 = .ok (.dup, 1) := dk_89 (dk_at dksJ6_poll_1 1 rfl rfl)
theorem dJ6_poll_26 : decode cJ6_poll 26 = .ok (.getfield 58, 3) := dk_180 0 58 (dk_at dksJ6_poll_1 2 rfl rfl)
theorem dJ6_poll_29 : decode cJ6_poll 29 = .ok (.iconst 1, 1) := dk_4 (dk_at dksJ6_poll_1 5 rfl rfl)
theorem dJ6_poll_30 : decode cJ6_poll 30 = .ok (.isub, 1) := dk_100 (dk_at dksJ6_poll_1 6 rfl rfl)
theorem dJ6_poll_31 : decode cJ6_poll 31 = .ok (.dup_x1, 1) := dk_90 (dk_at dksJ6_poll_1 7 rfl rfl)
theorem dJ6_poll_32 : decode cJ6_poll 32 = .ok (.putfield 58, 3) := dk_181 0 58 (dk_at dksJ6_poll_1 8 rfl rfl)
theorem dJ6_poll_35 : decode cJ6_poll 35 = .ok (.dup, 1) := dk_89 (dk_at dksJ6_poll_1 11 rfl rfl)
theorem dJ6_poll_36 : decode cJ6_poll 36 = .ok (.istore_n 3, 1) := dk_62 (dk_at dksJ6_poll_1 12 rfl rfl)
theorem dJ6_poll_37 : decode cJ6_poll 37 = .ok (.aaload, 1) := dk_50 (dk_at dksJ6_poll_1 13 rfl rfl)
theorem dJ6_poll_38 : decode cJ6_poll 38 = .ok (.astore 4, 2) := dk_58 4 (dk_at dksJ6_poll_1 14 rfl rfl)
theorem dJ6_poll_40 : decode cJ6_poll 40 = .ok (.aload_n 1, 1) := dk_43 (dk_at dksJ6_poll_1 16 rfl rfl)
theorem dJ6_poll_41 : decode cJ6_poll 41 = .ok (.iload_n 3, 1) := dk_29 (dk_at dksJ6_poll_1 17 rfl rfl)
theorem dJ6_poll_42 : decode cJ6_poll 42 = .ok (.aconst_null, 1) := dk_1 (dk_at dksJ6_poll_1 18 rfl rfl)
theorem dJ6_poll_43 : decode cJ6_poll 43 = .ok (.aastore, 1) := dk_83 (dk_at dksJ6_poll_1 19 rfl rfl)
theorem dJ6_poll_44 : decode cJ6_poll 44 = .ok (.iload_n 3, 1) := dk_29 (dk_at dksJ6_poll_1 20 rfl rfl)
theorem dJ6_poll_45 : decode cJ6_poll 45 = .ok (.ifCond .le 34, 3) := dk_158 0 34 (dk_at dksJ6_poll_1 21 rfl rfl)
theorem dJ6_poll_48 : decode cJ6_poll 48 = .ok (.aload_n 0, 1) := dk_42 (dk_at dksJ6_poll_2 0 rfl rfl)
theorem dJ6_poll_49 : decode cJ6_poll 49 = .ok (.getfield 21, 3) := dk_180 0 21 (dk_at dksJ6_poll_2 1 rfl rfl)
theorem dJ6_poll_52 : decode cJ6_poll 52 = .ok (.dup, 1) := dk_89 (dk_at dksJ6_poll_2 4 rfl rfl)
theorem dJ6_poll_53 : decode cJ6_poll 53 = .ok (.astore 5, 2) := dk_58 5 (dk_at dksJ6_poll_2 5 rfl rfl)
theorem dJ6_poll_55 : decode cJ6_poll 55 = .ok (.ifnonnull 14, 3) := dk_199 0 14 (dk_at dksJ6_poll_2 7 rfl rfl)
theorem dJ6_poll_58 : decode cJ6_poll 58 = .ok (.iconst 0, 1) := dk_3 (dk_at dksJ6_poll_2 10 rfl rfl)
theorem dJ6_poll_59 : decode cJ6_poll 59 = .ok (.aload 4, 2) := dk_25 4 (dk_at dksJ6_poll_2 11 rfl rfl)
theorem dJ6_poll_61 : decode cJ6_poll 61 = .ok (.aload_n 1, 1) := dk_43 (dk_at dksJ6_poll_2 13 rfl rfl)
theorem dJ6_poll_62 : decode cJ6_poll 62 = .ok (.iload_n 3, 1) := dk_29 (dk_at dksJ6_poll_2 14 rfl rfl)
theorem dJ6_poll_63 : decode cJ6_poll 63 = .ok (.invokestatic 125, 3) := dk_184 0 125 (dk_at dksJ6_poll_2 15 rfl rfl)
theorem dJ6_poll_66 : decode cJ6_poll 66 = .ok (.goto 13, 3) := dk_167 0 13 (dk_at dksJ6_poll_2 18 rfl rfl)
theorem dJ6_poll_69 : decode cJ6_poll 69 = .ok (.iconst 0, 1) := dk_3 (dk_at dksJ6_poll_2 21 rfl rfl)
theorem dJ6_poll_70 : decode cJ6_poll 70 = .ok (.aload 4, 2) := dk_25 4 (dk_at dksJ6_poll_2 22 rfl rfl)
theorem dJ6_poll_72 : decode cJ6_poll 72 = .ok (.aload_n 1, 1) := dk_43 (dk_at dksJ6_poll_3 0 rfl rfl)
theorem dJ6_poll_73 : decode cJ6_poll 73 = .ok (.iload_n 3, 1) := dk_29 (dk_at dksJ6_poll_3 1 rfl rfl)
theorem dJ6_poll_74 : decode cJ6_poll 74 = .ok (.aload 5, 2) := dk_25 5 (dk_at dksJ6_poll_3 2 rfl rfl)
theorem dJ6_poll_76 : decode cJ6_poll 76 = .ok (.invokestatic 129, 3) := dk_184 0 129 (dk_at dksJ6_poll_3 4 rfl rfl)
theorem dJ6_poll_79 : decode cJ6_poll 79 = .ok (.aload_n 2, 1) := dk_44 (dk_at dksJ6_poll_3 7 rfl rfl)
theorem dJ6_poll_80 : decode cJ6_poll 80 = .ok (.areturn, 1) := dk_176 (dk_at dksJ6_poll_3 8 rfl rfl)
abbrev cJ6_siftDownComparable : ByteArray := prog_55_method_31_code
def yJ6_siftDownComparable : MethodName := ⟨RJ6, "siftDownComparable", "(ILjava/lang/Object;[Ljava/lang/Object;I)V"⟩
def dkwJ6_siftDownComparable_4 : List UInt8 := [25, 4, 83, 177]
abbrev dktJ6_siftDownComparable_4 : List UInt8 := dkwJ6_siftDownComparable_4 ++ []
def dkwJ6_siftDownComparable_3 : List UInt8 := [185, 0, 146, 2, 0, 157, 0, 6, 167, 0, 14, 44, 26, 25, 7, 83, 21, 6, 59, 167, 255, 176, 44, 26]
abbrev dktJ6_siftDownComparable_3 : List UInt8 := dkwJ6_siftDownComparable_3 ++ dktJ6_siftDownComparable_4
def dkwJ6_siftDownComparable_2 : List UInt8 := [21, 8, 50, 185, 0, 146, 2, 0, 158, 0, 12, 44, 21, 8, 89, 54, 6, 50, 58, 7, 25, 4, 25, 7]
abbrev dktJ6_siftDownComparable_2 : List UInt8 := dkwJ6_siftDownComparable_2 ++ dktJ6_siftDownComparable_3
def dkwJ6_siftDownComparable_1 : List UInt8 := [44, 21, 6, 50, 58, 7, 21, 6, 4, 96, 54, 8, 21, 8, 29, 162, 0, 29, 25, 7, 192, 0, 144, 44]
abbrev dktJ6_siftDownComparable_1 : List UInt8 := dkwJ6_siftDownComparable_1 ++ dktJ6_siftDownComparable_2
def dkwJ6_siftDownComparable_0 : List UInt8 := [43, 192, 0, 144, 58, 4, 29, 4, 124, 54, 5, 26, 21, 5, 162, 0, 80, 26, 4, 120, 4, 96, 54, 6]
abbrev dktJ6_siftDownComparable_0 : List UInt8 := dkwJ6_siftDownComparable_0 ++ dktJ6_siftDownComparable_1
theorem dksJ6_siftDownComparable_0 : cJ6_siftDownComparable.data.toList.drop 0 = dktJ6_siftDownComparable_0 := by decide +kernel
theorem dksJ6_siftDownComparable_1 : cJ6_siftDownComparable.data.toList.drop 24 = dktJ6_siftDownComparable_1 := dk_seg dksJ6_siftDownComparable_0 24 rfl rfl
theorem dksJ6_siftDownComparable_2 : cJ6_siftDownComparable.data.toList.drop 48 = dktJ6_siftDownComparable_2 := dk_seg dksJ6_siftDownComparable_1 24 rfl rfl
theorem dksJ6_siftDownComparable_3 : cJ6_siftDownComparable.data.toList.drop 72 = dktJ6_siftDownComparable_3 := dk_seg dksJ6_siftDownComparable_2 24 rfl rfl
theorem dksJ6_siftDownComparable_4 : cJ6_siftDownComparable.data.toList.drop 96 = dktJ6_siftDownComparable_4 := dk_seg dksJ6_siftDownComparable_3 24 rfl rfl
theorem dJ6_siftDownComparable_0 : decode cJ6_siftDownComparable 0 = .ok (.aload_n 1, 1) := dk_43 (dk_at dksJ6_siftDownComparable_0 0 rfl rfl)
theorem dJ6_siftDownComparable_1 : decode cJ6_siftDownComparable 1 = .ok (.checkcast 144, 3) := dk_192 0 144 (dk_at dksJ6_siftDownComparable_0 1 rfl rfl)
theorem dJ6_siftDownComparable_4 : decode cJ6_siftDownComparable 4 = .ok (.astore 4, 2) := dk_58 4 (dk_at dksJ6_siftDownComparable_0 4 rfl rfl)
theorem dJ6_siftDownComparable_6 : decode cJ6_siftDownComparable 6 = .ok (.iload_n 3, 1) := dk_29 (dk_at dksJ6_siftDownComparable_0 6 rfl rfl)
theorem dJ6_siftDownComparable_7 : decode cJ6_siftDownComparable 7 = .ok (.iconst 1, 1) := dk_4 (dk_at dksJ6_siftDownComparable_0 7 rfl rfl)
theorem dJ6_siftDownComparable_8 : decode cJ6_siftDownComparable 8 = .ok (.iushr, 1) := dk_124 (dk_at dksJ6_siftDownComparable_0 8 rfl rfl)
theorem dJ6_siftDownComparable_9 : decode cJ6_siftDownComparable 9 = .ok (.istore 5, 2) := dk_54 5 (dk_at dksJ6_siftDownComparable_0 9 rfl rfl)
theorem dJ6_siftDownComparable_11 : decode cJ6_siftDownComparable 11 = .ok (.iload_n 0, 1) := dk_26 (dk_at dksJ6_siftDownComparable_0 11 rfl rfl)
theorem dJ6_siftDownComparable_12 : decode cJ6_siftDownComparable 12 = .ok (.iload 5, 2) := dk_21 5 (dk_at dksJ6_siftDownComparable_0 12 rfl rfl)
theorem dJ6_siftDownComparable_14 : decode cJ6_siftDownComparable 14 = .ok (.if_icmp .ge 80, 3) := dk_162 0 80 (dk_at dksJ6_siftDownComparable_0 14 rfl rfl)
theorem dJ6_siftDownComparable_17 : decode cJ6_siftDownComparable 17 = .ok (.iload_n 0, 1) := dk_26 (dk_at dksJ6_siftDownComparable_0 17 rfl rfl)
theorem dJ6_siftDownComparable_18 : decode cJ6_siftDownComparable 18 = .ok (.iconst 1, 1) := dk_4 (dk_at dksJ6_siftDownComparable_0 18 rfl rfl)
theorem dJ6_siftDownComparable_19 : decode cJ6_siftDownComparable 19 = .ok (.ishl, 1) := dk_120 (dk_at dksJ6_siftDownComparable_0 19 rfl rfl)
theorem dJ6_siftDownComparable_20 : decode cJ6_siftDownComparable 20 = .ok (.iconst 1, 1) := dk_4 (dk_at dksJ6_siftDownComparable_0 20 rfl rfl)
theorem dJ6_siftDownComparable_21 : decode cJ6_siftDownComparable 21 = .ok (.iadd, 1) := dk_96 (dk_at dksJ6_siftDownComparable_0 21 rfl rfl)
theorem dJ6_siftDownComparable_22 : decode cJ6_siftDownComparable 22 = .ok (.istore 6, 2) := dk_54 6 (dk_at dksJ6_siftDownComparable_0 22 rfl rfl)
theorem dJ6_siftDownComparable_24 : decode cJ6_siftDownComparable 24 = .ok (.aload_n 2, 1) := dk_44 (dk_at dksJ6_siftDownComparable_1 0 rfl rfl)
theorem dJ6_siftDownComparable_25 : decode cJ6_siftDownComparable 25 = .ok (.iload 6, 2) := dk_21 6 (dk_at dksJ6_siftDownComparable_1 1 rfl rfl)
theorem dJ6_siftDownComparable_27 : decode cJ6_siftDownComparable 27 = .ok (.aaload, 1) := dk_50 (dk_at dksJ6_siftDownComparable_1 3 rfl rfl)
theorem dJ6_siftDownComparable_28 : decode cJ6_siftDownComparable 28 = .ok (.astore 7, 2) := dk_58 7 (dk_at dksJ6_siftDownComparable_1 4 rfl rfl)
theorem dJ6_siftDownComparable_30 : decode cJ6_siftDownComparable 30 = .ok (.iload 6, 2) := dk_21 6 (dk_at dksJ6_siftDownComparable_1 6 rfl rfl)
theorem dJ6_siftDownComparable_32 : decode cJ6_siftDownComparable 32 = .ok (.iconst 1, 1) := dk_4 (dk_at dksJ6_siftDownComparable_1 8 rfl rfl)
theorem dJ6_siftDownComparable_33 : decode cJ6_siftDownComparable 33 = .ok (.iadd, 1) := dk_96 (dk_at dksJ6_siftDownComparable_1 9 rfl rfl)
theorem dJ6_siftDownComparable_34 : decode cJ6_siftDownComparable 34 = .ok (.istore 8, 2) := dk_54 8 (dk_at dksJ6_siftDownComparable_1 10 rfl rfl)
theorem dJ6_siftDownComparable_36 : decode cJ6_siftDownComparable 36 = .ok (.iload 8, 2) := dk_21 8 (dk_at dksJ6_siftDownComparable_1 12 rfl rfl)
theorem dJ6_siftDownComparable_38 : decode cJ6_siftDownComparable 38 = .ok (.iload_n 3, 1) := dk_29 (dk_at dksJ6_siftDownComparable_1 14 rfl rfl)
theorem dJ6_siftDownComparable_39 : decode cJ6_siftDownComparable 39 = .ok (.if_icmp .ge 29, 3) := dk_162 0 29 (dk_at dksJ6_siftDownComparable_1 15 rfl rfl)
theorem dJ6_siftDownComparable_42 : decode cJ6_siftDownComparable 42 = .ok (.aload 7, 2) := dk_25 7 (dk_at dksJ6_siftDownComparable_1 18 rfl rfl)
theorem dJ6_siftDownComparable_44 : decode cJ6_siftDownComparable 44 = .ok (.checkcast 144, 3) := dk_192 0 144 (dk_at dksJ6_siftDownComparable_1 20 rfl rfl)
theorem dJ6_siftDownComparable_47 : decode cJ6_siftDownComparable 47 = .ok (.aload_n 2, 1) := dk_44 (dk_at dksJ6_siftDownComparable_1 23 rfl rfl)
theorem dJ6_siftDownComparable_48 : decode cJ6_siftDownComparable 48 = .ok (.iload 8, 2) := dk_21 8 (dk_at dksJ6_siftDownComparable_2 0 rfl rfl)
theorem dJ6_siftDownComparable_50 : decode cJ6_siftDownComparable 50 = .ok (.aaload, 1) := dk_50 (dk_at dksJ6_siftDownComparable_2 2 rfl rfl)
theorem dJ6_siftDownComparable_51 : decode cJ6_siftDownComparable 51 = .ok (.invokeinterface 146 2, 5) := by decide +kernel
theorem dJ6_siftDownComparable_56 : decode cJ6_siftDownComparable 56 = .ok (.ifCond .le 12, 3) := dk_158 0 12 (dk_at dksJ6_siftDownComparable_2 8 rfl rfl)
theorem dJ6_siftDownComparable_59 : decode cJ6_siftDownComparable 59 = .ok (.aload_n 2, 1) := dk_44 (dk_at dksJ6_siftDownComparable_2 11 rfl rfl)
theorem dJ6_siftDownComparable_60 : decode cJ6_siftDownComparable 60 = .ok (.iload 8, 2) := dk_21 8 (dk_at dksJ6_siftDownComparable_2 12 rfl rfl)
theorem dJ6_siftDownComparable_62 : decode cJ6_siftDownComparable 62 = .ok (.dup, 1) := dk_89 (dk_at dksJ6_siftDownComparable_2 14 rfl rfl)
theorem dJ6_siftDownComparable_63 : decode cJ6_siftDownComparable 63 = .ok (.istore 6, 2) := dk_54 6 (dk_at dksJ6_siftDownComparable_2 15 rfl rfl)
theorem dJ6_siftDownComparable_65 : decode cJ6_siftDownComparable 65 = .ok (.aaload, 1) := dk_50 (dk_at dksJ6_siftDownComparable_2 17 rfl rfl)
theorem dJ6_siftDownComparable_66 : decode cJ6_siftDownComparable 66 = .ok (.astore 7, 2) := dk_58 7 (dk_at dksJ6_siftDownComparable_2 18 rfl rfl)
theorem dJ6_siftDownComparable_68 : decode cJ6_siftDownComparable 68 = .ok (.aload 4, 2) := dk_25 4 (dk_at dksJ6_siftDownComparable_2 20 rfl rfl)
theorem dJ6_siftDownComparable_70 : decode cJ6_siftDownComparable 70 = .ok (.aload 7, 2) := dk_25 7 (dk_at dksJ6_siftDownComparable_2 22 rfl rfl)
theorem dJ6_siftDownComparable_72 : decode cJ6_siftDownComparable 72 = .ok (.invokeinterface 146 2, 5) := by decide +kernel
theorem dJ6_siftDownComparable_77 : decode cJ6_siftDownComparable 77 = .ok (.ifCond .gt 6, 3) := dk_157 0 6 (dk_at dksJ6_siftDownComparable_3 5 rfl rfl)
theorem dJ6_siftDownComparable_80 : decode cJ6_siftDownComparable 80 = .ok (.goto 14, 3) := dk_167 0 14 (dk_at dksJ6_siftDownComparable_3 8 rfl rfl)
theorem dJ6_siftDownComparable_83 : decode cJ6_siftDownComparable 83 = .ok (.aload_n 2, 1) := dk_44 (dk_at dksJ6_siftDownComparable_3 11 rfl rfl)
theorem dJ6_siftDownComparable_84 : decode cJ6_siftDownComparable 84 = .ok (.iload_n 0, 1) := dk_26 (dk_at dksJ6_siftDownComparable_3 12 rfl rfl)
theorem dJ6_siftDownComparable_85 : decode cJ6_siftDownComparable 85 = .ok (.aload 7, 2) := dk_25 7 (dk_at dksJ6_siftDownComparable_3 13 rfl rfl)
theorem dJ6_siftDownComparable_87 : decode cJ6_siftDownComparable 87 = .ok (.aastore, 1) := dk_83 (dk_at dksJ6_siftDownComparable_3 15 rfl rfl)
theorem dJ6_siftDownComparable_88 : decode cJ6_siftDownComparable 88 = .ok (.iload 6, 2) := dk_21 6 (dk_at dksJ6_siftDownComparable_3 16 rfl rfl)
theorem dJ6_siftDownComparable_90 : decode cJ6_siftDownComparable 90 = .ok (.istore_n 0, 1) := dk_59 (dk_at dksJ6_siftDownComparable_3 18 rfl rfl)
theorem dJ6_siftDownComparable_91 : decode cJ6_siftDownComparable 91 = .ok (.goto (-80), 3) := dk_167 255 176 (dk_at dksJ6_siftDownComparable_3 19 rfl rfl)
theorem dJ6_siftDownComparable_94 : decode cJ6_siftDownComparable 94 = .ok (.aload_n 2, 1) := dk_44 (dk_at dksJ6_siftDownComparable_3 22 rfl rfl)
theorem dJ6_siftDownComparable_95 : decode cJ6_siftDownComparable 95 = .ok (.iload_n 0, 1) := dk_26 (dk_at dksJ6_siftDownComparable_3 23 rfl rfl)
theorem dJ6_siftDownComparable_96 : decode cJ6_siftDownComparable 96 = .ok (.aload 4, 2) := dk_25 4 (dk_at dksJ6_siftDownComparable_4 0 rfl rfl)
theorem dJ6_siftDownComparable_98 : decode cJ6_siftDownComparable 98 = .ok (.aastore, 1) := dk_83 (dk_at dksJ6_siftDownComparable_4 2 rfl rfl)
theorem dJ6_siftDownComparable_99 : decode cJ6_siftDownComparable 99 = .ok (.return_, 1) := dk_177 (dk_at dksJ6_siftDownComparable_4 3 rfl rfl)
abbrev cJ6_siftDownUsingComparator : ByteArray := prog_55_method_32_code
def yJ6_siftDownUsingComparator : MethodName := ⟨RJ6, "siftDownUsingComparator", "(ILjava/lang/Object;[Ljava/lang/Object;ILjava/util/Comparator;)V"⟩
def dkwJ6_siftDownUsingComparator_4 : List UInt8 := [43, 83, 177]
abbrev dktJ6_siftDownUsingComparator_4 : List UInt8 := dkwJ6_siftDownUsingComparator_4 ++ []
def dkwJ6_siftDownUsingComparator_3 : List UInt8 := [185, 0, 149, 3, 0, 157, 0, 6, 167, 0, 14, 44, 26, 25, 7, 83, 21, 6, 59, 167, 255, 176, 44, 26]
abbrev dktJ6_siftDownUsingComparator_3 : List UInt8 := dkwJ6_siftDownUsingComparator_3 ++ dktJ6_siftDownUsingComparator_4
def dkwJ6_siftDownUsingComparator_2 : List UInt8 := [185, 0, 149, 3, 0, 158, 0, 12, 44, 21, 8, 89, 54, 6, 50, 58, 7, 25, 4, 43, 25, 7]
abbrev dktJ6_siftDownUsingComparator_2 : List UInt8 := dkwJ6_siftDownUsingComparator_2 ++ dktJ6_siftDownUsingComparator_3
def dkwJ6_siftDownUsingComparator_1 : List UInt8 := [21, 6, 4, 96, 54, 8, 21, 8, 29, 162, 0, 28, 25, 4, 25, 7, 44, 21, 8, 50]
abbrev dktJ6_siftDownUsingComparator_1 : List UInt8 := dkwJ6_siftDownUsingComparator_1 ++ dktJ6_siftDownUsingComparator_2
def dkwJ6_siftDownUsingComparator_0 : List UInt8 := [29, 4, 124, 54, 5, 26, 21, 5, 162, 0, 80, 26, 4, 120, 4, 96, 54, 6, 44, 21, 6, 50, 58, 7]
abbrev dktJ6_siftDownUsingComparator_0 : List UInt8 := dkwJ6_siftDownUsingComparator_0 ++ dktJ6_siftDownUsingComparator_1
theorem dksJ6_siftDownUsingComparator_0 : cJ6_siftDownUsingComparator.data.toList.drop 0 = dktJ6_siftDownUsingComparator_0 := by decide +kernel
theorem dksJ6_siftDownUsingComparator_1 : cJ6_siftDownUsingComparator.data.toList.drop 24 = dktJ6_siftDownUsingComparator_1 := dk_seg dksJ6_siftDownUsingComparator_0 24 rfl rfl
theorem dksJ6_siftDownUsingComparator_2 : cJ6_siftDownUsingComparator.data.toList.drop 44 = dktJ6_siftDownUsingComparator_2 := dk_seg dksJ6_siftDownUsingComparator_1 20 rfl rfl
theorem dksJ6_siftDownUsingComparator_3 : cJ6_siftDownUsingComparator.data.toList.drop 66 = dktJ6_siftDownUsingComparator_3 := dk_seg dksJ6_siftDownUsingComparator_2 22 rfl rfl
theorem dksJ6_siftDownUsingComparator_4 : cJ6_siftDownUsingComparator.data.toList.drop 90 = dktJ6_siftDownUsingComparator_4 := dk_seg dksJ6_siftDownUsingComparator_3 24 rfl rfl
theorem dJ6_siftDownUsingComparator_0 : decode cJ6_siftDownUsingComparator 0 = .ok (.iload_n 3, 1) := dk_29 (dk_at dksJ6_siftDownUsingComparator_0 0 rfl rfl)
theorem dJ6_siftDownUsingComparator_1 : decode cJ6_siftDownUsingComparator 1 = .ok (.iconst 1, 1) := dk_4 (dk_at dksJ6_siftDownUsingComparator_0 1 rfl rfl)
theorem dJ6_siftDownUsingComparator_2 : decode cJ6_siftDownUsingComparator 2 = .ok (.iushr, 1) := dk_124 (dk_at dksJ6_siftDownUsingComparator_0 2 rfl rfl)
theorem dJ6_siftDownUsingComparator_3 : decode cJ6_siftDownUsingComparator 3 = .ok (.istore 5, 2) := dk_54 5 (dk_at dksJ6_siftDownUsingComparator_0 3 rfl rfl)
theorem dJ6_siftDownUsingComparator_5 : decode cJ6_siftDownUsingComparator 5 = .ok (.iload_n 0, 1) := dk_26 (dk_at dksJ6_siftDownUsingComparator_0 5 rfl rfl)
theorem dJ6_siftDownUsingComparator_6 : decode cJ6_siftDownUsingComparator 6 = .ok (.iload 5, 2) := dk_21 5 (dk_at dksJ6_siftDownUsingComparator_0 6 rfl rfl)
theorem dJ6_siftDownUsingComparator_8 : decode cJ6_siftDownUsingComparator 8 = .ok (.if_icmp .ge 80, 3) := dk_162 0 80 (dk_at dksJ6_siftDownUsingComparator_0 8 rfl rfl)
theorem dJ6_siftDownUsingComparator_11 : decode cJ6_siftDownUsingComparator 11 = .ok (.iload_n 0, 1) := dk_26 (dk_at dksJ6_siftDownUsingComparator_0 11 rfl rfl)
theorem dJ6_siftDownUsingComparator_12 : decode cJ6_siftDownUsingComparator 12 = .ok (.iconst 1, 1) := dk_4 (dk_at dksJ6_siftDownUsingComparator_0 12 rfl rfl)
theorem dJ6_siftDownUsingComparator_13 : decode cJ6_siftDownUsingComparator 13 = .ok (.ishl, 1) := dk_120 (dk_at dksJ6_siftDownUsingComparator_0 13 rfl rfl)
theorem dJ6_siftDownUsingComparator_14 : decode cJ6_siftDownUsingComparator 14 = .ok (.iconst 1, 1) := dk_4 (dk_at dksJ6_siftDownUsingComparator_0 14 rfl rfl)
theorem dJ6_siftDownUsingComparator_15 : decode cJ6_siftDownUsingComparator 15 = .ok (.iadd, 1) := dk_96 (dk_at dksJ6_siftDownUsingComparator_0 15 rfl rfl)
theorem dJ6_siftDownUsingComparator_16 : decode cJ6_siftDownUsingComparator 16 = .ok (.istore 6, 2) := dk_54 6 (dk_at dksJ6_siftDownUsingComparator_0 16 rfl rfl)
theorem dJ6_siftDownUsingComparator_18 : decode cJ6_siftDownUsingComparator 18 = .ok (.aload_n 2, 1) := dk_44 (dk_at dksJ6_siftDownUsingComparator_0 18 rfl rfl)
theorem dJ6_siftDownUsingComparator_19 : decode cJ6_siftDownUsingComparator 19 = .ok (.iload 6, 2) := dk_21 6 (dk_at dksJ6_siftDownUsingComparator_0 19 rfl rfl)
theorem dJ6_siftDownUsingComparator_21 : decode cJ6_siftDownUsingComparator 21 = .ok (.aaload, 1) := dk_50 (dk_at dksJ6_siftDownUsingComparator_0 21 rfl rfl)
theorem dJ6_siftDownUsingComparator_22 : decode cJ6_siftDownUsingComparator 22 = .ok (.astore 7, 2) := dk_58 7 (dk_at dksJ6_siftDownUsingComparator_0 22 rfl rfl)
theorem dJ6_siftDownUsingComparator_24 : decode cJ6_siftDownUsingComparator 24 = .ok (.iload 6, 2) := dk_21 6 (dk_at dksJ6_siftDownUsingComparator_1 0 rfl rfl)
theorem dJ6_siftDownUsingComparator_26 : decode cJ6_siftDownUsingComparator 26 = .ok (.iconst 1, 1) := dk_4 (dk_at dksJ6_siftDownUsingComparator_1 2 rfl rfl)
theorem dJ6_siftDownUsingComparator_27 : decode cJ6_siftDownUsingComparator 27 = .ok (.iadd, 1) := dk_96 (dk_at dksJ6_siftDownUsingComparator_1 3 rfl rfl)
theorem dJ6_siftDownUsingComparator_28 : decode cJ6_siftDownUsingComparator 28 = .ok (.istore 8, 2) := dk_54 8 (dk_at dksJ6_siftDownUsingComparator_1 4 rfl rfl)
theorem dJ6_siftDownUsingComparator_30 : decode cJ6_siftDownUsingComparator 30 = .ok (.iload 8, 2) := dk_21 8 (dk_at dksJ6_siftDownUsingComparator_1 6 rfl rfl)
theorem dJ6_siftDownUsingComparator_32 : decode cJ6_siftDownUsingComparator 32 = .ok (.iload_n 3, 1) := dk_29 (dk_at dksJ6_siftDownUsingComparator_1 8 rfl rfl)
theorem dJ6_siftDownUsingComparator_33 : decode cJ6_siftDownUsingComparator 33 = .ok (.if_icmp .ge 28, 3) := dk_162 0 28 (dk_at dksJ6_siftDownUsingComparator_1 9 rfl rfl)
theorem dJ6_siftDownUsingComparator_36 : decode cJ6_siftDownUsingComparator 36 = .ok (.aload 4, 2) := dk_25 4 (dk_at dksJ6_siftDownUsingComparator_1 12 rfl rfl)
theorem dJ6_siftDownUsingComparator_38 : decode cJ6_siftDownUsingComparator 38 = .ok (.aload 7, 2) := dk_25 7 (dk_at dksJ6_siftDownUsingComparator_1 14 rfl rfl)
theorem dJ6_siftDownUsingComparator_40 : decode cJ6_siftDownUsingComparator 40 = .ok (.aload_n 2, 1) := dk_44 (dk_at dksJ6_siftDownUsingComparator_1 16 rfl rfl)
theorem dJ6_siftDownUsingComparator_41 : decode cJ6_siftDownUsingComparator 41 = .ok (.iload 8, 2) := dk_21 8 (dk_at dksJ6_siftDownUsingComparator_1 17 rfl rfl)
theorem dJ6_siftDownUsingComparator_43 : decode cJ6_siftDownUsingComparator 43 = .ok (.aaload, 1) := dk_50 (dk_at dksJ6_siftDownUsingComparator_1 19 rfl rfl)
theorem dJ6_siftDownUsingComparator_44 : decode cJ6_siftDownUsingComparator 44 = .ok (.invokeinterface 149 3, 5) := by decide +kernel
theorem dJ6_siftDownUsingComparator_49 : decode cJ6_siftDownUsingComparator 49 = .ok (.ifCond .le 12, 3) := dk_158 0 12 (dk_at dksJ6_siftDownUsingComparator_2 5 rfl rfl)
theorem dJ6_siftDownUsingComparator_52 : decode cJ6_siftDownUsingComparator 52 = .ok (.aload_n 2, 1) := dk_44 (dk_at dksJ6_siftDownUsingComparator_2 8 rfl rfl)
theorem dJ6_siftDownUsingComparator_53 : decode cJ6_siftDownUsingComparator 53 = .ok (.iload 8, 2) := dk_21 8 (dk_at dksJ6_siftDownUsingComparator_2 9 rfl rfl)
theorem dJ6_siftDownUsingComparator_55 : decode cJ6_siftDownUsingComparator 55 = .ok (.dup, 1) := dk_89 (dk_at dksJ6_siftDownUsingComparator_2 11 rfl rfl)
theorem dJ6_siftDownUsingComparator_56 : decode cJ6_siftDownUsingComparator 56 = .ok (.istore 6, 2) := dk_54 6 (dk_at dksJ6_siftDownUsingComparator_2 12 rfl rfl)
theorem dJ6_siftDownUsingComparator_58 : decode cJ6_siftDownUsingComparator 58 = .ok (.aaload, 1) := dk_50 (dk_at dksJ6_siftDownUsingComparator_2 14 rfl rfl)
theorem dJ6_siftDownUsingComparator_59 : decode cJ6_siftDownUsingComparator 59 = .ok (.astore 7, 2) := dk_58 7 (dk_at dksJ6_siftDownUsingComparator_2 15 rfl rfl)
theorem dJ6_siftDownUsingComparator_61 : decode cJ6_siftDownUsingComparator 61 = .ok (.aload 4, 2) := dk_25 4 (dk_at dksJ6_siftDownUsingComparator_2 17 rfl rfl)
theorem dJ6_siftDownUsingComparator_63 : decode cJ6_siftDownUsingComparator 63 = .ok (.aload_n 1, 1) := dk_43 (dk_at dksJ6_siftDownUsingComparator_2 19 rfl rfl)
theorem dJ6_siftDownUsingComparator_64 : decode cJ6_siftDownUsingComparator 64 = .ok (.aload 7, 2) := dk_25 7 (dk_at dksJ6_siftDownUsingComparator_2 20 rfl rfl)
theorem dJ6_siftDownUsingComparator_66 : decode cJ6_siftDownUsingComparator 66 = .ok (.invokeinterface 149 3, 5) := by decide +kernel
theorem dJ6_siftDownUsingComparator_71 : decode cJ6_siftDownUsingComparator 71 = .ok (.ifCond .gt 6, 3) := dk_157 0 6 (dk_at dksJ6_siftDownUsingComparator_3 5 rfl rfl)
theorem dJ6_siftDownUsingComparator_74 : decode cJ6_siftDownUsingComparator 74 = .ok (.goto 14, 3) := dk_167 0 14 (dk_at dksJ6_siftDownUsingComparator_3 8 rfl rfl)
theorem dJ6_siftDownUsingComparator_77 : decode cJ6_siftDownUsingComparator 77 = .ok (.aload_n 2, 1) := dk_44 (dk_at dksJ6_siftDownUsingComparator_3 11 rfl rfl)
theorem dJ6_siftDownUsingComparator_78 : decode cJ6_siftDownUsingComparator 78 = .ok (.iload_n 0, 1) := dk_26 (dk_at dksJ6_siftDownUsingComparator_3 12 rfl rfl)
theorem dJ6_siftDownUsingComparator_79 : decode cJ6_siftDownUsingComparator 79 = .ok (.aload 7, 2) := dk_25 7 (dk_at dksJ6_siftDownUsingComparator_3 13 rfl rfl)
theorem dJ6_siftDownUsingComparator_81 : decode cJ6_siftDownUsingComparator 81 = .ok (.aastore, 1) := dk_83 (dk_at dksJ6_siftDownUsingComparator_3 15 rfl rfl)
theorem dJ6_siftDownUsingComparator_82 : decode cJ6_siftDownUsingComparator 82 = .ok (.iload 6, 2) := dk_21 6 (dk_at dksJ6_siftDownUsingComparator_3 16 rfl rfl)
theorem dJ6_siftDownUsingComparator_84 : decode cJ6_siftDownUsingComparator 84 = .ok (.istore_n 0, 1) := dk_59 (dk_at dksJ6_siftDownUsingComparator_3 18 rfl rfl)
theorem dJ6_siftDownUsingComparator_85 : decode cJ6_siftDownUsingComparator 85 = .ok (.goto (-80), 3) := dk_167 255 176 (dk_at dksJ6_siftDownUsingComparator_3 19 rfl rfl)
theorem dJ6_siftDownUsingComparator_88 : decode cJ6_siftDownUsingComparator 88 = .ok (.aload_n 2, 1) := dk_44 (dk_at dksJ6_siftDownUsingComparator_3 22 rfl rfl)
theorem dJ6_siftDownUsingComparator_89 : decode cJ6_siftDownUsingComparator 89 = .ok (.iload_n 0, 1) := dk_26 (dk_at dksJ6_siftDownUsingComparator_3 23 rfl rfl)
theorem dJ6_siftDownUsingComparator_90 : decode cJ6_siftDownUsingComparator 90 = .ok (.aload_n 1, 1) := dk_43 (dk_at dksJ6_siftDownUsingComparator_4 0 rfl rfl)
theorem dJ6_siftDownUsingComparator_91 : decode cJ6_siftDownUsingComparator 91 = .ok (.aastore, 1) := dk_83 (dk_at dksJ6_siftDownUsingComparator_4 1 rfl rfl)
theorem dJ6_siftDownUsingComparator_92 : decode cJ6_siftDownUsingComparator 92 = .ok (.return_, 1) := dk_177 (dk_at dksJ6_siftDownUsingComparator_4 2 rfl rfl)
abbrev cJ6_iterator : ByteArray := prog_55_method_22_code
def yJ6_iterator : MethodName := ⟨RJ6, "iterator", "()Ljava/util/Iterator;"⟩
def dkwJ6_iterator_0 : List UInt8 := [187, 0, 121, 89, 42, 183, 0, 123, 176]
abbrev dktJ6_iterator_0 : List UInt8 := dkwJ6_iterator_0 ++ []
theorem dksJ6_iterator_0 : cJ6_iterator.data.toList.drop 0 = dktJ6_iterator_0 := by decide +kernel
theorem dJ6_iterator_0 : decode cJ6_iterator 0 = .ok (.new 121, 3) := dk_187 0 121 (dk_at dksJ6_iterator_0 0 rfl rfl)
theorem dJ6_iterator_3 : decode cJ6_iterator 3 = .ok (.dup, 1) := dk_89 (dk_at dksJ6_iterator_0 3 rfl rfl)
theorem dJ6_iterator_4 : decode cJ6_iterator 4 = .ok (.aload_n 0, 1) := dk_42 (dk_at dksJ6_iterator_0 4 rfl rfl)
theorem dJ6_iterator_5 : decode cJ6_iterator 5 = .ok (.invokespecial 123, 3) := dk_183 0 123 (dk_at dksJ6_iterator_0 5 rfl rfl)
theorem dJ6_iterator_8 : decode cJ6_iterator 8 = .ok (.areturn, 1) := dk_176 (dk_at dksJ6_iterator_0 8 rfl rfl)
abbrev cJ6_init : ByteArray := prog_55_method_4_code
def yJ6_init : MethodName := ⟨RJ6, "<init>", "(ILjava/util/Comparator;)V"⟩
def dkwJ6_init_1 : List UInt8 := [181, 0, 17, 42, 44, 181, 0, 21, 177]
abbrev dktJ6_init_1 : List UInt8 := dkwJ6_init_1 ++ []
def dkwJ6_init_0 : List UInt8 := [42, 183, 0, 7, 27, 4, 162, 0, 11, 187, 0, 12, 89, 183, 0, 14, 191, 42, 27, 189, 0, 15]
abbrev dktJ6_init_0 : List UInt8 := dkwJ6_init_0 ++ dktJ6_init_1
theorem dksJ6_init_0 : cJ6_init.data.toList.drop 0 = dktJ6_init_0 := by decide +kernel
theorem dksJ6_init_1 : cJ6_init.data.toList.drop 22 = dktJ6_init_1 := dk_seg dksJ6_init_0 22 rfl rfl
theorem dJ6_init_0 : decode cJ6_init 0 = .ok (.aload_n 0, 1) := dk_42 (dk_at dksJ6_init_0 0 rfl rfl)
theorem dJ6_init_1 : decode cJ6_init 1 = .ok (.invokespecial 7, 3) := dk_183 0 7 (dk_at dksJ6_init_0 1 rfl rfl)
theorem dJ6_init_4 : decode cJ6_init 4 = .ok (.iload_n 1, 1) := dk_27 (dk_at dksJ6_init_0 4 rfl rfl)
theorem dJ6_init_5 : decode cJ6_init 5 = .ok (.iconst 1, 1) := dk_4 (dk_at dksJ6_init_0 5 rfl rfl)
theorem dJ6_init_6 : decode cJ6_init 6 = .ok (.if_icmp .ge 11, 3) := dk_162 0 11 (dk_at dksJ6_init_0 6 rfl rfl)
theorem dJ6_init_9 : decode cJ6_init 9 = .ok (.new 12, 3) := dk_187 0 12 (dk_at dksJ6_init_0 9 rfl rfl)
theorem dJ6_init_12 : decode cJ6_init 12 = .ok (.dup, 1) := dk_89 (dk_at dksJ6_init_0 12 rfl rfl)
theorem dJ6_init_13 : decode cJ6_init 13 = .ok (.invokespecial 14, 3) := dk_183 0 14 (dk_at dksJ6_init_0 13 rfl rfl)
theorem dJ6_init_16 : decode cJ6_init 16 = .ok (.athrow, 1) := dk_191 (dk_at dksJ6_init_0 16 rfl rfl)
theorem dJ6_init_17 : decode cJ6_init 17 = .ok (.aload_n 0, 1) := dk_42 (dk_at dksJ6_init_0 17 rfl rfl)
theorem dJ6_init_18 : decode cJ6_init 18 = .ok (.iload_n 1, 1) := dk_27 (dk_at dksJ6_init_0 18 rfl rfl)
theorem dJ6_init_19 : decode cJ6_init 19 = .ok (.anewarray 15, 3) := dk_189 0 15 (dk_at dksJ6_init_0 19 rfl rfl)
theorem dJ6_init_22 : decode cJ6_init 22 = .ok (.putfield 17, 3) := dk_181 0 17 (dk_at dksJ6_init_1 0 rfl rfl)
theorem dJ6_init_25 : decode cJ6_init 25 = .ok (.aload_n 0, 1) := dk_42 (dk_at dksJ6_init_1 3 rfl rfl)
theorem dJ6_init_26 : decode cJ6_init 26 = .ok (.aload_n 2, 1) := dk_44 (dk_at dksJ6_init_1 4 rfl rfl)
theorem dJ6_init_27 : decode cJ6_init 27 = .ok (.putfield 21, 3) := dk_181 0 21 (dk_at dksJ6_init_1 5 rfl rfl)
theorem dJ6_init_30 : decode cJ6_init 30 = .ok (.return_, 1) := dk_177 (dk_at dksJ6_init_1 8 rfl rfl)
theorem q113 : (Jvm.Cond.initialized "java/util/PriorityQueue") ∈ lw_all := lw_g (lw_at lw_m1 10 rfl) rfl
theorem q743 : (Jvm.Cond.instanceMethod ({ cls := "java/util/PriorityQueue", name := "add", desc := "(Ljava/lang/Object;)Z" } : Jvm.MethodName)) ∈ lw_all := lw_g (lw_at lw_m3 160 rfl) rfl
theorem q744 : (Jvm.Cond.selects "java/util/PriorityQueue" ({ cls := "java/util/PriorityQueue", name := "add", desc := "(Ljava/lang/Object;)Z" } : Jvm.MethodName) ({ cls := "java/util/PriorityQueue", name := "add", desc := "(Ljava/lang/Object;)Z" } : Jvm.MethodName)) ∈ lw_all := lw_g (lw_at lw_m3 161 rfl) rfl
theorem q745 : (Jvm.Cond.code ({ cls := "java/util/PriorityQueue", name := "add", desc := "(Ljava/lang/Object;)Z" } : Jvm.MethodName) prog_55_method_13_code (2 : Nat) (Option.some Jvm.ClassFile.FieldType.boolean)) ∈ lw_all := lw_g (lw_at lw_m3 162 rfl) rfl
theorem q746 : (Jvm.Cond.methodLink "java/util/PriorityQueue" (89 : Nat) ({ cls := "java/util/PriorityQueue", name := "offer", desc := "(Ljava/lang/Object;)Z" } : Jvm.MethodName)) ∈ lw_all := lw_g (lw_at lw_m3 163 rfl) rfl
theorem q747 : (Jvm.Cond.instanceMethod ({ cls := "java/util/PriorityQueue", name := "offer", desc := "(Ljava/lang/Object;)Z" } : Jvm.MethodName)) ∈ lw_all := lw_g (lw_at lw_m3 164 rfl) rfl
theorem q748 : (Jvm.Cond.selects "java/util/PriorityQueue" ({ cls := "java/util/PriorityQueue", name := "offer", desc := "(Ljava/lang/Object;)Z" } : Jvm.MethodName) ({ cls := "java/util/PriorityQueue", name := "offer", desc := "(Ljava/lang/Object;)Z" } : Jvm.MethodName)) ∈ lw_all := lw_g (lw_at lw_m3 165 rfl) rfl
theorem q749 : (Jvm.Cond.code ({ cls := "java/util/PriorityQueue", name := "offer", desc := "(Ljava/lang/Object;)Z" } : Jvm.MethodName) prog_55_method_14_code (3 : Nat) (Option.some Jvm.ClassFile.FieldType.boolean)) ∈ lw_all := lw_g (lw_at lw_m3 166 rfl) rfl
theorem q750 : (Jvm.Cond.classLink "java/util/PriorityQueue" (74 : Nat) "java/lang/NullPointerException") ∈ lw_all := lw_g (lw_at lw_m3 167 rfl) rfl
theorem q758 : (Jvm.Cond.methodLink "java/util/PriorityQueue" (76 : Nat) ({ cls := "java/lang/NullPointerException", name := "<init>", desc := "()V" } : Jvm.MethodName)) ∈ lw_all := lw_g (lw_at lw_m3 175 rfl) rfl
theorem q775 : (Jvm.Cond.methodLink "java/util/PriorityQueue" (96 : Nat) ({ cls := "java/util/PriorityQueue", name := "grow", desc := "(I)V" } : Jvm.MethodName)) ∈ lw_all := lw_g (lw_at lw_m3 192 rfl) rfl
theorem q776 : (Jvm.Cond.privateMethod ({ cls := "java/util/PriorityQueue", name := "grow", desc := "(I)V" } : Jvm.MethodName)) ∈ lw_tbl := lw_at lw_m3 193 rfl
theorem q777 : (Jvm.Cond.instanceMethod ({ cls := "java/util/PriorityQueue", name := "grow", desc := "(I)V" } : Jvm.MethodName)) ∈ lw_all := lw_g (lw_at lw_m3 194 rfl) rfl
theorem q778 : (Jvm.Cond.instantiable "java/util/PriorityQueue" (4 : Nat)) ∈ lw_all := lw_g (lw_at lw_m3 195 rfl) rfl
theorem q779 : (Jvm.Cond.code ({ cls := "java/util/PriorityQueue", name := "grow", desc := "(I)V" } : Jvm.MethodName) prog_55_method_12_code (4 : Nat) (Option.none : Option Jvm.ClassFile.FieldType)) ∈ lw_all := lw_g (lw_at lw_m3 196 rfl) rfl
theorem q780 : (Jvm.Cond.methodLink "java/util/PriorityQueue" (80 : Nat) ({ cls := "jdk/internal/util/ArraysSupport", name := "newLength", desc := "(III)I" } : Jvm.MethodName)) ∈ lw_all := lw_g (lw_at lw_m3 197 rfl) rfl
theorem q788 : (Jvm.Cond.methodLink "java/util/PriorityQueue" (86 : Nat) ({ cls := "java/util/Arrays", name := "copyOf", desc := "([Ljava/lang/Object;I)[Ljava/lang/Object;" } : Jvm.MethodName)) ∈ lw_all := lw_g (lw_at lw_m3 205 rfl) rfl
theorem q810 : (Jvm.Cond.selects "java/util/PriorityQueue" ({ cls := "java/lang/Object", name := "getClass", desc := "()Ljava/lang/Class;" } : Jvm.MethodName) ({ cls := "java/lang/Object", name := "getClass", desc := "()Ljava/lang/Class;" } : Jvm.MethodName)) ∈ lw_all := lw_g (lw_at lw_m3 227 rfl) rfl
theorem q827 : (Jvm.Cond.methodLink "java/util/PriorityQueue" (100 : Nat) ({ cls := "java/util/PriorityQueue", name := "siftUp", desc := "(ILjava/lang/Object;)V" } : Jvm.MethodName)) ∈ lw_all := lw_g (lw_at lw_m4 4 rfl) rfl
theorem q828 : (Jvm.Cond.privateMethod ({ cls := "java/util/PriorityQueue", name := "siftUp", desc := "(ILjava/lang/Object;)V" } : Jvm.MethodName)) ∈ lw_tbl := lw_at lw_m4 5 rfl
theorem q829 : (Jvm.Cond.instanceMethod ({ cls := "java/util/PriorityQueue", name := "siftUp", desc := "(ILjava/lang/Object;)V" } : Jvm.MethodName)) ∈ lw_all := lw_g (lw_at lw_m4 6 rfl) rfl
theorem q830 : (Jvm.Cond.code ({ cls := "java/util/PriorityQueue", name := "siftUp", desc := "(ILjava/lang/Object;)V" } : Jvm.MethodName) prog_55_method_27_code (3 : Nat) (Option.none : Option Jvm.ClassFile.FieldType)) ∈ lw_all := lw_g (lw_at lw_m4 7 rfl) rfl
theorem q831 : (Jvm.Cond.methodLink "java/util/PriorityQueue" (136 : Nat) ({ cls := "java/util/PriorityQueue", name := "siftUpUsingComparator", desc := "(ILjava/lang/Object;[Ljava/lang/Object;Ljava/util/Comparator;)V" } : Jvm.MethodName)) ∈ lw_all := lw_g (lw_at lw_m4 8 rfl) rfl
theorem q832 : (Jvm.Cond.static ({ cls := "java/util/PriorityQueue", name := "siftUpUsingComparator", desc := "(ILjava/lang/Object;[Ljava/lang/Object;Ljava/util/Comparator;)V" } : Jvm.MethodName)) ∈ lw_all := lw_g (lw_at lw_m4 9 rfl) rfl
theorem q833 : (Jvm.Cond.code ({ cls := "java/util/PriorityQueue", name := "siftUpUsingComparator", desc := "(ILjava/lang/Object;[Ljava/lang/Object;Ljava/util/Comparator;)V" } : Jvm.MethodName) prog_55_method_29_code (6 : Nat) (Option.none : Option Jvm.ClassFile.FieldType)) ∈ lw_all := lw_g (lw_at lw_m4 10 rfl) rfl
theorem q834 : (Jvm.Cond.interfaceEntry "java/util/PriorityQueue" (149 : Nat)) ∈ lw_tbl := lw_at lw_m4 11 rfl
theorem q835 : (Jvm.Cond.methodLink "java/util/PriorityQueue" (149 : Nat) ({ cls := "java/util/Comparator", name := "compare", desc := "(Ljava/lang/Object;Ljava/lang/Object;)I" } : Jvm.MethodName)) ∈ lw_all := lw_g (lw_at lw_m4 12 rfl) rfl
theorem q852 : (Jvm.Cond.methodLink "java/util/PriorityQueue" (140 : Nat) ({ cls := "java/util/PriorityQueue", name := "siftUpComparable", desc := "(ILjava/lang/Object;[Ljava/lang/Object;)V" } : Jvm.MethodName)) ∈ lw_all := lw_g (lw_at lw_m4 29 rfl) rfl
theorem q853 : (Jvm.Cond.static ({ cls := "java/util/PriorityQueue", name := "siftUpComparable", desc := "(ILjava/lang/Object;[Ljava/lang/Object;)V" } : Jvm.MethodName)) ∈ lw_all := lw_g (lw_at lw_m4 30 rfl) rfl
theorem q854 : (Jvm.Cond.code ({ cls := "java/util/PriorityQueue", name := "siftUpComparable", desc := "(ILjava/lang/Object;[Ljava/lang/Object;)V" } : Jvm.MethodName) prog_55_method_28_code (6 : Nat) (Option.none : Option Jvm.ClassFile.FieldType)) ∈ lw_all := lw_g (lw_at lw_m4 31 rfl) rfl
theorem q855 : (Jvm.Cond.classLink "java/util/PriorityQueue" (144 : Nat) "java/lang/Comparable") ∈ lw_all := lw_g (lw_at lw_m4 32 rfl) rfl
theorem q856 : (Jvm.Cond.interfaceEntry "java/util/PriorityQueue" (146 : Nat)) ∈ lw_tbl := lw_at lw_m4 33 rfl
theorem q857 : (Jvm.Cond.methodLink "java/util/PriorityQueue" (146 : Nat) ({ cls := "java/lang/Comparable", name := "compareTo", desc := "(Ljava/lang/Object;)I" } : Jvm.MethodName)) ∈ lw_all := lw_g (lw_at lw_m4 34 rfl) rfl
theorem q1020 : (Jvm.Cond.instanceMethod ({ cls := "java/util/PriorityQueue", name := "size", desc := "()I" } : Jvm.MethodName)) ∈ lw_all := lw_g (lw_at lw_m4 197 rfl) rfl
theorem q1021 : (Jvm.Cond.selects "java/util/PriorityQueue" ({ cls := "java/util/PriorityQueue", name := "size", desc := "()I" } : Jvm.MethodName) ({ cls := "java/util/PriorityQueue", name := "size", desc := "()I" } : Jvm.MethodName)) ∈ lw_all := lw_g (lw_at lw_m4 198 rfl) rfl
theorem q1022 : (Jvm.Cond.code ({ cls := "java/util/PriorityQueue", name := "size", desc := "()I" } : Jvm.MethodName) prog_55_method_23_code (1 : Nat) (Option.some Jvm.ClassFile.FieldType.int)) ∈ lw_all := lw_g (lw_at lw_m4 199 rfl) rfl
theorem q1024 : (Jvm.Cond.instanceMethod ({ cls := "java/util/PriorityQueue", name := "poll", desc := "()Ljava/lang/Object;" } : Jvm.MethodName)) ∈ lw_all := lw_g (lw_at lw_m4 201 rfl) rfl
theorem q1025 : (Jvm.Cond.selects "java/util/PriorityQueue" ({ cls := "java/util/PriorityQueue", name := "poll", desc := "()Ljava/lang/Object;" } : Jvm.MethodName) ({ cls := "java/util/PriorityQueue", name := "poll", desc := "()Ljava/lang/Object;" } : Jvm.MethodName)) ∈ lw_all := lw_g (lw_at lw_m4 202 rfl) rfl
theorem q1026 : (Jvm.Cond.code ({ cls := "java/util/PriorityQueue", name := "poll", desc := "()Ljava/lang/Object;" } : Jvm.MethodName) prog_55_method_25_code (6 : Nat) (Option.some (Jvm.ClassFile.FieldType.object "java/lang/Object"))) ∈ lw_all := lw_g (lw_at lw_m4 203 rfl) rfl
theorem q1027 : (Jvm.Cond.methodLink "java/util/PriorityQueue" (125 : Nat) ({ cls := "java/util/PriorityQueue", name := "siftDownComparable", desc := "(ILjava/lang/Object;[Ljava/lang/Object;I)V" } : Jvm.MethodName)) ∈ lw_all := lw_g (lw_at lw_m4 204 rfl) rfl
theorem q1028 : (Jvm.Cond.static ({ cls := "java/util/PriorityQueue", name := "siftDownComparable", desc := "(ILjava/lang/Object;[Ljava/lang/Object;I)V" } : Jvm.MethodName)) ∈ lw_all := lw_g (lw_at lw_m4 205 rfl) rfl
theorem q1029 : (Jvm.Cond.code ({ cls := "java/util/PriorityQueue", name := "siftDownComparable", desc := "(ILjava/lang/Object;[Ljava/lang/Object;I)V" } : Jvm.MethodName) prog_55_method_31_code (9 : Nat) (Option.none : Option Jvm.ClassFile.FieldType)) ∈ lw_all := lw_g (lw_at lw_m4 206 rfl) rfl
theorem q1030 : (Jvm.Cond.methodLink "java/util/PriorityQueue" (129 : Nat) ({ cls := "java/util/PriorityQueue", name := "siftDownUsingComparator", desc := "(ILjava/lang/Object;[Ljava/lang/Object;ILjava/util/Comparator;)V" } : Jvm.MethodName)) ∈ lw_all := lw_g (lw_at lw_m4 207 rfl) rfl
theorem q1031 : (Jvm.Cond.static ({ cls := "java/util/PriorityQueue", name := "siftDownUsingComparator", desc := "(ILjava/lang/Object;[Ljava/lang/Object;ILjava/util/Comparator;)V" } : Jvm.MethodName)) ∈ lw_all := lw_g (lw_at lw_m4 208 rfl) rfl
theorem q1032 : (Jvm.Cond.code ({ cls := "java/util/PriorityQueue", name := "siftDownUsingComparator", desc := "(ILjava/lang/Object;[Ljava/lang/Object;ILjava/util/Comparator;)V" } : Jvm.MethodName) prog_55_method_32_code (9 : Nat) (Option.none : Option Jvm.ClassFile.FieldType)) ∈ lw_all := lw_g (lw_at lw_m4 209 rfl) rfl
theorem q1466 : (Jvm.Cond.castable "java/util/PriorityQueue" "java/util/Collection") ∈ lw_tbl := lw_at lw_m6 163 rfl
theorem q1467 : (Jvm.Cond.selects "java/util/PriorityQueue" ({ cls := "java/util/Collection", name := "size", desc := "()I" } : Jvm.MethodName) ({ cls := "java/util/PriorityQueue", name := "size", desc := "()I" } : Jvm.MethodName)) ∈ lw_all := lw_g (lw_at lw_m6 164 rfl) rfl
theorem q1468 : (Jvm.Cond.unhidden "java/util/PriorityQueue" "size" "()I") ∈ lw_tbl := lw_at lw_m6 165 rfl
theorem q1469 : (Jvm.Cond.publicMethod ({ cls := "java/util/PriorityQueue", name := "size", desc := "()I" } : Jvm.MethodName)) ∈ lw_tbl := lw_at lw_m6 166 rfl
theorem q1578 : (Jvm.Cond.selects "java/util/PriorityQueue" ({ cls := "java/util/Collection", name := "iterator", desc := "()Ljava/util/Iterator;" } : Jvm.MethodName) ({ cls := "java/util/PriorityQueue", name := "iterator", desc := "()Ljava/util/Iterator;" } : Jvm.MethodName)) ∈ lw_all := lw_g (lw_at lw_m7 35 rfl) rfl
theorem q1579 : (Jvm.Cond.unhidden "java/util/PriorityQueue" "iterator" "()Ljava/util/Iterator;") ∈ lw_tbl := lw_at lw_m7 36 rfl
theorem q1580 : (Jvm.Cond.instanceMethod ({ cls := "java/util/PriorityQueue", name := "iterator", desc := "()Ljava/util/Iterator;" } : Jvm.MethodName)) ∈ lw_all := lw_g (lw_at lw_m7 37 rfl) rfl
theorem q1581 : (Jvm.Cond.publicMethod ({ cls := "java/util/PriorityQueue", name := "iterator", desc := "()Ljava/util/Iterator;" } : Jvm.MethodName)) ∈ lw_tbl := lw_at lw_m7 38 rfl
theorem q1582 : (Jvm.Cond.code ({ cls := "java/util/PriorityQueue", name := "iterator", desc := "()Ljava/util/Iterator;" } : Jvm.MethodName) prog_55_method_22_code (1 : Nat) (Option.some (Jvm.ClassFile.FieldType.object "java/util/Iterator"))) ∈ lw_all := lw_g (lw_at lw_m7 39 rfl) rfl
theorem q1583 : (Jvm.Cond.classLink "java/util/PriorityQueue" (121 : Nat) "java/util/PriorityQueue$Itr") ∈ lw_all := lw_g (lw_at lw_m7 40 rfl) rfl
theorem q1585 : (Jvm.Cond.methodLink "java/util/PriorityQueue" (123 : Nat) ({ cls := "java/util/PriorityQueue$Itr", name := "<init>", desc := "(Ljava/util/PriorityQueue;)V" } : Jvm.MethodName)) ∈ lw_all := lw_g (lw_at lw_m7 42 rfl) rfl
theorem q1617 : (Jvm.Cond.selects "java/util/PriorityQueue" ({ cls := "java/util/AbstractCollection", name := "add", desc := "(Ljava/lang/Object;)Z" } : Jvm.MethodName) ({ cls := "java/util/PriorityQueue", name := "add", desc := "(Ljava/lang/Object;)Z" } : Jvm.MethodName)) ∈ lw_all := lw_g (lw_at lw_m7 74 rfl) rfl
theorem q1647 : (Jvm.Cond.instanceMethod ({ cls := "java/util/PriorityQueue", name := "<init>", desc := "(ILjava/util/Comparator;)V" } : Jvm.MethodName)) ∈ lw_all := lw_g (lw_at lw_m7 104 rfl) rfl
theorem q1648 : (Jvm.Cond.code ({ cls := "java/util/PriorityQueue", name := "<init>", desc := "(ILjava/util/Comparator;)V" } : Jvm.MethodName) prog_55_method_4_code (3 : Nat) (Option.none : Option Jvm.ClassFile.FieldType)) ∈ lw_all := lw_g (lw_at lw_m7 105 rfl) rfl
theorem q1649 : (Jvm.Cond.methodLink "java/util/PriorityQueue" (7 : Nat) ({ cls := "java/util/AbstractQueue", name := "<init>", desc := "()V" } : Jvm.MethodName)) ∈ lw_all := lw_g (lw_at lw_m7 106 rfl) rfl
theorem q1653 : (Jvm.Cond.classLink "java/util/PriorityQueue" (15 : Nat) "java/lang/Object") ∈ lw_all := lw_g (lw_at lw_m7 110 rfl) rfl
theorem q1655 : (Jvm.Cond.fieldLink "java/util/PriorityQueue" (17 : Nat) "java/util/PriorityQueue" "queue" "[Ljava/lang/Object;") ∈ lw_all := lw_g (lw_at lw_m7 112 rfl) rfl
theorem q1657 : (Jvm.Cond.fieldLink "java/util/PriorityQueue" (58 : Nat) "java/util/PriorityQueue" "size" "I") ∈ lw_all := lw_g (lw_at lw_m7 114 rfl) rfl
theorem q1658 : (Jvm.Cond.fieldLink "java/util/PriorityQueue" (21 : Nat) "java/util/PriorityQueue" "comparator" "Ljava/util/Comparator;") ∈ lw_all := lw_g (lw_at lw_m7 115 rfl) rfl
theorem q1660 : (Jvm.Cond.fieldLink "java/util/PriorityQueue" (93 : Nat) "java/util/PriorityQueue" "modCount" "I") ∈ lw_all := lw_g (lw_at lw_m7 117 rfl) rfl
theorem q1661 : (Jvm.Cond.lays "java/util/PriorityQueue" "java/util/PriorityQueue" "queue" "[Ljava/lang/Object;") ∈ lw_all := lw_g (lw_at lw_m7 118 rfl) rfl
theorem q1662 : (Jvm.Cond.soleField "java/util/PriorityQueue" "queue") ∈ lw_all := lw_g (lw_at lw_m7 119 rfl) rfl
theorem q1663 : (Jvm.Cond.lays "java/util/PriorityQueue" "java/util/PriorityQueue" "size" "I") ∈ lw_all := lw_g (lw_at lw_m7 120 rfl) rfl
theorem q1664 : (Jvm.Cond.soleField "java/util/PriorityQueue" "size") ∈ lw_all := lw_g (lw_at lw_m7 121 rfl) rfl
theorem q1665 : (Jvm.Cond.laysFinal "java/util/PriorityQueue" "java/util/PriorityQueue" "comparator" "Ljava/util/Comparator;") ∈ lw_all := lw_g (lw_at lw_m7 122 rfl) rfl
theorem q1666 : (Jvm.Cond.soleField "java/util/PriorityQueue" "comparator") ∈ lw_all := lw_g (lw_at lw_m7 123 rfl) rfl
theorem q1667 : (Jvm.Cond.lays "java/util/PriorityQueue" "java/util/PriorityQueue" "modCount" "I") ∈ lw_all := lw_g (lw_at lw_m7 124 rfl) rfl
theorem q1668 : (Jvm.Cond.soleField "java/util/PriorityQueue" "modCount") ∈ lw_all := lw_g (lw_at lw_m7 125 rfl) rfl
theorem q1669 : (Jvm.Cond.superclass "java/util/PriorityQueue" "java/util/AbstractQueue") ∈ lw_all := lw_g (lw_at lw_m7 126 rfl) rfl
theorem q2303 : (Jvm.Cond.castable "java/util/PriorityQueue" "java/lang/Object") ∈ lw_tbl := lw_at lw_m10 40 rfl
theorem in_J6 : ∀ w ∈ wsJ60, w ∈ lw_all := lw_in wsJ60 [1661, 1663, 1665, 1667] (by decide +kernel) (by decide +kernel)

/-! java/lang/Throwable -/
set_option maxRecDepth 100000
def RJ7 : String := "java/lang/Throwable"
def TJ7 : u_T := fun k => match k with
  | 0 => ("java/lang/Throwable", "cause", "Ljava/lang/Throwable;", false)
  | 1 => ("java/lang/Throwable", "stackTrace", "[Ljava/lang/StackTraceElement;", false)
  | 2 => ("java/lang/Throwable", "suppressedExceptions", "Ljava/util/List;", false)
  | 3 => ("java/lang/Throwable", "detailMessage", "Ljava/lang/String;", false)
  | _ => ("java/lang/Throwable", "backtrace", "Ljava/lang/Object;", false)
def tyJ7 : Nat → FieldType := fun k => match k with
  | 0 => .object "java/lang/Throwable"
  | 1 => .array (.object "java/lang/StackTraceElement")
  | 2 => .object "java/util/List"
  | 3 => .object "java/lang/String"
  | _ => .object "java/lang/Object"
abbrev wsJ70 : List Cond := u_ws RJ7 TJ7 5
theorem nmJ7 : ∀ a, a < 5 → ∀ b, b < 5 → a ≠ b → (TJ7 a).2.1 ≠ (TJ7 b).2.1 := by decide +kernel
theorem tyJ7_ok : ∀ k, k < 5 → parseFieldDescriptor (TJ7 k).2.2.1 = some (tyJ7 k) := by decide +kernel
abbrev cJ7_init : ByteArray := prog_34_method_1_code
def yJ7_init : MethodName := ⟨RJ7, "<init>", "()V"⟩
def dkwJ7_init_1 : List UInt8 := [182, 0, 27, 87, 177]
abbrev dktJ7_init_1 : List UInt8 := dkwJ7_init_1 ++ []
def dkwJ7_init_0 : List UInt8 := [42, 183, 0, 1, 42, 42, 181, 0, 7, 42, 178, 0, 13, 181, 0, 17, 42, 178, 0, 20, 181, 0, 24, 42]
abbrev dktJ7_init_0 : List UInt8 := dkwJ7_init_0 ++ dktJ7_init_1
theorem dksJ7_init_0 : cJ7_init.data.toList.drop 0 = dktJ7_init_0 := by decide +kernel
theorem dksJ7_init_1 : cJ7_init.data.toList.drop 24 = dktJ7_init_1 := dk_seg dksJ7_init_0 24 rfl rfl
theorem dJ7_init_0 : decode cJ7_init 0 = .ok (.aload_n 0, 1) := dk_42 (dk_at dksJ7_init_0 0 rfl rfl)
theorem dJ7_init_1 : decode cJ7_init 1 = .ok (.invokespecial 1, 3) := dk_183 0 1 (dk_at dksJ7_init_0 1 rfl rfl)
theorem dJ7_init_4 : decode cJ7_init 4 = .ok (.aload_n 0, 1) := dk_42 (dk_at dksJ7_init_0 4 rfl rfl)
theorem dJ7_init_5 : decode cJ7_init 5 = .ok (.aload_n 0, 1) := dk_42 (dk_at dksJ7_init_0 5 rfl rfl)
theorem dJ7_init_6 : decode cJ7_init 6 = .ok (.putfield 7, 3) := dk_181 0 7 (dk_at dksJ7_init_0 6 rfl rfl)
theorem dJ7_init_9 : decode cJ7_init 9 = .ok (.aload_n 0, 1) := dk_42 (dk_at dksJ7_init_0 9 rfl rfl)
theorem dJ7_init_10 : decode cJ7_init 10 = .ok (.getstatic 13, 3) := dk_178 0 13 (dk_at dksJ7_init_0 10 rfl rfl)
theorem dJ7_init_13 : decode cJ7_init 13 = .ok (.putfield 17, 3) := dk_181 0 17 (dk_at dksJ7_init_0 13 rfl rfl)
theorem dJ7_init_16 : decode cJ7_init 16 = .ok (.aload_n 0, 1) := dk_42 (dk_at dksJ7_init_0 16 rfl rfl)
theorem dJ7_init_17 : decode cJ7_init 17 = .ok (.getstatic 20, 3) := dk_178 0 20 (dk_at dksJ7_init_0 17 rfl rfl)
theorem dJ7_init_20 : decode cJ7_init 20 = .ok (.putfield 24, 3) := dk_181 0 24 (dk_at dksJ7_init_0 20 rfl rfl)
theorem dJ7_init_23 : decode cJ7_init 23 = .ok (.aload_n 0, 1) := dk_42 (dk_at dksJ7_init_0 23 rfl rfl)
theorem dJ7_init_24 : decode cJ7_init 24 = .ok (.invokevirtual 27, 3) := dk_182 0 27 (dk_at dksJ7_init_1 0 rfl rfl)
theorem dJ7_init_27 : decode cJ7_init 27 = .ok (.pop, 1) := dk_87 (dk_at dksJ7_init_1 3 rfl rfl)
theorem dJ7_init_28 : decode cJ7_init 28 = .ok (.return_, 1) := dk_177 (dk_at dksJ7_init_1 4 rfl rfl)
abbrev cJ7_init_2 : ByteArray := prog_34_method_5_code
def yJ7_init_2 : MethodName := ⟨RJ7, "<init>", "(Ljava/lang/String;Ljava/lang/Throwable;ZZ)V"⟩
def dkwJ7_init_2_2 : List UInt8 := [44, 181, 0, 7, 29, 154, 0, 8, 42, 1, 181, 0, 24, 177]
abbrev dktJ7_init_2_2 : List UInt8 := dkwJ7_init_2_2 ++ []
def dkwJ7_init_2_1 : List UInt8 := [21, 4, 153, 0, 11, 42, 182, 0, 27, 87, 167, 0, 8, 42, 1, 181, 0, 17, 42, 43, 181, 0, 31, 42]
abbrev dktJ7_init_2_1 : List UInt8 := dkwJ7_init_2_1 ++ dktJ7_init_2_2
def dkwJ7_init_2_0 : List UInt8 := [42, 183, 0, 1, 42, 42, 181, 0, 7, 42, 178, 0, 13, 181, 0, 17, 42, 178, 0, 20, 181, 0, 24]
abbrev dktJ7_init_2_0 : List UInt8 := dkwJ7_init_2_0 ++ dktJ7_init_2_1
theorem dksJ7_init_2_0 : cJ7_init_2.data.toList.drop 0 = dktJ7_init_2_0 := by decide +kernel
theorem dksJ7_init_2_1 : cJ7_init_2.data.toList.drop 23 = dktJ7_init_2_1 := dk_seg dksJ7_init_2_0 23 rfl rfl
theorem dksJ7_init_2_2 : cJ7_init_2.data.toList.drop 47 = dktJ7_init_2_2 := dk_seg dksJ7_init_2_1 24 rfl rfl
theorem dJ7_init_2_0 : decode cJ7_init_2 0 = .ok (.aload_n 0, 1) := dk_42 (dk_at dksJ7_init_2_0 0 rfl rfl)
theorem dJ7_init_2_1 : decode cJ7_init_2 1 = .ok (.invokespecial 1, 3) := dk_183 0 1 (dk_at dksJ7_init_2_0 1 rfl rfl)
theorem dJ7_init_2_4 : decode cJ7_init_2 4 = .ok (.aload_n 0, 1) := dk_42 (dk_at dksJ7_init_2_0 4 rfl rfl)
theorem dJ7_init_2_5 : decode cJ7_init_2 5 = .ok (.aload_n 0, 1) := dk_42 (dk_at dksJ7_init_2_0 5 rfl rfl)
theorem dJ7_init_2_6 : decode cJ7_init_2 6 = .ok (.putfield 7, 3) := dk_181 0 7 (dk_at dksJ7_init_2_0 6 rfl rfl)
theorem dJ7_init_2_9 : decode cJ7_init_2 9 = .ok (.aload_n 0, 1) := dk_42 (dk_at dksJ7_init_2_0 9 rfl rfl)
theorem dJ7_init_2_10 : decode cJ7_init_2 10 = .ok (.getstatic 13, 3) := dk_178 0 13 (dk_at dksJ7_init_2_0 10 rfl rfl)
theorem dJ7_init_2_13 : decode cJ7_init_2 13 = .ok (.putfield 17, 3) := dk_181 0 17 (dk_at dksJ7_init_2_0 13 rfl rfl)
theorem dJ7_init_2_16 : decode cJ7_init_2 16 = .ok (.aload_n 0, 1) := dk_42 (dk_at dksJ7_init_2_0 16 rfl rfl)
theorem dJ7_init_2_17 : decode cJ7_init_2 17 = .ok (.getstatic 20, 3) := dk_178 0 20 (dk_at dksJ7_init_2_0 17 rfl rfl)
theorem dJ7_init_2_20 : decode cJ7_init_2 20 = .ok (.putfield 24, 3) := dk_181 0 24 (dk_at dksJ7_init_2_0 20 rfl rfl)
theorem dJ7_init_2_23 : decode cJ7_init_2 23 = .ok (.iload 4, 2) := dk_21 4 (dk_at dksJ7_init_2_1 0 rfl rfl)
theorem dJ7_init_2_25 : decode cJ7_init_2 25 = .ok (.ifCond .eq 11, 3) := dk_153 0 11 (dk_at dksJ7_init_2_1 2 rfl rfl)
theorem dJ7_init_2_28 : decode cJ7_init_2 28 = .ok (.aload_n 0, 1) := dk_42 (dk_at dksJ7_init_2_1 5 rfl rfl)
theorem dJ7_init_2_29 : decode cJ7_init_2 29 = .ok (.invokevirtual 27, 3) := dk_182 0 27 (dk_at dksJ7_init_2_1 6 rfl rfl)
theorem dJ7_init_2_32 : decode cJ7_init_2 32 = .ok (.pop, 1) := dk_87 (dk_at dksJ7_init_2_1 9 rfl rfl)
theorem dJ7_init_2_33 : decode cJ7_init_2 33 = .ok (.goto 8, 3) := dk_167 0 8 (dk_at dksJ7_init_2_1 10 rfl rfl)
theorem dJ7_init_2_36 : decode cJ7_init_2 36 = .ok (.aload_n 0, 1) := dk_42 (dk_at dksJ7_init_2_1 13 rfl rfl)
theorem dJ7_init_2_37 : decode cJ7_init_2 37 = .ok (.aconst_null, 1) := dk_1 (dk_at dksJ7_init_2_1 14 rfl rfl)
theorem dJ7_init_2_38 : decode cJ7_init_2 38 = .ok (.putfield 17, 3) := dk_181 0 17 (dk_at dksJ7_init_2_1 15 rfl rfl)
theorem dJ7_init_2_41 : decode cJ7_init_2 41 = .ok (.aload_n 0, 1) := dk_42 (dk_at dksJ7_init_2_1 18 rfl rfl)
theorem dJ7_init_2_42 : decode cJ7_init_2 42 = .ok (.aload_n 1, 1) := dk_43 (dk_at dksJ7_init_2_1 19 rfl rfl)
theorem dJ7_init_2_43 : decode cJ7_init_2 43 = .ok (.putfield 31, 3) := dk_181 0 31 (dk_at dksJ7_init_2_1 20 rfl rfl)
theorem dJ7_init_2_46 : decode cJ7_init_2 46 = .ok (.aload_n 0, 1) := dk_42 (dk_at dksJ7_init_2_1 23 rfl rfl)
theorem dJ7_init_2_47 : decode cJ7_init_2 47 = .ok (.aload_n 2, 1) := dk_44 (dk_at dksJ7_init_2_2 0 rfl rfl)
theorem dJ7_init_2_48 : decode cJ7_init_2 48 = .ok (.putfield 7, 3) := dk_181 0 7 (dk_at dksJ7_init_2_2 1 rfl rfl)
theorem dJ7_init_2_51 : decode cJ7_init_2 51 = .ok (.iload_n 3, 1) := dk_29 (dk_at dksJ7_init_2_2 4 rfl rfl)
theorem dJ7_init_2_52 : decode cJ7_init_2 52 = .ok (.ifCond .ne 8, 3) := dk_154 0 8 (dk_at dksJ7_init_2_2 5 rfl rfl)
theorem dJ7_init_2_55 : decode cJ7_init_2 55 = .ok (.aload_n 0, 1) := dk_42 (dk_at dksJ7_init_2_2 8 rfl rfl)
theorem dJ7_init_2_56 : decode cJ7_init_2 56 = .ok (.aconst_null, 1) := dk_1 (dk_at dksJ7_init_2_2 9 rfl rfl)
theorem dJ7_init_2_57 : decode cJ7_init_2 57 = .ok (.putfield 24, 3) := dk_181 0 24 (dk_at dksJ7_init_2_2 10 rfl rfl)
theorem dJ7_init_2_60 : decode cJ7_init_2 60 = .ok (.return_, 1) := dk_177 (dk_at dksJ7_init_2_2 13 rfl rfl)
abbrev cJ7_init_3 : ByteArray := prog_34_method_2_code
def yJ7_init_3 : MethodName := ⟨RJ7, "<init>", "(Ljava/lang/String;)V"⟩
def dkwJ7_init_3_1 : List UInt8 := [182, 0, 27, 87, 42, 43, 181, 0, 31, 177]
abbrev dktJ7_init_3_1 : List UInt8 := dkwJ7_init_3_1 ++ []
def dkwJ7_init_3_0 : List UInt8 := [42, 183, 0, 1, 42, 42, 181, 0, 7, 42, 178, 0, 13, 181, 0, 17, 42, 178, 0, 20, 181, 0, 24, 42]
abbrev dktJ7_init_3_0 : List UInt8 := dkwJ7_init_3_0 ++ dktJ7_init_3_1
theorem dksJ7_init_3_0 : cJ7_init_3.data.toList.drop 0 = dktJ7_init_3_0 := by decide +kernel
theorem dksJ7_init_3_1 : cJ7_init_3.data.toList.drop 24 = dktJ7_init_3_1 := dk_seg dksJ7_init_3_0 24 rfl rfl
theorem dJ7_init_3_0 : decode cJ7_init_3 0 = .ok (.aload_n 0, 1) := dk_42 (dk_at dksJ7_init_3_0 0 rfl rfl)
theorem dJ7_init_3_1 : decode cJ7_init_3 1 = .ok (.invokespecial 1, 3) := dk_183 0 1 (dk_at dksJ7_init_3_0 1 rfl rfl)
theorem dJ7_init_3_4 : decode cJ7_init_3 4 = .ok (.aload_n 0, 1) := dk_42 (dk_at dksJ7_init_3_0 4 rfl rfl)
theorem dJ7_init_3_5 : decode cJ7_init_3 5 = .ok (.aload_n 0, 1) := dk_42 (dk_at dksJ7_init_3_0 5 rfl rfl)
theorem dJ7_init_3_6 : decode cJ7_init_3 6 = .ok (.putfield 7, 3) := dk_181 0 7 (dk_at dksJ7_init_3_0 6 rfl rfl)
theorem dJ7_init_3_9 : decode cJ7_init_3 9 = .ok (.aload_n 0, 1) := dk_42 (dk_at dksJ7_init_3_0 9 rfl rfl)
theorem dJ7_init_3_10 : decode cJ7_init_3 10 = .ok (.getstatic 13, 3) := dk_178 0 13 (dk_at dksJ7_init_3_0 10 rfl rfl)
theorem dJ7_init_3_13 : decode cJ7_init_3 13 = .ok (.putfield 17, 3) := dk_181 0 17 (dk_at dksJ7_init_3_0 13 rfl rfl)
theorem dJ7_init_3_16 : decode cJ7_init_3 16 = .ok (.aload_n 0, 1) := dk_42 (dk_at dksJ7_init_3_0 16 rfl rfl)
theorem dJ7_init_3_17 : decode cJ7_init_3 17 = .ok (.getstatic 20, 3) := dk_178 0 20 (dk_at dksJ7_init_3_0 17 rfl rfl)
theorem dJ7_init_3_20 : decode cJ7_init_3 20 = .ok (.putfield 24, 3) := dk_181 0 24 (dk_at dksJ7_init_3_0 20 rfl rfl)
theorem dJ7_init_3_23 : decode cJ7_init_3 23 = .ok (.aload_n 0, 1) := dk_42 (dk_at dksJ7_init_3_0 23 rfl rfl)
theorem dJ7_init_3_24 : decode cJ7_init_3 24 = .ok (.invokevirtual 27, 3) := dk_182 0 27 (dk_at dksJ7_init_3_1 0 rfl rfl)
theorem dJ7_init_3_27 : decode cJ7_init_3 27 = .ok (.pop, 1) := dk_87 (dk_at dksJ7_init_3_1 3 rfl rfl)
theorem dJ7_init_3_28 : decode cJ7_init_3 28 = .ok (.aload_n 0, 1) := dk_42 (dk_at dksJ7_init_3_1 4 rfl rfl)
theorem dJ7_init_3_29 : decode cJ7_init_3 29 = .ok (.aload_n 1, 1) := dk_43 (dk_at dksJ7_init_3_1 5 rfl rfl)
theorem dJ7_init_3_30 : decode cJ7_init_3 30 = .ok (.putfield 31, 3) := dk_181 0 31 (dk_at dksJ7_init_3_1 6 rfl rfl)
theorem dJ7_init_3_33 : decode cJ7_init_3 33 = .ok (.return_, 1) := dk_177 (dk_at dksJ7_init_3_1 9 rfl rfl)
theorem q120 : (Jvm.Cond.initialized "java/lang/Throwable") ∈ lw_all := lw_g (lw_at lw_m1 17 rfl) rfl
theorem q274 : (Jvm.Cond.declares ({ cls := "java/lang/Throwable", name := "<init>", desc := "()V" } : Jvm.MethodName)) ∈ lw_tbl := lw_at lw_m1 171 rfl
theorem q275 : (Jvm.Cond.declares ({ cls := "java/lang/Throwable", name := "<init>", desc := "(Ljava/lang/String;)V" } : Jvm.MethodName)) ∈ lw_tbl := lw_at lw_m1 172 rfl
theorem q279 : (Jvm.Cond.lays "java/lang/Throwable" "java/lang/Throwable" "cause" "Ljava/lang/Throwable;") ∈ lw_all := lw_g (lw_at lw_m1 176 rfl) rfl
theorem q281 : (Jvm.Cond.lays "java/lang/Throwable" "java/lang/Throwable" "stackTrace" "[Ljava/lang/StackTraceElement;") ∈ lw_all := lw_g (lw_at lw_m1 178 rfl) rfl
theorem q283 : (Jvm.Cond.lays "java/lang/Throwable" "java/lang/Throwable" "suppressedExceptions" "Ljava/util/List;") ∈ lw_all := lw_g (lw_at lw_m1 180 rfl) rfl
theorem q285 : (Jvm.Cond.lays "java/lang/Throwable" "java/lang/Throwable" "detailMessage" "Ljava/lang/String;") ∈ lw_all := lw_g (lw_at lw_m1 182 rfl) rfl
theorem q287 : (Jvm.Cond.lays "java/lang/Throwable" "java/lang/Throwable" "backtrace" "Ljava/lang/Object;") ∈ lw_all := lw_g (lw_at lw_m1 184 rfl) rfl
theorem q288 : (Jvm.Cond.fieldLink "java/lang/Throwable" (198 : Nat) "java/lang/Throwable" "backtrace" "Ljava/lang/Object;") ∈ lw_all := lw_g (lw_at lw_m1 185 rfl) rfl
theorem q289 : (Jvm.Cond.superclass "java/lang/Throwable" "java/lang/Object") ∈ lw_all := lw_g (lw_at lw_m1 186 rfl) rfl
theorem q290 : (Jvm.Cond.instanceMethod ({ cls := "java/lang/Throwable", name := "<init>", desc := "()V" } : Jvm.MethodName)) ∈ lw_all := lw_g (lw_at lw_m1 187 rfl) rfl
theorem q291 : (Jvm.Cond.code ({ cls := "java/lang/Throwable", name := "<init>", desc := "()V" } : Jvm.MethodName) prog_34_method_1_code (1 : Nat) (Option.none : Option Jvm.ClassFile.FieldType)) ∈ lw_all := lw_g (lw_at lw_m1 188 rfl) rfl
theorem q292 : (Jvm.Cond.methodLink "java/lang/Throwable" (1 : Nat) ({ cls := "java/lang/Object", name := "<init>", desc := "()V" } : Jvm.MethodName)) ∈ lw_all := lw_g (lw_at lw_m1 189 rfl) rfl
theorem q293 : (Jvm.Cond.fieldLink "java/lang/Throwable" (13 : Nat) "java/lang/Throwable" "UNASSIGNED_STACK" "[Ljava/lang/StackTraceElement;") ∈ lw_all := lw_g (lw_at lw_m1 190 rfl) rfl
theorem q294 : (Jvm.Cond.laysStatic "java/lang/Throwable" "UNASSIGNED_STACK" "[Ljava/lang/StackTraceElement;") ∈ lw_tbl := lw_at lw_m1 191 rfl
theorem q295 : (Jvm.Cond.fieldLink "java/lang/Throwable" (20 : Nat) "java/lang/Throwable" "SUPPRESSED_SENTINEL" "Ljava/util/List;") ∈ lw_all := lw_g (lw_at lw_m1 192 rfl) rfl
theorem q296 : (Jvm.Cond.laysStatic "java/lang/Throwable" "SUPPRESSED_SENTINEL" "Ljava/util/List;") ∈ lw_tbl := lw_at lw_m1 193 rfl
theorem q297 : (Jvm.Cond.methodLink "java/lang/Throwable" (27 : Nat) ({ cls := "java/lang/Throwable", name := "fillInStackTrace", desc := "()Ljava/lang/Throwable;" } : Jvm.MethodName)) ∈ lw_all := lw_g (lw_at lw_m1 194 rfl) rfl
theorem q298 : (Jvm.Cond.instanceMethod ({ cls := "java/lang/Throwable", name := "fillInStackTrace", desc := "()Ljava/lang/Throwable;" } : Jvm.MethodName)) ∈ lw_all := lw_g (lw_at lw_m1 195 rfl) rfl
theorem q299 : (Jvm.Cond.sameMethod "java/lang/Throwable" "java/lang/Throwable" "fillInStackTrace" "()Ljava/lang/Throwable;") ∈ lw_all := lw_g (lw_at lw_m1 196 rfl) rfl
theorem q313 : (Jvm.Cond.declares ({ cls := "java/lang/Throwable", name := "fillInStackTrace", desc := "()Ljava/lang/Throwable;" } : Jvm.MethodName)) ∈ lw_tbl := lw_at lw_m1 210 rfl
theorem q317 : (Jvm.Cond.codeSync ({ cls := "java/lang/Throwable", name := "fillInStackTrace", desc := "()Ljava/lang/Throwable;" } : Jvm.MethodName) prog_34_method_18_code (1 : Nat) (Option.some (Jvm.ClassFile.FieldType.object "java/lang/Throwable"))) ∈ lw_all := lw_g (lw_at lw_m1 214 rfl) rfl
theorem q318 : (Jvm.Cond.methodLink "java/lang/Throwable" (202 : Nat) ({ cls := "java/lang/Throwable", name := "fillInStackTrace", desc := "(I)Ljava/lang/Throwable;" } : Jvm.MethodName)) ∈ lw_all := lw_g (lw_at lw_m1 215 rfl) rfl
theorem q319 : (Jvm.Cond.privateMethod ({ cls := "java/lang/Throwable", name := "fillInStackTrace", desc := "(I)Ljava/lang/Throwable;" } : Jvm.MethodName)) ∈ lw_tbl := lw_at lw_m1 216 rfl
theorem q320 : (Jvm.Cond.instanceMethod ({ cls := "java/lang/Throwable", name := "fillInStackTrace", desc := "(I)Ljava/lang/Throwable;" } : Jvm.MethodName)) ∈ lw_all := lw_g (lw_at lw_m1 217 rfl) rfl
theorem q321 : (Jvm.Cond.instantiable "java/lang/Throwable" (6 : Nat)) ∈ lw_all := lw_g (lw_at lw_m1 218 rfl) rfl
theorem q322 : (Jvm.Cond.native ({ cls := "java/lang/Throwable", name := "fillInStackTrace", desc := "(I)Ljava/lang/Throwable;" } : Jvm.MethodName)) ∈ lw_all := lw_g (lw_at lw_m1 219 rfl) rfl
theorem q333 : (Jvm.Cond.instanceMethod ({ cls := "java/lang/Throwable", name := "<init>", desc := "(Ljava/lang/String;Ljava/lang/Throwable;ZZ)V" } : Jvm.MethodName)) ∈ lw_all := lw_g (lw_at lw_m1 230 rfl) rfl
theorem q334 : (Jvm.Cond.code ({ cls := "java/lang/Throwable", name := "<init>", desc := "(Ljava/lang/String;Ljava/lang/Throwable;ZZ)V" } : Jvm.MethodName) prog_34_method_5_code (5 : Nat) (Option.none : Option Jvm.ClassFile.FieldType)) ∈ lw_all := lw_g (lw_at lw_m1 231 rfl) rfl
theorem q339 : (Jvm.Cond.fieldLink "java/lang/Throwable" (198 : Nat) "java/lang/Throwable" "backtrace" "Ljava/lang/Object;") ∈ lw_all := lw_g (lw_at lw_m1 236 rfl) rfl
theorem q340 : (Jvm.Cond.fieldLink "java/lang/Throwable" (31 : Nat) "java/lang/Throwable" "detailMessage" "Ljava/lang/String;") ∈ lw_all := lw_g (lw_at lw_m1 237 rfl) rfl
theorem q341 : (Jvm.Cond.fieldLink "java/lang/Throwable" (7 : Nat) "java/lang/Throwable" "cause" "Ljava/lang/Throwable;") ∈ lw_all := lw_g (lw_at lw_m1 238 rfl) rfl
theorem q342 : (Jvm.Cond.fieldLink "java/lang/Throwable" (17 : Nat) "java/lang/Throwable" "stackTrace" "[Ljava/lang/StackTraceElement;") ∈ lw_all := lw_g (lw_at lw_m1 239 rfl) rfl
theorem q343 : (Jvm.Cond.fieldLink "java/lang/Throwable" (24 : Nat) "java/lang/Throwable" "suppressedExceptions" "Ljava/util/List;") ∈ lw_all := lw_g (lw_at lw_m2 0 rfl) rfl
theorem q348 : (Jvm.Cond.soleField "java/lang/Throwable" "backtrace") ∈ lw_all := lw_g (lw_at lw_m2 5 rfl) rfl
theorem q349 : (Jvm.Cond.soleField "java/lang/Throwable" "detailMessage") ∈ lw_all := lw_g (lw_at lw_m2 6 rfl) rfl
theorem q350 : (Jvm.Cond.soleField "java/lang/Throwable" "cause") ∈ lw_all := lw_g (lw_at lw_m2 7 rfl) rfl
theorem q351 : (Jvm.Cond.soleField "java/lang/Throwable" "stackTrace") ∈ lw_all := lw_g (lw_at lw_m2 8 rfl) rfl
theorem q353 : (Jvm.Cond.soleField "java/lang/Throwable" "depth") ∈ lw_all := lw_g (lw_at lw_m2 10 rfl) rfl
theorem q354 : (Jvm.Cond.soleField "java/lang/Throwable" "suppressedExceptions") ∈ lw_all := lw_g (lw_at lw_m2 11 rfl) rfl
theorem q1765 : (Jvm.Cond.instanceMethod ({ cls := "java/lang/Throwable", name := "<init>", desc := "(Ljava/lang/String;)V" } : Jvm.MethodName)) ∈ lw_all := lw_g (lw_at lw_m7 222 rfl) rfl
theorem q1766 : (Jvm.Cond.code ({ cls := "java/lang/Throwable", name := "<init>", desc := "(Ljava/lang/String;)V" } : Jvm.MethodName) prog_34_method_2_code (2 : Nat) (Option.none : Option Jvm.ClassFile.FieldType)) ∈ lw_all := lw_g (lw_at lw_m7 223 rfl) rfl
theorem q2292 : (Jvm.Cond.sameMethod "java/lang/Throwable" "java/lang/Throwable" "fillInStackTrace" "(I)Ljava/lang/Throwable;") ∈ lw_all := lw_g (lw_at lw_m10 29 rfl) rfl
theorem q2320 : (Jvm.Cond.castable "java/lang/Throwable" "java/lang/Object") ∈ lw_tbl := lw_at lw_m10 57 rfl
theorem in_J7 : ∀ w ∈ wsJ70, w ∈ lw_all := lw_in wsJ70 [279, 281, 283, 285, 287] (by decide +kernel) (by decide +kernel)

/-! java/lang/Exception -/
set_option maxRecDepth 100000
def RJ8 : String := "java/lang/Exception"
abbrev cJ8_init : ByteArray := prog_20_method_5_code
def yJ8_init : MethodName := ⟨RJ8, "<init>", "(Ljava/lang/String;Ljava/lang/Throwable;ZZ)V"⟩
def dkwJ8_init_0 : List UInt8 := [42, 43, 44, 29, 21, 4, 183, 0, 16, 177]
abbrev dktJ8_init_0 : List UInt8 := dkwJ8_init_0 ++ []
theorem dksJ8_init_0 : cJ8_init.data.toList.drop 0 = dktJ8_init_0 := by decide +kernel
theorem dJ8_init_0 : decode cJ8_init 0 = .ok (.aload_n 0, 1) := dk_42 (dk_at dksJ8_init_0 0 rfl rfl)
theorem dJ8_init_1 : decode cJ8_init 1 = .ok (.aload_n 1, 1) := dk_43 (dk_at dksJ8_init_0 1 rfl rfl)
theorem dJ8_init_2 : decode cJ8_init 2 = .ok (.aload_n 2, 1) := dk_44 (dk_at dksJ8_init_0 2 rfl rfl)
theorem dJ8_init_3 : decode cJ8_init 3 = .ok (.iload_n 3, 1) := dk_29 (dk_at dksJ8_init_0 3 rfl rfl)
theorem dJ8_init_4 : decode cJ8_init 4 = .ok (.iload 4, 2) := dk_21 4 (dk_at dksJ8_init_0 4 rfl rfl)
theorem dJ8_init_6 : decode cJ8_init 6 = .ok (.invokespecial 16, 3) := dk_183 0 16 (dk_at dksJ8_init_0 6 rfl rfl)
theorem dJ8_init_9 : decode cJ8_init 9 = .ok (.return_, 1) := dk_177 (dk_at dksJ8_init_0 9 rfl rfl)
abbrev cJ8_init_2 : ByteArray := prog_20_method_1_code
def yJ8_init_2 : MethodName := ⟨RJ8, "<init>", "()V"⟩
theorem dJ8_init_2_0 : decode cJ8_init_2 0 = .ok (.aload_n 0, 1) := by decide +kernel
theorem dJ8_init_2_1 : decode cJ8_init_2 1 = .ok (.invokespecial 1, 3) := by decide +kernel
theorem dJ8_init_2_4 : decode cJ8_init_2 4 = .ok (.return_, 1) := by decide +kernel
abbrev cJ8_init_3 : ByteArray := prog_20_method_2_code
def yJ8_init_3 : MethodName := ⟨RJ8, "<init>", "(Ljava/lang/String;)V"⟩
def dkwJ8_init_3_0 : List UInt8 := [42, 43, 183, 0, 7, 177]
abbrev dktJ8_init_3_0 : List UInt8 := dkwJ8_init_3_0 ++ []
theorem dksJ8_init_3_0 : cJ8_init_3.data.toList.drop 0 = dktJ8_init_3_0 := by decide +kernel
theorem dJ8_init_3_0 : decode cJ8_init_3 0 = .ok (.aload_n 0, 1) := dk_42 (dk_at dksJ8_init_3_0 0 rfl rfl)
theorem dJ8_init_3_1 : decode cJ8_init_3 1 = .ok (.aload_n 1, 1) := dk_43 (dk_at dksJ8_init_3_0 1 rfl rfl)
theorem dJ8_init_3_2 : decode cJ8_init_3 2 = .ok (.invokespecial 7, 3) := dk_183 0 7 (dk_at dksJ8_init_3_0 2 rfl rfl)
theorem dJ8_init_3_5 : decode cJ8_init_3 5 = .ok (.return_, 1) := dk_177 (dk_at dksJ8_init_3_0 5 rfl rfl)
theorem q121 : (Jvm.Cond.initialized "java/lang/Exception") ∈ lw_all := lw_g (lw_at lw_m1 18 rfl) rfl
theorem q272 : (Jvm.Cond.declares ({ cls := "java/lang/Exception", name := "<init>", desc := "()V" } : Jvm.MethodName)) ∈ lw_tbl := lw_at lw_m1 169 rfl
theorem q273 : (Jvm.Cond.declares ({ cls := "java/lang/Exception", name := "<init>", desc := "(Ljava/lang/String;)V" } : Jvm.MethodName)) ∈ lw_tbl := lw_at lw_m1 170 rfl
theorem q316 : (Jvm.Cond.superclass "java/lang/Exception" "java/lang/Throwable") ∈ lw_all := lw_g (lw_at lw_m1 213 rfl) rfl
theorem q330 : (Jvm.Cond.instanceMethod ({ cls := "java/lang/Exception", name := "<init>", desc := "(Ljava/lang/String;Ljava/lang/Throwable;ZZ)V" } : Jvm.MethodName)) ∈ lw_all := lw_g (lw_at lw_m1 227 rfl) rfl
theorem q331 : (Jvm.Cond.code ({ cls := "java/lang/Exception", name := "<init>", desc := "(Ljava/lang/String;Ljava/lang/Throwable;ZZ)V" } : Jvm.MethodName) prog_20_method_5_code (5 : Nat) (Option.none : Option Jvm.ClassFile.FieldType)) ∈ lw_all := lw_g (lw_at lw_m1 228 rfl) rfl
theorem q332 : (Jvm.Cond.methodLink "java/lang/Exception" (16 : Nat) ({ cls := "java/lang/Throwable", name := "<init>", desc := "(Ljava/lang/String;Ljava/lang/Throwable;ZZ)V" } : Jvm.MethodName)) ∈ lw_all := lw_g (lw_at lw_m1 229 rfl) rfl
theorem q765 : (Jvm.Cond.instanceMethod ({ cls := "java/lang/Exception", name := "<init>", desc := "()V" } : Jvm.MethodName)) ∈ lw_all := lw_g (lw_at lw_m3 182 rfl) rfl
theorem q766 : (Jvm.Cond.code ({ cls := "java/lang/Exception", name := "<init>", desc := "()V" } : Jvm.MethodName) prog_20_method_1_code (1 : Nat) (Option.none : Option Jvm.ClassFile.FieldType)) ∈ lw_all := lw_g (lw_at lw_m3 183 rfl) rfl
theorem q767 : (Jvm.Cond.methodLink "java/lang/Exception" (1 : Nat) ({ cls := "java/lang/Throwable", name := "<init>", desc := "()V" } : Jvm.MethodName)) ∈ lw_all := lw_g (lw_at lw_m3 184 rfl) rfl
theorem q1762 : (Jvm.Cond.instanceMethod ({ cls := "java/lang/Exception", name := "<init>", desc := "(Ljava/lang/String;)V" } : Jvm.MethodName)) ∈ lw_all := lw_g (lw_at lw_m7 219 rfl) rfl
theorem q1763 : (Jvm.Cond.code ({ cls := "java/lang/Exception", name := "<init>", desc := "(Ljava/lang/String;)V" } : Jvm.MethodName) prog_20_method_2_code (2 : Nat) (Option.none : Option Jvm.ClassFile.FieldType)) ∈ lw_all := lw_g (lw_at lw_m7 220 rfl) rfl
theorem q1764 : (Jvm.Cond.methodLink "java/lang/Exception" (7 : Nat) ({ cls := "java/lang/Throwable", name := "<init>", desc := "(Ljava/lang/String;)V" } : Jvm.MethodName)) ∈ lw_all := lw_g (lw_at lw_m7 221 rfl) rfl

/-! java/lang/RuntimeException -/
set_option maxRecDepth 100000
def RJ9 : String := "java/lang/RuntimeException"
abbrev cJ9_init : ByteArray := prog_29_method_5_code
def yJ9_init : MethodName := ⟨RJ9, "<init>", "(Ljava/lang/String;Ljava/lang/Throwable;ZZ)V"⟩
def dkwJ9_init_0 : List UInt8 := [42, 43, 44, 29, 21, 4, 183, 0, 16, 177]
abbrev dktJ9_init_0 : List UInt8 := dkwJ9_init_0 ++ []
theorem dksJ9_init_0 : cJ9_init.data.toList.drop 0 = dktJ9_init_0 := by decide +kernel
theorem dJ9_init_0 : decode cJ9_init 0 = .ok (.aload_n 0, 1) := dk_42 (dk_at dksJ9_init_0 0 rfl rfl)
theorem dJ9_init_1 : decode cJ9_init 1 = .ok (.aload_n 1, 1) := dk_43 (dk_at dksJ9_init_0 1 rfl rfl)
theorem dJ9_init_2 : decode cJ9_init 2 = .ok (.aload_n 2, 1) := dk_44 (dk_at dksJ9_init_0 2 rfl rfl)
theorem dJ9_init_3 : decode cJ9_init 3 = .ok (.iload_n 3, 1) := dk_29 (dk_at dksJ9_init_0 3 rfl rfl)
theorem dJ9_init_4 : decode cJ9_init 4 = .ok (.iload 4, 2) := dk_21 4 (dk_at dksJ9_init_0 4 rfl rfl)
theorem dJ9_init_6 : decode cJ9_init 6 = .ok (.invokespecial 16, 3) := dk_183 0 16 (dk_at dksJ9_init_0 6 rfl rfl)
theorem dJ9_init_9 : decode cJ9_init 9 = .ok (.return_, 1) := dk_177 (dk_at dksJ9_init_0 9 rfl rfl)
abbrev cJ9_init_2 : ByteArray := prog_29_method_1_code
def yJ9_init_2 : MethodName := ⟨RJ9, "<init>", "()V"⟩
theorem dJ9_init_2_0 : decode cJ9_init_2 0 = .ok (.aload_n 0, 1) := by decide +kernel
theorem dJ9_init_2_1 : decode cJ9_init_2 1 = .ok (.invokespecial 1, 3) := by decide +kernel
theorem dJ9_init_2_4 : decode cJ9_init_2 4 = .ok (.return_, 1) := by decide +kernel
abbrev cJ9_init_3 : ByteArray := prog_29_method_2_code
def yJ9_init_3 : MethodName := ⟨RJ9, "<init>", "(Ljava/lang/String;)V"⟩
def dkwJ9_init_3_0 : List UInt8 := [42, 43, 183, 0, 7, 177]
abbrev dktJ9_init_3_0 : List UInt8 := dkwJ9_init_3_0 ++ []
theorem dksJ9_init_3_0 : cJ9_init_3.data.toList.drop 0 = dktJ9_init_3_0 := by decide +kernel
theorem dJ9_init_3_0 : decode cJ9_init_3 0 = .ok (.aload_n 0, 1) := dk_42 (dk_at dksJ9_init_3_0 0 rfl rfl)
theorem dJ9_init_3_1 : decode cJ9_init_3 1 = .ok (.aload_n 1, 1) := dk_43 (dk_at dksJ9_init_3_0 1 rfl rfl)
theorem dJ9_init_3_2 : decode cJ9_init_3 2 = .ok (.invokespecial 7, 3) := dk_183 0 7 (dk_at dksJ9_init_3_0 2 rfl rfl)
theorem dJ9_init_3_5 : decode cJ9_init_3 5 = .ok (.return_, 1) := dk_177 (dk_at dksJ9_init_3_0 5 rfl rfl)
theorem q122 : (Jvm.Cond.initialized "java/lang/RuntimeException") ∈ lw_all := lw_g (lw_at lw_m1 19 rfl) rfl
theorem q270 : (Jvm.Cond.declares ({ cls := "java/lang/RuntimeException", name := "<init>", desc := "()V" } : Jvm.MethodName)) ∈ lw_tbl := lw_at lw_m1 167 rfl
theorem q271 : (Jvm.Cond.declares ({ cls := "java/lang/RuntimeException", name := "<init>", desc := "(Ljava/lang/String;)V" } : Jvm.MethodName)) ∈ lw_tbl := lw_at lw_m1 168 rfl
theorem q312 : (Jvm.Cond.sameMethod "java/lang/RuntimeException" "java/lang/Throwable" "fillInStackTrace" "()Ljava/lang/Throwable;") ∈ lw_all := lw_g (lw_at lw_m1 209 rfl) rfl
theorem q315 : (Jvm.Cond.superclass "java/lang/RuntimeException" "java/lang/Exception") ∈ lw_all := lw_g (lw_at lw_m1 212 rfl) rfl
theorem q327 : (Jvm.Cond.instanceMethod ({ cls := "java/lang/RuntimeException", name := "<init>", desc := "(Ljava/lang/String;Ljava/lang/Throwable;ZZ)V" } : Jvm.MethodName)) ∈ lw_all := lw_g (lw_at lw_m1 224 rfl) rfl
theorem q328 : (Jvm.Cond.code ({ cls := "java/lang/RuntimeException", name := "<init>", desc := "(Ljava/lang/String;Ljava/lang/Throwable;ZZ)V" } : Jvm.MethodName) prog_29_method_5_code (5 : Nat) (Option.none : Option Jvm.ClassFile.FieldType)) ∈ lw_all := lw_g (lw_at lw_m1 225 rfl) rfl
theorem q329 : (Jvm.Cond.methodLink "java/lang/RuntimeException" (16 : Nat) ({ cls := "java/lang/Exception", name := "<init>", desc := "(Ljava/lang/String;Ljava/lang/Throwable;ZZ)V" } : Jvm.MethodName)) ∈ lw_all := lw_g (lw_at lw_m1 226 rfl) rfl
theorem q762 : (Jvm.Cond.instanceMethod ({ cls := "java/lang/RuntimeException", name := "<init>", desc := "()V" } : Jvm.MethodName)) ∈ lw_all := lw_g (lw_at lw_m3 179 rfl) rfl
theorem q763 : (Jvm.Cond.code ({ cls := "java/lang/RuntimeException", name := "<init>", desc := "()V" } : Jvm.MethodName) prog_29_method_1_code (1 : Nat) (Option.none : Option Jvm.ClassFile.FieldType)) ∈ lw_all := lw_g (lw_at lw_m3 180 rfl) rfl
theorem q764 : (Jvm.Cond.methodLink "java/lang/RuntimeException" (1 : Nat) ({ cls := "java/lang/Exception", name := "<init>", desc := "()V" } : Jvm.MethodName)) ∈ lw_all := lw_g (lw_at lw_m3 181 rfl) rfl
theorem q1759 : (Jvm.Cond.instanceMethod ({ cls := "java/lang/RuntimeException", name := "<init>", desc := "(Ljava/lang/String;)V" } : Jvm.MethodName)) ∈ lw_all := lw_g (lw_at lw_m7 216 rfl) rfl
theorem q1760 : (Jvm.Cond.code ({ cls := "java/lang/RuntimeException", name := "<init>", desc := "(Ljava/lang/String;)V" } : Jvm.MethodName) prog_29_method_2_code (2 : Nat) (Option.none : Option Jvm.ClassFile.FieldType)) ∈ lw_all := lw_g (lw_at lw_m7 217 rfl) rfl
theorem q1761 : (Jvm.Cond.methodLink "java/lang/RuntimeException" (7 : Nat) ({ cls := "java/lang/Exception", name := "<init>", desc := "(Ljava/lang/String;)V" } : Jvm.MethodName)) ∈ lw_all := lw_g (lw_at lw_m7 218 rfl) rfl
theorem q1791 : (Jvm.Cond.castable "java/lang/RuntimeException" "java/lang/Throwable") ∈ lw_tbl := lw_at lw_m8 8 rfl

/-! java/lang/String -/
set_option maxRecDepth 100000
def RJ10 : String := "java/lang/String"
def TJ10 : u_T := fun k => match k with
  | 0 => ("java/lang/String", "value", "[B", true)
  | _ => ("java/lang/String", "coder", "B", true)
def tyJ10 : Nat → FieldType := fun k => match k with
  | 0 => .array .byte
  | _ => .byte
abbrev wsJ100 : List Cond := u_ws RJ10 TJ10 2
theorem nmJ10 : ∀ a, a < 2 → ∀ b, b < 2 → a ≠ b → (TJ10 a).2.1 ≠ (TJ10 b).2.1 := by decide +kernel
theorem tyJ10_ok : ∀ k, k < 2 → parseFieldDescriptor (TJ10 k).2.2.1 = some (tyJ10 k) := by decide +kernel
abbrev cJ10_length : ByteArray := prog_30_method_54_code
def yJ10_length : MethodName := ⟨RJ10, "length", "()I"⟩
def dkwJ10_length_0 : List UInt8 := [42, 180, 0, 9, 190, 42, 182, 1, 79, 122, 172]
abbrev dktJ10_length_0 : List UInt8 := dkwJ10_length_0 ++ []
theorem dksJ10_length_0 : cJ10_length.data.toList.drop 0 = dktJ10_length_0 := by decide +kernel
theorem dJ10_length_0 : decode cJ10_length 0 = .ok (.aload_n 0, 1) := dk_42 (dk_at dksJ10_length_0 0 rfl rfl)
theorem dJ10_length_1 : decode cJ10_length 1 = .ok (.getfield 9, 3) := dk_180 0 9 (dk_at dksJ10_length_0 1 rfl rfl)
theorem dJ10_length_4 : decode cJ10_length 4 = .ok (.arraylength, 1) := dk_190 (dk_at dksJ10_length_0 4 rfl rfl)
theorem dJ10_length_5 : decode cJ10_length 5 = .ok (.aload_n 0, 1) := dk_42 (dk_at dksJ10_length_0 5 rfl rfl)
theorem dJ10_length_6 : decode cJ10_length 6 = .ok (.invokevirtual 335, 3) := dk_182 1 79 (dk_at dksJ10_length_0 6 rfl rfl)
theorem dJ10_length_9 : decode cJ10_length 9 = .ok (.ishr, 1) := dk_122 (dk_at dksJ10_length_0 9 rfl rfl)
theorem dJ10_length_10 : decode cJ10_length 10 = .ok (.ireturn, 1) := dk_172 (dk_at dksJ10_length_0 10 rfl rfl)
abbrev cJ10_coder : ByteArray := prog_30_method_152_code
def yJ10_coder : MethodName := ⟨RJ10, "coder", "()B"⟩
def dkwJ10_coder_0 : List UInt8 := [178, 0, 38, 153, 0, 10, 42, 180, 0, 15, 167, 0, 4, 4, 172]
abbrev dktJ10_coder_0 : List UInt8 := dkwJ10_coder_0 ++ []
theorem dksJ10_coder_0 : cJ10_coder.data.toList.drop 0 = dktJ10_coder_0 := by decide +kernel
theorem dJ10_coder_0 : decode cJ10_coder 0 = .ok (.getstatic 38, 3) := dk_178 0 38 (dk_at dksJ10_coder_0 0 rfl rfl)
theorem dJ10_coder_3 : decode cJ10_coder 3 = .ok (.ifCond .eq 10, 3) := dk_153 0 10 (dk_at dksJ10_coder_0 3 rfl rfl)
theorem dJ10_coder_6 : decode cJ10_coder 6 = .ok (.aload_n 0, 1) := dk_42 (dk_at dksJ10_coder_0 6 rfl rfl)
theorem dJ10_coder_7 : decode cJ10_coder 7 = .ok (.getfield 15, 3) := dk_180 0 15 (dk_at dksJ10_coder_0 7 rfl rfl)
theorem dJ10_coder_10 : decode cJ10_coder 10 = .ok (.goto 4, 3) := dk_167 0 4 (dk_at dksJ10_coder_0 10 rfl rfl)
theorem dJ10_coder_13 : decode cJ10_coder 13 = .ok (.iconst 1, 1) := dk_4 (dk_at dksJ10_coder_0 13 rfl rfl)
theorem dJ10_coder_14 : decode cJ10_coder 14 = .ok (.ireturn, 1) := dk_172 (dk_at dksJ10_coder_0 14 rfl rfl)
abbrev cJ10_charAt : ByteArray := prog_30_method_56_code
def yJ10_charAt : MethodName := ⟨RJ10, "charAt", "(I)C"⟩
def dkwJ10_charAt_1 : List UInt8 := [172]
abbrev dktJ10_charAt_1 : List UInt8 := dkwJ10_charAt_1 ++ []
def dkwJ10_charAt_0 : List UInt8 := [42, 182, 1, 236, 153, 0, 12, 42, 180, 0, 9, 27, 184, 1, 239, 172, 42, 180, 0, 9, 27, 184, 1, 242]
abbrev dktJ10_charAt_0 : List UInt8 := dkwJ10_charAt_0 ++ dktJ10_charAt_1
theorem dksJ10_charAt_0 : cJ10_charAt.data.toList.drop 0 = dktJ10_charAt_0 := by decide +kernel
theorem dksJ10_charAt_1 : cJ10_charAt.data.toList.drop 24 = dktJ10_charAt_1 := dk_seg dksJ10_charAt_0 24 rfl rfl
theorem dJ10_charAt_0 : decode cJ10_charAt 0 = .ok (.aload_n 0, 1) := dk_42 (dk_at dksJ10_charAt_0 0 rfl rfl)
theorem dJ10_charAt_1 : decode cJ10_charAt 1 = .ok (.invokevirtual 492, 3) := dk_182 1 236 (dk_at dksJ10_charAt_0 1 rfl rfl)
theorem dJ10_charAt_4 : decode cJ10_charAt 4 = .ok (.ifCond .eq 12, 3) := dk_153 0 12 (dk_at dksJ10_charAt_0 4 rfl rfl)
theorem dJ10_charAt_7 : decode cJ10_charAt 7 = .ok (.aload_n 0, 1) := dk_42 (dk_at dksJ10_charAt_0 7 rfl rfl)
theorem dJ10_charAt_8 : decode cJ10_charAt 8 = .ok (.getfield 9, 3) := dk_180 0 9 (dk_at dksJ10_charAt_0 8 rfl rfl)
theorem dJ10_charAt_11 : decode cJ10_charAt 11 = .ok (.iload_n 1, 1) := dk_27 (dk_at dksJ10_charAt_0 11 rfl rfl)
theorem dJ10_charAt_12 : decode cJ10_charAt 12 = .ok (.invokestatic 495, 3) := dk_184 1 239 (dk_at dksJ10_charAt_0 12 rfl rfl)
theorem dJ10_charAt_15 : decode cJ10_charAt 15 = .ok (.ireturn, 1) := dk_172 (dk_at dksJ10_charAt_0 15 rfl rfl)
theorem dJ10_charAt_16 : decode cJ10_charAt 16 = .ok (.aload_n 0, 1) := dk_42 (dk_at dksJ10_charAt_0 16 rfl rfl)
theorem dJ10_charAt_17 : decode cJ10_charAt 17 = .ok (.getfield 9, 3) := dk_180 0 9 (dk_at dksJ10_charAt_0 17 rfl rfl)
theorem dJ10_charAt_20 : decode cJ10_charAt 20 = .ok (.iload_n 1, 1) := dk_27 (dk_at dksJ10_charAt_0 20 rfl rfl)
theorem dJ10_charAt_21 : decode cJ10_charAt 21 = .ok (.invokestatic 498, 3) := dk_184 1 242 (dk_at dksJ10_charAt_0 21 rfl rfl)
theorem dJ10_charAt_24 : decode cJ10_charAt 24 = .ok (.ireturn, 1) := dk_172 (dk_at dksJ10_charAt_1 0 rfl rfl)
abbrev cJ10_isLatin1 : ByteArray := prog_30_method_154_code
def yJ10_isLatin1 : MethodName := ⟨RJ10, "isLatin1", "()Z"⟩
def dkwJ10_isLatin1_0 : List UInt8 := [178, 0, 38, 153, 0, 14, 42, 180, 0, 15, 154, 0, 7, 4, 167, 0, 4, 3, 172]
abbrev dktJ10_isLatin1_0 : List UInt8 := dkwJ10_isLatin1_0 ++ []
theorem dksJ10_isLatin1_0 : cJ10_isLatin1.data.toList.drop 0 = dktJ10_isLatin1_0 := by decide +kernel
theorem dJ10_isLatin1_0 : decode cJ10_isLatin1 0 = .ok (.getstatic 38, 3) := dk_178 0 38 (dk_at dksJ10_isLatin1_0 0 rfl rfl)
theorem dJ10_isLatin1_3 : decode cJ10_isLatin1 3 = .ok (.ifCond .eq 14, 3) := dk_153 0 14 (dk_at dksJ10_isLatin1_0 3 rfl rfl)
theorem dJ10_isLatin1_6 : decode cJ10_isLatin1 6 = .ok (.aload_n 0, 1) := dk_42 (dk_at dksJ10_isLatin1_0 6 rfl rfl)
theorem dJ10_isLatin1_7 : decode cJ10_isLatin1 7 = .ok (.getfield 15, 3) := dk_180 0 15 (dk_at dksJ10_isLatin1_0 7 rfl rfl)
theorem dJ10_isLatin1_10 : decode cJ10_isLatin1 10 = .ok (.ifCond .ne 7, 3) := dk_154 0 7 (dk_at dksJ10_isLatin1_0 10 rfl rfl)
theorem dJ10_isLatin1_13 : decode cJ10_isLatin1 13 = .ok (.iconst 1, 1) := dk_4 (dk_at dksJ10_isLatin1_0 13 rfl rfl)
theorem dJ10_isLatin1_14 : decode cJ10_isLatin1 14 = .ok (.goto 4, 3) := dk_167 0 4 (dk_at dksJ10_isLatin1_0 14 rfl rfl)
theorem dJ10_isLatin1_17 : decode cJ10_isLatin1 17 = .ok (.iconst 0, 1) := dk_3 (dk_at dksJ10_isLatin1_0 17 rfl rfl)
theorem dJ10_isLatin1_18 : decode cJ10_isLatin1 18 = .ok (.ireturn, 1) := dk_172 (dk_at dksJ10_isLatin1_0 18 rfl rfl)
abbrev cJ10_checkIndex : ByteArray := prog_30_method_155_code
def yJ10_checkIndex : MethodName := ⟨RJ10, "checkIndex", "(II)V"⟩
def dkwJ10_checkIndex_0 : List UInt8 := [26, 27, 178, 4, 29, 184, 4, 35, 87, 177]
abbrev dktJ10_checkIndex_0 : List UInt8 := dkwJ10_checkIndex_0 ++ []
theorem dksJ10_checkIndex_0 : cJ10_checkIndex.data.toList.drop 0 = dktJ10_checkIndex_0 := by decide +kernel
theorem dJ10_checkIndex_0 : decode cJ10_checkIndex 0 = .ok (.iload_n 0, 1) := dk_26 (dk_at dksJ10_checkIndex_0 0 rfl rfl)
theorem dJ10_checkIndex_1 : decode cJ10_checkIndex 1 = .ok (.iload_n 1, 1) := dk_27 (dk_at dksJ10_checkIndex_0 1 rfl rfl)
theorem dJ10_checkIndex_2 : decode cJ10_checkIndex 2 = .ok (.getstatic 1053, 3) := dk_178 4 29 (dk_at dksJ10_checkIndex_0 2 rfl rfl)
theorem dJ10_checkIndex_5 : decode cJ10_checkIndex 5 = .ok (.invokestatic 1059, 3) := dk_184 4 35 (dk_at dksJ10_checkIndex_0 5 rfl rfl)
theorem dJ10_checkIndex_8 : decode cJ10_checkIndex 8 = .ok (.pop, 1) := dk_87 (dk_at dksJ10_checkIndex_0 8 rfl rfl)
theorem dJ10_checkIndex_9 : decode cJ10_checkIndex 9 = .ok (.return_, 1) := dk_177 (dk_at dksJ10_checkIndex_0 9 rfl rfl)
abbrev cJ10_compareTo : ByteArray := prog_30_method_162_code
def yJ10_compareTo : MethodName := ⟨RJ10, "compareTo", "(Ljava/lang/Object;)I"⟩
def dkwJ10_compareTo_0 : List UInt8 := [42, 43, 192, 0, 10, 182, 4, 60, 172]
abbrev dktJ10_compareTo_0 : List UInt8 := dkwJ10_compareTo_0 ++ []
theorem dksJ10_compareTo_0 : cJ10_compareTo.data.toList.drop 0 = dktJ10_compareTo_0 := by decide +kernel
theorem dJ10_compareTo_0 : decode cJ10_compareTo 0 = .ok (.aload_n 0, 1) := dk_42 (dk_at dksJ10_compareTo_0 0 rfl rfl)
theorem dJ10_compareTo_1 : decode cJ10_compareTo 1 = .ok (.aload_n 1, 1) := dk_43 (dk_at dksJ10_compareTo_0 1 rfl rfl)
theorem dJ10_compareTo_2 : decode cJ10_compareTo 2 = .ok (.checkcast 10, 3) := dk_192 0 10 (dk_at dksJ10_compareTo_0 2 rfl rfl)
theorem dJ10_compareTo_5 : decode cJ10_compareTo 5 = .ok (.invokevirtual 1084, 3) := dk_182 4 60 (dk_at dksJ10_compareTo_0 5 rfl rfl)
theorem dJ10_compareTo_8 : decode cJ10_compareTo 8 = .ok (.ireturn, 1) := dk_172 (dk_at dksJ10_compareTo_0 8 rfl rfl)
abbrev cJ10_compareTo_2 : ByteArray := prog_30_method_71_code
def yJ10_compareTo_2 : MethodName := ⟨RJ10, "compareTo", "(Ljava/lang/String;)I"⟩
def dkwJ10_compareTo_2_2 : List UInt8 := [154, 0, 11, 44, 45, 184, 2, 79, 167, 0, 8, 44, 45, 184, 2, 82, 172]
abbrev dktJ10_compareTo_2_2 : List UInt8 := dkwJ10_compareTo_2_2 ++ []
def dkwJ10_compareTo_2_1 : List UInt8 := [160, 0, 22, 21, 4, 154, 0, 11, 44, 45, 184, 2, 74, 167, 0, 8, 44, 45, 184, 2, 78, 172, 21, 4]
abbrev dktJ10_compareTo_2_1 : List UInt8 := dkwJ10_compareTo_2_1 ++ dktJ10_compareTo_2_2
def dkwJ10_compareTo_2_0 : List UInt8 := [42, 180, 0, 9, 77, 43, 180, 0, 9, 78, 42, 182, 1, 79, 54, 4, 21, 4, 43, 182, 1, 79]
abbrev dktJ10_compareTo_2_0 : List UInt8 := dkwJ10_compareTo_2_0 ++ dktJ10_compareTo_2_1
theorem dksJ10_compareTo_2_0 : cJ10_compareTo_2.data.toList.drop 0 = dktJ10_compareTo_2_0 := by decide +kernel
theorem dksJ10_compareTo_2_1 : cJ10_compareTo_2.data.toList.drop 22 = dktJ10_compareTo_2_1 := dk_seg dksJ10_compareTo_2_0 22 rfl rfl
theorem dksJ10_compareTo_2_2 : cJ10_compareTo_2.data.toList.drop 46 = dktJ10_compareTo_2_2 := dk_seg dksJ10_compareTo_2_1 24 rfl rfl
theorem dJ10_compareTo_2_0 : decode cJ10_compareTo_2 0 = .ok (.aload_n 0, 1) := dk_42 (dk_at dksJ10_compareTo_2_0 0 rfl rfl)
theorem dJ10_compareTo_2_1 : decode cJ10_compareTo_2 1 = .ok (.getfield 9, 3) := dk_180 0 9 (dk_at dksJ10_compareTo_2_0 1 rfl rfl)
theorem dJ10_compareTo_2_4 : decode cJ10_compareTo_2 4 = .ok (.astore_n 2, 1) := dk_77 (dk_at dksJ10_compareTo_2_0 4 rfl rfl)
theorem dJ10_compareTo_2_5 : decode cJ10_compareTo_2 5 = .ok (.aload_n 1, 1) := dk_43 (dk_at dksJ10_compareTo_2_0 5 rfl rfl)
theorem dJ10_compareTo_2_6 : decode cJ10_compareTo_2 6 = .ok (.getfield 9, 3) := dk_180 0 9 (dk_at dksJ10_compareTo_2_0 6 rfl rfl)
theorem dJ10_compareTo_2_9 : decode cJ10_compareTo_2 9 = .ok (.astore_n 3, 1) := dk_78 (dk_at dksJ10_compareTo_2_0 9 rfl rfl)
theorem dJ10_compareTo_2_10 : decode cJ10_compareTo_2 10 = .ok (.aload_n 0, 1) := dk_42 (dk_at dksJ10_compareTo_2_0 10 rfl rfl)
theorem dJ10_compareTo_2_11 : decode cJ10_compareTo_2 11 = .ok (.invokevirtual 335, 3) := dk_182 1 79 (dk_at dksJ10_compareTo_2_0 11 rfl rfl)
theorem dJ10_compareTo_2_14 : decode cJ10_compareTo_2 14 = .ok (.istore 4, 2) := dk_54 4 (dk_at dksJ10_compareTo_2_0 14 rfl rfl)
theorem dJ10_compareTo_2_16 : decode cJ10_compareTo_2 16 = .ok (.iload 4, 2) := dk_21 4 (dk_at dksJ10_compareTo_2_0 16 rfl rfl)
theorem dJ10_compareTo_2_18 : decode cJ10_compareTo_2 18 = .ok (.aload_n 1, 1) := dk_43 (dk_at dksJ10_compareTo_2_0 18 rfl rfl)
theorem dJ10_compareTo_2_19 : decode cJ10_compareTo_2 19 = .ok (.invokevirtual 335, 3) := dk_182 1 79 (dk_at dksJ10_compareTo_2_0 19 rfl rfl)
theorem dJ10_compareTo_2_22 : decode cJ10_compareTo_2 22 = .ok (.if_icmp .ne 22, 3) := dk_160 0 22 (dk_at dksJ10_compareTo_2_1 0 rfl rfl)
theorem dJ10_compareTo_2_25 : decode cJ10_compareTo_2 25 = .ok (.iload 4, 2) := dk_21 4 (dk_at dksJ10_compareTo_2_1 3 rfl rfl)
theorem dJ10_compareTo_2_27 : decode cJ10_compareTo_2 27 = .ok (.ifCond .ne 11, 3) := dk_154 0 11 (dk_at dksJ10_compareTo_2_1 5 rfl rfl)
theorem dJ10_compareTo_2_30 : decode cJ10_compareTo_2 30 = .ok (.aload_n 2, 1) := dk_44 (dk_at dksJ10_compareTo_2_1 8 rfl rfl)
theorem dJ10_compareTo_2_31 : decode cJ10_compareTo_2 31 = .ok (.aload_n 3, 1) := dk_45 (dk_at dksJ10_compareTo_2_1 9 rfl rfl)
theorem dJ10_compareTo_2_32 : decode cJ10_compareTo_2 32 = .ok (.invokestatic 586, 3) := dk_184 2 74 (dk_at dksJ10_compareTo_2_1 10 rfl rfl)
theorem dJ10_compareTo_2_35 : decode cJ10_compareTo_2 35 = .ok (.goto 8, 3) := dk_167 0 8 (dk_at dksJ10_compareTo_2_1 13 rfl rfl)
theorem dJ10_compareTo_2_38 : decode cJ10_compareTo_2 38 = .ok (.aload_n 2, 1) := dk_44 (dk_at dksJ10_compareTo_2_1 16 rfl rfl)
theorem dJ10_compareTo_2_39 : decode cJ10_compareTo_2 39 = .ok (.aload_n 3, 1) := dk_45 (dk_at dksJ10_compareTo_2_1 17 rfl rfl)
theorem dJ10_compareTo_2_40 : decode cJ10_compareTo_2 40 = .ok (.invokestatic 590, 3) := dk_184 2 78 (dk_at dksJ10_compareTo_2_1 18 rfl rfl)
theorem dJ10_compareTo_2_43 : decode cJ10_compareTo_2 43 = .ok (.ireturn, 1) := dk_172 (dk_at dksJ10_compareTo_2_1 21 rfl rfl)
theorem dJ10_compareTo_2_44 : decode cJ10_compareTo_2 44 = .ok (.iload 4, 2) := dk_21 4 (dk_at dksJ10_compareTo_2_1 22 rfl rfl)
theorem dJ10_compareTo_2_46 : decode cJ10_compareTo_2 46 = .ok (.ifCond .ne 11, 3) := dk_154 0 11 (dk_at dksJ10_compareTo_2_2 0 rfl rfl)
theorem dJ10_compareTo_2_49 : decode cJ10_compareTo_2 49 = .ok (.aload_n 2, 1) := dk_44 (dk_at dksJ10_compareTo_2_2 3 rfl rfl)
theorem dJ10_compareTo_2_50 : decode cJ10_compareTo_2 50 = .ok (.aload_n 3, 1) := dk_45 (dk_at dksJ10_compareTo_2_2 4 rfl rfl)
theorem dJ10_compareTo_2_51 : decode cJ10_compareTo_2 51 = .ok (.invokestatic 591, 3) := dk_184 2 79 (dk_at dksJ10_compareTo_2_2 5 rfl rfl)
theorem dJ10_compareTo_2_54 : decode cJ10_compareTo_2 54 = .ok (.goto 8, 3) := dk_167 0 8 (dk_at dksJ10_compareTo_2_2 8 rfl rfl)
theorem dJ10_compareTo_2_57 : decode cJ10_compareTo_2 57 = .ok (.aload_n 2, 1) := dk_44 (dk_at dksJ10_compareTo_2_2 11 rfl rfl)
theorem dJ10_compareTo_2_58 : decode cJ10_compareTo_2 58 = .ok (.aload_n 3, 1) := dk_45 (dk_at dksJ10_compareTo_2_2 12 rfl rfl)
theorem dJ10_compareTo_2_59 : decode cJ10_compareTo_2 59 = .ok (.invokestatic 594, 3) := dk_184 2 82 (dk_at dksJ10_compareTo_2_2 13 rfl rfl)
theorem dJ10_compareTo_2_62 : decode cJ10_compareTo_2 62 = .ok (.ireturn, 1) := dk_172 (dk_at dksJ10_compareTo_2_2 16 rfl rfl)
abbrev cJ10_equals : ByteArray := prog_30_method_66_code
def yJ10_equals : MethodName := ⟨RJ10, "equals", "(Ljava/lang/Object;)Z"⟩
def dkwJ10_equals_2 : List UInt8 := [184, 2, 29, 153, 0, 7, 4, 167, 0, 4, 3, 172]
abbrev dktJ10_equals_2 : List UInt8 := dkwJ10_equals_2 ++ []
def dkwJ10_equals_1 : List UInt8 := [153, 0, 14, 42, 180, 0, 15, 44, 180, 0, 15, 160, 0, 21, 42, 180, 0, 9, 44, 180, 0, 9]
abbrev dktJ10_equals_1 : List UInt8 := dkwJ10_equals_1 ++ dktJ10_equals_2
def dkwJ10_equals_0 : List UInt8 := [42, 43, 166, 0, 5, 4, 172, 43, 193, 0, 10, 153, 0, 43, 43, 192, 0, 10, 77, 178, 0, 38]
abbrev dktJ10_equals_0 : List UInt8 := dkwJ10_equals_0 ++ dktJ10_equals_1
theorem dksJ10_equals_0 : cJ10_equals.data.toList.drop 0 = dktJ10_equals_0 := by decide +kernel
theorem dksJ10_equals_1 : cJ10_equals.data.toList.drop 22 = dktJ10_equals_1 := dk_seg dksJ10_equals_0 22 rfl rfl
theorem dksJ10_equals_2 : cJ10_equals.data.toList.drop 44 = dktJ10_equals_2 := dk_seg dksJ10_equals_1 22 rfl rfl
theorem dJ10_equals_0 : decode cJ10_equals 0 = .ok (.aload_n 0, 1) := dk_42 (dk_at dksJ10_equals_0 0 rfl rfl)
theorem dJ10_equals_1 : decode cJ10_equals 1 = .ok (.aload_n 1, 1) := dk_43 (dk_at dksJ10_equals_0 1 rfl rfl)
theorem dJ10_equals_2 : decode cJ10_equals 2 = .ok (.if_acmp .ne 5, 3) := dk_166 0 5 (dk_at dksJ10_equals_0 2 rfl rfl)
theorem dJ10_equals_5 : decode cJ10_equals 5 = .ok (.iconst 1, 1) := dk_4 (dk_at dksJ10_equals_0 5 rfl rfl)
theorem dJ10_equals_6 : decode cJ10_equals 6 = .ok (.ireturn, 1) := dk_172 (dk_at dksJ10_equals_0 6 rfl rfl)
theorem dJ10_equals_7 : decode cJ10_equals 7 = .ok (.aload_n 1, 1) := dk_43 (dk_at dksJ10_equals_0 7 rfl rfl)
theorem dJ10_equals_8 : decode cJ10_equals 8 = .ok (.instanceof 10, 3) := dk_193 0 10 (dk_at dksJ10_equals_0 8 rfl rfl)
theorem dJ10_equals_11 : decode cJ10_equals 11 = .ok (.ifCond .eq 43, 3) := dk_153 0 43 (dk_at dksJ10_equals_0 11 rfl rfl)
theorem dJ10_equals_14 : decode cJ10_equals 14 = .ok (.aload_n 1, 1) := dk_43 (dk_at dksJ10_equals_0 14 rfl rfl)
theorem dJ10_equals_15 : decode cJ10_equals 15 = .ok (.checkcast 10, 3) := dk_192 0 10 (dk_at dksJ10_equals_0 15 rfl rfl)
theorem dJ10_equals_18 : decode cJ10_equals 18 = .ok (.astore_n 2, 1) := dk_77 (dk_at dksJ10_equals_0 18 rfl rfl)
theorem dJ10_equals_19 : decode cJ10_equals 19 = .ok (.getstatic 38, 3) := dk_178 0 38 (dk_at dksJ10_equals_0 19 rfl rfl)
theorem dJ10_equals_22 : decode cJ10_equals 22 = .ok (.ifCond .eq 14, 3) := dk_153 0 14 (dk_at dksJ10_equals_1 0 rfl rfl)
theorem dJ10_equals_25 : decode cJ10_equals 25 = .ok (.aload_n 0, 1) := dk_42 (dk_at dksJ10_equals_1 3 rfl rfl)
theorem dJ10_equals_26 : decode cJ10_equals 26 = .ok (.getfield 15, 3) := dk_180 0 15 (dk_at dksJ10_equals_1 4 rfl rfl)
theorem dJ10_equals_29 : decode cJ10_equals 29 = .ok (.aload_n 2, 1) := dk_44 (dk_at dksJ10_equals_1 7 rfl rfl)
theorem dJ10_equals_30 : decode cJ10_equals 30 = .ok (.getfield 15, 3) := dk_180 0 15 (dk_at dksJ10_equals_1 8 rfl rfl)
theorem dJ10_equals_33 : decode cJ10_equals 33 = .ok (.if_icmp .ne 21, 3) := dk_160 0 21 (dk_at dksJ10_equals_1 11 rfl rfl)
theorem dJ10_equals_36 : decode cJ10_equals 36 = .ok (.aload_n 0, 1) := dk_42 (dk_at dksJ10_equals_1 14 rfl rfl)
theorem dJ10_equals_37 : decode cJ10_equals 37 = .ok (.getfield 9, 3) := dk_180 0 9 (dk_at dksJ10_equals_1 15 rfl rfl)
theorem dJ10_equals_40 : decode cJ10_equals 40 = .ok (.aload_n 2, 1) := dk_44 (dk_at dksJ10_equals_1 18 rfl rfl)
theorem dJ10_equals_41 : decode cJ10_equals 41 = .ok (.getfield 9, 3) := dk_180 0 9 (dk_at dksJ10_equals_1 19 rfl rfl)
theorem dJ10_equals_44 : decode cJ10_equals 44 = .ok (.invokestatic 541, 3) := dk_184 2 29 (dk_at dksJ10_equals_2 0 rfl rfl)
theorem dJ10_equals_47 : decode cJ10_equals 47 = .ok (.ifCond .eq 7, 3) := dk_153 0 7 (dk_at dksJ10_equals_2 3 rfl rfl)
theorem dJ10_equals_50 : decode cJ10_equals 50 = .ok (.iconst 1, 1) := dk_4 (dk_at dksJ10_equals_2 6 rfl rfl)
theorem dJ10_equals_51 : decode cJ10_equals 51 = .ok (.goto 4, 3) := dk_167 0 4 (dk_at dksJ10_equals_2 7 rfl rfl)
theorem dJ10_equals_54 : decode cJ10_equals 54 = .ok (.iconst 0, 1) := dk_3 (dk_at dksJ10_equals_2 10 rfl rfl)
theorem dJ10_equals_55 : decode cJ10_equals 55 = .ok (.ireturn, 1) := dk_172 (dk_at dksJ10_equals_2 11 rfl rfl)
theorem q124 : (Jvm.Cond.initialized "java/lang/String") ∈ lw_all := lw_g (lw_at lw_m1 21 rfl) rfl
theorem q397 : (Jvm.Cond.instanceMethod ({ cls := "java/lang/String", name := "length", desc := "()I" } : Jvm.MethodName)) ∈ lw_all := lw_g (lw_at lw_m2 54 rfl) rfl
theorem q398 : (Jvm.Cond.selects "java/lang/String" ({ cls := "java/lang/String", name := "length", desc := "()I" } : Jvm.MethodName) ({ cls := "java/lang/String", name := "length", desc := "()I" } : Jvm.MethodName)) ∈ lw_all := lw_g (lw_at lw_m2 55 rfl) rfl
theorem q399 : (Jvm.Cond.code ({ cls := "java/lang/String", name := "length", desc := "()I" } : Jvm.MethodName) prog_30_method_54_code (1 : Nat) (Option.some Jvm.ClassFile.FieldType.int)) ∈ lw_all := lw_g (lw_at lw_m2 56 rfl) rfl
theorem q400 : (Jvm.Cond.methodLink "java/lang/String" (335 : Nat) ({ cls := "java/lang/String", name := "coder", desc := "()B" } : Jvm.MethodName)) ∈ lw_all := lw_g (lw_at lw_m2 57 rfl) rfl
theorem q401 : (Jvm.Cond.instanceMethod ({ cls := "java/lang/String", name := "coder", desc := "()B" } : Jvm.MethodName)) ∈ lw_all := lw_g (lw_at lw_m2 58 rfl) rfl
theorem q402 : (Jvm.Cond.selects "java/lang/String" ({ cls := "java/lang/String", name := "coder", desc := "()B" } : Jvm.MethodName) ({ cls := "java/lang/String", name := "coder", desc := "()B" } : Jvm.MethodName)) ∈ lw_all := lw_g (lw_at lw_m2 59 rfl) rfl
theorem q403 : (Jvm.Cond.code ({ cls := "java/lang/String", name := "coder", desc := "()B" } : Jvm.MethodName) prog_30_method_152_code (1 : Nat) (Option.some Jvm.ClassFile.FieldType.byte)) ∈ lw_all := lw_g (lw_at lw_m2 60 rfl) rfl
theorem q404 : (Jvm.Cond.fieldLink "java/lang/String" (38 : Nat) "java/lang/String" "COMPACT_STRINGS" "Z") ∈ lw_all := lw_g (lw_at lw_m2 61 rfl) rfl
theorem q405 : (Jvm.Cond.laysStatic "java/lang/String" "COMPACT_STRINGS" "Z") ∈ lw_tbl := lw_at lw_m2 62 rfl
theorem q407 : (Jvm.Cond.instanceMethod ({ cls := "java/lang/String", name := "charAt", desc := "(I)C" } : Jvm.MethodName)) ∈ lw_all := lw_g (lw_at lw_m2 64 rfl) rfl
theorem q408 : (Jvm.Cond.selects "java/lang/String" ({ cls := "java/lang/String", name := "charAt", desc := "(I)C" } : Jvm.MethodName) ({ cls := "java/lang/String", name := "charAt", desc := "(I)C" } : Jvm.MethodName)) ∈ lw_all := lw_g (lw_at lw_m2 65 rfl) rfl
theorem q409 : (Jvm.Cond.code ({ cls := "java/lang/String", name := "charAt", desc := "(I)C" } : Jvm.MethodName) prog_30_method_56_code (2 : Nat) (Option.some Jvm.ClassFile.FieldType.char)) ∈ lw_all := lw_g (lw_at lw_m2 66 rfl) rfl
theorem q410 : (Jvm.Cond.methodLink "java/lang/String" (492 : Nat) ({ cls := "java/lang/String", name := "isLatin1", desc := "()Z" } : Jvm.MethodName)) ∈ lw_all := lw_g (lw_at lw_m2 67 rfl) rfl
theorem q411 : (Jvm.Cond.instanceMethod ({ cls := "java/lang/String", name := "isLatin1", desc := "()Z" } : Jvm.MethodName)) ∈ lw_all := lw_g (lw_at lw_m2 68 rfl) rfl
theorem q412 : (Jvm.Cond.selects "java/lang/String" ({ cls := "java/lang/String", name := "isLatin1", desc := "()Z" } : Jvm.MethodName) ({ cls := "java/lang/String", name := "isLatin1", desc := "()Z" } : Jvm.MethodName)) ∈ lw_all := lw_g (lw_at lw_m2 69 rfl) rfl
theorem q413 : (Jvm.Cond.code ({ cls := "java/lang/String", name := "isLatin1", desc := "()Z" } : Jvm.MethodName) prog_30_method_154_code (1 : Nat) (Option.some Jvm.ClassFile.FieldType.boolean)) ∈ lw_all := lw_g (lw_at lw_m2 70 rfl) rfl
theorem q414 : (Jvm.Cond.methodLink "java/lang/String" (495 : Nat) ({ cls := "java/lang/StringLatin1", name := "charAt", desc := "([BI)C" } : Jvm.MethodName)) ∈ lw_all := lw_g (lw_at lw_m2 71 rfl) rfl
theorem q418 : (Jvm.Cond.static ({ cls := "java/lang/String", name := "checkIndex", desc := "(II)V" } : Jvm.MethodName)) ∈ lw_all := lw_g (lw_at lw_m2 75 rfl) rfl
theorem q419 : (Jvm.Cond.code ({ cls := "java/lang/String", name := "checkIndex", desc := "(II)V" } : Jvm.MethodName) prog_30_method_155_code (2 : Nat) (Option.none : Option Jvm.ClassFile.FieldType)) ∈ lw_all := lw_g (lw_at lw_m2 76 rfl) rfl
theorem q420 : (Jvm.Cond.fieldLink "java/lang/String" (1053 : Nat) "jdk/internal/util/Preconditions" "SIOOBE_FORMATTER" "Ljava/util/function/BiFunction;") ∈ lw_all := lw_g (lw_at lw_m2 77 rfl) rfl
theorem q422 : (Jvm.Cond.methodLink "java/lang/String" (1059 : Nat) ({ cls := "jdk/internal/util/Preconditions", name := "checkIndex", desc := "(IILjava/util/function/BiFunction;)I" } : Jvm.MethodName)) ∈ lw_all := lw_g (lw_at lw_m2 79 rfl) rfl
theorem q425 : (Jvm.Cond.methodLink "java/lang/String" (498 : Nat) ({ cls := "java/lang/StringUTF16", name := "charAt", desc := "([BI)C" } : Jvm.MethodName)) ∈ lw_all := lw_g (lw_at lw_m2 82 rfl) rfl
theorem q872 : (Jvm.Cond.castable "java/lang/String" "java/lang/Comparable") ∈ lw_tbl := lw_at lw_m4 49 rfl
theorem q873 : (Jvm.Cond.selects "java/lang/String" ({ cls := "java/lang/Comparable", name := "compareTo", desc := "(Ljava/lang/Object;)I" } : Jvm.MethodName) ({ cls := "java/lang/String", name := "compareTo", desc := "(Ljava/lang/Object;)I" } : Jvm.MethodName)) ∈ lw_all := lw_g (lw_at lw_m4 50 rfl) rfl
theorem q874 : (Jvm.Cond.unhidden "java/lang/String" "compareTo" "(Ljava/lang/Object;)I") ∈ lw_tbl := lw_at lw_m4 51 rfl
theorem q875 : (Jvm.Cond.instanceMethod ({ cls := "java/lang/String", name := "compareTo", desc := "(Ljava/lang/Object;)I" } : Jvm.MethodName)) ∈ lw_all := lw_g (lw_at lw_m4 52 rfl) rfl
theorem q876 : (Jvm.Cond.publicMethod ({ cls := "java/lang/String", name := "compareTo", desc := "(Ljava/lang/Object;)I" } : Jvm.MethodName)) ∈ lw_tbl := lw_at lw_m4 53 rfl
theorem q877 : (Jvm.Cond.code ({ cls := "java/lang/String", name := "compareTo", desc := "(Ljava/lang/Object;)I" } : Jvm.MethodName) prog_30_method_162_code (2 : Nat) (Option.some Jvm.ClassFile.FieldType.int)) ∈ lw_all := lw_g (lw_at lw_m4 54 rfl) rfl
theorem q878 : (Jvm.Cond.classLink "java/lang/String" (10 : Nat) "java/lang/String") ∈ lw_all := lw_g (lw_at lw_m4 55 rfl) rfl
theorem q879 : (Jvm.Cond.methodLink "java/lang/String" (1084 : Nat) ({ cls := "java/lang/String", name := "compareTo", desc := "(Ljava/lang/String;)I" } : Jvm.MethodName)) ∈ lw_all := lw_g (lw_at lw_m4 56 rfl) rfl
theorem q880 : (Jvm.Cond.instanceMethod ({ cls := "java/lang/String", name := "compareTo", desc := "(Ljava/lang/String;)I" } : Jvm.MethodName)) ∈ lw_all := lw_g (lw_at lw_m4 57 rfl) rfl
theorem q881 : (Jvm.Cond.selects "java/lang/String" ({ cls := "java/lang/String", name := "compareTo", desc := "(Ljava/lang/String;)I" } : Jvm.MethodName) ({ cls := "java/lang/String", name := "compareTo", desc := "(Ljava/lang/String;)I" } : Jvm.MethodName)) ∈ lw_all := lw_g (lw_at lw_m4 58 rfl) rfl
theorem q882 : (Jvm.Cond.code ({ cls := "java/lang/String", name := "compareTo", desc := "(Ljava/lang/String;)I" } : Jvm.MethodName) prog_30_method_71_code (5 : Nat) (Option.some Jvm.ClassFile.FieldType.int)) ∈ lw_all := lw_g (lw_at lw_m4 59 rfl) rfl
theorem q883 : (Jvm.Cond.methodLink "java/lang/String" (586 : Nat) ({ cls := "java/lang/StringLatin1", name := "compareTo", desc := "([B[B)I" } : Jvm.MethodName)) ∈ lw_all := lw_g (lw_at lw_m4 60 rfl) rfl
theorem q997 : (Jvm.Cond.methodLink "java/lang/String" (590 : Nat) ({ cls := "java/lang/StringUTF16", name := "compareTo", desc := "([B[B)I" } : Jvm.MethodName)) ∈ lw_all := lw_g (lw_at lw_m4 174 rfl) rfl
theorem q1004 : (Jvm.Cond.methodLink "java/lang/String" (591 : Nat) ({ cls := "java/lang/StringLatin1", name := "compareToUTF16", desc := "([B[B)I" } : Jvm.MethodName)) ∈ lw_all := lw_g (lw_at lw_m4 181 rfl) rfl
theorem q1015 : (Jvm.Cond.methodLink "java/lang/String" (594 : Nat) ({ cls := "java/lang/StringUTF16", name := "compareToLatin1", desc := "([B[B)I" } : Jvm.MethodName)) ∈ lw_all := lw_g (lw_at lw_m4 192 rfl) rfl
theorem q1530 : (Jvm.Cond.selects "java/lang/String" ({ cls := "java/lang/Object", name := "equals", desc := "(Ljava/lang/Object;)Z" } : Jvm.MethodName) ({ cls := "java/lang/String", name := "equals", desc := "(Ljava/lang/Object;)Z" } : Jvm.MethodName)) ∈ lw_all := lw_g (lw_at lw_m6 227 rfl) rfl
theorem q1531 : (Jvm.Cond.instanceMethod ({ cls := "java/lang/String", name := "equals", desc := "(Ljava/lang/Object;)Z" } : Jvm.MethodName)) ∈ lw_all := lw_g (lw_at lw_m6 228 rfl) rfl
theorem q1532 : (Jvm.Cond.code ({ cls := "java/lang/String", name := "equals", desc := "(Ljava/lang/Object;)Z" } : Jvm.MethodName) prog_30_method_66_code (3 : Nat) (Option.some Jvm.ClassFile.FieldType.boolean)) ∈ lw_all := lw_g (lw_at lw_m6 229 rfl) rfl
theorem q1533 : (Jvm.Cond.methodLink "java/lang/String" (541 : Nat) ({ cls := "java/lang/StringLatin1", name := "equals", desc := "([B[B)Z" } : Jvm.MethodName)) ∈ lw_all := lw_g (lw_at lw_m6 230 rfl) rfl
theorem q1776 : (Jvm.Cond.instantiable "java/lang/String" (4 : Nat)) ∈ lw_all := lw_g (lw_at lw_m7 233 rfl) rfl
theorem q1777 : (Jvm.Cond.laysFinal "java/lang/String" "java/lang/String" "value" "[B") ∈ lw_all := lw_g (lw_at lw_m7 234 rfl) rfl
theorem q1778 : (Jvm.Cond.soleField "java/lang/String" "value") ∈ lw_all := lw_g (lw_at lw_m7 235 rfl) rfl
theorem q1779 : (Jvm.Cond.laysFinal "java/lang/String" "java/lang/String" "coder" "B") ∈ lw_all := lw_g (lw_at lw_m7 236 rfl) rfl
theorem q1780 : (Jvm.Cond.soleField "java/lang/String" "coder") ∈ lw_all := lw_g (lw_at lw_m7 237 rfl) rfl
theorem q2321 : (Jvm.Cond.castable "java/lang/String" "java/lang/Object") ∈ lw_tbl := lw_at lw_m10 58 rfl
theorem q2333 : (Jvm.Cond.fieldLink "java/lang/String" (9 : Nat) "java/lang/String" "value" "[B") ∈ lw_all := lw_g (lw_at lw_m10 70 rfl) rfl
theorem q2334 : (Jvm.Cond.fieldLink "java/lang/String" (15 : Nat) "java/lang/String" "coder" "B") ∈ lw_all := lw_g (lw_at lw_m10 71 rfl) rfl
theorem in_J10 : ∀ w ∈ wsJ100, w ∈ lw_all := lw_in wsJ100 [1777, 1779] (by decide +kernel) (by decide +kernel)

/-! java/lang/StringLatin1 -/
set_option maxRecDepth 100000
def RJ11 : String := "java/lang/StringLatin1"
abbrev cJ11_charAt : ByteArray := prog_31_method_2_code
def yJ11_charAt : MethodName := ⟨RJ11, "charAt", "([BI)C"⟩
def dkwJ11_charAt_0 : List UInt8 := [27, 42, 190, 184, 0, 9, 42, 27, 51, 17, 0, 255, 126, 146, 172]
abbrev dktJ11_charAt_0 : List UInt8 := dkwJ11_charAt_0 ++ []
theorem dksJ11_charAt_0 : cJ11_charAt.data.toList.drop 0 = dktJ11_charAt_0 := by decide +kernel
theorem dJ11_charAt_0 : decode cJ11_charAt 0 = .ok (.iload_n 1, 1) := dk_27 (dk_at dksJ11_charAt_0 0 rfl rfl)
theorem dJ11_charAt_1 : decode cJ11_charAt 1 = .ok (.aload_n 0, 1) := dk_42 (dk_at dksJ11_charAt_0 1 rfl rfl)
theorem dJ11_charAt_2 : decode cJ11_charAt 2 = .ok (.arraylength, 1) := dk_190 (dk_at dksJ11_charAt_0 2 rfl rfl)
theorem dJ11_charAt_3 : decode cJ11_charAt 3 = .ok (.invokestatic 9, 3) := dk_184 0 9 (dk_at dksJ11_charAt_0 3 rfl rfl)
theorem dJ11_charAt_6 : decode cJ11_charAt 6 = .ok (.aload_n 0, 1) := dk_42 (dk_at dksJ11_charAt_0 6 rfl rfl)
theorem dJ11_charAt_7 : decode cJ11_charAt 7 = .ok (.iload_n 1, 1) := dk_27 (dk_at dksJ11_charAt_0 7 rfl rfl)
theorem dJ11_charAt_8 : decode cJ11_charAt 8 = .ok (.baload, 1) := dk_51 (dk_at dksJ11_charAt_0 8 rfl rfl)
theorem dJ11_charAt_9 : decode cJ11_charAt 9 = .ok (.sipush 255, 3) := dk_17 0 255 (dk_at dksJ11_charAt_0 9 rfl rfl)
theorem dJ11_charAt_12 : decode cJ11_charAt 12 = .ok (.iand, 1) := dk_126 (dk_at dksJ11_charAt_0 12 rfl rfl)
theorem dJ11_charAt_13 : decode cJ11_charAt 13 = .ok (.i2c, 1) := dk_146 (dk_at dksJ11_charAt_0 13 rfl rfl)
theorem dJ11_charAt_14 : decode cJ11_charAt 14 = .ok (.ireturn, 1) := dk_172 (dk_at dksJ11_charAt_0 14 rfl rfl)
abbrev cJ11_compareTo : ByteArray := prog_31_method_14_code
def yJ11_compareTo : MethodName := ⟨RJ11, "compareTo", "([B[B)I"⟩
def dkwJ11_compareTo_0 : List UInt8 := [42, 190, 61, 43, 190, 62, 42, 43, 28, 29, 184, 0, 34, 172]
abbrev dktJ11_compareTo_0 : List UInt8 := dkwJ11_compareTo_0 ++ []
theorem dksJ11_compareTo_0 : cJ11_compareTo.data.toList.drop 0 = dktJ11_compareTo_0 := by decide +kernel
theorem dJ11_compareTo_0 : decode cJ11_compareTo 0 = .ok (.aload_n 0, 1) := dk_42 (dk_at dksJ11_compareTo_0 0 rfl rfl)
theorem dJ11_compareTo_1 : decode cJ11_compareTo 1 = .ok (.arraylength, 1) := dk_190 (dk_at dksJ11_compareTo_0 1 rfl rfl)
theorem dJ11_compareTo_2 : decode cJ11_compareTo 2 = .ok (.istore_n 2, 1) := dk_61 (dk_at dksJ11_compareTo_0 2 rfl rfl)
theorem dJ11_compareTo_3 : decode cJ11_compareTo 3 = .ok (.aload_n 1, 1) := dk_43 (dk_at dksJ11_compareTo_0 3 rfl rfl)
theorem dJ11_compareTo_4 : decode cJ11_compareTo 4 = .ok (.arraylength, 1) := dk_190 (dk_at dksJ11_compareTo_0 4 rfl rfl)
theorem dJ11_compareTo_5 : decode cJ11_compareTo 5 = .ok (.istore_n 3, 1) := dk_62 (dk_at dksJ11_compareTo_0 5 rfl rfl)
theorem dJ11_compareTo_6 : decode cJ11_compareTo 6 = .ok (.aload_n 0, 1) := dk_42 (dk_at dksJ11_compareTo_0 6 rfl rfl)
theorem dJ11_compareTo_7 : decode cJ11_compareTo 7 = .ok (.aload_n 1, 1) := dk_43 (dk_at dksJ11_compareTo_0 7 rfl rfl)
theorem dJ11_compareTo_8 : decode cJ11_compareTo 8 = .ok (.iload_n 2, 1) := dk_28 (dk_at dksJ11_compareTo_0 8 rfl rfl)
theorem dJ11_compareTo_9 : decode cJ11_compareTo 9 = .ok (.iload_n 3, 1) := dk_29 (dk_at dksJ11_compareTo_0 9 rfl rfl)
theorem dJ11_compareTo_10 : decode cJ11_compareTo 10 = .ok (.invokestatic 34, 3) := dk_184 0 34 (dk_at dksJ11_compareTo_0 10 rfl rfl)
theorem dJ11_compareTo_13 : decode cJ11_compareTo 13 = .ok (.ireturn, 1) := dk_172 (dk_at dksJ11_compareTo_0 13 rfl rfl)
abbrev cJ11_compareTo_2 : ByteArray := prog_31_method_15_code
def yJ11_compareTo_2 : MethodName := ⟨RJ11, "compareTo", "([B[BII)I"⟩
def dkwJ11_compareTo_2_1 : List UInt8 := [167, 0, 16, 42, 21, 5, 184, 0, 50, 43, 21, 5, 184, 0, 50, 100, 172]
abbrev dktJ11_compareTo_2_1 : List UInt8 := dkwJ11_compareTo_2_1 ++ []
def dkwJ11_compareTo_2_0 : List UInt8 := [28, 29, 184, 0, 38, 54, 4, 42, 43, 21, 4, 184, 0, 44, 54, 5, 21, 5, 156, 0, 9, 28, 29, 100]
abbrev dktJ11_compareTo_2_0 : List UInt8 := dkwJ11_compareTo_2_0 ++ dktJ11_compareTo_2_1
theorem dksJ11_compareTo_2_0 : cJ11_compareTo_2.data.toList.drop 0 = dktJ11_compareTo_2_0 := by decide +kernel
theorem dksJ11_compareTo_2_1 : cJ11_compareTo_2.data.toList.drop 24 = dktJ11_compareTo_2_1 := dk_seg dksJ11_compareTo_2_0 24 rfl rfl
theorem dJ11_compareTo_2_0 : decode cJ11_compareTo_2 0 = .ok (.iload_n 2, 1) := dk_28 (dk_at dksJ11_compareTo_2_0 0 rfl rfl)
theorem dJ11_compareTo_2_1 : decode cJ11_compareTo_2 1 = .ok (.iload_n 3, 1) := dk_29 (dk_at dksJ11_compareTo_2_0 1 rfl rfl)
theorem dJ11_compareTo_2_2 : decode cJ11_compareTo_2 2 = .ok (.invokestatic 38, 3) := dk_184 0 38 (dk_at dksJ11_compareTo_2_0 2 rfl rfl)
theorem dJ11_compareTo_2_5 : decode cJ11_compareTo_2 5 = .ok (.istore 4, 2) := dk_54 4 (dk_at dksJ11_compareTo_2_0 5 rfl rfl)
theorem dJ11_compareTo_2_7 : decode cJ11_compareTo_2 7 = .ok (.aload_n 0, 1) := dk_42 (dk_at dksJ11_compareTo_2_0 7 rfl rfl)
theorem dJ11_compareTo_2_8 : decode cJ11_compareTo_2 8 = .ok (.aload_n 1, 1) := dk_43 (dk_at dksJ11_compareTo_2_0 8 rfl rfl)
theorem dJ11_compareTo_2_9 : decode cJ11_compareTo_2 9 = .ok (.iload 4, 2) := dk_21 4 (dk_at dksJ11_compareTo_2_0 9 rfl rfl)
theorem dJ11_compareTo_2_11 : decode cJ11_compareTo_2 11 = .ok (.invokestatic 44, 3) := dk_184 0 44 (dk_at dksJ11_compareTo_2_0 11 rfl rfl)
theorem dJ11_compareTo_2_14 : decode cJ11_compareTo_2 14 = .ok (.istore 5, 2) := dk_54 5 (dk_at dksJ11_compareTo_2_0 14 rfl rfl)
theorem dJ11_compareTo_2_16 : decode cJ11_compareTo_2 16 = .ok (.iload 5, 2) := dk_21 5 (dk_at dksJ11_compareTo_2_0 16 rfl rfl)
theorem dJ11_compareTo_2_18 : decode cJ11_compareTo_2 18 = .ok (.ifCond .ge 9, 3) := dk_156 0 9 (dk_at dksJ11_compareTo_2_0 18 rfl rfl)
theorem dJ11_compareTo_2_21 : decode cJ11_compareTo_2 21 = .ok (.iload_n 2, 1) := dk_28 (dk_at dksJ11_compareTo_2_0 21 rfl rfl)
theorem dJ11_compareTo_2_22 : decode cJ11_compareTo_2 22 = .ok (.iload_n 3, 1) := dk_29 (dk_at dksJ11_compareTo_2_0 22 rfl rfl)
theorem dJ11_compareTo_2_23 : decode cJ11_compareTo_2 23 = .ok (.isub, 1) := dk_100 (dk_at dksJ11_compareTo_2_0 23 rfl rfl)
theorem dJ11_compareTo_2_24 : decode cJ11_compareTo_2 24 = .ok (.goto 16, 3) := dk_167 0 16 (dk_at dksJ11_compareTo_2_1 0 rfl rfl)
theorem dJ11_compareTo_2_27 : decode cJ11_compareTo_2 27 = .ok (.aload_n 0, 1) := dk_42 (dk_at dksJ11_compareTo_2_1 3 rfl rfl)
theorem dJ11_compareTo_2_28 : decode cJ11_compareTo_2 28 = .ok (.iload 5, 2) := dk_21 5 (dk_at dksJ11_compareTo_2_1 4 rfl rfl)
theorem dJ11_compareTo_2_30 : decode cJ11_compareTo_2 30 = .ok (.invokestatic 50, 3) := dk_184 0 50 (dk_at dksJ11_compareTo_2_1 6 rfl rfl)
theorem dJ11_compareTo_2_33 : decode cJ11_compareTo_2 33 = .ok (.aload_n 1, 1) := dk_43 (dk_at dksJ11_compareTo_2_1 9 rfl rfl)
theorem dJ11_compareTo_2_34 : decode cJ11_compareTo_2 34 = .ok (.iload 5, 2) := dk_21 5 (dk_at dksJ11_compareTo_2_1 10 rfl rfl)
theorem dJ11_compareTo_2_36 : decode cJ11_compareTo_2 36 = .ok (.invokestatic 50, 3) := dk_184 0 50 (dk_at dksJ11_compareTo_2_1 12 rfl rfl)
theorem dJ11_compareTo_2_39 : decode cJ11_compareTo_2 39 = .ok (.isub, 1) := dk_100 (dk_at dksJ11_compareTo_2_1 15 rfl rfl)
theorem dJ11_compareTo_2_40 : decode cJ11_compareTo_2 40 = .ok (.ireturn, 1) := dk_172 (dk_at dksJ11_compareTo_2_1 16 rfl rfl)
abbrev cJ11_getChar : ByteArray := prog_31_method_44_code
def yJ11_getChar : MethodName := ⟨RJ11, "getChar", "([BI)C"⟩
def dkwJ11_getChar_0 : List UInt8 := [42, 27, 51, 17, 0, 255, 126, 146, 172]
abbrev dktJ11_getChar_0 : List UInt8 := dkwJ11_getChar_0 ++ []
theorem dksJ11_getChar_0 : cJ11_getChar.data.toList.drop 0 = dktJ11_getChar_0 := by decide +kernel
theorem dJ11_getChar_0 : decode cJ11_getChar 0 = .ok (.aload_n 0, 1) := dk_42 (dk_at dksJ11_getChar_0 0 rfl rfl)
theorem dJ11_getChar_1 : decode cJ11_getChar 1 = .ok (.iload_n 1, 1) := dk_27 (dk_at dksJ11_getChar_0 1 rfl rfl)
theorem dJ11_getChar_2 : decode cJ11_getChar 2 = .ok (.baload, 1) := dk_51 (dk_at dksJ11_getChar_0 2 rfl rfl)
theorem dJ11_getChar_3 : decode cJ11_getChar 3 = .ok (.sipush 255, 3) := dk_17 0 255 (dk_at dksJ11_getChar_0 3 rfl rfl)
theorem dJ11_getChar_6 : decode cJ11_getChar 6 = .ok (.iand, 1) := dk_126 (dk_at dksJ11_getChar_0 6 rfl rfl)
theorem dJ11_getChar_7 : decode cJ11_getChar 7 = .ok (.i2c, 1) := dk_146 (dk_at dksJ11_getChar_0 7 rfl rfl)
theorem dJ11_getChar_8 : decode cJ11_getChar 8 = .ok (.ireturn, 1) := dk_172 (dk_at dksJ11_getChar_0 8 rfl rfl)
abbrev cJ11_compareToUTF16 : ByteArray := prog_31_method_16_code
def yJ11_compareToUTF16 : MethodName := ⟨RJ11, "compareToUTF16", "([B[B)I"⟩
def dkwJ11_compareToUTF16_0 : List UInt8 := [42, 184, 0, 54, 61, 43, 184, 0, 58, 62, 42, 43, 28, 29, 184, 0, 59, 172]
abbrev dktJ11_compareToUTF16_0 : List UInt8 := dkwJ11_compareToUTF16_0 ++ []
theorem dksJ11_compareToUTF16_0 : cJ11_compareToUTF16.data.toList.drop 0 = dktJ11_compareToUTF16_0 := by decide +kernel
theorem dJ11_compareToUTF16_0 : decode cJ11_compareToUTF16 0 = .ok (.aload_n 0, 1) := dk_42 (dk_at dksJ11_compareToUTF16_0 0 rfl rfl)
theorem dJ11_compareToUTF16_1 : decode cJ11_compareToUTF16 1 = .ok (.invokestatic 54, 3) := dk_184 0 54 (dk_at dksJ11_compareToUTF16_0 1 rfl rfl)
theorem dJ11_compareToUTF16_4 : decode cJ11_compareToUTF16 4 = .ok (.istore_n 2, 1) := dk_61 (dk_at dksJ11_compareToUTF16_0 4 rfl rfl)
theorem dJ11_compareToUTF16_5 : decode cJ11_compareToUTF16 5 = .ok (.aload_n 1, 1) := dk_43 (dk_at dksJ11_compareToUTF16_0 5 rfl rfl)
theorem dJ11_compareToUTF16_6 : decode cJ11_compareToUTF16 6 = .ok (.invokestatic 58, 3) := dk_184 0 58 (dk_at dksJ11_compareToUTF16_0 6 rfl rfl)
theorem dJ11_compareToUTF16_9 : decode cJ11_compareToUTF16 9 = .ok (.istore_n 3, 1) := dk_62 (dk_at dksJ11_compareToUTF16_0 9 rfl rfl)
theorem dJ11_compareToUTF16_10 : decode cJ11_compareToUTF16 10 = .ok (.aload_n 0, 1) := dk_42 (dk_at dksJ11_compareToUTF16_0 10 rfl rfl)
theorem dJ11_compareToUTF16_11 : decode cJ11_compareToUTF16 11 = .ok (.aload_n 1, 1) := dk_43 (dk_at dksJ11_compareToUTF16_0 11 rfl rfl)
theorem dJ11_compareToUTF16_12 : decode cJ11_compareToUTF16 12 = .ok (.iload_n 2, 1) := dk_28 (dk_at dksJ11_compareToUTF16_0 12 rfl rfl)
theorem dJ11_compareToUTF16_13 : decode cJ11_compareToUTF16 13 = .ok (.iload_n 3, 1) := dk_29 (dk_at dksJ11_compareToUTF16_0 13 rfl rfl)
theorem dJ11_compareToUTF16_14 : decode cJ11_compareToUTF16 14 = .ok (.invokestatic 59, 3) := dk_184 0 59 (dk_at dksJ11_compareToUTF16_0 14 rfl rfl)
theorem dJ11_compareToUTF16_17 : decode cJ11_compareToUTF16 17 = .ok (.ireturn, 1) := dk_172 (dk_at dksJ11_compareToUTF16_0 17 rfl rfl)
abbrev cJ11_length : ByteArray := prog_31_method_5_code
def yJ11_length : MethodName := ⟨RJ11, "length", "([B)I"⟩
theorem dJ11_length_0 : decode cJ11_length 0 = .ok (.aload_n 0, 1) := by decide +kernel
theorem dJ11_length_1 : decode cJ11_length 1 = .ok (.arraylength, 1) := by decide +kernel
theorem dJ11_length_2 : decode cJ11_length 2 = .ok (.ireturn, 1) := by decide +kernel
abbrev cJ11_compareToUTF16Values : ByteArray := prog_31_method_18_code
def yJ11_compareToUTF16Values : MethodName := ⟨RJ11, "compareToUTF16Values", "([B[BII)I"⟩
def dkwJ11_compareToUTF16Values_2 : List UInt8 := [132, 5, 1, 167, 255, 217, 28, 29, 100, 172]
abbrev dktJ11_compareToUTF16Values_2 : List UInt8 := dkwJ11_compareToUTF16Values_2 ++ []
def dkwJ11_compareToUTF16Values_1 : List UInt8 := [54, 6, 43, 21, 5, 184, 0, 65, 54, 7, 21, 6, 21, 7, 159, 0, 9, 21, 6, 21, 7, 100, 172]
abbrev dktJ11_compareToUTF16Values_1 : List UInt8 := dkwJ11_compareToUTF16Values_1 ++ dktJ11_compareToUTF16Values_2
def dkwJ11_compareToUTF16Values_0 : List UInt8 := [28, 29, 184, 0, 38, 54, 4, 3, 54, 5, 21, 5, 21, 4, 162, 0, 38, 42, 21, 5, 184, 0, 50]
abbrev dktJ11_compareToUTF16Values_0 : List UInt8 := dkwJ11_compareToUTF16Values_0 ++ dktJ11_compareToUTF16Values_1
theorem dksJ11_compareToUTF16Values_0 : cJ11_compareToUTF16Values.data.toList.drop 0 = dktJ11_compareToUTF16Values_0 := by decide +kernel
theorem dksJ11_compareToUTF16Values_1 : cJ11_compareToUTF16Values.data.toList.drop 23 = dktJ11_compareToUTF16Values_1 := dk_seg dksJ11_compareToUTF16Values_0 23 rfl rfl
theorem dksJ11_compareToUTF16Values_2 : cJ11_compareToUTF16Values.data.toList.drop 46 = dktJ11_compareToUTF16Values_2 := dk_seg dksJ11_compareToUTF16Values_1 23 rfl rfl
theorem dJ11_compareToUTF16Values_0 : decode cJ11_compareToUTF16Values 0 = .ok (.iload_n 2, 1) := dk_28 (dk_at dksJ11_compareToUTF16Values_0 0 rfl rfl)
theorem dJ11_compareToUTF16Values_1 : decode cJ11_compareToUTF16Values 1 = .ok (.iload_n 3, 1) := dk_29 (dk_at dksJ11_compareToUTF16Values_0 1 rfl rfl)
theorem dJ11_compareToUTF16Values_2 : decode cJ11_compareToUTF16Values 2 = .ok (.invokestatic 38, 3) := dk_184 0 38 (dk_at dksJ11_compareToUTF16Values_0 2 rfl rfl)
theorem dJ11_compareToUTF16Values_5 : decode cJ11_compareToUTF16Values 5 = .ok (.istore 4, 2) := dk_54 4 (dk_at dksJ11_compareToUTF16Values_0 5 rfl rfl)
theorem dJ11_compareToUTF16Values_7 : decode cJ11_compareToUTF16Values 7 = .ok (.iconst 0, 1) := dk_3 (dk_at dksJ11_compareToUTF16Values_0 7 rfl rfl)
theorem dJ11_compareToUTF16Values_8 : decode cJ11_compareToUTF16Values 8 = .ok (.istore 5, 2) := dk_54 5 (dk_at dksJ11_compareToUTF16Values_0 8 rfl rfl)
theorem dJ11_compareToUTF16Values_10 : decode cJ11_compareToUTF16Values 10 = .ok (.iload 5, 2) := dk_21 5 (dk_at dksJ11_compareToUTF16Values_0 10 rfl rfl)
theorem dJ11_compareToUTF16Values_12 : decode cJ11_compareToUTF16Values 12 = .ok (.iload 4, 2) := dk_21 4 (dk_at dksJ11_compareToUTF16Values_0 12 rfl rfl)
theorem dJ11_compareToUTF16Values_14 : decode cJ11_compareToUTF16Values 14 = .ok (.if_icmp .ge 38, 3) := dk_162 0 38 (dk_at dksJ11_compareToUTF16Values_0 14 rfl rfl)
theorem dJ11_compareToUTF16Values_17 : decode cJ11_compareToUTF16Values 17 = .ok (.aload_n 0, 1) := dk_42 (dk_at dksJ11_compareToUTF16Values_0 17 rfl rfl)
theorem dJ11_compareToUTF16Values_18 : decode cJ11_compareToUTF16Values 18 = .ok (.iload 5, 2) := dk_21 5 (dk_at dksJ11_compareToUTF16Values_0 18 rfl rfl)
theorem dJ11_compareToUTF16Values_20 : decode cJ11_compareToUTF16Values 20 = .ok (.invokestatic 50, 3) := dk_184 0 50 (dk_at dksJ11_compareToUTF16Values_0 20 rfl rfl)
theorem dJ11_compareToUTF16Values_23 : decode cJ11_compareToUTF16Values 23 = .ok (.istore 6, 2) := dk_54 6 (dk_at dksJ11_compareToUTF16Values_1 0 rfl rfl)
theorem dJ11_compareToUTF16Values_25 : decode cJ11_compareToUTF16Values 25 = .ok (.aload_n 1, 1) := dk_43 (dk_at dksJ11_compareToUTF16Values_1 2 rfl rfl)
theorem dJ11_compareToUTF16Values_26 : decode cJ11_compareToUTF16Values 26 = .ok (.iload 5, 2) := dk_21 5 (dk_at dksJ11_compareToUTF16Values_1 3 rfl rfl)
theorem dJ11_compareToUTF16Values_28 : decode cJ11_compareToUTF16Values 28 = .ok (.invokestatic 65, 3) := dk_184 0 65 (dk_at dksJ11_compareToUTF16Values_1 5 rfl rfl)
theorem dJ11_compareToUTF16Values_31 : decode cJ11_compareToUTF16Values 31 = .ok (.istore 7, 2) := dk_54 7 (dk_at dksJ11_compareToUTF16Values_1 8 rfl rfl)
theorem dJ11_compareToUTF16Values_33 : decode cJ11_compareToUTF16Values 33 = .ok (.iload 6, 2) := dk_21 6 (dk_at dksJ11_compareToUTF16Values_1 10 rfl rfl)
theorem dJ11_compareToUTF16Values_35 : decode cJ11_compareToUTF16Values 35 = .ok (.iload 7, 2) := dk_21 7 (dk_at dksJ11_compareToUTF16Values_1 12 rfl rfl)
theorem dJ11_compareToUTF16Values_37 : decode cJ11_compareToUTF16Values 37 = .ok (.if_icmp .eq 9, 3) := dk_159 0 9 (dk_at dksJ11_compareToUTF16Values_1 14 rfl rfl)
theorem dJ11_compareToUTF16Values_40 : decode cJ11_compareToUTF16Values 40 = .ok (.iload 6, 2) := dk_21 6 (dk_at dksJ11_compareToUTF16Values_1 17 rfl rfl)
theorem dJ11_compareToUTF16Values_42 : decode cJ11_compareToUTF16Values 42 = .ok (.iload 7, 2) := dk_21 7 (dk_at dksJ11_compareToUTF16Values_1 19 rfl rfl)
theorem dJ11_compareToUTF16Values_44 : decode cJ11_compareToUTF16Values 44 = .ok (.isub, 1) := dk_100 (dk_at dksJ11_compareToUTF16Values_1 21 rfl rfl)
theorem dJ11_compareToUTF16Values_45 : decode cJ11_compareToUTF16Values 45 = .ok (.ireturn, 1) := dk_172 (dk_at dksJ11_compareToUTF16Values_1 22 rfl rfl)
theorem dJ11_compareToUTF16Values_46 : decode cJ11_compareToUTF16Values 46 = .ok (.iinc 5 1, 3) := dk_132 5 1 (dk_at dksJ11_compareToUTF16Values_2 0 rfl rfl)
theorem dJ11_compareToUTF16Values_49 : decode cJ11_compareToUTF16Values 49 = .ok (.goto (-39), 3) := dk_167 255 217 (dk_at dksJ11_compareToUTF16Values_2 3 rfl rfl)
theorem dJ11_compareToUTF16Values_52 : decode cJ11_compareToUTF16Values 52 = .ok (.iload_n 2, 1) := dk_28 (dk_at dksJ11_compareToUTF16Values_2 6 rfl rfl)
theorem dJ11_compareToUTF16Values_53 : decode cJ11_compareToUTF16Values 53 = .ok (.iload_n 3, 1) := dk_29 (dk_at dksJ11_compareToUTF16Values_2 7 rfl rfl)
theorem dJ11_compareToUTF16Values_54 : decode cJ11_compareToUTF16Values 54 = .ok (.isub, 1) := dk_100 (dk_at dksJ11_compareToUTF16Values_2 8 rfl rfl)
theorem dJ11_compareToUTF16Values_55 : decode cJ11_compareToUTF16Values 55 = .ok (.ireturn, 1) := dk_172 (dk_at dksJ11_compareToUTF16Values_2 9 rfl rfl)
abbrev cJ11_equals : ByteArray := prog_31_method_13_code
def yJ11_equals : MethodName := ⟨RJ11, "equals", "([B[B)Z"⟩
def dkwJ11_equals_1 : List UInt8 := [3, 172, 132, 2, 1, 167, 255, 236, 4, 172, 3, 172]
abbrev dktJ11_equals_1 : List UInt8 := dkwJ11_equals_1 ++ []
def dkwJ11_equals_0 : List UInt8 := [42, 190, 43, 190, 160, 0, 30, 3, 61, 28, 42, 190, 162, 0, 20, 42, 28, 51, 43, 28, 51, 159, 0, 5]
abbrev dktJ11_equals_0 : List UInt8 := dkwJ11_equals_0 ++ dktJ11_equals_1
theorem dksJ11_equals_0 : cJ11_equals.data.toList.drop 0 = dktJ11_equals_0 := by decide +kernel
theorem dksJ11_equals_1 : cJ11_equals.data.toList.drop 24 = dktJ11_equals_1 := dk_seg dksJ11_equals_0 24 rfl rfl
theorem dJ11_equals_0 : decode cJ11_equals 0 = .ok (.aload_n 0, 1) := dk_42 (dk_at dksJ11_equals_0 0 rfl rfl)
theorem dJ11_equals_1 : decode cJ11_equals 1 = .ok (.arraylength, 1) := dk_190 (dk_at dksJ11_equals_0 1 rfl rfl)
theorem dJ11_equals_2 : decode cJ11_equals 2 = .ok (.aload_n 1, 1) := dk_43 (dk_at dksJ11_equals_0 2 rfl rfl)
theorem dJ11_equals_3 : decode cJ11_equals 3 = .ok (.arraylength, 1) := dk_190 (dk_at dksJ11_equals_0 3 rfl rfl)
theorem dJ11_equals_4 : decode cJ11_equals 4 = .ok (.if_icmp .ne 30, 3) := dk_160 0 30 (dk_at dksJ11_equals_0 4 rfl rfl)
theorem dJ11_equals_7 : decode cJ11_equals 7 = .ok (.iconst 0, 1) := dk_3 (dk_at dksJ11_equals_0 7 rfl rfl)
theorem dJ11_equals_8 : decode cJ11_equals 8 = .ok (.istore_n 2, 1) := dk_61 (dk_at dksJ11_equals_0 8 rfl rfl)
theorem dJ11_equals_9 : decode cJ11_equals 9 = .ok (.iload_n 2, 1) := dk_28 (dk_at dksJ11_equals_0 9 rfl rfl)
theorem dJ11_equals_10 : decode cJ11_equals 10 = .ok (.aload_n 0, 1) := dk_42 (dk_at dksJ11_equals_0 10 rfl rfl)
theorem dJ11_equals_11 : decode cJ11_equals 11 = .ok (.arraylength, 1) := dk_190 (dk_at dksJ11_equals_0 11 rfl rfl)
theorem dJ11_equals_12 : decode cJ11_equals 12 = .ok (.if_icmp .ge 20, 3) := dk_162 0 20 (dk_at dksJ11_equals_0 12 rfl rfl)
theorem dJ11_equals_15 : decode cJ11_equals 15 = .ok (.aload_n 0, 1) := dk_42 (dk_at dksJ11_equals_0 15 rfl rfl)
theorem dJ11_equals_16 : decode cJ11_equals 16 = .ok (.iload_n 2, 1) := dk_28 (dk_at dksJ11_equals_0 16 rfl rfl)
theorem dJ11_equals_17 : decode cJ11_equals 17 = .ok (.baload, 1) := dk_51 (dk_at dksJ11_equals_0 17 rfl rfl)
theorem dJ11_equals_18 : decode cJ11_equals 18 = .ok (.aload_n 1, 1) := dk_43 (dk_at dksJ11_equals_0 18 rfl rfl)
theorem dJ11_equals_19 : decode cJ11_equals 19 = .ok (.iload_n 2, 1) := dk_28 (dk_at dksJ11_equals_0 19 rfl rfl)
theorem dJ11_equals_20 : decode cJ11_equals 20 = .ok (.baload, 1) := dk_51 (dk_at dksJ11_equals_0 20 rfl rfl)
theorem dJ11_equals_21 : decode cJ11_equals 21 = .ok (.if_icmp .eq 5, 3) := dk_159 0 5 (dk_at dksJ11_equals_0 21 rfl rfl)
theorem dJ11_equals_24 : decode cJ11_equals 24 = .ok (.iconst 0, 1) := dk_3 (dk_at dksJ11_equals_1 0 rfl rfl)
theorem dJ11_equals_25 : decode cJ11_equals 25 = .ok (.ireturn, 1) := dk_172 (dk_at dksJ11_equals_1 1 rfl rfl)
theorem dJ11_equals_26 : decode cJ11_equals 26 = .ok (.iinc 2 1, 3) := dk_132 2 1 (dk_at dksJ11_equals_1 2 rfl rfl)
theorem dJ11_equals_29 : decode cJ11_equals 29 = .ok (.goto (-20), 3) := dk_167 255 236 (dk_at dksJ11_equals_1 5 rfl rfl)
theorem dJ11_equals_32 : decode cJ11_equals 32 = .ok (.iconst 1, 1) := dk_4 (dk_at dksJ11_equals_1 8 rfl rfl)
theorem dJ11_equals_33 : decode cJ11_equals 33 = .ok (.ireturn, 1) := dk_172 (dk_at dksJ11_equals_1 9 rfl rfl)
theorem dJ11_equals_34 : decode cJ11_equals 34 = .ok (.iconst 0, 1) := dk_3 (dk_at dksJ11_equals_1 10 rfl rfl)
theorem dJ11_equals_35 : decode cJ11_equals 35 = .ok (.ireturn, 1) := dk_172 (dk_at dksJ11_equals_1 11 rfl rfl)
theorem q125 : (Jvm.Cond.initialized "java/lang/StringLatin1") ∈ lw_all := lw_g (lw_at lw_m1 22 rfl) rfl
theorem q415 : (Jvm.Cond.static ({ cls := "java/lang/StringLatin1", name := "charAt", desc := "([BI)C" } : Jvm.MethodName)) ∈ lw_all := lw_g (lw_at lw_m2 72 rfl) rfl
theorem q416 : (Jvm.Cond.code ({ cls := "java/lang/StringLatin1", name := "charAt", desc := "([BI)C" } : Jvm.MethodName) prog_31_method_2_code (2 : Nat) (Option.some Jvm.ClassFile.FieldType.char)) ∈ lw_all := lw_g (lw_at lw_m2 73 rfl) rfl
theorem q417 : (Jvm.Cond.methodLink "java/lang/StringLatin1" (9 : Nat) ({ cls := "java/lang/String", name := "checkIndex", desc := "(II)V" } : Jvm.MethodName)) ∈ lw_all := lw_g (lw_at lw_m2 74 rfl) rfl
theorem q884 : (Jvm.Cond.static ({ cls := "java/lang/StringLatin1", name := "compareTo", desc := "([B[B)I" } : Jvm.MethodName)) ∈ lw_all := lw_g (lw_at lw_m4 61 rfl) rfl
theorem q885 : (Jvm.Cond.code ({ cls := "java/lang/StringLatin1", name := "compareTo", desc := "([B[B)I" } : Jvm.MethodName) prog_31_method_14_code (4 : Nat) (Option.some Jvm.ClassFile.FieldType.int)) ∈ lw_all := lw_g (lw_at lw_m4 62 rfl) rfl
theorem q886 : (Jvm.Cond.methodLink "java/lang/StringLatin1" (34 : Nat) ({ cls := "java/lang/StringLatin1", name := "compareTo", desc := "([B[BII)I" } : Jvm.MethodName)) ∈ lw_all := lw_g (lw_at lw_m4 63 rfl) rfl
theorem q887 : (Jvm.Cond.static ({ cls := "java/lang/StringLatin1", name := "compareTo", desc := "([B[BII)I" } : Jvm.MethodName)) ∈ lw_all := lw_g (lw_at lw_m4 64 rfl) rfl
theorem q888 : (Jvm.Cond.code ({ cls := "java/lang/StringLatin1", name := "compareTo", desc := "([B[BII)I" } : Jvm.MethodName) prog_31_method_15_code (6 : Nat) (Option.some Jvm.ClassFile.FieldType.int)) ∈ lw_all := lw_g (lw_at lw_m4 65 rfl) rfl
theorem q889 : (Jvm.Cond.methodLink "java/lang/StringLatin1" (38 : Nat) ({ cls := "java/lang/Math", name := "min", desc := "(II)I" } : Jvm.MethodName)) ∈ lw_all := lw_g (lw_at lw_m4 66 rfl) rfl
theorem q890 : (Jvm.Cond.methodLink "java/lang/StringLatin1" (44 : Nat) ({ cls := "jdk/internal/util/ArraysSupport", name := "mismatch", desc := "([B[BI)I" } : Jvm.MethodName)) ∈ lw_all := lw_g (lw_at lw_m4 67 rfl) rfl
theorem q994 : (Jvm.Cond.methodLink "java/lang/StringLatin1" (50 : Nat) ({ cls := "java/lang/StringLatin1", name := "getChar", desc := "([BI)C" } : Jvm.MethodName)) ∈ lw_all := lw_g (lw_at lw_m4 171 rfl) rfl
theorem q995 : (Jvm.Cond.static ({ cls := "java/lang/StringLatin1", name := "getChar", desc := "([BI)C" } : Jvm.MethodName)) ∈ lw_all := lw_g (lw_at lw_m4 172 rfl) rfl
theorem q996 : (Jvm.Cond.code ({ cls := "java/lang/StringLatin1", name := "getChar", desc := "([BI)C" } : Jvm.MethodName) prog_31_method_44_code (2 : Nat) (Option.some Jvm.ClassFile.FieldType.char)) ∈ lw_all := lw_g (lw_at lw_m4 173 rfl) rfl
theorem q1005 : (Jvm.Cond.static ({ cls := "java/lang/StringLatin1", name := "compareToUTF16", desc := "([B[B)I" } : Jvm.MethodName)) ∈ lw_all := lw_g (lw_at lw_m4 182 rfl) rfl
theorem q1006 : (Jvm.Cond.code ({ cls := "java/lang/StringLatin1", name := "compareToUTF16", desc := "([B[B)I" } : Jvm.MethodName) prog_31_method_16_code (4 : Nat) (Option.some Jvm.ClassFile.FieldType.int)) ∈ lw_all := lw_g (lw_at lw_m4 183 rfl) rfl
theorem q1007 : (Jvm.Cond.methodLink "java/lang/StringLatin1" (54 : Nat) ({ cls := "java/lang/StringLatin1", name := "length", desc := "([B)I" } : Jvm.MethodName)) ∈ lw_all := lw_g (lw_at lw_m4 184 rfl) rfl
theorem q1008 : (Jvm.Cond.static ({ cls := "java/lang/StringLatin1", name := "length", desc := "([B)I" } : Jvm.MethodName)) ∈ lw_all := lw_g (lw_at lw_m4 185 rfl) rfl
theorem q1009 : (Jvm.Cond.code ({ cls := "java/lang/StringLatin1", name := "length", desc := "([B)I" } : Jvm.MethodName) prog_31_method_5_code (1 : Nat) (Option.some Jvm.ClassFile.FieldType.int)) ∈ lw_all := lw_g (lw_at lw_m4 186 rfl) rfl
theorem q1010 : (Jvm.Cond.methodLink "java/lang/StringLatin1" (58 : Nat) ({ cls := "java/lang/StringUTF16", name := "length", desc := "([B)I" } : Jvm.MethodName)) ∈ lw_all := lw_g (lw_at lw_m4 187 rfl) rfl
theorem q1011 : (Jvm.Cond.methodLink "java/lang/StringLatin1" (59 : Nat) ({ cls := "java/lang/StringLatin1", name := "compareToUTF16Values", desc := "([B[BII)I" } : Jvm.MethodName)) ∈ lw_all := lw_g (lw_at lw_m4 188 rfl) rfl
theorem q1012 : (Jvm.Cond.static ({ cls := "java/lang/StringLatin1", name := "compareToUTF16Values", desc := "([B[BII)I" } : Jvm.MethodName)) ∈ lw_all := lw_g (lw_at lw_m4 189 rfl) rfl
theorem q1013 : (Jvm.Cond.code ({ cls := "java/lang/StringLatin1", name := "compareToUTF16Values", desc := "([B[BII)I" } : Jvm.MethodName) prog_31_method_18_code (8 : Nat) (Option.some Jvm.ClassFile.FieldType.int)) ∈ lw_all := lw_g (lw_at lw_m4 190 rfl) rfl
theorem q1014 : (Jvm.Cond.methodLink "java/lang/StringLatin1" (65 : Nat) ({ cls := "java/lang/StringUTF16", name := "getChar", desc := "([BI)C" } : Jvm.MethodName)) ∈ lw_all := lw_g (lw_at lw_m4 191 rfl) rfl
theorem q1534 : (Jvm.Cond.static ({ cls := "java/lang/StringLatin1", name := "equals", desc := "([B[B)Z" } : Jvm.MethodName)) ∈ lw_all := lw_g (lw_at lw_m6 231 rfl) rfl
theorem q1535 : (Jvm.Cond.code ({ cls := "java/lang/StringLatin1", name := "equals", desc := "([B[B)Z" } : Jvm.MethodName) prog_31_method_13_code (3 : Nat) (Option.some Jvm.ClassFile.FieldType.boolean)) ∈ lw_all := lw_g (lw_at lw_m6 232 rfl) rfl

/-! jdk/internal/util/Preconditions -/
set_option maxRecDepth 100000
def RJ12 : String := "jdk/internal/util/Preconditions"
abbrev cJ12_checkIndex : ByteArray := prog_75_method_11_code
def yJ12_checkIndex : MethodName := ⟨RJ12, "checkIndex", "(IILjava/util/function/BiFunction;)I"⟩
def dkwJ12_checkIndex_0 : List UInt8 := [26, 155, 0, 8, 26, 27, 161, 0, 10, 44, 26, 27, 184, 0, 95, 191, 26, 172]
abbrev dktJ12_checkIndex_0 : List UInt8 := dkwJ12_checkIndex_0 ++ []
theorem dksJ12_checkIndex_0 : cJ12_checkIndex.data.toList.drop 0 = dktJ12_checkIndex_0 := by decide +kernel
theorem dJ12_checkIndex_0 : decode cJ12_checkIndex 0 = .ok (.iload_n 0, 1) := dk_26 (dk_at dksJ12_checkIndex_0 0 rfl rfl)
theorem dJ12_checkIndex_1 : decode cJ12_checkIndex 1 = .ok (.ifCond .lt 8, 3) := dk_155 0 8 (dk_at dksJ12_checkIndex_0 1 rfl rfl)
theorem dJ12_checkIndex_4 : decode cJ12_checkIndex 4 = .ok (.iload_n 0, 1) := dk_26 (dk_at dksJ12_checkIndex_0 4 rfl rfl)
theorem dJ12_checkIndex_5 : decode cJ12_checkIndex 5 = .ok (.iload_n 1, 1) := dk_27 (dk_at dksJ12_checkIndex_0 5 rfl rfl)
theorem dJ12_checkIndex_6 : decode cJ12_checkIndex 6 = .ok (.if_icmp .lt 10, 3) := dk_161 0 10 (dk_at dksJ12_checkIndex_0 6 rfl rfl)
theorem dJ12_checkIndex_9 : decode cJ12_checkIndex 9 = .ok (.aload_n 2, 1) := dk_44 (dk_at dksJ12_checkIndex_0 9 rfl rfl)
theorem dJ12_checkIndex_10 : decode cJ12_checkIndex 10 = .ok (.iload_n 0, 1) := dk_26 (dk_at dksJ12_checkIndex_0 10 rfl rfl)
theorem dJ12_checkIndex_11 : decode cJ12_checkIndex 11 = .ok (.iload_n 1, 1) := dk_27 (dk_at dksJ12_checkIndex_0 11 rfl rfl)
theorem dJ12_checkIndex_12 : decode cJ12_checkIndex 12 = .ok (.invokestatic 95, 3) := dk_184 0 95 (dk_at dksJ12_checkIndex_0 12 rfl rfl)
theorem dJ12_checkIndex_15 : decode cJ12_checkIndex 15 = .ok (.athrow, 1) := dk_191 (dk_at dksJ12_checkIndex_0 15 rfl rfl)
theorem dJ12_checkIndex_16 : decode cJ12_checkIndex 16 = .ok (.iload_n 0, 1) := dk_26 (dk_at dksJ12_checkIndex_0 16 rfl rfl)
theorem dJ12_checkIndex_17 : decode cJ12_checkIndex 17 = .ok (.ireturn, 1) := dk_172 (dk_at dksJ12_checkIndex_0 17 rfl rfl)
theorem q126 : (Jvm.Cond.initialized "jdk/internal/util/Preconditions") ∈ lw_all := lw_g (lw_at lw_m1 23 rfl) rfl
theorem q421 : (Jvm.Cond.laysStatic "jdk/internal/util/Preconditions" "SIOOBE_FORMATTER" "Ljava/util/function/BiFunction;") ∈ lw_tbl := lw_at lw_m2 78 rfl
theorem q423 : (Jvm.Cond.static ({ cls := "jdk/internal/util/Preconditions", name := "checkIndex", desc := "(IILjava/util/function/BiFunction;)I" } : Jvm.MethodName)) ∈ lw_all := lw_g (lw_at lw_m2 80 rfl) rfl
theorem q424 : (Jvm.Cond.code ({ cls := "jdk/internal/util/Preconditions", name := "checkIndex", desc := "(IILjava/util/function/BiFunction;)I" } : Jvm.MethodName) prog_75_method_11_code (3 : Nat) (Option.some Jvm.ClassFile.FieldType.int)) ∈ lw_all := lw_g (lw_at lw_m2 81 rfl) rfl

/-! java/lang/StringUTF16 -/
set_option maxRecDepth 100000
def RJ13 : String := "java/lang/StringUTF16"
abbrev cJ13_charAt : ByteArray := prog_32_method_83_code
def yJ13_charAt : MethodName := ⟨RJ13, "charAt", "([BI)C"⟩
def dkwJ13_charAt_0 : List UInt8 := [27, 42, 184, 0, 67, 42, 27, 184, 0, 71, 172]
abbrev dktJ13_charAt_0 : List UInt8 := dkwJ13_charAt_0 ++ []
theorem dksJ13_charAt_0 : cJ13_charAt.data.toList.drop 0 = dktJ13_charAt_0 := by decide +kernel
theorem dJ13_charAt_0 : decode cJ13_charAt 0 = .ok (.iload_n 1, 1) := dk_27 (dk_at dksJ13_charAt_0 0 rfl rfl)
theorem dJ13_charAt_1 : decode cJ13_charAt 1 = .ok (.aload_n 0, 1) := dk_42 (dk_at dksJ13_charAt_0 1 rfl rfl)
theorem dJ13_charAt_2 : decode cJ13_charAt 2 = .ok (.invokestatic 67, 3) := dk_184 0 67 (dk_at dksJ13_charAt_0 2 rfl rfl)
theorem dJ13_charAt_5 : decode cJ13_charAt 5 = .ok (.aload_n 0, 1) := dk_42 (dk_at dksJ13_charAt_0 5 rfl rfl)
theorem dJ13_charAt_6 : decode cJ13_charAt 6 = .ok (.iload_n 1, 1) := dk_27 (dk_at dksJ13_charAt_0 6 rfl rfl)
theorem dJ13_charAt_7 : decode cJ13_charAt 7 = .ok (.invokestatic 71, 3) := dk_184 0 71 (dk_at dksJ13_charAt_0 7 rfl rfl)
theorem dJ13_charAt_10 : decode cJ13_charAt 10 = .ok (.ireturn, 1) := dk_172 (dk_at dksJ13_charAt_0 10 rfl rfl)
abbrev cJ13_checkIndex : ByteArray := prog_32_method_91_code
def yJ13_checkIndex : MethodName := ⟨RJ13, "checkIndex", "(I[B)V"⟩
def dkwJ13_checkIndex_0 : List UInt8 := [26, 43, 184, 0, 48, 184, 1, 158, 177]
abbrev dktJ13_checkIndex_0 : List UInt8 := dkwJ13_checkIndex_0 ++ []
theorem dksJ13_checkIndex_0 : cJ13_checkIndex.data.toList.drop 0 = dktJ13_checkIndex_0 := by decide +kernel
theorem dJ13_checkIndex_0 : decode cJ13_checkIndex 0 = .ok (.iload_n 0, 1) := dk_26 (dk_at dksJ13_checkIndex_0 0 rfl rfl)
theorem dJ13_checkIndex_1 : decode cJ13_checkIndex 1 = .ok (.aload_n 1, 1) := dk_43 (dk_at dksJ13_checkIndex_0 1 rfl rfl)
theorem dJ13_checkIndex_2 : decode cJ13_checkIndex 2 = .ok (.invokestatic 48, 3) := dk_184 0 48 (dk_at dksJ13_checkIndex_0 2 rfl rfl)
theorem dJ13_checkIndex_5 : decode cJ13_checkIndex 5 = .ok (.invokestatic 414, 3) := dk_184 1 158 (dk_at dksJ13_checkIndex_0 5 rfl rfl)
theorem dJ13_checkIndex_8 : decode cJ13_checkIndex 8 = .ok (.return_, 1) := dk_177 (dk_at dksJ13_checkIndex_0 8 rfl rfl)
abbrev cJ13_length : ByteArray := prog_32_method_6_code
def yJ13_length : MethodName := ⟨RJ13, "length", "([B)I"⟩
def dkwJ13_length_0 : List UInt8 := [42, 190, 4, 122, 172]
abbrev dktJ13_length_0 : List UInt8 := dkwJ13_length_0 ++ []
theorem dksJ13_length_0 : cJ13_length.data.toList.drop 0 = dktJ13_length_0 := by decide +kernel
theorem dJ13_length_0 : decode cJ13_length 0 = .ok (.aload_n 0, 1) := dk_42 (dk_at dksJ13_length_0 0 rfl rfl)
theorem dJ13_length_1 : decode cJ13_length 1 = .ok (.arraylength, 1) := dk_190 (dk_at dksJ13_length_0 1 rfl rfl)
theorem dJ13_length_2 : decode cJ13_length 2 = .ok (.iconst 1, 1) := dk_4 (dk_at dksJ13_length_0 2 rfl rfl)
theorem dJ13_length_3 : decode cJ13_length 3 = .ok (.ishr, 1) := dk_122 (dk_at dksJ13_length_0 3 rfl rfl)
theorem dJ13_length_4 : decode cJ13_length 4 = .ok (.ireturn, 1) := dk_172 (dk_at dksJ13_length_0 4 rfl rfl)
abbrev cJ13_getChar : ByteArray := prog_32_method_5_code
def yJ13_getChar : MethodName := ⟨RJ13, "getChar", "([BI)C"⟩
def dkwJ13_getChar_2 : List UInt8 := [51, 17, 0, 255, 126, 178, 0, 63, 120, 128, 146, 172]
abbrev dktJ13_getChar_2 : List UInt8 := dkwJ13_getChar_2 ++ []
def dkwJ13_getChar_1 : List UInt8 := [183, 0, 56, 191, 27, 4, 120, 60, 42, 27, 132, 1, 1, 51, 17, 0, 255, 126, 178, 0, 59, 120, 42, 27]
abbrev dktJ13_getChar_1 : List UInt8 := dkwJ13_getChar_1 ++ dktJ13_getChar_2
def dkwJ13_getChar_0 : List UInt8 := [178, 0, 44, 154, 0, 25, 27, 155, 0, 11, 27, 42, 184, 0, 48, 161, 0, 13, 187, 0, 52, 89, 18, 54]
abbrev dktJ13_getChar_0 : List UInt8 := dkwJ13_getChar_0 ++ dktJ13_getChar_1
theorem dksJ13_getChar_0 : cJ13_getChar.data.toList.drop 0 = dktJ13_getChar_0 := by decide +kernel
theorem dksJ13_getChar_1 : cJ13_getChar.data.toList.drop 24 = dktJ13_getChar_1 := dk_seg dksJ13_getChar_0 24 rfl rfl
theorem dksJ13_getChar_2 : cJ13_getChar.data.toList.drop 48 = dktJ13_getChar_2 := dk_seg dksJ13_getChar_1 24 rfl rfl
theorem dJ13_getChar_0 : decode cJ13_getChar 0 = .ok (.getstatic 44, 3) := dk_178 0 44 (dk_at dksJ13_getChar_0 0 rfl rfl)
theorem dJ13_getChar_3 : decode cJ13_getChar 3 = .ok (.ifCond .ne 25, 3) := dk_154 0 25 (dk_at dksJ13_getChar_0 3 rfl rfl)
theorem dJ13_getChar_6 : decode cJ13_getChar 6 = .ok (.iload_n 1, 1) := dk_27 (dk_at dksJ13_getChar_0 6 rfl rfl)
theorem dJ13_getChar_7 : decode cJ13_getChar 7 = .ok (.ifCond .lt 11, 3) := dk_155 0 11 (dk_at dksJ13_getChar_0 7 rfl rfl)
theorem dJ13_getChar_10 : decode cJ13_getChar 10 = .ok (.iload_n 1, 1) := dk_27 (dk_at dksJ13_getChar_0 10 rfl rfl)
theorem dJ13_getChar_11 : decode cJ13_getChar 11 = .ok (.aload_n 0, 1) := dk_42 (dk_at dksJ13_getChar_0 11 rfl rfl)
theorem dJ13_getChar_12 : decode cJ13_getChar 12 = .ok (.invokestatic 48, 3) := dk_184 0 48 (dk_at dksJ13_getChar_0 12 rfl rfl)
theorem dJ13_getChar_15 : decode cJ13_getChar 15 = .ok (.if_icmp .lt 13, 3) := dk_161 0 13 (dk_at dksJ13_getChar_0 15 rfl rfl)
theorem dJ13_getChar_18 : decode cJ13_getChar 18 = .ok (.new 52, 3) := dk_187 0 52 (dk_at dksJ13_getChar_0 18 rfl rfl)
theorem dJ13_getChar_21 : decode cJ13_getChar 21 = .ok (.dup, 1) := dk_89 (dk_at dksJ13_getChar_0 21 rfl rfl)
theorem dJ13_getChar_22 : decode cJ13_getChar 22 = .ok (.ldc 54, 2) := dk_18 54 (dk_at dksJ13_getChar_0 22 rfl rfl)
theorem dJ13_getChar_24 : decode cJ13_getChar 24 = .ok (.invokespecial 56, 3) := dk_183 0 56 (dk_at dksJ13_getChar_1 0 rfl rfl)
theorem dJ13_getChar_27 : decode cJ13_getChar 27 = .ok (.athrow, 1) := dk_191 (dk_at dksJ13_getChar_1 3 rfl rfl)
theorem dJ13_getChar_28 : decode cJ13_getChar 28 = .ok (.iload_n 1, 1) := dk_27 (dk_at dksJ13_getChar_1 4 rfl rfl)
theorem dJ13_getChar_29 : decode cJ13_getChar 29 = .ok (.iconst 1, 1) := dk_4 (dk_at dksJ13_getChar_1 5 rfl rfl)
theorem dJ13_getChar_30 : decode cJ13_getChar 30 = .ok (.ishl, 1) := dk_120 (dk_at dksJ13_getChar_1 6 rfl rfl)
theorem dJ13_getChar_31 : decode cJ13_getChar 31 = .ok (.istore_n 1, 1) := dk_60 (dk_at dksJ13_getChar_1 7 rfl rfl)
theorem dJ13_getChar_32 : decode cJ13_getChar 32 = .ok (.aload_n 0, 1) := dk_42 (dk_at dksJ13_getChar_1 8 rfl rfl)
theorem dJ13_getChar_33 : decode cJ13_getChar 33 = .ok (.iload_n 1, 1) := dk_27 (dk_at dksJ13_getChar_1 9 rfl rfl)
theorem dJ13_getChar_34 : decode cJ13_getChar 34 = .ok (.iinc 1 1, 3) := dk_132 1 1 (dk_at dksJ13_getChar_1 10 rfl rfl)
theorem dJ13_getChar_37 : decode cJ13_getChar 37 = .ok (.baload, 1) := dk_51 (dk_at dksJ13_getChar_1 13 rfl rfl)
theorem dJ13_getChar_38 : decode cJ13_getChar 38 = .ok (.sipush 255, 3) := dk_17 0 255 (dk_at dksJ13_getChar_1 14 rfl rfl)
theorem dJ13_getChar_41 : decode cJ13_getChar 41 = .ok (.iand, 1) := dk_126 (dk_at dksJ13_getChar_1 17 rfl rfl)
theorem dJ13_getChar_42 : decode cJ13_getChar 42 = .ok (.getstatic 59, 3) := dk_178 0 59 (dk_at dksJ13_getChar_1 18 rfl rfl)
theorem dJ13_getChar_45 : decode cJ13_getChar 45 = .ok (.ishl, 1) := dk_120 (dk_at dksJ13_getChar_1 21 rfl rfl)
theorem dJ13_getChar_46 : decode cJ13_getChar 46 = .ok (.aload_n 0, 1) := dk_42 (dk_at dksJ13_getChar_1 22 rfl rfl)
theorem dJ13_getChar_47 : decode cJ13_getChar 47 = .ok (.iload_n 1, 1) := dk_27 (dk_at dksJ13_getChar_1 23 rfl rfl)
theorem dJ13_getChar_48 : decode cJ13_getChar 48 = .ok (.baload, 1) := dk_51 (dk_at dksJ13_getChar_2 0 rfl rfl)
theorem dJ13_getChar_49 : decode cJ13_getChar 49 = .ok (.sipush 255, 3) := dk_17 0 255 (dk_at dksJ13_getChar_2 1 rfl rfl)
theorem dJ13_getChar_52 : decode cJ13_getChar 52 = .ok (.iand, 1) := dk_126 (dk_at dksJ13_getChar_2 4 rfl rfl)
theorem dJ13_getChar_53 : decode cJ13_getChar 53 = .ok (.getstatic 63, 3) := dk_178 0 63 (dk_at dksJ13_getChar_2 5 rfl rfl)
theorem dJ13_getChar_56 : decode cJ13_getChar 56 = .ok (.ishl, 1) := dk_120 (dk_at dksJ13_getChar_2 8 rfl rfl)
theorem dJ13_getChar_57 : decode cJ13_getChar 57 = .ok (.ior, 1) := dk_128 (dk_at dksJ13_getChar_2 9 rfl rfl)
theorem dJ13_getChar_58 : decode cJ13_getChar 58 = .ok (.i2c, 1) := dk_146 (dk_at dksJ13_getChar_2 10 rfl rfl)
theorem dJ13_getChar_59 : decode cJ13_getChar 59 = .ok (.ireturn, 1) := dk_172 (dk_at dksJ13_getChar_2 11 rfl rfl)
abbrev cJ13_compareTo : ByteArray := prog_32_method_29_code
def yJ13_compareTo : MethodName := ⟨RJ13, "compareTo", "([B[B)I"⟩
def dkwJ13_compareTo_0 : List UInt8 := [42, 184, 0, 48, 61, 43, 184, 0, 48, 62, 42, 43, 28, 29, 184, 0, 176, 172]
abbrev dktJ13_compareTo_0 : List UInt8 := dkwJ13_compareTo_0 ++ []
theorem dksJ13_compareTo_0 : cJ13_compareTo.data.toList.drop 0 = dktJ13_compareTo_0 := by decide +kernel
theorem dJ13_compareTo_0 : decode cJ13_compareTo 0 = .ok (.aload_n 0, 1) := dk_42 (dk_at dksJ13_compareTo_0 0 rfl rfl)
theorem dJ13_compareTo_1 : decode cJ13_compareTo 1 = .ok (.invokestatic 48, 3) := dk_184 0 48 (dk_at dksJ13_compareTo_0 1 rfl rfl)
theorem dJ13_compareTo_4 : decode cJ13_compareTo 4 = .ok (.istore_n 2, 1) := dk_61 (dk_at dksJ13_compareTo_0 4 rfl rfl)
theorem dJ13_compareTo_5 : decode cJ13_compareTo 5 = .ok (.aload_n 1, 1) := dk_43 (dk_at dksJ13_compareTo_0 5 rfl rfl)
theorem dJ13_compareTo_6 : decode cJ13_compareTo 6 = .ok (.invokestatic 48, 3) := dk_184 0 48 (dk_at dksJ13_compareTo_0 6 rfl rfl)
theorem dJ13_compareTo_9 : decode cJ13_compareTo 9 = .ok (.istore_n 3, 1) := dk_62 (dk_at dksJ13_compareTo_0 9 rfl rfl)
theorem dJ13_compareTo_10 : decode cJ13_compareTo 10 = .ok (.aload_n 0, 1) := dk_42 (dk_at dksJ13_compareTo_0 10 rfl rfl)
theorem dJ13_compareTo_11 : decode cJ13_compareTo 11 = .ok (.aload_n 1, 1) := dk_43 (dk_at dksJ13_compareTo_0 11 rfl rfl)
theorem dJ13_compareTo_12 : decode cJ13_compareTo 12 = .ok (.iload_n 2, 1) := dk_28 (dk_at dksJ13_compareTo_0 12 rfl rfl)
theorem dJ13_compareTo_13 : decode cJ13_compareTo 13 = .ok (.iload_n 3, 1) := dk_29 (dk_at dksJ13_compareTo_0 13 rfl rfl)
theorem dJ13_compareTo_14 : decode cJ13_compareTo 14 = .ok (.invokestatic 176, 3) := dk_184 0 176 (dk_at dksJ13_compareTo_0 14 rfl rfl)
theorem dJ13_compareTo_17 : decode cJ13_compareTo 17 = .ok (.ireturn, 1) := dk_172 (dk_at dksJ13_compareTo_0 17 rfl rfl)
abbrev cJ13_compareValues : ByteArray := prog_32_method_31_code
def yJ13_compareValues : MethodName := ⟨RJ13, "compareValues", "([B[BII)I"⟩
def dkwJ13_compareValues_2 : List UInt8 := [132, 5, 1, 167, 255, 217, 28, 29, 100, 172]
abbrev dktJ13_compareValues_2 : List UInt8 := dkwJ13_compareValues_2 ++ []
def dkwJ13_compareValues_1 : List UInt8 := [54, 6, 43, 21, 5, 184, 0, 71, 54, 7, 21, 6, 21, 7, 159, 0, 9, 21, 6, 21, 7, 100, 172]
abbrev dktJ13_compareValues_1 : List UInt8 := dkwJ13_compareValues_1 ++ dktJ13_compareValues_2
def dkwJ13_compareValues_0 : List UInt8 := [28, 29, 184, 0, 183, 54, 4, 3, 54, 5, 21, 5, 21, 4, 162, 0, 38, 42, 21, 5, 184, 0, 71]
abbrev dktJ13_compareValues_0 : List UInt8 := dkwJ13_compareValues_0 ++ dktJ13_compareValues_1
theorem dksJ13_compareValues_0 : cJ13_compareValues.data.toList.drop 0 = dktJ13_compareValues_0 := by decide +kernel
theorem dksJ13_compareValues_1 : cJ13_compareValues.data.toList.drop 23 = dktJ13_compareValues_1 := dk_seg dksJ13_compareValues_0 23 rfl rfl
theorem dksJ13_compareValues_2 : cJ13_compareValues.data.toList.drop 46 = dktJ13_compareValues_2 := dk_seg dksJ13_compareValues_1 23 rfl rfl
theorem dJ13_compareValues_0 : decode cJ13_compareValues 0 = .ok (.iload_n 2, 1) := dk_28 (dk_at dksJ13_compareValues_0 0 rfl rfl)
theorem dJ13_compareValues_1 : decode cJ13_compareValues 1 = .ok (.iload_n 3, 1) := dk_29 (dk_at dksJ13_compareValues_0 1 rfl rfl)
theorem dJ13_compareValues_2 : decode cJ13_compareValues 2 = .ok (.invokestatic 183, 3) := dk_184 0 183 (dk_at dksJ13_compareValues_0 2 rfl rfl)
theorem dJ13_compareValues_5 : decode cJ13_compareValues 5 = .ok (.istore 4, 2) := dk_54 4 (dk_at dksJ13_compareValues_0 5 rfl rfl)
theorem dJ13_compareValues_7 : decode cJ13_compareValues 7 = .ok (.iconst 0, 1) := dk_3 (dk_at dksJ13_compareValues_0 7 rfl rfl)
theorem dJ13_compareValues_8 : decode cJ13_compareValues 8 = .ok (.istore 5, 2) := dk_54 5 (dk_at dksJ13_compareValues_0 8 rfl rfl)
theorem dJ13_compareValues_10 : decode cJ13_compareValues 10 = .ok (.iload 5, 2) := dk_21 5 (dk_at dksJ13_compareValues_0 10 rfl rfl)
theorem dJ13_compareValues_12 : decode cJ13_compareValues 12 = .ok (.iload 4, 2) := dk_21 4 (dk_at dksJ13_compareValues_0 12 rfl rfl)
theorem dJ13_compareValues_14 : decode cJ13_compareValues 14 = .ok (.if_icmp .ge 38, 3) := dk_162 0 38 (dk_at dksJ13_compareValues_0 14 rfl rfl)
theorem dJ13_compareValues_17 : decode cJ13_compareValues 17 = .ok (.aload_n 0, 1) := dk_42 (dk_at dksJ13_compareValues_0 17 rfl rfl)
theorem dJ13_compareValues_18 : decode cJ13_compareValues 18 = .ok (.iload 5, 2) := dk_21 5 (dk_at dksJ13_compareValues_0 18 rfl rfl)
theorem dJ13_compareValues_20 : decode cJ13_compareValues 20 = .ok (.invokestatic 71, 3) := dk_184 0 71 (dk_at dksJ13_compareValues_0 20 rfl rfl)
theorem dJ13_compareValues_23 : decode cJ13_compareValues 23 = .ok (.istore 6, 2) := dk_54 6 (dk_at dksJ13_compareValues_1 0 rfl rfl)
theorem dJ13_compareValues_25 : decode cJ13_compareValues 25 = .ok (.aload_n 1, 1) := dk_43 (dk_at dksJ13_compareValues_1 2 rfl rfl)
theorem dJ13_compareValues_26 : decode cJ13_compareValues 26 = .ok (.iload 5, 2) := dk_21 5 (dk_at dksJ13_compareValues_1 3 rfl rfl)
theorem dJ13_compareValues_28 : decode cJ13_compareValues 28 = .ok (.invokestatic 71, 3) := dk_184 0 71 (dk_at dksJ13_compareValues_1 5 rfl rfl)
theorem dJ13_compareValues_31 : decode cJ13_compareValues 31 = .ok (.istore 7, 2) := dk_54 7 (dk_at dksJ13_compareValues_1 8 rfl rfl)
theorem dJ13_compareValues_33 : decode cJ13_compareValues 33 = .ok (.iload 6, 2) := dk_21 6 (dk_at dksJ13_compareValues_1 10 rfl rfl)
theorem dJ13_compareValues_35 : decode cJ13_compareValues 35 = .ok (.iload 7, 2) := dk_21 7 (dk_at dksJ13_compareValues_1 12 rfl rfl)
theorem dJ13_compareValues_37 : decode cJ13_compareValues 37 = .ok (.if_icmp .eq 9, 3) := dk_159 0 9 (dk_at dksJ13_compareValues_1 14 rfl rfl)
theorem dJ13_compareValues_40 : decode cJ13_compareValues 40 = .ok (.iload 6, 2) := dk_21 6 (dk_at dksJ13_compareValues_1 17 rfl rfl)
theorem dJ13_compareValues_42 : decode cJ13_compareValues 42 = .ok (.iload 7, 2) := dk_21 7 (dk_at dksJ13_compareValues_1 19 rfl rfl)
theorem dJ13_compareValues_44 : decode cJ13_compareValues 44 = .ok (.isub, 1) := dk_100 (dk_at dksJ13_compareValues_1 21 rfl rfl)
theorem dJ13_compareValues_45 : decode cJ13_compareValues 45 = .ok (.ireturn, 1) := dk_172 (dk_at dksJ13_compareValues_1 22 rfl rfl)
theorem dJ13_compareValues_46 : decode cJ13_compareValues 46 = .ok (.iinc 5 1, 3) := dk_132 5 1 (dk_at dksJ13_compareValues_2 0 rfl rfl)
theorem dJ13_compareValues_49 : decode cJ13_compareValues 49 = .ok (.goto (-39), 3) := dk_167 255 217 (dk_at dksJ13_compareValues_2 3 rfl rfl)
theorem dJ13_compareValues_52 : decode cJ13_compareValues 52 = .ok (.iload_n 2, 1) := dk_28 (dk_at dksJ13_compareValues_2 6 rfl rfl)
theorem dJ13_compareValues_53 : decode cJ13_compareValues 53 = .ok (.iload_n 3, 1) := dk_29 (dk_at dksJ13_compareValues_2 7 rfl rfl)
theorem dJ13_compareValues_54 : decode cJ13_compareValues 54 = .ok (.isub, 1) := dk_100 (dk_at dksJ13_compareValues_2 8 rfl rfl)
theorem dJ13_compareValues_55 : decode cJ13_compareValues 55 = .ok (.ireturn, 1) := dk_172 (dk_at dksJ13_compareValues_2 9 rfl rfl)
abbrev cJ13_compareToLatin1 : ByteArray := prog_32_method_32_code
def yJ13_compareToLatin1 : MethodName := ⟨RJ13, "compareToLatin1", "([B[B)I"⟩
def dkwJ13_compareToLatin1_0 : List UInt8 := [43, 42, 184, 0, 189, 116, 172]
abbrev dktJ13_compareToLatin1_0 : List UInt8 := dkwJ13_compareToLatin1_0 ++ []
theorem dksJ13_compareToLatin1_0 : cJ13_compareToLatin1.data.toList.drop 0 = dktJ13_compareToLatin1_0 := by decide +kernel
theorem dJ13_compareToLatin1_0 : decode cJ13_compareToLatin1 0 = .ok (.aload_n 1, 1) := dk_43 (dk_at dksJ13_compareToLatin1_0 0 rfl rfl)
theorem dJ13_compareToLatin1_1 : decode cJ13_compareToLatin1 1 = .ok (.aload_n 0, 1) := dk_42 (dk_at dksJ13_compareToLatin1_0 1 rfl rfl)
theorem dJ13_compareToLatin1_2 : decode cJ13_compareToLatin1 2 = .ok (.invokestatic 189, 3) := dk_184 0 189 (dk_at dksJ13_compareToLatin1_0 2 rfl rfl)
theorem dJ13_compareToLatin1_5 : decode cJ13_compareToLatin1 5 = .ok (.ineg, 1) := dk_116 (dk_at dksJ13_compareToLatin1_0 5 rfl rfl)
theorem dJ13_compareToLatin1_6 : decode cJ13_compareToLatin1 6 = .ok (.ireturn, 1) := dk_172 (dk_at dksJ13_compareToLatin1_0 6 rfl rfl)
theorem q127 : (Jvm.Cond.initialized "java/lang/StringUTF16") ∈ lw_all := lw_g (lw_at lw_m1 24 rfl) rfl
theorem q426 : (Jvm.Cond.static ({ cls := "java/lang/StringUTF16", name := "charAt", desc := "([BI)C" } : Jvm.MethodName)) ∈ lw_all := lw_g (lw_at lw_m2 83 rfl) rfl
theorem q427 : (Jvm.Cond.code ({ cls := "java/lang/StringUTF16", name := "charAt", desc := "([BI)C" } : Jvm.MethodName) prog_32_method_83_code (2 : Nat) (Option.some Jvm.ClassFile.FieldType.char)) ∈ lw_all := lw_g (lw_at lw_m2 84 rfl) rfl
theorem q428 : (Jvm.Cond.methodLink "java/lang/StringUTF16" (67 : Nat) ({ cls := "java/lang/StringUTF16", name := "checkIndex", desc := "(I[B)V" } : Jvm.MethodName)) ∈ lw_all := lw_g (lw_at lw_m2 85 rfl) rfl
theorem q429 : (Jvm.Cond.static ({ cls := "java/lang/StringUTF16", name := "checkIndex", desc := "(I[B)V" } : Jvm.MethodName)) ∈ lw_all := lw_g (lw_at lw_m2 86 rfl) rfl
theorem q430 : (Jvm.Cond.code ({ cls := "java/lang/StringUTF16", name := "checkIndex", desc := "(I[B)V" } : Jvm.MethodName) prog_32_method_91_code (2 : Nat) (Option.none : Option Jvm.ClassFile.FieldType)) ∈ lw_all := lw_g (lw_at lw_m2 87 rfl) rfl
theorem q431 : (Jvm.Cond.methodLink "java/lang/StringUTF16" (48 : Nat) ({ cls := "java/lang/StringUTF16", name := "length", desc := "([B)I" } : Jvm.MethodName)) ∈ lw_all := lw_g (lw_at lw_m2 88 rfl) rfl
theorem q432 : (Jvm.Cond.static ({ cls := "java/lang/StringUTF16", name := "length", desc := "([B)I" } : Jvm.MethodName)) ∈ lw_all := lw_g (lw_at lw_m2 89 rfl) rfl
theorem q433 : (Jvm.Cond.code ({ cls := "java/lang/StringUTF16", name := "length", desc := "([B)I" } : Jvm.MethodName) prog_32_method_6_code (1 : Nat) (Option.some Jvm.ClassFile.FieldType.int)) ∈ lw_all := lw_g (lw_at lw_m2 90 rfl) rfl
theorem q434 : (Jvm.Cond.methodLink "java/lang/StringUTF16" (414 : Nat) ({ cls := "java/lang/String", name := "checkIndex", desc := "(II)V" } : Jvm.MethodName)) ∈ lw_all := lw_g (lw_at lw_m2 91 rfl) rfl
theorem q435 : (Jvm.Cond.methodLink "java/lang/StringUTF16" (71 : Nat) ({ cls := "java/lang/StringUTF16", name := "getChar", desc := "([BI)C" } : Jvm.MethodName)) ∈ lw_all := lw_g (lw_at lw_m2 92 rfl) rfl
theorem q436 : (Jvm.Cond.static ({ cls := "java/lang/StringUTF16", name := "getChar", desc := "([BI)C" } : Jvm.MethodName)) ∈ lw_all := lw_g (lw_at lw_m2 93 rfl) rfl
theorem q437 : (Jvm.Cond.code ({ cls := "java/lang/StringUTF16", name := "getChar", desc := "([BI)C" } : Jvm.MethodName) prog_32_method_5_code (2 : Nat) (Option.some Jvm.ClassFile.FieldType.char)) ∈ lw_all := lw_g (lw_at lw_m2 94 rfl) rfl
theorem q438 : (Jvm.Cond.fieldLink "java/lang/StringUTF16" (44 : Nat) "java/lang/StringUTF16" "$assertionsDisabled" "Z") ∈ lw_all := lw_g (lw_at lw_m2 95 rfl) rfl
theorem q439 : (Jvm.Cond.laysStatic "java/lang/StringUTF16" "$assertionsDisabled" "Z") ∈ lw_tbl := lw_at lw_m2 96 rfl
theorem q440 : (Jvm.Cond.fieldLink "java/lang/StringUTF16" (59 : Nat) "java/lang/StringUTF16" "HI_BYTE_SHIFT" "I") ∈ lw_all := lw_g (lw_at lw_m2 97 rfl) rfl
theorem q441 : (Jvm.Cond.laysStatic "java/lang/StringUTF16" "HI_BYTE_SHIFT" "I") ∈ lw_tbl := lw_at lw_m2 98 rfl
theorem q442 : (Jvm.Cond.fieldLink "java/lang/StringUTF16" (63 : Nat) "java/lang/StringUTF16" "LO_BYTE_SHIFT" "I") ∈ lw_all := lw_g (lw_at lw_m2 99 rfl) rfl
theorem q443 : (Jvm.Cond.laysStatic "java/lang/StringUTF16" "LO_BYTE_SHIFT" "I") ∈ lw_tbl := lw_at lw_m2 100 rfl
theorem q998 : (Jvm.Cond.static ({ cls := "java/lang/StringUTF16", name := "compareTo", desc := "([B[B)I" } : Jvm.MethodName)) ∈ lw_all := lw_g (lw_at lw_m4 175 rfl) rfl
theorem q999 : (Jvm.Cond.code ({ cls := "java/lang/StringUTF16", name := "compareTo", desc := "([B[B)I" } : Jvm.MethodName) prog_32_method_29_code (4 : Nat) (Option.some Jvm.ClassFile.FieldType.int)) ∈ lw_all := lw_g (lw_at lw_m4 176 rfl) rfl
theorem q1000 : (Jvm.Cond.methodLink "java/lang/StringUTF16" (176 : Nat) ({ cls := "java/lang/StringUTF16", name := "compareValues", desc := "([B[BII)I" } : Jvm.MethodName)) ∈ lw_all := lw_g (lw_at lw_m4 177 rfl) rfl
theorem q1001 : (Jvm.Cond.static ({ cls := "java/lang/StringUTF16", name := "compareValues", desc := "([B[BII)I" } : Jvm.MethodName)) ∈ lw_all := lw_g (lw_at lw_m4 178 rfl) rfl
theorem q1002 : (Jvm.Cond.code ({ cls := "java/lang/StringUTF16", name := "compareValues", desc := "([B[BII)I" } : Jvm.MethodName) prog_32_method_31_code (8 : Nat) (Option.some Jvm.ClassFile.FieldType.int)) ∈ lw_all := lw_g (lw_at lw_m4 179 rfl) rfl
theorem q1003 : (Jvm.Cond.methodLink "java/lang/StringUTF16" (183 : Nat) ({ cls := "java/lang/Math", name := "min", desc := "(II)I" } : Jvm.MethodName)) ∈ lw_all := lw_g (lw_at lw_m4 180 rfl) rfl
theorem q1016 : (Jvm.Cond.static ({ cls := "java/lang/StringUTF16", name := "compareToLatin1", desc := "([B[B)I" } : Jvm.MethodName)) ∈ lw_all := lw_g (lw_at lw_m4 193 rfl) rfl
theorem q1017 : (Jvm.Cond.code ({ cls := "java/lang/StringUTF16", name := "compareToLatin1", desc := "([B[B)I" } : Jvm.MethodName) prog_32_method_32_code (2 : Nat) (Option.some Jvm.ClassFile.FieldType.int)) ∈ lw_all := lw_g (lw_at lw_m4 194 rfl) rfl
theorem q1018 : (Jvm.Cond.methodLink "java/lang/StringUTF16" (189 : Nat) ({ cls := "java/lang/StringLatin1", name := "compareToUTF16", desc := "([B[B)I" } : Jvm.MethodName)) ∈ lw_all := lw_g (lw_at lw_m4 195 rfl) rfl

/-! java/lang/Math -/
set_option maxRecDepth 100000
def RJ14 : String := "java/lang/Math"
abbrev cJ14_max : ByteArray := prog_25_method_65_code
def yJ14_max : MethodName := ⟨RJ14, "max", "(II)I"⟩
def dkwJ14_max_0 : List UInt8 := [26, 27, 161, 0, 7, 26, 167, 0, 4, 27, 172]
abbrev dktJ14_max_0 : List UInt8 := dkwJ14_max_0 ++ []
theorem dksJ14_max_0 : cJ14_max.data.toList.drop 0 = dktJ14_max_0 := by decide +kernel
theorem dJ14_max_0 : decode cJ14_max 0 = .ok (.iload_n 0, 1) := dk_26 (dk_at dksJ14_max_0 0 rfl rfl)
theorem dJ14_max_1 : decode cJ14_max 1 = .ok (.iload_n 1, 1) := dk_27 (dk_at dksJ14_max_0 1 rfl rfl)
theorem dJ14_max_2 : decode cJ14_max 2 = .ok (.if_icmp .lt 7, 3) := dk_161 0 7 (dk_at dksJ14_max_0 2 rfl rfl)
theorem dJ14_max_5 : decode cJ14_max 5 = .ok (.iload_n 0, 1) := dk_26 (dk_at dksJ14_max_0 5 rfl rfl)
theorem dJ14_max_6 : decode cJ14_max 6 = .ok (.goto 4, 3) := dk_167 0 4 (dk_at dksJ14_max_0 6 rfl rfl)
theorem dJ14_max_9 : decode cJ14_max 9 = .ok (.iload_n 1, 1) := dk_27 (dk_at dksJ14_max_0 9 rfl rfl)
theorem dJ14_max_10 : decode cJ14_max 10 = .ok (.ireturn, 1) := dk_172 (dk_at dksJ14_max_0 10 rfl rfl)
abbrev cJ14_abs : ByteArray := prog_25_method_59_code
def yJ14_abs : MethodName := ⟨RJ14, "abs", "(I)I"⟩
def dkwJ14_abs_0 : List UInt8 := [26, 156, 0, 8, 26, 116, 167, 0, 4, 26, 172]
abbrev dktJ14_abs_0 : List UInt8 := dkwJ14_abs_0 ++ []
theorem dksJ14_abs_0 : cJ14_abs.data.toList.drop 0 = dktJ14_abs_0 := by decide +kernel
theorem dJ14_abs_0 : decode cJ14_abs 0 = .ok (.iload_n 0, 1) := dk_26 (dk_at dksJ14_abs_0 0 rfl rfl)
theorem dJ14_abs_1 : decode cJ14_abs 1 = .ok (.ifCond .ge 8, 3) := dk_156 0 8 (dk_at dksJ14_abs_0 1 rfl rfl)
theorem dJ14_abs_4 : decode cJ14_abs 4 = .ok (.iload_n 0, 1) := dk_26 (dk_at dksJ14_abs_0 4 rfl rfl)
theorem dJ14_abs_5 : decode cJ14_abs 5 = .ok (.ineg, 1) := dk_116 (dk_at dksJ14_abs_0 5 rfl rfl)
theorem dJ14_abs_6 : decode cJ14_abs 6 = .ok (.goto 4, 3) := dk_167 0 4 (dk_at dksJ14_abs_0 6 rfl rfl)
theorem dJ14_abs_9 : decode cJ14_abs 9 = .ok (.iload_n 0, 1) := dk_26 (dk_at dksJ14_abs_0 9 rfl rfl)
theorem dJ14_abs_10 : decode cJ14_abs 10 = .ok (.ireturn, 1) := dk_172 (dk_at dksJ14_abs_0 10 rfl rfl)
abbrev cJ14_min : ByteArray := prog_25_method_69_code
def yJ14_min : MethodName := ⟨RJ14, "min", "(II)I"⟩
def dkwJ14_min_0 : List UInt8 := [26, 27, 163, 0, 7, 26, 167, 0, 4, 27, 172]
abbrev dktJ14_min_0 : List UInt8 := dkwJ14_min_0 ++ []
theorem dksJ14_min_0 : cJ14_min.data.toList.drop 0 = dktJ14_min_0 := by decide +kernel
theorem dJ14_min_0 : decode cJ14_min 0 = .ok (.iload_n 0, 1) := dk_26 (dk_at dksJ14_min_0 0 rfl rfl)
theorem dJ14_min_1 : decode cJ14_min 1 = .ok (.iload_n 1, 1) := dk_27 (dk_at dksJ14_min_0 1 rfl rfl)
theorem dJ14_min_2 : decode cJ14_min 2 = .ok (.if_icmp .gt 7, 3) := dk_163 0 7 (dk_at dksJ14_min_0 2 rfl rfl)
theorem dJ14_min_5 : decode cJ14_min 5 = .ok (.iload_n 0, 1) := dk_26 (dk_at dksJ14_min_0 5 rfl rfl)
theorem dJ14_min_6 : decode cJ14_min 6 = .ok (.goto 4, 3) := dk_167 0 4 (dk_at dksJ14_min_0 6 rfl rfl)
theorem dJ14_min_9 : decode cJ14_min 9 = .ok (.iload_n 1, 1) := dk_27 (dk_at dksJ14_min_0 9 rfl rfl)
theorem dJ14_min_10 : decode cJ14_min 10 = .ok (.ireturn, 1) := dk_172 (dk_at dksJ14_min_0 10 rfl rfl)
theorem q128 : (Jvm.Cond.initialized "java/lang/Math") ∈ lw_all := lw_g (lw_at lw_m1 25 rfl) rfl
theorem q474 : (Jvm.Cond.static ({ cls := "java/lang/Math", name := "max", desc := "(II)I" } : Jvm.MethodName)) ∈ lw_all := lw_g (lw_at lw_m2 131 rfl) rfl
theorem q475 : (Jvm.Cond.code ({ cls := "java/lang/Math", name := "max", desc := "(II)I" } : Jvm.MethodName) prog_25_method_65_code (2 : Nat) (Option.some Jvm.ClassFile.FieldType.int)) ∈ lw_all := lw_g (lw_at lw_m2 132 rfl) rfl
theorem q616 : (Jvm.Cond.static ({ cls := "java/lang/Math", name := "abs", desc := "(I)I" } : Jvm.MethodName)) ∈ lw_all := lw_g (lw_at lw_m3 33 rfl) rfl
theorem q617 : (Jvm.Cond.code ({ cls := "java/lang/Math", name := "abs", desc := "(I)I" } : Jvm.MethodName) prog_25_method_59_code (1 : Nat) (Option.some Jvm.ClassFile.FieldType.int)) ∈ lw_all := lw_g (lw_at lw_m3 34 rfl) rfl
theorem q633 : (Jvm.Cond.static ({ cls := "java/lang/Math", name := "min", desc := "(II)I" } : Jvm.MethodName)) ∈ lw_all := lw_g (lw_at lw_m3 50 rfl) rfl
theorem q634 : (Jvm.Cond.code ({ cls := "java/lang/Math", name := "min", desc := "(II)I" } : Jvm.MethodName) prog_25_method_69_code (2 : Nat) (Option.some Jvm.ClassFile.FieldType.int)) ∈ lw_all := lw_g (lw_at lw_m3 51 rfl) rfl

/-! java/lang/NullPointerException -/
set_option maxRecDepth 100000
def RJ15 : String := "java/lang/NullPointerException"
def TJ15 : u_T := fun k => match k with
  | 0 => ("java/lang/Throwable", "cause", "Ljava/lang/Throwable;", false)
  | 1 => ("java/lang/Throwable", "stackTrace", "[Ljava/lang/StackTraceElement;", false)
  | 2 => ("java/lang/Throwable", "suppressedExceptions", "Ljava/util/List;", false)
  | 3 => ("java/lang/Throwable", "detailMessage", "Ljava/lang/String;", false)
  | 4 => ("java/lang/Throwable", "backtrace", "Ljava/lang/Object;", false)
  | 5 => ("java/lang/Throwable", "depth", "I", false)
  | 6 => ("java/lang/NullPointerException", "extendedMessageState", "I", false)
  | _ => ("java/lang/NullPointerException", "extendedMessage", "Ljava/lang/String;", false)
def tyJ15 : Nat → FieldType := fun k => match k with
  | 0 => .object "java/lang/Throwable"
  | 1 => .array (.object "java/lang/StackTraceElement")
  | 2 => .object "java/util/List"
  | 3 => .object "java/lang/String"
  | 4 => .object "java/lang/Object"
  | 5 => .int
  | 6 => .int
  | _ => .object "java/lang/String"
abbrev wsJ150 : List Cond := u_ws RJ15 TJ15 8
theorem nmJ15 : ∀ a, a < 8 → ∀ b, b < 8 → a ≠ b → (TJ15 a).2.1 ≠ (TJ15 b).2.1 := by decide +kernel
theorem tyJ15_ok : ∀ k, k < 8 → parseFieldDescriptor (TJ15 k).2.2.1 = some (tyJ15 k) := by decide +kernel
abbrev cJ15_init : ByteArray := prog_27_method_1_code
def yJ15_init : MethodName := ⟨RJ15, "<init>", "()V"⟩
theorem dJ15_init_0 : decode cJ15_init 0 = .ok (.aload_n 0, 1) := by decide +kernel
theorem dJ15_init_1 : decode cJ15_init 1 = .ok (.invokespecial 1, 3) := by decide +kernel
theorem dJ15_init_4 : decode cJ15_init 4 = .ok (.return_, 1) := by decide +kernel
theorem q130 : (Jvm.Cond.initialized "java/lang/NullPointerException") ∈ lw_all := lw_g (lw_at lw_m1 27 rfl) rfl
theorem q303 : (Jvm.Cond.selects "java/lang/NullPointerException" ({ cls := "java/lang/Throwable", name := "fillInStackTrace", desc := "()Ljava/lang/Throwable;" } : Jvm.MethodName) ({ cls := "java/lang/NullPointerException", name := "fillInStackTrace", desc := "()Ljava/lang/Throwable;" } : Jvm.MethodName)) ∈ lw_all := lw_g (lw_at lw_m1 200 rfl) rfl
theorem q304 : (Jvm.Cond.instanceMethod ({ cls := "java/lang/NullPointerException", name := "fillInStackTrace", desc := "()Ljava/lang/Throwable;" } : Jvm.MethodName)) ∈ lw_all := lw_g (lw_at lw_m1 201 rfl) rfl
theorem q305 : (Jvm.Cond.codeSync ({ cls := "java/lang/NullPointerException", name := "fillInStackTrace", desc := "()Ljava/lang/Throwable;" } : Jvm.MethodName) prog_27_method_3_code (1 : Nat) (Option.some (Jvm.ClassFile.FieldType.object "java/lang/Throwable"))) ∈ lw_all := lw_g (lw_at lw_m1 202 rfl) rfl
theorem q306 : (Jvm.Cond.methodLink "java/lang/NullPointerException" (16 : Nat) ({ cls := "java/lang/NullPointerException", name := "getExtendedNPEMessage", desc := "()Ljava/lang/String;" } : Jvm.MethodName)) ∈ lw_all := lw_g (lw_at lw_m1 203 rfl) rfl
theorem q307 : (Jvm.Cond.privateMethod ({ cls := "java/lang/NullPointerException", name := "getExtendedNPEMessage", desc := "()Ljava/lang/String;" } : Jvm.MethodName)) ∈ lw_tbl := lw_at lw_m1 204 rfl
theorem q308 : (Jvm.Cond.instanceMethod ({ cls := "java/lang/NullPointerException", name := "getExtendedNPEMessage", desc := "()Ljava/lang/String;" } : Jvm.MethodName)) ∈ lw_all := lw_g (lw_at lw_m1 205 rfl) rfl
theorem q309 : (Jvm.Cond.instantiable "java/lang/NullPointerException" (8 : Nat)) ∈ lw_all := lw_g (lw_at lw_m1 206 rfl) rfl
theorem q310 : (Jvm.Cond.native ({ cls := "java/lang/NullPointerException", name := "getExtendedNPEMessage", desc := "()Ljava/lang/String;" } : Jvm.MethodName)) ∈ lw_all := lw_g (lw_at lw_m1 207 rfl) rfl
theorem q311 : (Jvm.Cond.methodLink "java/lang/NullPointerException" (24 : Nat) ({ cls := "java/lang/RuntimeException", name := "fillInStackTrace", desc := "()Ljava/lang/Throwable;" } : Jvm.MethodName)) ∈ lw_all := lw_g (lw_at lw_m1 208 rfl) rfl
theorem q314 : (Jvm.Cond.superclass "java/lang/NullPointerException" "java/lang/RuntimeException") ∈ lw_all := lw_g (lw_at lw_m1 211 rfl) rfl
theorem q751 : (Jvm.Cond.castable "java/lang/NullPointerException" "java/lang/NullPointerException") ∈ lw_tbl := lw_at lw_m3 168 rfl
theorem q752 : (Jvm.Cond.selects "java/lang/NullPointerException" ({ cls := "java/lang/Throwable", name := "fillInStackTrace", desc := "(I)Ljava/lang/Throwable;" } : Jvm.MethodName) ({ cls := "java/lang/Throwable", name := "fillInStackTrace", desc := "(I)Ljava/lang/Throwable;" } : Jvm.MethodName)) ∈ lw_all := lw_g (lw_at lw_m3 169 rfl) rfl
theorem q753 : (Jvm.Cond.lays "java/lang/NullPointerException" "java/lang/Throwable" "cause" "Ljava/lang/Throwable;") ∈ lw_all := lw_g (lw_at lw_m3 170 rfl) rfl
theorem q754 : (Jvm.Cond.lays "java/lang/NullPointerException" "java/lang/Throwable" "stackTrace" "[Ljava/lang/StackTraceElement;") ∈ lw_all := lw_g (lw_at lw_m3 171 rfl) rfl
theorem q755 : (Jvm.Cond.lays "java/lang/NullPointerException" "java/lang/Throwable" "suppressedExceptions" "Ljava/util/List;") ∈ lw_all := lw_g (lw_at lw_m3 172 rfl) rfl
theorem q756 : (Jvm.Cond.lays "java/lang/NullPointerException" "java/lang/Throwable" "detailMessage" "Ljava/lang/String;") ∈ lw_all := lw_g (lw_at lw_m3 173 rfl) rfl
theorem q757 : (Jvm.Cond.lays "java/lang/NullPointerException" "java/lang/Throwable" "backtrace" "Ljava/lang/Object;") ∈ lw_all := lw_g (lw_at lw_m3 174 rfl) rfl
theorem q759 : (Jvm.Cond.instanceMethod ({ cls := "java/lang/NullPointerException", name := "<init>", desc := "()V" } : Jvm.MethodName)) ∈ lw_all := lw_g (lw_at lw_m3 176 rfl) rfl
theorem q760 : (Jvm.Cond.code ({ cls := "java/lang/NullPointerException", name := "<init>", desc := "()V" } : Jvm.MethodName) prog_27_method_1_code (1 : Nat) (Option.none : Option Jvm.ClassFile.FieldType)) ∈ lw_all := lw_g (lw_at lw_m3 177 rfl) rfl
theorem q761 : (Jvm.Cond.methodLink "java/lang/NullPointerException" (1 : Nat) ({ cls := "java/lang/RuntimeException", name := "<init>", desc := "()V" } : Jvm.MethodName)) ∈ lw_all := lw_g (lw_at lw_m3 178 rfl) rfl
theorem q768 : (Jvm.Cond.fieldLink "java/lang/NullPointerException" (10 : Nat) "java/lang/NullPointerException" "extendedMessageState" "I") ∈ lw_all := lw_g (lw_at lw_m3 185 rfl) rfl
theorem q769 : (Jvm.Cond.fieldLink "java/lang/NullPointerException" (20 : Nat) "java/lang/NullPointerException" "extendedMessage" "Ljava/lang/String;") ∈ lw_all := lw_g (lw_at lw_m3 186 rfl) rfl
theorem q770 : (Jvm.Cond.lays "java/lang/NullPointerException" "java/lang/NullPointerException" "extendedMessageState" "I") ∈ lw_all := lw_g (lw_at lw_m3 187 rfl) rfl
theorem q771 : (Jvm.Cond.soleField "java/lang/NullPointerException" "extendedMessageState") ∈ lw_all := lw_g (lw_at lw_m3 188 rfl) rfl
theorem q772 : (Jvm.Cond.lays "java/lang/NullPointerException" "java/lang/NullPointerException" "extendedMessage" "Ljava/lang/String;") ∈ lw_all := lw_g (lw_at lw_m3 189 rfl) rfl
theorem q773 : (Jvm.Cond.soleField "java/lang/NullPointerException" "extendedMessage") ∈ lw_all := lw_g (lw_at lw_m3 190 rfl) rfl
theorem q774 : (Jvm.Cond.lays "java/lang/NullPointerException" "java/lang/Throwable" "depth" "I") ∈ lw_all := lw_g (lw_at lw_m3 191 rfl) rfl
theorem q808 : (Jvm.Cond.selects "java/lang/NullPointerException" ({ cls := "java/lang/Object", name := "getClass", desc := "()Ljava/lang/Class;" } : Jvm.MethodName) ({ cls := "java/lang/Object", name := "getClass", desc := "()Ljava/lang/Class;" } : Jvm.MethodName)) ∈ lw_all := lw_g (lw_at lw_m3 225 rfl) rfl
theorem q1529 : (Jvm.Cond.selects "java/lang/NullPointerException" ({ cls := "java/lang/Object", name := "equals", desc := "(Ljava/lang/Object;)Z" } : Jvm.MethodName) ({ cls := "java/lang/Object", name := "equals", desc := "(Ljava/lang/Object;)Z" } : Jvm.MethodName)) ∈ lw_all := lw_g (lw_at lw_m6 226 rfl) rfl
theorem q2309 : (Jvm.Cond.castable "java/lang/NullPointerException" "java/lang/Object") ∈ lw_tbl := lw_at lw_m10 46 rfl
theorem in_J15 : ∀ w ∈ wsJ150, w ∈ lw_all := lw_in wsJ150 [753, 754, 755, 756, 757, 774, 770, 772] (by decide +kernel) (by decide +kernel)

/-! jdk/internal/util/ArraysSupport -/
set_option maxRecDepth 100000
def RJ16 : String := "jdk/internal/util/ArraysSupport"
abbrev cJ16_newLength : ByteArray := prog_74_method_27_code
def yJ16_newLength : MethodName := ⟨RJ16, "newLength", "(III)I"⟩
def dkwJ16_newLength_1 : List UInt8 := [184, 0, 201, 172]
abbrev dktJ16_newLength_1 : List UInt8 := dkwJ16_newLength_1 ++ []
def dkwJ16_newLength_0 : List UInt8 := [26, 27, 28, 184, 0, 194, 96, 62, 3, 29, 162, 0, 11, 29, 18, 200, 163, 0, 5, 29, 172, 26, 27]
abbrev dktJ16_newLength_0 : List UInt8 := dkwJ16_newLength_0 ++ dktJ16_newLength_1
theorem dksJ16_newLength_0 : cJ16_newLength.data.toList.drop 0 = dktJ16_newLength_0 := by decide +kernel
theorem dksJ16_newLength_1 : cJ16_newLength.data.toList.drop 23 = dktJ16_newLength_1 := dk_seg dksJ16_newLength_0 23 rfl rfl
theorem dJ16_newLength_0 : decode cJ16_newLength 0 = .ok (.iload_n 0, 1) := dk_26 (dk_at dksJ16_newLength_0 0 rfl rfl)
theorem dJ16_newLength_1 : decode cJ16_newLength 1 = .ok (.iload_n 1, 1) := dk_27 (dk_at dksJ16_newLength_0 1 rfl rfl)
theorem dJ16_newLength_2 : decode cJ16_newLength 2 = .ok (.iload_n 2, 1) := dk_28 (dk_at dksJ16_newLength_0 2 rfl rfl)
theorem dJ16_newLength_3 : decode cJ16_newLength 3 = .ok (.invokestatic 194, 3) := dk_184 0 194 (dk_at dksJ16_newLength_0 3 rfl rfl)
theorem dJ16_newLength_6 : decode cJ16_newLength 6 = .ok (.iadd, 1) := dk_96 (dk_at dksJ16_newLength_0 6 rfl rfl)
theorem dJ16_newLength_7 : decode cJ16_newLength 7 = .ok (.istore_n 3, 1) := dk_62 (dk_at dksJ16_newLength_0 7 rfl rfl)
theorem dJ16_newLength_8 : decode cJ16_newLength 8 = .ok (.iconst 0, 1) := dk_3 (dk_at dksJ16_newLength_0 8 rfl rfl)
theorem dJ16_newLength_9 : decode cJ16_newLength 9 = .ok (.iload_n 3, 1) := dk_29 (dk_at dksJ16_newLength_0 9 rfl rfl)
theorem dJ16_newLength_10 : decode cJ16_newLength 10 = .ok (.if_icmp .ge 11, 3) := dk_162 0 11 (dk_at dksJ16_newLength_0 10 rfl rfl)
theorem dJ16_newLength_13 : decode cJ16_newLength 13 = .ok (.iload_n 3, 1) := dk_29 (dk_at dksJ16_newLength_0 13 rfl rfl)
theorem dJ16_newLength_14 : decode cJ16_newLength 14 = .ok (.ldc 200, 2) := dk_18 200 (dk_at dksJ16_newLength_0 14 rfl rfl)
theorem dJ16_newLength_16 : decode cJ16_newLength 16 = .ok (.if_icmp .gt 5, 3) := dk_163 0 5 (dk_at dksJ16_newLength_0 16 rfl rfl)
theorem dJ16_newLength_19 : decode cJ16_newLength 19 = .ok (.iload_n 3, 1) := dk_29 (dk_at dksJ16_newLength_0 19 rfl rfl)
theorem dJ16_newLength_20 : decode cJ16_newLength 20 = .ok (.ireturn, 1) := dk_172 (dk_at dksJ16_newLength_0 20 rfl rfl)
theorem dJ16_newLength_21 : decode cJ16_newLength 21 = .ok (.iload_n 0, 1) := dk_26 (dk_at dksJ16_newLength_0 21 rfl rfl)
theorem dJ16_newLength_22 : decode cJ16_newLength 22 = .ok (.iload_n 1, 1) := dk_27 (dk_at dksJ16_newLength_0 22 rfl rfl)
theorem dJ16_newLength_23 : decode cJ16_newLength 23 = .ok (.invokestatic 201, 3) := dk_184 0 201 (dk_at dksJ16_newLength_1 0 rfl rfl)
theorem dJ16_newLength_26 : decode cJ16_newLength 26 = .ok (.ireturn, 1) := dk_172 (dk_at dksJ16_newLength_1 3 rfl rfl)
abbrev cJ16_hugeLength : ByteArray := prog_74_method_28_code
def yJ16_hugeLength : MethodName := ⟨RJ16, "hugeLength", "(II)I"⟩
def dkwJ16_hugeLength_2 : List UInt8 := [191, 28, 18, 200, 163, 0, 6, 18, 200, 172, 28, 172]
abbrev dktJ16_hugeLength_2 : List UInt8 := dkwJ16_hugeLength_2 ++ []
def dkwJ16_hugeLength_1 : List UInt8 := [26, 182, 0, 98, 18, 208, 182, 0, 94, 27, 182, 0, 98, 18, 210, 182, 0, 94, 182, 0, 101, 183, 0, 212]
abbrev dktJ16_hugeLength_1 : List UInt8 := dkwJ16_hugeLength_1 ++ dktJ16_hugeLength_2
def dkwJ16_hugeLength_0 : List UInt8 := [26, 27, 96, 61, 28, 156, 0, 44, 187, 0, 204, 89, 187, 0, 89, 89, 183, 0, 91, 18, 206, 182, 0, 94]
abbrev dktJ16_hugeLength_0 : List UInt8 := dkwJ16_hugeLength_0 ++ dktJ16_hugeLength_1
theorem dksJ16_hugeLength_0 : cJ16_hugeLength.data.toList.drop 0 = dktJ16_hugeLength_0 := by decide +kernel
theorem dksJ16_hugeLength_1 : cJ16_hugeLength.data.toList.drop 24 = dktJ16_hugeLength_1 := dk_seg dksJ16_hugeLength_0 24 rfl rfl
theorem dksJ16_hugeLength_2 : cJ16_hugeLength.data.toList.drop 48 = dktJ16_hugeLength_2 := dk_seg dksJ16_hugeLength_1 24 rfl rfl
theorem dJ16_hugeLength_0 : decode cJ16_hugeLength 0 = .ok (.iload_n 0, 1) := dk_26 (dk_at dksJ16_hugeLength_0 0 rfl rfl)
theorem dJ16_hugeLength_1 : decode cJ16_hugeLength 1 = .ok (.iload_n 1, 1) := dk_27 (dk_at dksJ16_hugeLength_0 1 rfl rfl)
theorem dJ16_hugeLength_2 : decode cJ16_hugeLength 2 = .ok (.iadd, 1) := dk_96 (dk_at dksJ16_hugeLength_0 2 rfl rfl)
theorem dJ16_hugeLength_3 : decode cJ16_hugeLength 3 = .ok (.istore_n 2, 1) := dk_61 (dk_at dksJ16_hugeLength_0 3 rfl rfl)
theorem dJ16_hugeLength_4 : decode cJ16_hugeLength 4 = .ok (.iload_n 2, 1) := dk_28 (dk_at dksJ16_hugeLength_0 4 rfl rfl)
theorem dJ16_hugeLength_5 : decode cJ16_hugeLength 5 = .ok (.ifCond .ge 44, 3) := dk_156 0 44 (dk_at dksJ16_hugeLength_0 5 rfl rfl)
theorem dJ16_hugeLength_8 : decode cJ16_hugeLength 8 = .ok (.new 204, 3) := dk_187 0 204 (dk_at dksJ16_hugeLength_0 8 rfl rfl)
theorem dJ16_hugeLength_11 : decode cJ16_hugeLength 11 = .ok (.dup, 1) := dk_89 (dk_at dksJ16_hugeLength_0 11 rfl rfl)
theorem dJ16_hugeLength_12 : decode cJ16_hugeLength 12 = .ok (.new 89, 3) := dk_187 0 89 (dk_at dksJ16_hugeLength_0 12 rfl rfl)
theorem dJ16_hugeLength_15 : decode cJ16_hugeLength 15 = .ok (.dup, 1) := dk_89 (dk_at dksJ16_hugeLength_0 15 rfl rfl)
theorem dJ16_hugeLength_16 : decode cJ16_hugeLength 16 = .ok (.invokespecial 91, 3) := dk_183 0 91 (dk_at dksJ16_hugeLength_0 16 rfl rfl)
theorem dJ16_hugeLength_19 : decode cJ16_hugeLength 19 = .ok (.ldc 206, 2) := dk_18 206 (dk_at dksJ16_hugeLength_0 19 rfl rfl)
theorem dJ16_hugeLength_21 : decode cJ16_hugeLength 21 = .ok (.invokevirtual 94, 3) := dk_182 0 94 (dk_at dksJ16_hugeLength_0 21 rfl rfl)
theorem dJ16_hugeLength_24 : decode cJ16_hugeLength 24 = .ok (.iload_n 0, 1) := dk_26 (dk_at dksJ16_hugeLength_1 0 rfl rfl)
theorem dJ16_hugeLength_25 : decode cJ16_hugeLength 25 = .ok (.invokevirtual 98, 3) := dk_182 0 98 (dk_at dksJ16_hugeLength_1 1 rfl rfl)
theorem dJ16_hugeLength_28 : decode cJ16_hugeLength 28 = .ok (.ldc 208, 2) := dk_18 208 (dk_at dksJ16_hugeLength_1 4 rfl rfl)
theorem dJ16_hugeLength_30 : decode cJ16_hugeLength 30 = .ok (.invokevirtual 94, 3) := dk_182 0 94 (dk_at dksJ16_hugeLength_1 6 rfl rfl)
theorem dJ16_hugeLength_33 : decode cJ16_hugeLength 33 = .ok (.iload_n 1, 1) := dk_27 (dk_at dksJ16_hugeLength_1 9 rfl rfl)
theorem dJ16_hugeLength_34 : decode cJ16_hugeLength 34 = .ok (.invokevirtual 98, 3) := dk_182 0 98 (dk_at dksJ16_hugeLength_1 10 rfl rfl)
theorem dJ16_hugeLength_37 : decode cJ16_hugeLength 37 = .ok (.ldc 210, 2) := dk_18 210 (dk_at dksJ16_hugeLength_1 13 rfl rfl)
theorem dJ16_hugeLength_39 : decode cJ16_hugeLength 39 = .ok (.invokevirtual 94, 3) := dk_182 0 94 (dk_at dksJ16_hugeLength_1 15 rfl rfl)
theorem dJ16_hugeLength_42 : decode cJ16_hugeLength 42 = .ok (.invokevirtual 101, 3) := dk_182 0 101 (dk_at dksJ16_hugeLength_1 18 rfl rfl)
theorem dJ16_hugeLength_45 : decode cJ16_hugeLength 45 = .ok (.invokespecial 212, 3) := dk_183 0 212 (dk_at dksJ16_hugeLength_1 21 rfl rfl)
theorem dJ16_hugeLength_48 : decode cJ16_hugeLength 48 = .ok (.athrow, 1) := dk_191 (dk_at dksJ16_hugeLength_2 0 rfl rfl)
theorem dJ16_hugeLength_49 : decode cJ16_hugeLength 49 = .ok (.iload_n 2, 1) := dk_28 (dk_at dksJ16_hugeLength_2 1 rfl rfl)
theorem dJ16_hugeLength_50 : decode cJ16_hugeLength 50 = .ok (.ldc 200, 2) := dk_18 200 (dk_at dksJ16_hugeLength_2 2 rfl rfl)
theorem dJ16_hugeLength_52 : decode cJ16_hugeLength 52 = .ok (.if_icmp .gt 6, 3) := dk_163 0 6 (dk_at dksJ16_hugeLength_2 4 rfl rfl)
theorem dJ16_hugeLength_55 : decode cJ16_hugeLength 55 = .ok (.ldc 200, 2) := dk_18 200 (dk_at dksJ16_hugeLength_2 7 rfl rfl)
theorem dJ16_hugeLength_57 : decode cJ16_hugeLength 57 = .ok (.ireturn, 1) := dk_172 (dk_at dksJ16_hugeLength_2 9 rfl rfl)
theorem dJ16_hugeLength_58 : decode cJ16_hugeLength 58 = .ok (.iload_n 2, 1) := dk_28 (dk_at dksJ16_hugeLength_2 10 rfl rfl)
theorem dJ16_hugeLength_59 : decode cJ16_hugeLength 59 = .ok (.ireturn, 1) := dk_172 (dk_at dksJ16_hugeLength_2 11 rfl rfl)
abbrev cJ16_mismatch : ByteArray := prog_74_method_13_code
def yJ16_mismatch : MethodName := ⟨RJ16, "mismatch", "([B[BI)I"⟩
def dkwJ16_mismatch_3 : List UInt8 := [172]
abbrev dktJ16_mismatch_3 : List UInt8 := dkwJ16_mismatch_3 ++ []
def dkwJ16_mismatch_2 : List UInt8 := [62, 29, 28, 162, 0, 20, 42, 29, 51, 43, 29, 51, 159, 0, 5, 29, 172, 132, 3, 1, 167, 255, 237, 2]
abbrev dktJ16_mismatch_2 : List UInt8 := dkwJ16_mismatch_2 ++ dktJ16_mismatch_3
def dkwJ16_mismatch_1 : List UInt8 := [43, 178, 0, 126, 133, 28, 178, 0, 129, 184, 0, 122, 62, 29, 155, 0, 5, 29, 172, 28, 29, 2, 130, 100]
abbrev dktJ16_mismatch_1 : List UInt8 := dkwJ16_mismatch_1 ++ dktJ16_mismatch_2
def dkwJ16_mismatch_0 : List UInt8 := [3, 62, 28, 16, 7, 164, 0, 44, 42, 3, 51, 43, 3, 51, 159, 0, 5, 3, 172, 42, 178, 0, 126, 133]
abbrev dktJ16_mismatch_0 : List UInt8 := dkwJ16_mismatch_0 ++ dktJ16_mismatch_1
theorem dksJ16_mismatch_0 : cJ16_mismatch.data.toList.drop 0 = dktJ16_mismatch_0 := by decide +kernel
theorem dksJ16_mismatch_1 : cJ16_mismatch.data.toList.drop 24 = dktJ16_mismatch_1 := dk_seg dksJ16_mismatch_0 24 rfl rfl
theorem dksJ16_mismatch_2 : cJ16_mismatch.data.toList.drop 48 = dktJ16_mismatch_2 := dk_seg dksJ16_mismatch_1 24 rfl rfl
theorem dksJ16_mismatch_3 : cJ16_mismatch.data.toList.drop 72 = dktJ16_mismatch_3 := dk_seg dksJ16_mismatch_2 24 rfl rfl
theorem dJ16_mismatch_0 : decode cJ16_mismatch 0 = .ok (.iconst 0, 1) := dk_3 (dk_at dksJ16_mismatch_0 0 rfl rfl)
theorem dJ16_mismatch_1 : decode cJ16_mismatch 1 = .ok (.istore_n 3, 1) := dk_62 (dk_at dksJ16_mismatch_0 1 rfl rfl)
theorem dJ16_mismatch_2 : decode cJ16_mismatch 2 = .ok (.iload_n 2, 1) := dk_28 (dk_at dksJ16_mismatch_0 2 rfl rfl)
theorem dJ16_mismatch_3 : decode cJ16_mismatch 3 = .ok (.bipush 7, 2) := dk_16 7 (dk_at dksJ16_mismatch_0 3 rfl rfl)
theorem dJ16_mismatch_5 : decode cJ16_mismatch 5 = .ok (.if_icmp .le 44, 3) := dk_164 0 44 (dk_at dksJ16_mismatch_0 5 rfl rfl)
theorem dJ16_mismatch_8 : decode cJ16_mismatch 8 = .ok (.aload_n 0, 1) := dk_42 (dk_at dksJ16_mismatch_0 8 rfl rfl)
theorem dJ16_mismatch_9 : decode cJ16_mismatch 9 = .ok (.iconst 0, 1) := dk_3 (dk_at dksJ16_mismatch_0 9 rfl rfl)
theorem dJ16_mismatch_10 : decode cJ16_mismatch 10 = .ok (.baload, 1) := dk_51 (dk_at dksJ16_mismatch_0 10 rfl rfl)
theorem dJ16_mismatch_11 : decode cJ16_mismatch 11 = .ok (.aload_n 1, 1) := dk_43 (dk_at dksJ16_mismatch_0 11 rfl rfl)
theorem dJ16_mismatch_12 : decode cJ16_mismatch 12 = .ok (.iconst 0, 1) := dk_3 (dk_at dksJ16_mismatch_0 12 rfl rfl)
theorem dJ16_mismatch_13 : decode cJ16_mismatch 13 = .ok (.baload, 1) := dk_51 (dk_at dksJ16_mismatch_0 13 rfl rfl)
theorem dJ16_mismatch_14 : decode cJ16_mismatch 14 = .ok (.if_icmp .eq 5, 3) := dk_159 0 5 (dk_at dksJ16_mismatch_0 14 rfl rfl)
theorem dJ16_mismatch_17 : decode cJ16_mismatch 17 = .ok (.iconst 0, 1) := dk_3 (dk_at dksJ16_mismatch_0 17 rfl rfl)
theorem dJ16_mismatch_18 : decode cJ16_mismatch 18 = .ok (.ireturn, 1) := dk_172 (dk_at dksJ16_mismatch_0 18 rfl rfl)
theorem dJ16_mismatch_19 : decode cJ16_mismatch 19 = .ok (.aload_n 0, 1) := dk_42 (dk_at dksJ16_mismatch_0 19 rfl rfl)
theorem dJ16_mismatch_20 : decode cJ16_mismatch 20 = .ok (.getstatic 126, 3) := dk_178 0 126 (dk_at dksJ16_mismatch_0 20 rfl rfl)
theorem dJ16_mismatch_23 : decode cJ16_mismatch 23 = .ok (.i2l, 1) := dk_133 (dk_at dksJ16_mismatch_0 23 rfl rfl)
theorem dJ16_mismatch_24 : decode cJ16_mismatch 24 = .ok (.aload_n 1, 1) := dk_43 (dk_at dksJ16_mismatch_1 0 rfl rfl)
theorem dJ16_mismatch_25 : decode cJ16_mismatch 25 = .ok (.getstatic 126, 3) := dk_178 0 126 (dk_at dksJ16_mismatch_1 1 rfl rfl)
theorem dJ16_mismatch_28 : decode cJ16_mismatch 28 = .ok (.i2l, 1) := dk_133 (dk_at dksJ16_mismatch_1 4 rfl rfl)
theorem dJ16_mismatch_29 : decode cJ16_mismatch 29 = .ok (.iload_n 2, 1) := dk_28 (dk_at dksJ16_mismatch_1 5 rfl rfl)
theorem dJ16_mismatch_30 : decode cJ16_mismatch 30 = .ok (.getstatic 129, 3) := dk_178 0 129 (dk_at dksJ16_mismatch_1 6 rfl rfl)
theorem dJ16_mismatch_33 : decode cJ16_mismatch 33 = .ok (.invokestatic 122, 3) := dk_184 0 122 (dk_at dksJ16_mismatch_1 9 rfl rfl)
theorem dJ16_mismatch_36 : decode cJ16_mismatch 36 = .ok (.istore_n 3, 1) := dk_62 (dk_at dksJ16_mismatch_1 12 rfl rfl)
theorem dJ16_mismatch_37 : decode cJ16_mismatch 37 = .ok (.iload_n 3, 1) := dk_29 (dk_at dksJ16_mismatch_1 13 rfl rfl)
theorem dJ16_mismatch_38 : decode cJ16_mismatch 38 = .ok (.ifCond .lt 5, 3) := dk_155 0 5 (dk_at dksJ16_mismatch_1 14 rfl rfl)
theorem dJ16_mismatch_41 : decode cJ16_mismatch 41 = .ok (.iload_n 3, 1) := dk_29 (dk_at dksJ16_mismatch_1 17 rfl rfl)
theorem dJ16_mismatch_42 : decode cJ16_mismatch 42 = .ok (.ireturn, 1) := dk_172 (dk_at dksJ16_mismatch_1 18 rfl rfl)
theorem dJ16_mismatch_43 : decode cJ16_mismatch 43 = .ok (.iload_n 2, 1) := dk_28 (dk_at dksJ16_mismatch_1 19 rfl rfl)
theorem dJ16_mismatch_44 : decode cJ16_mismatch 44 = .ok (.iload_n 3, 1) := dk_29 (dk_at dksJ16_mismatch_1 20 rfl rfl)
theorem dJ16_mismatch_45 : decode cJ16_mismatch 45 = .ok (.iconst (-1), 1) := dk_2 (dk_at dksJ16_mismatch_1 21 rfl rfl)
theorem dJ16_mismatch_46 : decode cJ16_mismatch 46 = .ok (.ixor, 1) := dk_130 (dk_at dksJ16_mismatch_1 22 rfl rfl)
theorem dJ16_mismatch_47 : decode cJ16_mismatch 47 = .ok (.isub, 1) := dk_100 (dk_at dksJ16_mismatch_1 23 rfl rfl)
theorem dJ16_mismatch_48 : decode cJ16_mismatch 48 = .ok (.istore_n 3, 1) := dk_62 (dk_at dksJ16_mismatch_2 0 rfl rfl)
theorem dJ16_mismatch_49 : decode cJ16_mismatch 49 = .ok (.iload_n 3, 1) := dk_29 (dk_at dksJ16_mismatch_2 1 rfl rfl)
theorem dJ16_mismatch_50 : decode cJ16_mismatch 50 = .ok (.iload_n 2, 1) := dk_28 (dk_at dksJ16_mismatch_2 2 rfl rfl)
theorem dJ16_mismatch_51 : decode cJ16_mismatch 51 = .ok (.if_icmp .ge 20, 3) := dk_162 0 20 (dk_at dksJ16_mismatch_2 3 rfl rfl)
theorem dJ16_mismatch_54 : decode cJ16_mismatch 54 = .ok (.aload_n 0, 1) := dk_42 (dk_at dksJ16_mismatch_2 6 rfl rfl)
theorem dJ16_mismatch_55 : decode cJ16_mismatch 55 = .ok (.iload_n 3, 1) := dk_29 (dk_at dksJ16_mismatch_2 7 rfl rfl)
theorem dJ16_mismatch_56 : decode cJ16_mismatch 56 = .ok (.baload, 1) := dk_51 (dk_at dksJ16_mismatch_2 8 rfl rfl)
theorem dJ16_mismatch_57 : decode cJ16_mismatch 57 = .ok (.aload_n 1, 1) := dk_43 (dk_at dksJ16_mismatch_2 9 rfl rfl)
theorem dJ16_mismatch_58 : decode cJ16_mismatch 58 = .ok (.iload_n 3, 1) := dk_29 (dk_at dksJ16_mismatch_2 10 rfl rfl)
theorem dJ16_mismatch_59 : decode cJ16_mismatch 59 = .ok (.baload, 1) := dk_51 (dk_at dksJ16_mismatch_2 11 rfl rfl)
theorem dJ16_mismatch_60 : decode cJ16_mismatch 60 = .ok (.if_icmp .eq 5, 3) := dk_159 0 5 (dk_at dksJ16_mismatch_2 12 rfl rfl)
theorem dJ16_mismatch_63 : decode cJ16_mismatch 63 = .ok (.iload_n 3, 1) := dk_29 (dk_at dksJ16_mismatch_2 15 rfl rfl)
theorem dJ16_mismatch_64 : decode cJ16_mismatch 64 = .ok (.ireturn, 1) := dk_172 (dk_at dksJ16_mismatch_2 16 rfl rfl)
theorem dJ16_mismatch_65 : decode cJ16_mismatch 65 = .ok (.iinc 3 1, 3) := dk_132 3 1 (dk_at dksJ16_mismatch_2 17 rfl rfl)
theorem dJ16_mismatch_68 : decode cJ16_mismatch 68 = .ok (.goto (-19), 3) := dk_167 255 237 (dk_at dksJ16_mismatch_2 20 rfl rfl)
theorem dJ16_mismatch_71 : decode cJ16_mismatch 71 = .ok (.iconst (-1), 1) := dk_2 (dk_at dksJ16_mismatch_2 23 rfl rfl)
theorem dJ16_mismatch_72 : decode cJ16_mismatch 72 = .ok (.ireturn, 1) := dk_172 (dk_at dksJ16_mismatch_3 0 rfl rfl)
abbrev cJ16_vectorizedMismatch : ByteArray := prog_74_method_3_code
def yJ16_vectorizedMismatch : MethodName := ⟨RJ16, "vectorizedMismatch", "(Ljava/lang/Object;JLjava/lang/Object;JII)I"⟩
def dkwJ16_vectorizedMismatch_11 : List UInt8 := [54, 10, 21, 10, 2, 130, 172, 21, 10, 2, 130, 172]
abbrev dktJ16_vectorizedMismatch_11 : List UInt8 := dkwJ16_vectorizedMismatch_11 ++ []
def dkwJ16_vectorizedMismatch_10 : List UInt8 := [178, 0, 46, 21, 7, 96, 122, 54, 17, 21, 9, 21, 8, 120, 21, 17, 96, 172, 21, 10, 21, 11, 100]
abbrev dktJ16_vectorizedMismatch_10 : List UInt8 := dkwJ16_vectorizedMismatch_10 ++ dktJ16_vectorizedMismatch_11
def dkwJ16_vectorizedMismatch_9 : List UInt8 := [153, 0, 18, 21, 16, 184, 0, 58, 178, 0, 46, 21, 7, 96, 122, 167, 0, 15, 21, 16, 184, 0, 11]
abbrev dktJ16_vectorizedMismatch_9 : List UInt8 := dkwJ16_vectorizedMismatch_9 ++ dktJ16_vectorizedMismatch_10
def dkwJ16_vectorizedMismatch_8 : List UInt8 := [182, 0, 54, 54, 15, 21, 14, 21, 15, 159, 0, 54, 21, 14, 21, 15, 130, 54, 16, 178, 0, 36]
abbrev dktJ16_vectorizedMismatch_8 : List UInt8 := dkwJ16_vectorizedMismatch_8 ++ dktJ16_vectorizedMismatch_9
def dkwJ16_vectorizedMismatch_7 : List UInt8 := [55, 12, 178, 0, 26, 42, 31, 22, 12, 97, 182, 0, 54, 54, 14, 178, 0, 26, 45, 22, 4, 22, 12, 97]
abbrev dktJ16_vectorizedMismatch_7 : List UInt8 := dkwJ16_vectorizedMismatch_7 ++ dktJ16_vectorizedMismatch_8
def dkwJ16_vectorizedMismatch_6 : List UInt8 := [4, 178, 0, 51, 21, 7, 100, 120, 54, 11, 21, 10, 21, 11, 161, 0, 104, 21, 9, 133, 178, 0, 20, 121]
abbrev dktJ16_vectorizedMismatch_6 : List UInt8 := dkwJ16_vectorizedMismatch_6 ++ dktJ16_vectorizedMismatch_7
def dkwJ16_vectorizedMismatch_5 : List UInt8 := [132, 9, 1, 167, 255, 148, 21, 6, 21, 9, 21, 8, 120, 100, 54, 10, 21, 7, 178, 0, 51, 162, 0, 126]
abbrev dktJ16_vectorizedMismatch_5 : List UInt8 := dkwJ16_vectorizedMismatch_5 ++ dktJ16_vectorizedMismatch_6
def dkwJ16_vectorizedMismatch_4 : List UInt8 := [22, 16, 184, 0, 49, 178, 0, 46, 21, 7, 96, 122, 54, 18, 21, 9, 21, 8, 120, 21, 18, 96, 172]
abbrev dktJ16_vectorizedMismatch_4 : List UInt8 := dkwJ16_vectorizedMismatch_4 ++ dktJ16_vectorizedMismatch_5
def dkwJ16_vectorizedMismatch_3 : List UInt8 := [55, 16, 178, 0, 36, 153, 0, 18, 22, 16, 184, 0, 40, 178, 0, 46, 21, 7, 96, 122, 167, 0, 15]
abbrev dktJ16_vectorizedMismatch_3 : List UInt8 := dkwJ16_vectorizedMismatch_3 ++ dktJ16_vectorizedMismatch_4
def dkwJ16_vectorizedMismatch_2 : List UInt8 := [22, 4, 22, 10, 97, 182, 0, 30, 55, 14, 22, 12, 22, 14, 148, 153, 0, 54, 22, 12, 22, 14, 131]
abbrev dktJ16_vectorizedMismatch_2 : List UInt8 := dkwJ16_vectorizedMismatch_2 ++ dktJ16_vectorizedMismatch_3
def dkwJ16_vectorizedMismatch_1 : List UInt8 := [178, 0, 20, 121, 55, 10, 178, 0, 26, 42, 31, 22, 10, 97, 182, 0, 30, 55, 12, 178, 0, 26, 45]
abbrev dktJ16_vectorizedMismatch_1 : List UInt8 := dkwJ16_vectorizedMismatch_1 ++ dktJ16_vectorizedMismatch_2
def dkwJ16_vectorizedMismatch_0 : List UInt8 := [178, 0, 20, 21, 7, 100, 54, 8, 3, 54, 9, 21, 9, 21, 6, 21, 8, 122, 162, 0, 104, 21, 9, 133]
abbrev dktJ16_vectorizedMismatch_0 : List UInt8 := dkwJ16_vectorizedMismatch_0 ++ dktJ16_vectorizedMismatch_1
theorem dksJ16_vectorizedMismatch_0 : cJ16_vectorizedMismatch.data.toList.drop 0 = dktJ16_vectorizedMismatch_0 := by decide +kernel
theorem dksJ16_vectorizedMismatch_1 : cJ16_vectorizedMismatch.data.toList.drop 24 = dktJ16_vectorizedMismatch_1 := dk_seg dksJ16_vectorizedMismatch_0 24 rfl rfl
theorem dksJ16_vectorizedMismatch_2 : cJ16_vectorizedMismatch.data.toList.drop 47 = dktJ16_vectorizedMismatch_2 := dk_seg dksJ16_vectorizedMismatch_1 23 rfl rfl
theorem dksJ16_vectorizedMismatch_3 : cJ16_vectorizedMismatch.data.toList.drop 70 = dktJ16_vectorizedMismatch_3 := dk_seg dksJ16_vectorizedMismatch_2 23 rfl rfl
theorem dksJ16_vectorizedMismatch_4 : cJ16_vectorizedMismatch.data.toList.drop 93 = dktJ16_vectorizedMismatch_4 := dk_seg dksJ16_vectorizedMismatch_3 23 rfl rfl
theorem dksJ16_vectorizedMismatch_5 : cJ16_vectorizedMismatch.data.toList.drop 116 = dktJ16_vectorizedMismatch_5 := dk_seg dksJ16_vectorizedMismatch_4 23 rfl rfl
theorem dksJ16_vectorizedMismatch_6 : cJ16_vectorizedMismatch.data.toList.drop 140 = dktJ16_vectorizedMismatch_6 := dk_seg dksJ16_vectorizedMismatch_5 24 rfl rfl
theorem dksJ16_vectorizedMismatch_7 : cJ16_vectorizedMismatch.data.toList.drop 164 = dktJ16_vectorizedMismatch_7 := dk_seg dksJ16_vectorizedMismatch_6 24 rfl rfl
theorem dksJ16_vectorizedMismatch_8 : cJ16_vectorizedMismatch.data.toList.drop 188 = dktJ16_vectorizedMismatch_8 := dk_seg dksJ16_vectorizedMismatch_7 24 rfl rfl
theorem dksJ16_vectorizedMismatch_9 : cJ16_vectorizedMismatch.data.toList.drop 210 = dktJ16_vectorizedMismatch_9 := dk_seg dksJ16_vectorizedMismatch_8 22 rfl rfl
theorem dksJ16_vectorizedMismatch_10 : cJ16_vectorizedMismatch.data.toList.drop 233 = dktJ16_vectorizedMismatch_10 := dk_seg dksJ16_vectorizedMismatch_9 23 rfl rfl
theorem dksJ16_vectorizedMismatch_11 : cJ16_vectorizedMismatch.data.toList.drop 256 = dktJ16_vectorizedMismatch_11 := dk_seg dksJ16_vectorizedMismatch_10 23 rfl rfl
theorem dJ16_vectorizedMismatch_0 : decode cJ16_vectorizedMismatch 0 = .ok (.getstatic 20, 3) := dk_178 0 20 (dk_at dksJ16_vectorizedMismatch_0 0 rfl rfl)
theorem dJ16_vectorizedMismatch_3 : decode cJ16_vectorizedMismatch 3 = .ok (.iload 7, 2) := dk_21 7 (dk_at dksJ16_vectorizedMismatch_0 3 rfl rfl)
theorem dJ16_vectorizedMismatch_5 : decode cJ16_vectorizedMismatch 5 = .ok (.isub, 1) := dk_100 (dk_at dksJ16_vectorizedMismatch_0 5 rfl rfl)
theorem dJ16_vectorizedMismatch_6 : decode cJ16_vectorizedMismatch 6 = .ok (.istore 8, 2) := dk_54 8 (dk_at dksJ16_vectorizedMismatch_0 6 rfl rfl)
theorem dJ16_vectorizedMismatch_8 : decode cJ16_vectorizedMismatch 8 = .ok (.iconst 0, 1) := dk_3 (dk_at dksJ16_vectorizedMismatch_0 8 rfl rfl)
theorem dJ16_vectorizedMismatch_9 : decode cJ16_vectorizedMismatch 9 = .ok (.istore 9, 2) := dk_54 9 (dk_at dksJ16_vectorizedMismatch_0 9 rfl rfl)
theorem dJ16_vectorizedMismatch_11 : decode cJ16_vectorizedMismatch 11 = .ok (.iload 9, 2) := dk_21 9 (dk_at dksJ16_vectorizedMismatch_0 11 rfl rfl)
theorem dJ16_vectorizedMismatch_13 : decode cJ16_vectorizedMismatch 13 = .ok (.iload 6, 2) := dk_21 6 (dk_at dksJ16_vectorizedMismatch_0 13 rfl rfl)
theorem dJ16_vectorizedMismatch_15 : decode cJ16_vectorizedMismatch 15 = .ok (.iload 8, 2) := dk_21 8 (dk_at dksJ16_vectorizedMismatch_0 15 rfl rfl)
theorem dJ16_vectorizedMismatch_17 : decode cJ16_vectorizedMismatch 17 = .ok (.ishr, 1) := dk_122 (dk_at dksJ16_vectorizedMismatch_0 17 rfl rfl)
theorem dJ16_vectorizedMismatch_18 : decode cJ16_vectorizedMismatch 18 = .ok (.if_icmp .ge 104, 3) := dk_162 0 104 (dk_at dksJ16_vectorizedMismatch_0 18 rfl rfl)
theorem dJ16_vectorizedMismatch_21 : decode cJ16_vectorizedMismatch 21 = .ok (.iload 9, 2) := dk_21 9 (dk_at dksJ16_vectorizedMismatch_0 21 rfl rfl)
theorem dJ16_vectorizedMismatch_23 : decode cJ16_vectorizedMismatch 23 = .ok (.i2l, 1) := dk_133 (dk_at dksJ16_vectorizedMismatch_0 23 rfl rfl)
theorem dJ16_vectorizedMismatch_24 : decode cJ16_vectorizedMismatch 24 = .ok (.getstatic 20, 3) := dk_178 0 20 (dk_at dksJ16_vectorizedMismatch_1 0 rfl rfl)
theorem dJ16_vectorizedMismatch_27 : decode cJ16_vectorizedMismatch 27 = .ok (.lshl, 1) := dk_121 (dk_at dksJ16_vectorizedMismatch_1 3 rfl rfl)
theorem dJ16_vectorizedMismatch_28 : decode cJ16_vectorizedMismatch 28 = .ok (.lstore 10, 2) := dk_55 10 (dk_at dksJ16_vectorizedMismatch_1 4 rfl rfl)
theorem dJ16_vectorizedMismatch_30 : decode cJ16_vectorizedMismatch 30 = .ok (.getstatic 26, 3) := dk_178 0 26 (dk_at dksJ16_vectorizedMismatch_1 6 rfl rfl)
theorem dJ16_vectorizedMismatch_33 : decode cJ16_vectorizedMismatch 33 = .ok (.aload_n 0, 1) := dk_42 (dk_at dksJ16_vectorizedMismatch_1 9 rfl rfl)
theorem dJ16_vectorizedMismatch_34 : decode cJ16_vectorizedMismatch 34 = .ok (.lload_n 1, 1) := dk_31 (dk_at dksJ16_vectorizedMismatch_1 10 rfl rfl)
theorem dJ16_vectorizedMismatch_35 : decode cJ16_vectorizedMismatch 35 = .ok (.lload 10, 2) := dk_22 10 (dk_at dksJ16_vectorizedMismatch_1 11 rfl rfl)
theorem dJ16_vectorizedMismatch_37 : decode cJ16_vectorizedMismatch 37 = .ok (.ladd, 1) := dk_97 (dk_at dksJ16_vectorizedMismatch_1 13 rfl rfl)
theorem dJ16_vectorizedMismatch_38 : decode cJ16_vectorizedMismatch 38 = .ok (.invokevirtual 30, 3) := dk_182 0 30 (dk_at dksJ16_vectorizedMismatch_1 14 rfl rfl)
theorem dJ16_vectorizedMismatch_41 : decode cJ16_vectorizedMismatch 41 = .ok (.lstore 12, 2) := dk_55 12 (dk_at dksJ16_vectorizedMismatch_1 17 rfl rfl)
theorem dJ16_vectorizedMismatch_43 : decode cJ16_vectorizedMismatch 43 = .ok (.getstatic 26, 3) := dk_178 0 26 (dk_at dksJ16_vectorizedMismatch_1 19 rfl rfl)
theorem dJ16_vectorizedMismatch_46 : decode cJ16_vectorizedMismatch 46 = .ok (.aload_n 3, 1) := dk_45 (dk_at dksJ16_vectorizedMismatch_1 22 rfl rfl)
theorem dJ16_vectorizedMismatch_47 : decode cJ16_vectorizedMismatch 47 = .ok (.lload 4, 2) := dk_22 4 (dk_at dksJ16_vectorizedMismatch_2 0 rfl rfl)
theorem dJ16_vectorizedMismatch_49 : decode cJ16_vectorizedMismatch 49 = .ok (.lload 10, 2) := dk_22 10 (dk_at dksJ16_vectorizedMismatch_2 2 rfl rfl)
theorem dJ16_vectorizedMismatch_51 : decode cJ16_vectorizedMismatch 51 = .ok (.ladd, 1) := dk_97 (dk_at dksJ16_vectorizedMismatch_2 4 rfl rfl)
theorem dJ16_vectorizedMismatch_52 : decode cJ16_vectorizedMismatch 52 = .ok (.invokevirtual 30, 3) := dk_182 0 30 (dk_at dksJ16_vectorizedMismatch_2 5 rfl rfl)
theorem dJ16_vectorizedMismatch_55 : decode cJ16_vectorizedMismatch 55 = .ok (.lstore 14, 2) := dk_55 14 (dk_at dksJ16_vectorizedMismatch_2 8 rfl rfl)
theorem dJ16_vectorizedMismatch_57 : decode cJ16_vectorizedMismatch 57 = .ok (.lload 12, 2) := dk_22 12 (dk_at dksJ16_vectorizedMismatch_2 10 rfl rfl)
theorem dJ16_vectorizedMismatch_59 : decode cJ16_vectorizedMismatch 59 = .ok (.lload 14, 2) := dk_22 14 (dk_at dksJ16_vectorizedMismatch_2 12 rfl rfl)
theorem dJ16_vectorizedMismatch_61 : decode cJ16_vectorizedMismatch 61 = .ok (.lcmp, 1) := dk_148 (dk_at dksJ16_vectorizedMismatch_2 14 rfl rfl)
theorem dJ16_vectorizedMismatch_62 : decode cJ16_vectorizedMismatch 62 = .ok (.ifCond .eq 54, 3) := dk_153 0 54 (dk_at dksJ16_vectorizedMismatch_2 15 rfl rfl)
theorem dJ16_vectorizedMismatch_65 : decode cJ16_vectorizedMismatch 65 = .ok (.lload 12, 2) := dk_22 12 (dk_at dksJ16_vectorizedMismatch_2 18 rfl rfl)
theorem dJ16_vectorizedMismatch_67 : decode cJ16_vectorizedMismatch 67 = .ok (.lload 14, 2) := dk_22 14 (dk_at dksJ16_vectorizedMismatch_2 20 rfl rfl)
theorem dJ16_vectorizedMismatch_69 : decode cJ16_vectorizedMismatch 69 = .ok (.lxor, 1) := dk_131 (dk_at dksJ16_vectorizedMismatch_2 22 rfl rfl)
theorem dJ16_vectorizedMismatch_70 : decode cJ16_vectorizedMismatch 70 = .ok (.lstore 16, 2) := dk_55 16 (dk_at dksJ16_vectorizedMismatch_3 0 rfl rfl)
theorem dJ16_vectorizedMismatch_72 : decode cJ16_vectorizedMismatch 72 = .ok (.getstatic 36, 3) := dk_178 0 36 (dk_at dksJ16_vectorizedMismatch_3 2 rfl rfl)
theorem dJ16_vectorizedMismatch_75 : decode cJ16_vectorizedMismatch 75 = .ok (.ifCond .eq 18, 3) := dk_153 0 18 (dk_at dksJ16_vectorizedMismatch_3 5 rfl rfl)
theorem dJ16_vectorizedMismatch_78 : decode cJ16_vectorizedMismatch 78 = .ok (.lload 16, 2) := dk_22 16 (dk_at dksJ16_vectorizedMismatch_3 8 rfl rfl)
theorem dJ16_vectorizedMismatch_80 : decode cJ16_vectorizedMismatch 80 = .ok (.invokestatic 40, 3) := dk_184 0 40 (dk_at dksJ16_vectorizedMismatch_3 10 rfl rfl)
theorem dJ16_vectorizedMismatch_83 : decode cJ16_vectorizedMismatch 83 = .ok (.getstatic 46, 3) := dk_178 0 46 (dk_at dksJ16_vectorizedMismatch_3 13 rfl rfl)
theorem dJ16_vectorizedMismatch_86 : decode cJ16_vectorizedMismatch 86 = .ok (.iload 7, 2) := dk_21 7 (dk_at dksJ16_vectorizedMismatch_3 16 rfl rfl)
theorem dJ16_vectorizedMismatch_88 : decode cJ16_vectorizedMismatch 88 = .ok (.iadd, 1) := dk_96 (dk_at dksJ16_vectorizedMismatch_3 18 rfl rfl)
theorem dJ16_vectorizedMismatch_89 : decode cJ16_vectorizedMismatch 89 = .ok (.ishr, 1) := dk_122 (dk_at dksJ16_vectorizedMismatch_3 19 rfl rfl)
theorem dJ16_vectorizedMismatch_90 : decode cJ16_vectorizedMismatch 90 = .ok (.goto 15, 3) := dk_167 0 15 (dk_at dksJ16_vectorizedMismatch_3 20 rfl rfl)
theorem dJ16_vectorizedMismatch_93 : decode cJ16_vectorizedMismatch 93 = .ok (.lload 16, 2) := dk_22 16 (dk_at dksJ16_vectorizedMismatch_4 0 rfl rfl)
theorem dJ16_vectorizedMismatch_95 : decode cJ16_vectorizedMismatch 95 = .ok (.invokestatic 49, 3) := dk_184 0 49 (dk_at dksJ16_vectorizedMismatch_4 2 rfl rfl)
theorem dJ16_vectorizedMismatch_98 : decode cJ16_vectorizedMismatch 98 = .ok (.getstatic 46, 3) := dk_178 0 46 (dk_at dksJ16_vectorizedMismatch_4 5 rfl rfl)
theorem dJ16_vectorizedMismatch_101 : decode cJ16_vectorizedMismatch 101 = .ok (.iload 7, 2) := dk_21 7 (dk_at dksJ16_vectorizedMismatch_4 8 rfl rfl)
theorem dJ16_vectorizedMismatch_103 : decode cJ16_vectorizedMismatch 103 = .ok (.iadd, 1) := dk_96 (dk_at dksJ16_vectorizedMismatch_4 10 rfl rfl)
theorem dJ16_vectorizedMismatch_104 : decode cJ16_vectorizedMismatch 104 = .ok (.ishr, 1) := dk_122 (dk_at dksJ16_vectorizedMismatch_4 11 rfl rfl)
theorem dJ16_vectorizedMismatch_105 : decode cJ16_vectorizedMismatch 105 = .ok (.istore 18, 2) := dk_54 18 (dk_at dksJ16_vectorizedMismatch_4 12 rfl rfl)
theorem dJ16_vectorizedMismatch_107 : decode cJ16_vectorizedMismatch 107 = .ok (.iload 9, 2) := dk_21 9 (dk_at dksJ16_vectorizedMismatch_4 14 rfl rfl)
theorem dJ16_vectorizedMismatch_109 : decode cJ16_vectorizedMismatch 109 = .ok (.iload 8, 2) := dk_21 8 (dk_at dksJ16_vectorizedMismatch_4 16 rfl rfl)
theorem dJ16_vectorizedMismatch_111 : decode cJ16_vectorizedMismatch 111 = .ok (.ishl, 1) := dk_120 (dk_at dksJ16_vectorizedMismatch_4 18 rfl rfl)
theorem dJ16_vectorizedMismatch_112 : decode cJ16_vectorizedMismatch 112 = .ok (.iload 18, 2) := dk_21 18 (dk_at dksJ16_vectorizedMismatch_4 19 rfl rfl)
theorem dJ16_vectorizedMismatch_114 : decode cJ16_vectorizedMismatch 114 = .ok (.iadd, 1) := dk_96 (dk_at dksJ16_vectorizedMismatch_4 21 rfl rfl)
theorem dJ16_vectorizedMismatch_115 : decode cJ16_vectorizedMismatch 115 = .ok (.ireturn, 1) := dk_172 (dk_at dksJ16_vectorizedMismatch_4 22 rfl rfl)
theorem dJ16_vectorizedMismatch_116 : decode cJ16_vectorizedMismatch 116 = .ok (.iinc 9 1, 3) := dk_132 9 1 (dk_at dksJ16_vectorizedMismatch_5 0 rfl rfl)
theorem dJ16_vectorizedMismatch_119 : decode cJ16_vectorizedMismatch 119 = .ok (.goto (-108), 3) := dk_167 255 148 (dk_at dksJ16_vectorizedMismatch_5 3 rfl rfl)
theorem dJ16_vectorizedMismatch_122 : decode cJ16_vectorizedMismatch 122 = .ok (.iload 6, 2) := dk_21 6 (dk_at dksJ16_vectorizedMismatch_5 6 rfl rfl)
theorem dJ16_vectorizedMismatch_124 : decode cJ16_vectorizedMismatch 124 = .ok (.iload 9, 2) := dk_21 9 (dk_at dksJ16_vectorizedMismatch_5 8 rfl rfl)
theorem dJ16_vectorizedMismatch_126 : decode cJ16_vectorizedMismatch 126 = .ok (.iload 8, 2) := dk_21 8 (dk_at dksJ16_vectorizedMismatch_5 10 rfl rfl)
theorem dJ16_vectorizedMismatch_128 : decode cJ16_vectorizedMismatch 128 = .ok (.ishl, 1) := dk_120 (dk_at dksJ16_vectorizedMismatch_5 12 rfl rfl)
theorem dJ16_vectorizedMismatch_129 : decode cJ16_vectorizedMismatch 129 = .ok (.isub, 1) := dk_100 (dk_at dksJ16_vectorizedMismatch_5 13 rfl rfl)
theorem dJ16_vectorizedMismatch_130 : decode cJ16_vectorizedMismatch 130 = .ok (.istore 10, 2) := dk_54 10 (dk_at dksJ16_vectorizedMismatch_5 14 rfl rfl)
theorem dJ16_vectorizedMismatch_132 : decode cJ16_vectorizedMismatch 132 = .ok (.iload 7, 2) := dk_21 7 (dk_at dksJ16_vectorizedMismatch_5 16 rfl rfl)
theorem dJ16_vectorizedMismatch_134 : decode cJ16_vectorizedMismatch 134 = .ok (.getstatic 51, 3) := dk_178 0 51 (dk_at dksJ16_vectorizedMismatch_5 18 rfl rfl)
theorem dJ16_vectorizedMismatch_137 : decode cJ16_vectorizedMismatch 137 = .ok (.if_icmp .ge 126, 3) := dk_162 0 126 (dk_at dksJ16_vectorizedMismatch_5 21 rfl rfl)
theorem dJ16_vectorizedMismatch_140 : decode cJ16_vectorizedMismatch 140 = .ok (.iconst 1, 1) := dk_4 (dk_at dksJ16_vectorizedMismatch_6 0 rfl rfl)
theorem dJ16_vectorizedMismatch_141 : decode cJ16_vectorizedMismatch 141 = .ok (.getstatic 51, 3) := dk_178 0 51 (dk_at dksJ16_vectorizedMismatch_6 1 rfl rfl)
theorem dJ16_vectorizedMismatch_144 : decode cJ16_vectorizedMismatch 144 = .ok (.iload 7, 2) := dk_21 7 (dk_at dksJ16_vectorizedMismatch_6 4 rfl rfl)
theorem dJ16_vectorizedMismatch_146 : decode cJ16_vectorizedMismatch 146 = .ok (.isub, 1) := dk_100 (dk_at dksJ16_vectorizedMismatch_6 6 rfl rfl)
theorem dJ16_vectorizedMismatch_147 : decode cJ16_vectorizedMismatch 147 = .ok (.ishl, 1) := dk_120 (dk_at dksJ16_vectorizedMismatch_6 7 rfl rfl)
theorem dJ16_vectorizedMismatch_148 : decode cJ16_vectorizedMismatch 148 = .ok (.istore 11, 2) := dk_54 11 (dk_at dksJ16_vectorizedMismatch_6 8 rfl rfl)
theorem dJ16_vectorizedMismatch_150 : decode cJ16_vectorizedMismatch 150 = .ok (.iload 10, 2) := dk_21 10 (dk_at dksJ16_vectorizedMismatch_6 10 rfl rfl)
theorem dJ16_vectorizedMismatch_152 : decode cJ16_vectorizedMismatch 152 = .ok (.iload 11, 2) := dk_21 11 (dk_at dksJ16_vectorizedMismatch_6 12 rfl rfl)
theorem dJ16_vectorizedMismatch_154 : decode cJ16_vectorizedMismatch 154 = .ok (.if_icmp .lt 104, 3) := dk_161 0 104 (dk_at dksJ16_vectorizedMismatch_6 14 rfl rfl)
theorem dJ16_vectorizedMismatch_157 : decode cJ16_vectorizedMismatch 157 = .ok (.iload 9, 2) := dk_21 9 (dk_at dksJ16_vectorizedMismatch_6 17 rfl rfl)
theorem dJ16_vectorizedMismatch_159 : decode cJ16_vectorizedMismatch 159 = .ok (.i2l, 1) := dk_133 (dk_at dksJ16_vectorizedMismatch_6 19 rfl rfl)
theorem dJ16_vectorizedMismatch_160 : decode cJ16_vectorizedMismatch 160 = .ok (.getstatic 20, 3) := dk_178 0 20 (dk_at dksJ16_vectorizedMismatch_6 20 rfl rfl)
theorem dJ16_vectorizedMismatch_163 : decode cJ16_vectorizedMismatch 163 = .ok (.lshl, 1) := dk_121 (dk_at dksJ16_vectorizedMismatch_6 23 rfl rfl)
theorem dJ16_vectorizedMismatch_164 : decode cJ16_vectorizedMismatch 164 = .ok (.lstore 12, 2) := dk_55 12 (dk_at dksJ16_vectorizedMismatch_7 0 rfl rfl)
theorem dJ16_vectorizedMismatch_166 : decode cJ16_vectorizedMismatch 166 = .ok (.getstatic 26, 3) := dk_178 0 26 (dk_at dksJ16_vectorizedMismatch_7 2 rfl rfl)
theorem dJ16_vectorizedMismatch_169 : decode cJ16_vectorizedMismatch 169 = .ok (.aload_n 0, 1) := dk_42 (dk_at dksJ16_vectorizedMismatch_7 5 rfl rfl)
theorem dJ16_vectorizedMismatch_170 : decode cJ16_vectorizedMismatch 170 = .ok (.lload_n 1, 1) := dk_31 (dk_at dksJ16_vectorizedMismatch_7 6 rfl rfl)
theorem dJ16_vectorizedMismatch_171 : decode cJ16_vectorizedMismatch 171 = .ok (.lload 12, 2) := dk_22 12 (dk_at dksJ16_vectorizedMismatch_7 7 rfl rfl)
theorem dJ16_vectorizedMismatch_173 : decode cJ16_vectorizedMismatch 173 = .ok (.ladd, 1) := dk_97 (dk_at dksJ16_vectorizedMismatch_7 9 rfl rfl)
theorem dJ16_vectorizedMismatch_174 : decode cJ16_vectorizedMismatch 174 = .ok (.invokevirtual 54, 3) := dk_182 0 54 (dk_at dksJ16_vectorizedMismatch_7 10 rfl rfl)
theorem dJ16_vectorizedMismatch_177 : decode cJ16_vectorizedMismatch 177 = .ok (.istore 14, 2) := dk_54 14 (dk_at dksJ16_vectorizedMismatch_7 13 rfl rfl)
theorem dJ16_vectorizedMismatch_179 : decode cJ16_vectorizedMismatch 179 = .ok (.getstatic 26, 3) := dk_178 0 26 (dk_at dksJ16_vectorizedMismatch_7 15 rfl rfl)
theorem dJ16_vectorizedMismatch_182 : decode cJ16_vectorizedMismatch 182 = .ok (.aload_n 3, 1) := dk_45 (dk_at dksJ16_vectorizedMismatch_7 18 rfl rfl)
theorem dJ16_vectorizedMismatch_183 : decode cJ16_vectorizedMismatch 183 = .ok (.lload 4, 2) := dk_22 4 (dk_at dksJ16_vectorizedMismatch_7 19 rfl rfl)
theorem dJ16_vectorizedMismatch_185 : decode cJ16_vectorizedMismatch 185 = .ok (.lload 12, 2) := dk_22 12 (dk_at dksJ16_vectorizedMismatch_7 21 rfl rfl)
theorem dJ16_vectorizedMismatch_187 : decode cJ16_vectorizedMismatch 187 = .ok (.ladd, 1) := dk_97 (dk_at dksJ16_vectorizedMismatch_7 23 rfl rfl)
theorem dJ16_vectorizedMismatch_188 : decode cJ16_vectorizedMismatch 188 = .ok (.invokevirtual 54, 3) := dk_182 0 54 (dk_at dksJ16_vectorizedMismatch_8 0 rfl rfl)
theorem dJ16_vectorizedMismatch_191 : decode cJ16_vectorizedMismatch 191 = .ok (.istore 15, 2) := dk_54 15 (dk_at dksJ16_vectorizedMismatch_8 3 rfl rfl)
theorem dJ16_vectorizedMismatch_193 : decode cJ16_vectorizedMismatch 193 = .ok (.iload 14, 2) := dk_21 14 (dk_at dksJ16_vectorizedMismatch_8 5 rfl rfl)
theorem dJ16_vectorizedMismatch_195 : decode cJ16_vectorizedMismatch 195 = .ok (.iload 15, 2) := dk_21 15 (dk_at dksJ16_vectorizedMismatch_8 7 rfl rfl)
theorem dJ16_vectorizedMismatch_197 : decode cJ16_vectorizedMismatch 197 = .ok (.if_icmp .eq 54, 3) := dk_159 0 54 (dk_at dksJ16_vectorizedMismatch_8 9 rfl rfl)
theorem dJ16_vectorizedMismatch_200 : decode cJ16_vectorizedMismatch 200 = .ok (.iload 14, 2) := dk_21 14 (dk_at dksJ16_vectorizedMismatch_8 12 rfl rfl)
theorem dJ16_vectorizedMismatch_202 : decode cJ16_vectorizedMismatch 202 = .ok (.iload 15, 2) := dk_21 15 (dk_at dksJ16_vectorizedMismatch_8 14 rfl rfl)
theorem dJ16_vectorizedMismatch_204 : decode cJ16_vectorizedMismatch 204 = .ok (.ixor, 1) := dk_130 (dk_at dksJ16_vectorizedMismatch_8 16 rfl rfl)
theorem dJ16_vectorizedMismatch_205 : decode cJ16_vectorizedMismatch 205 = .ok (.istore 16, 2) := dk_54 16 (dk_at dksJ16_vectorizedMismatch_8 17 rfl rfl)
theorem dJ16_vectorizedMismatch_207 : decode cJ16_vectorizedMismatch 207 = .ok (.getstatic 36, 3) := dk_178 0 36 (dk_at dksJ16_vectorizedMismatch_8 19 rfl rfl)
theorem dJ16_vectorizedMismatch_210 : decode cJ16_vectorizedMismatch 210 = .ok (.ifCond .eq 18, 3) := dk_153 0 18 (dk_at dksJ16_vectorizedMismatch_9 0 rfl rfl)
theorem dJ16_vectorizedMismatch_213 : decode cJ16_vectorizedMismatch 213 = .ok (.iload 16, 2) := dk_21 16 (dk_at dksJ16_vectorizedMismatch_9 3 rfl rfl)
theorem dJ16_vectorizedMismatch_215 : decode cJ16_vectorizedMismatch 215 = .ok (.invokestatic 58, 3) := dk_184 0 58 (dk_at dksJ16_vectorizedMismatch_9 5 rfl rfl)
theorem dJ16_vectorizedMismatch_218 : decode cJ16_vectorizedMismatch 218 = .ok (.getstatic 46, 3) := dk_178 0 46 (dk_at dksJ16_vectorizedMismatch_9 8 rfl rfl)
theorem dJ16_vectorizedMismatch_221 : decode cJ16_vectorizedMismatch 221 = .ok (.iload 7, 2) := dk_21 7 (dk_at dksJ16_vectorizedMismatch_9 11 rfl rfl)
theorem dJ16_vectorizedMismatch_223 : decode cJ16_vectorizedMismatch 223 = .ok (.iadd, 1) := dk_96 (dk_at dksJ16_vectorizedMismatch_9 13 rfl rfl)
theorem dJ16_vectorizedMismatch_224 : decode cJ16_vectorizedMismatch 224 = .ok (.ishr, 1) := dk_122 (dk_at dksJ16_vectorizedMismatch_9 14 rfl rfl)
theorem dJ16_vectorizedMismatch_225 : decode cJ16_vectorizedMismatch 225 = .ok (.goto 15, 3) := dk_167 0 15 (dk_at dksJ16_vectorizedMismatch_9 15 rfl rfl)
theorem dJ16_vectorizedMismatch_228 : decode cJ16_vectorizedMismatch 228 = .ok (.iload 16, 2) := dk_21 16 (dk_at dksJ16_vectorizedMismatch_9 18 rfl rfl)
theorem dJ16_vectorizedMismatch_230 : decode cJ16_vectorizedMismatch 230 = .ok (.invokestatic 11, 3) := dk_184 0 11 (dk_at dksJ16_vectorizedMismatch_9 20 rfl rfl)
theorem dJ16_vectorizedMismatch_233 : decode cJ16_vectorizedMismatch 233 = .ok (.getstatic 46, 3) := dk_178 0 46 (dk_at dksJ16_vectorizedMismatch_10 0 rfl rfl)
theorem dJ16_vectorizedMismatch_236 : decode cJ16_vectorizedMismatch 236 = .ok (.iload 7, 2) := dk_21 7 (dk_at dksJ16_vectorizedMismatch_10 3 rfl rfl)
theorem dJ16_vectorizedMismatch_238 : decode cJ16_vectorizedMismatch 238 = .ok (.iadd, 1) := dk_96 (dk_at dksJ16_vectorizedMismatch_10 5 rfl rfl)
theorem dJ16_vectorizedMismatch_239 : decode cJ16_vectorizedMismatch 239 = .ok (.ishr, 1) := dk_122 (dk_at dksJ16_vectorizedMismatch_10 6 rfl rfl)
theorem dJ16_vectorizedMismatch_240 : decode cJ16_vectorizedMismatch 240 = .ok (.istore 17, 2) := dk_54 17 (dk_at dksJ16_vectorizedMismatch_10 7 rfl rfl)
theorem dJ16_vectorizedMismatch_242 : decode cJ16_vectorizedMismatch 242 = .ok (.iload 9, 2) := dk_21 9 (dk_at dksJ16_vectorizedMismatch_10 9 rfl rfl)
theorem dJ16_vectorizedMismatch_244 : decode cJ16_vectorizedMismatch 244 = .ok (.iload 8, 2) := dk_21 8 (dk_at dksJ16_vectorizedMismatch_10 11 rfl rfl)
theorem dJ16_vectorizedMismatch_246 : decode cJ16_vectorizedMismatch 246 = .ok (.ishl, 1) := dk_120 (dk_at dksJ16_vectorizedMismatch_10 13 rfl rfl)
theorem dJ16_vectorizedMismatch_247 : decode cJ16_vectorizedMismatch 247 = .ok (.iload 17, 2) := dk_21 17 (dk_at dksJ16_vectorizedMismatch_10 14 rfl rfl)
theorem dJ16_vectorizedMismatch_249 : decode cJ16_vectorizedMismatch 249 = .ok (.iadd, 1) := dk_96 (dk_at dksJ16_vectorizedMismatch_10 16 rfl rfl)
theorem dJ16_vectorizedMismatch_250 : decode cJ16_vectorizedMismatch 250 = .ok (.ireturn, 1) := dk_172 (dk_at dksJ16_vectorizedMismatch_10 17 rfl rfl)
theorem dJ16_vectorizedMismatch_251 : decode cJ16_vectorizedMismatch 251 = .ok (.iload 10, 2) := dk_21 10 (dk_at dksJ16_vectorizedMismatch_10 18 rfl rfl)
theorem dJ16_vectorizedMismatch_253 : decode cJ16_vectorizedMismatch 253 = .ok (.iload 11, 2) := dk_21 11 (dk_at dksJ16_vectorizedMismatch_10 20 rfl rfl)
theorem dJ16_vectorizedMismatch_255 : decode cJ16_vectorizedMismatch 255 = .ok (.isub, 1) := dk_100 (dk_at dksJ16_vectorizedMismatch_10 22 rfl rfl)
theorem dJ16_vectorizedMismatch_256 : decode cJ16_vectorizedMismatch 256 = .ok (.istore 10, 2) := dk_54 10 (dk_at dksJ16_vectorizedMismatch_11 0 rfl rfl)
theorem dJ16_vectorizedMismatch_258 : decode cJ16_vectorizedMismatch 258 = .ok (.iload 10, 2) := dk_21 10 (dk_at dksJ16_vectorizedMismatch_11 2 rfl rfl)
theorem dJ16_vectorizedMismatch_260 : decode cJ16_vectorizedMismatch 260 = .ok (.iconst (-1), 1) := dk_2 (dk_at dksJ16_vectorizedMismatch_11 4 rfl rfl)
theorem dJ16_vectorizedMismatch_261 : decode cJ16_vectorizedMismatch 261 = .ok (.ixor, 1) := dk_130 (dk_at dksJ16_vectorizedMismatch_11 5 rfl rfl)
theorem dJ16_vectorizedMismatch_262 : decode cJ16_vectorizedMismatch 262 = .ok (.ireturn, 1) := dk_172 (dk_at dksJ16_vectorizedMismatch_11 6 rfl rfl)
theorem dJ16_vectorizedMismatch_263 : decode cJ16_vectorizedMismatch 263 = .ok (.iload 10, 2) := dk_21 10 (dk_at dksJ16_vectorizedMismatch_11 7 rfl rfl)
theorem dJ16_vectorizedMismatch_265 : decode cJ16_vectorizedMismatch 265 = .ok (.iconst (-1), 1) := dk_2 (dk_at dksJ16_vectorizedMismatch_11 9 rfl rfl)
theorem dJ16_vectorizedMismatch_266 : decode cJ16_vectorizedMismatch 266 = .ok (.ixor, 1) := dk_130 (dk_at dksJ16_vectorizedMismatch_11 10 rfl rfl)
theorem dJ16_vectorizedMismatch_267 : decode cJ16_vectorizedMismatch 267 = .ok (.ireturn, 1) := dk_172 (dk_at dksJ16_vectorizedMismatch_11 11 rfl rfl)
theorem q131 : (Jvm.Cond.initialized "jdk/internal/util/ArraysSupport") ∈ lw_all := lw_g (lw_at lw_m1 28 rfl) rfl
theorem q781 : (Jvm.Cond.static ({ cls := "jdk/internal/util/ArraysSupport", name := "newLength", desc := "(III)I" } : Jvm.MethodName)) ∈ lw_all := lw_g (lw_at lw_m3 198 rfl) rfl
theorem q782 : (Jvm.Cond.code ({ cls := "jdk/internal/util/ArraysSupport", name := "newLength", desc := "(III)I" } : Jvm.MethodName) prog_74_method_27_code (4 : Nat) (Option.some Jvm.ClassFile.FieldType.int)) ∈ lw_all := lw_g (lw_at lw_m3 199 rfl) rfl
theorem q783 : (Jvm.Cond.methodLink "jdk/internal/util/ArraysSupport" (194 : Nat) ({ cls := "java/lang/Math", name := "max", desc := "(II)I" } : Jvm.MethodName)) ∈ lw_all := lw_g (lw_at lw_m3 200 rfl) rfl
theorem q784 : (Jvm.Cond.constant "jdk/internal/util/ArraysSupport" (200 : Nat) (2147483639 : Int32)) ∈ lw_all := lw_g (lw_at lw_m3 201 rfl) rfl
theorem q785 : (Jvm.Cond.methodLink "jdk/internal/util/ArraysSupport" (201 : Nat) ({ cls := "jdk/internal/util/ArraysSupport", name := "hugeLength", desc := "(II)I" } : Jvm.MethodName)) ∈ lw_all := lw_g (lw_at lw_m3 202 rfl) rfl
theorem q786 : (Jvm.Cond.static ({ cls := "jdk/internal/util/ArraysSupport", name := "hugeLength", desc := "(II)I" } : Jvm.MethodName)) ∈ lw_all := lw_g (lw_at lw_m3 203 rfl) rfl
theorem q787 : (Jvm.Cond.code ({ cls := "jdk/internal/util/ArraysSupport", name := "hugeLength", desc := "(II)I" } : Jvm.MethodName) prog_74_method_28_code (3 : Nat) (Option.some Jvm.ClassFile.FieldType.int)) ∈ lw_all := lw_g (lw_at lw_m3 204 rfl) rfl
theorem q891 : (Jvm.Cond.static ({ cls := "jdk/internal/util/ArraysSupport", name := "mismatch", desc := "([B[BI)I" } : Jvm.MethodName)) ∈ lw_all := lw_g (lw_at lw_m4 68 rfl) rfl
theorem q892 : (Jvm.Cond.code ({ cls := "jdk/internal/util/ArraysSupport", name := "mismatch", desc := "([B[BI)I" } : Jvm.MethodName) prog_74_method_13_code (4 : Nat) (Option.some Jvm.ClassFile.FieldType.int)) ∈ lw_all := lw_g (lw_at lw_m4 69 rfl) rfl
theorem q893 : (Jvm.Cond.fieldLink "jdk/internal/util/ArraysSupport" (126 : Nat) "jdk/internal/misc/Unsafe" "ARRAY_BYTE_BASE_OFFSET" "I") ∈ lw_all := lw_g (lw_at lw_m4 70 rfl) rfl
theorem q895 : (Jvm.Cond.fieldLink "jdk/internal/util/ArraysSupport" (129 : Nat) "jdk/internal/util/ArraysSupport" "LOG2_ARRAY_BYTE_INDEX_SCALE" "I") ∈ lw_all := lw_g (lw_at lw_m4 72 rfl) rfl
theorem q896 : (Jvm.Cond.laysStatic "jdk/internal/util/ArraysSupport" "LOG2_ARRAY_BYTE_INDEX_SCALE" "I") ∈ lw_tbl := lw_at lw_m4 73 rfl
theorem q897 : (Jvm.Cond.methodLink "jdk/internal/util/ArraysSupport" (122 : Nat) ({ cls := "jdk/internal/util/ArraysSupport", name := "vectorizedMismatch", desc := "(Ljava/lang/Object;JLjava/lang/Object;JII)I" } : Jvm.MethodName)) ∈ lw_all := lw_g (lw_at lw_m4 74 rfl) rfl
theorem q898 : (Jvm.Cond.static ({ cls := "jdk/internal/util/ArraysSupport", name := "vectorizedMismatch", desc := "(Ljava/lang/Object;JLjava/lang/Object;JII)I" } : Jvm.MethodName)) ∈ lw_all := lw_g (lw_at lw_m4 75 rfl) rfl
theorem q899 : (Jvm.Cond.code ({ cls := "jdk/internal/util/ArraysSupport", name := "vectorizedMismatch", desc := "(Ljava/lang/Object;JLjava/lang/Object;JII)I" } : Jvm.MethodName) prog_74_method_3_code (19 : Nat) (Option.some Jvm.ClassFile.FieldType.int)) ∈ lw_all := lw_g (lw_at lw_m4 76 rfl) rfl
theorem q900 : (Jvm.Cond.fieldLink "jdk/internal/util/ArraysSupport" (20 : Nat) "jdk/internal/util/ArraysSupport" "LOG2_ARRAY_LONG_INDEX_SCALE" "I") ∈ lw_all := lw_g (lw_at lw_m4 77 rfl) rfl
theorem q901 : (Jvm.Cond.laysStatic "jdk/internal/util/ArraysSupport" "LOG2_ARRAY_LONG_INDEX_SCALE" "I") ∈ lw_tbl := lw_at lw_m4 78 rfl
theorem q902 : (Jvm.Cond.fieldLink "jdk/internal/util/ArraysSupport" (26 : Nat) "jdk/internal/util/ArraysSupport" "U" "Ljdk/internal/misc/Unsafe;") ∈ lw_all := lw_g (lw_at lw_m4 79 rfl) rfl
theorem q903 : (Jvm.Cond.laysStatic "jdk/internal/util/ArraysSupport" "U" "Ljdk/internal/misc/Unsafe;") ∈ lw_tbl := lw_at lw_m4 80 rfl
theorem q904 : (Jvm.Cond.methodLink "jdk/internal/util/ArraysSupport" (30 : Nat) ({ cls := "jdk/internal/misc/Unsafe", name := "getLongUnaligned", desc := "(Ljava/lang/Object;J)J" } : Jvm.MethodName)) ∈ lw_all := lw_g (lw_at lw_m4 81 rfl) rfl
theorem q956 : (Jvm.Cond.fieldLink "jdk/internal/util/ArraysSupport" (36 : Nat) "jdk/internal/util/ArraysSupport" "BIG_ENDIAN" "Z") ∈ lw_all := lw_g (lw_at lw_m4 133 rfl) rfl
theorem q957 : (Jvm.Cond.laysStatic "jdk/internal/util/ArraysSupport" "BIG_ENDIAN" "Z") ∈ lw_tbl := lw_at lw_m4 134 rfl
theorem q958 : (Jvm.Cond.methodLink "jdk/internal/util/ArraysSupport" (40 : Nat) ({ cls := "java/lang/Long", name := "numberOfLeadingZeros", desc := "(J)I" } : Jvm.MethodName)) ∈ lw_all := lw_g (lw_at lw_m4 135 rfl) rfl
theorem q965 : (Jvm.Cond.fieldLink "jdk/internal/util/ArraysSupport" (46 : Nat) "jdk/internal/util/ArraysSupport" "LOG2_BYTE_BIT_SIZE" "I") ∈ lw_all := lw_g (lw_at lw_m4 142 rfl) rfl
theorem q966 : (Jvm.Cond.laysStatic "jdk/internal/util/ArraysSupport" "LOG2_BYTE_BIT_SIZE" "I") ∈ lw_tbl := lw_at lw_m4 143 rfl
theorem q967 : (Jvm.Cond.methodLink "jdk/internal/util/ArraysSupport" (49 : Nat) ({ cls := "java/lang/Long", name := "numberOfTrailingZeros", desc := "(J)I" } : Jvm.MethodName)) ∈ lw_all := lw_g (lw_at lw_m4 144 rfl) rfl
theorem q973 : (Jvm.Cond.fieldLink "jdk/internal/util/ArraysSupport" (51 : Nat) "jdk/internal/util/ArraysSupport" "LOG2_ARRAY_INT_INDEX_SCALE" "I") ∈ lw_all := lw_g (lw_at lw_m4 150 rfl) rfl
theorem q974 : (Jvm.Cond.laysStatic "jdk/internal/util/ArraysSupport" "LOG2_ARRAY_INT_INDEX_SCALE" "I") ∈ lw_tbl := lw_at lw_m4 151 rfl
theorem q975 : (Jvm.Cond.methodLink "jdk/internal/util/ArraysSupport" (54 : Nat) ({ cls := "jdk/internal/misc/Unsafe", name := "getIntUnaligned", desc := "(Ljava/lang/Object;J)I" } : Jvm.MethodName)) ∈ lw_all := lw_g (lw_at lw_m4 152 rfl) rfl
theorem q992 : (Jvm.Cond.methodLink "jdk/internal/util/ArraysSupport" (58 : Nat) ({ cls := "java/lang/Integer", name := "numberOfLeadingZeros", desc := "(I)I" } : Jvm.MethodName)) ∈ lw_all := lw_g (lw_at lw_m4 169 rfl) rfl
theorem q993 : (Jvm.Cond.methodLink "jdk/internal/util/ArraysSupport" (11 : Nat) ({ cls := "java/lang/Integer", name := "numberOfTrailingZeros", desc := "(I)I" } : Jvm.MethodName)) ∈ lw_all := lw_g (lw_at lw_m4 170 rfl) rfl

/-! java/util/Arrays -/
set_option maxRecDepth 100000
def RJ17 : String := "java/util/Arrays"
abbrev cJ17_copyOf : ByteArray := prog_45_method_119_code
def yJ17_copyOf : MethodName := ⟨RJ17, "copyOf", "([Ljava/lang/Object;I)[Ljava/lang/Object;"⟩
def dkwJ17_copyOf_0 : List UInt8 := [42, 27, 42, 182, 0, 86, 184, 1, 44, 176]
abbrev dktJ17_copyOf_0 : List UInt8 := dkwJ17_copyOf_0 ++ []
theorem dksJ17_copyOf_0 : cJ17_copyOf.data.toList.drop 0 = dktJ17_copyOf_0 := by decide +kernel
theorem dJ17_copyOf_0 : decode cJ17_copyOf 0 = .ok (.aload_n 0, 1) := dk_42 (dk_at dksJ17_copyOf_0 0 rfl rfl)
theorem dJ17_copyOf_1 : decode cJ17_copyOf 1 = .ok (.iload_n 1, 1) := dk_27 (dk_at dksJ17_copyOf_0 1 rfl rfl)
theorem dJ17_copyOf_2 : decode cJ17_copyOf 2 = .ok (.aload_n 0, 1) := dk_42 (dk_at dksJ17_copyOf_0 2 rfl rfl)
theorem dJ17_copyOf_3 : decode cJ17_copyOf 3 = .ok (.invokevirtual 86, 3) := dk_182 0 86 (dk_at dksJ17_copyOf_0 3 rfl rfl)
theorem dJ17_copyOf_6 : decode cJ17_copyOf 6 = .ok (.invokestatic 300, 3) := dk_184 1 44 (dk_at dksJ17_copyOf_0 6 rfl rfl)
theorem dJ17_copyOf_9 : decode cJ17_copyOf 9 = .ok (.areturn, 1) := dk_176 (dk_at dksJ17_copyOf_0 9 rfl rfl)
abbrev cJ17_copyOf_2 : ByteArray := prog_45_method_120_code
def yJ17_copyOf_2 : MethodName := ⟨RJ17, "copyOf", "([Ljava/lang/Object;ILjava/lang/Class;)[Ljava/lang/Object;"⟩
def dkwJ17_copyOf_2_1 : List UInt8 := [78, 42, 3, 45, 3, 42, 190, 27, 184, 1, 48, 184, 0, 150, 45, 176]
abbrev dktJ17_copyOf_2_1 : List UInt8 := dkwJ17_copyOf_2_1 ++ []
def dkwJ17_copyOf_2_0 : List UInt8 := [44, 18, 110, 166, 0, 10, 27, 189, 0, 2, 167, 0, 14, 44, 182, 0, 90, 27, 184, 0, 95, 192, 0, 110]
abbrev dktJ17_copyOf_2_0 : List UInt8 := dkwJ17_copyOf_2_0 ++ dktJ17_copyOf_2_1
theorem dksJ17_copyOf_2_0 : cJ17_copyOf_2.data.toList.drop 0 = dktJ17_copyOf_2_0 := by decide +kernel
theorem dksJ17_copyOf_2_1 : cJ17_copyOf_2.data.toList.drop 24 = dktJ17_copyOf_2_1 := dk_seg dksJ17_copyOf_2_0 24 rfl rfl
theorem dJ17_copyOf_2_0 : decode cJ17_copyOf_2 0 = .ok (.aload_n 2, 1) := dk_44 (dk_at dksJ17_copyOf_2_0 0 rfl rfl)
theorem dJ17_copyOf_2_1 : decode cJ17_copyOf_2 1 = .ok (.ldc 110, 2) := dk_18 110 (dk_at dksJ17_copyOf_2_0 1 rfl rfl)
theorem dJ17_copyOf_2_3 : decode cJ17_copyOf_2 3 = .ok (.if_acmp .ne 10, 3) := dk_166 0 10 (dk_at dksJ17_copyOf_2_0 3 rfl rfl)
theorem dJ17_copyOf_2_6 : decode cJ17_copyOf_2 6 = .ok (.iload_n 1, 1) := dk_27 (dk_at dksJ17_copyOf_2_0 6 rfl rfl)
theorem dJ17_copyOf_2_7 : decode cJ17_copyOf_2 7 = .ok (.anewarray 2, 3) := dk_189 0 2 (dk_at dksJ17_copyOf_2_0 7 rfl rfl)
theorem dJ17_copyOf_2_10 : decode cJ17_copyOf_2 10 = .ok (.goto 14, 3) := dk_167 0 14 (dk_at dksJ17_copyOf_2_0 10 rfl rfl)
theorem dJ17_copyOf_2_13 : decode cJ17_copyOf_2 13 = .ok (.aload_n 2, 1) := dk_44 (dk_at dksJ17_copyOf_2_0 13 rfl rfl)
theorem dJ17_copyOf_2_14 : decode cJ17_copyOf_2 14 = .ok (.invokevirtual 90, 3) := dk_182 0 90 (dk_at dksJ17_copyOf_2_0 14 rfl rfl)
theorem dJ17_copyOf_2_17 : decode cJ17_copyOf_2 17 = .ok (.iload_n 1, 1) := dk_27 (dk_at dksJ17_copyOf_2_0 17 rfl rfl)
theorem dJ17_copyOf_2_18 : decode cJ17_copyOf_2 18 = .ok (.invokestatic 95, 3) := dk_184 0 95 (dk_at dksJ17_copyOf_2_0 18 rfl rfl)
theorem dJ17_copyOf_2_21 : decode cJ17_copyOf_2 21 = .ok (.checkcast 110, 3) := dk_192 0 110 (dk_at dksJ17_copyOf_2_0 21 rfl rfl)
theorem dJ17_copyOf_2_24 : decode cJ17_copyOf_2 24 = .ok (.astore_n 3, 1) := dk_78 (dk_at dksJ17_copyOf_2_1 0 rfl rfl)
theorem dJ17_copyOf_2_25 : decode cJ17_copyOf_2 25 = .ok (.aload_n 0, 1) := dk_42 (dk_at dksJ17_copyOf_2_1 1 rfl rfl)
theorem dJ17_copyOf_2_26 : decode cJ17_copyOf_2 26 = .ok (.iconst 0, 1) := dk_3 (dk_at dksJ17_copyOf_2_1 2 rfl rfl)
theorem dJ17_copyOf_2_27 : decode cJ17_copyOf_2 27 = .ok (.aload_n 3, 1) := dk_45 (dk_at dksJ17_copyOf_2_1 3 rfl rfl)
theorem dJ17_copyOf_2_28 : decode cJ17_copyOf_2 28 = .ok (.iconst 0, 1) := dk_3 (dk_at dksJ17_copyOf_2_1 4 rfl rfl)
theorem dJ17_copyOf_2_29 : decode cJ17_copyOf_2 29 = .ok (.aload_n 0, 1) := dk_42 (dk_at dksJ17_copyOf_2_1 5 rfl rfl)
theorem dJ17_copyOf_2_30 : decode cJ17_copyOf_2 30 = .ok (.arraylength, 1) := dk_190 (dk_at dksJ17_copyOf_2_1 6 rfl rfl)
theorem dJ17_copyOf_2_31 : decode cJ17_copyOf_2 31 = .ok (.iload_n 1, 1) := dk_27 (dk_at dksJ17_copyOf_2_1 7 rfl rfl)
theorem dJ17_copyOf_2_32 : decode cJ17_copyOf_2 32 = .ok (.invokestatic 304, 3) := dk_184 1 48 (dk_at dksJ17_copyOf_2_1 8 rfl rfl)
theorem dJ17_copyOf_2_35 : decode cJ17_copyOf_2 35 = .ok (.invokestatic 150, 3) := dk_184 0 150 (dk_at dksJ17_copyOf_2_1 11 rfl rfl)
theorem dJ17_copyOf_2_38 : decode cJ17_copyOf_2 38 = .ok (.aload_n 3, 1) := dk_45 (dk_at dksJ17_copyOf_2_1 14 rfl rfl)
theorem dJ17_copyOf_2_39 : decode cJ17_copyOf_2 39 = .ok (.areturn, 1) := dk_176 (dk_at dksJ17_copyOf_2_1 15 rfl rfl)
theorem q132 : (Jvm.Cond.initialized "java/util/Arrays") ∈ lw_all := lw_g (lw_at lw_m1 29 rfl) rfl
theorem q789 : (Jvm.Cond.static ({ cls := "java/util/Arrays", name := "copyOf", desc := "([Ljava/lang/Object;I)[Ljava/lang/Object;" } : Jvm.MethodName)) ∈ lw_all := lw_g (lw_at lw_m3 206 rfl) rfl
theorem q790 : (Jvm.Cond.code ({ cls := "java/util/Arrays", name := "copyOf", desc := "([Ljava/lang/Object;I)[Ljava/lang/Object;" } : Jvm.MethodName) prog_45_method_119_code (2 : Nat) (Option.some (Jvm.ClassFile.FieldType.array (Jvm.ClassFile.FieldType.object "java/lang/Object")))) ∈ lw_all := lw_g (lw_at lw_m3 207 rfl) rfl
theorem q791 : (Jvm.Cond.methodLink "java/util/Arrays" (86 : Nat) ({ cls := "java/lang/Object", name := "getClass", desc := "()Ljava/lang/Class;" } : Jvm.MethodName)) ∈ lw_all := lw_g (lw_at lw_m3 208 rfl) rfl
theorem q819 : (Jvm.Cond.methodLink "java/util/Arrays" (300 : Nat) ({ cls := "java/util/Arrays", name := "copyOf", desc := "([Ljava/lang/Object;ILjava/lang/Class;)[Ljava/lang/Object;" } : Jvm.MethodName)) ∈ lw_all := lw_g (lw_at lw_m3 236 rfl) rfl
theorem q820 : (Jvm.Cond.static ({ cls := "java/util/Arrays", name := "copyOf", desc := "([Ljava/lang/Object;ILjava/lang/Class;)[Ljava/lang/Object;" } : Jvm.MethodName)) ∈ lw_all := lw_g (lw_at lw_m3 237 rfl) rfl
theorem q821 : (Jvm.Cond.code ({ cls := "java/util/Arrays", name := "copyOf", desc := "([Ljava/lang/Object;ILjava/lang/Class;)[Ljava/lang/Object;" } : Jvm.MethodName) prog_45_method_120_code (4 : Nat) (Option.some (Jvm.ClassFile.FieldType.array (Jvm.ClassFile.FieldType.object "java/lang/Object")))) ∈ lw_all := lw_g (lw_at lw_m3 238 rfl) rfl
theorem q822 : (Jvm.Cond.classLink "java/util/Arrays" (110 : Nat) "[Ljava/lang/Object;") ∈ lw_all := lw_g (lw_at lw_m3 239 rfl) rfl
theorem q824 : (Jvm.Cond.classLink "java/util/Arrays" (2 : Nat) "java/lang/Object") ∈ lw_all := lw_g (lw_at lw_m4 1 rfl) rfl
theorem q825 : (Jvm.Cond.methodLink "java/util/Arrays" (304 : Nat) ({ cls := "java/lang/Math", name := "min", desc := "(II)I" } : Jvm.MethodName)) ∈ lw_all := lw_g (lw_at lw_m4 2 rfl) rfl
theorem q826 : (Jvm.Cond.methodLink "java/util/Arrays" (150 : Nat) ({ cls := "java/lang/System", name := "arraycopy", desc := "(Ljava/lang/Object;ILjava/lang/Object;II)V" } : Jvm.MethodName)) ∈ lw_all := lw_g (lw_at lw_m4 3 rfl) rfl

/-! java/lang/Integer -/
set_option maxRecDepth 100000
def RJ18 : String := "java/lang/Integer"
abbrev cJ18_compare : ByteArray := prog_22_method_40_code
def yJ18_compare : MethodName := ⟨RJ18, "compare", "(II)I"⟩
def dkwJ18_compare_0 : List UInt8 := [26, 27, 162, 0, 7, 2, 167, 0, 13, 26, 27, 160, 0, 7, 3, 167, 0, 4, 4, 172]
abbrev dktJ18_compare_0 : List UInt8 := dkwJ18_compare_0 ++ []
theorem dksJ18_compare_0 : cJ18_compare.data.toList.drop 0 = dktJ18_compare_0 := by decide +kernel
theorem dJ18_compare_0 : decode cJ18_compare 0 = .ok (.iload_n 0, 1) := dk_26 (dk_at dksJ18_compare_0 0 rfl rfl)
theorem dJ18_compare_1 : decode cJ18_compare 1 = .ok (.iload_n 1, 1) := dk_27 (dk_at dksJ18_compare_0 1 rfl rfl)
theorem dJ18_compare_2 : decode cJ18_compare 2 = .ok (.if_icmp .ge 7, 3) := dk_162 0 7 (dk_at dksJ18_compare_0 2 rfl rfl)
theorem dJ18_compare_5 : decode cJ18_compare 5 = .ok (.iconst (-1), 1) := dk_2 (dk_at dksJ18_compare_0 5 rfl rfl)
theorem dJ18_compare_6 : decode cJ18_compare 6 = .ok (.goto 13, 3) := dk_167 0 13 (dk_at dksJ18_compare_0 6 rfl rfl)
theorem dJ18_compare_9 : decode cJ18_compare 9 = .ok (.iload_n 0, 1) := dk_26 (dk_at dksJ18_compare_0 9 rfl rfl)
theorem dJ18_compare_10 : decode cJ18_compare 10 = .ok (.iload_n 1, 1) := dk_27 (dk_at dksJ18_compare_0 10 rfl rfl)
theorem dJ18_compare_11 : decode cJ18_compare 11 = .ok (.if_icmp .ne 7, 3) := dk_160 0 7 (dk_at dksJ18_compare_0 11 rfl rfl)
theorem dJ18_compare_14 : decode cJ18_compare 14 = .ok (.iconst 0, 1) := dk_3 (dk_at dksJ18_compare_0 14 rfl rfl)
theorem dJ18_compare_15 : decode cJ18_compare 15 = .ok (.goto 4, 3) := dk_167 0 4 (dk_at dksJ18_compare_0 15 rfl rfl)
theorem dJ18_compare_18 : decode cJ18_compare 18 = .ok (.iconst 1, 1) := dk_4 (dk_at dksJ18_compare_0 18 rfl rfl)
theorem dJ18_compare_19 : decode cJ18_compare 19 = .ok (.ireturn, 1) := dk_172 (dk_at dksJ18_compare_0 19 rfl rfl)
abbrev cJ18_numberOfLeadingZeros : ByteArray := prog_22_method_47_code
def yJ18_numberOfLeadingZeros : MethodName := ⟨RJ18, "numberOfLeadingZeros", "(I)I"⟩
def dkwJ18_numberOfLeadingZeros_3 : List UInt8 := [5, 124, 59, 27, 26, 4, 124, 100, 172]
abbrev dktJ18_numberOfLeadingZeros_3 : List UInt8 := dkwJ18_numberOfLeadingZeros_3 ++ []
def dkwJ18_numberOfLeadingZeros_2 : List UInt8 := [124, 59, 26, 16, 16, 161, 0, 10, 132, 1, 252, 26, 7, 124, 59, 26, 7, 161, 0, 10, 132, 1, 254, 26]
abbrev dktJ18_numberOfLeadingZeros_2 : List UInt8 := dkwJ18_numberOfLeadingZeros_2 ++ dktJ18_numberOfLeadingZeros_3
def dkwJ18_numberOfLeadingZeros_1 : List UInt8 := [161, 0, 11, 132, 1, 240, 26, 16, 16, 124, 59, 26, 17, 1, 0, 161, 0, 11, 132, 1, 248, 26, 16, 8]
abbrev dktJ18_numberOfLeadingZeros_1 : List UInt8 := dkwJ18_numberOfLeadingZeros_1 ++ dktJ18_numberOfLeadingZeros_2
def dkwJ18_numberOfLeadingZeros_0 : List UInt8 := [26, 157, 0, 14, 26, 154, 0, 8, 16, 32, 167, 0, 4, 3, 172, 16, 31, 60, 26, 19, 1, 8]
abbrev dktJ18_numberOfLeadingZeros_0 : List UInt8 := dkwJ18_numberOfLeadingZeros_0 ++ dktJ18_numberOfLeadingZeros_1
theorem dksJ18_numberOfLeadingZeros_0 : cJ18_numberOfLeadingZeros.data.toList.drop 0 = dktJ18_numberOfLeadingZeros_0 := by decide +kernel
theorem dksJ18_numberOfLeadingZeros_1 : cJ18_numberOfLeadingZeros.data.toList.drop 22 = dktJ18_numberOfLeadingZeros_1 := dk_seg dksJ18_numberOfLeadingZeros_0 22 rfl rfl
theorem dksJ18_numberOfLeadingZeros_2 : cJ18_numberOfLeadingZeros.data.toList.drop 46 = dktJ18_numberOfLeadingZeros_2 := dk_seg dksJ18_numberOfLeadingZeros_1 24 rfl rfl
theorem dksJ18_numberOfLeadingZeros_3 : cJ18_numberOfLeadingZeros.data.toList.drop 70 = dktJ18_numberOfLeadingZeros_3 := dk_seg dksJ18_numberOfLeadingZeros_2 24 rfl rfl
theorem dJ18_numberOfLeadingZeros_0 : decode cJ18_numberOfLeadingZeros 0 = .ok (.iload_n 0, 1) := dk_26 (dk_at dksJ18_numberOfLeadingZeros_0 0 rfl rfl)
theorem dJ18_numberOfLeadingZeros_1 : decode cJ18_numberOfLeadingZeros 1 = .ok (.ifCond .gt 14, 3) := dk_157 0 14 (dk_at dksJ18_numberOfLeadingZeros_0 1 rfl rfl)
theorem dJ18_numberOfLeadingZeros_4 : decode cJ18_numberOfLeadingZeros 4 = .ok (.iload_n 0, 1) := dk_26 (dk_at dksJ18_numberOfLeadingZeros_0 4 rfl rfl)
theorem dJ18_numberOfLeadingZeros_5 : decode cJ18_numberOfLeadingZeros 5 = .ok (.ifCond .ne 8, 3) := dk_154 0 8 (dk_at dksJ18_numberOfLeadingZeros_0 5 rfl rfl)
theorem dJ18_numberOfLeadingZeros_8 : decode cJ18_numberOfLeadingZeros 8 = .ok (.bipush 32, 2) := dk_16 32 (dk_at dksJ18_numberOfLeadingZeros_0 8 rfl rfl)
theorem dJ18_numberOfLeadingZeros_10 : decode cJ18_numberOfLeadingZeros 10 = .ok (.goto 4, 3) := dk_167 0 4 (dk_at dksJ18_numberOfLeadingZeros_0 10 rfl rfl)
theorem dJ18_numberOfLeadingZeros_13 : decode cJ18_numberOfLeadingZeros 13 = .ok (.iconst 0, 1) := dk_3 (dk_at dksJ18_numberOfLeadingZeros_0 13 rfl rfl)
theorem dJ18_numberOfLeadingZeros_14 : decode cJ18_numberOfLeadingZeros 14 = .ok (.ireturn, 1) := dk_172 (dk_at dksJ18_numberOfLeadingZeros_0 14 rfl rfl)
theorem dJ18_numberOfLeadingZeros_15 : decode cJ18_numberOfLeadingZeros 15 = .ok (.bipush 31, 2) := dk_16 31 (dk_at dksJ18_numberOfLeadingZeros_0 15 rfl rfl)
theorem dJ18_numberOfLeadingZeros_17 : decode cJ18_numberOfLeadingZeros 17 = .ok (.istore_n 1, 1) := dk_60 (dk_at dksJ18_numberOfLeadingZeros_0 17 rfl rfl)
theorem dJ18_numberOfLeadingZeros_18 : decode cJ18_numberOfLeadingZeros 18 = .ok (.iload_n 0, 1) := dk_26 (dk_at dksJ18_numberOfLeadingZeros_0 18 rfl rfl)
theorem dJ18_numberOfLeadingZeros_19 : decode cJ18_numberOfLeadingZeros 19 = .ok (.ldc_w 264, 3) := dk_19 1 8 (dk_at dksJ18_numberOfLeadingZeros_0 19 rfl rfl)
theorem dJ18_numberOfLeadingZeros_22 : decode cJ18_numberOfLeadingZeros 22 = .ok (.if_icmp .lt 11, 3) := dk_161 0 11 (dk_at dksJ18_numberOfLeadingZeros_1 0 rfl rfl)
theorem dJ18_numberOfLeadingZeros_25 : decode cJ18_numberOfLeadingZeros 25 = .ok (.iinc 1 (-16), 3) := dk_132 1 240 (dk_at dksJ18_numberOfLeadingZeros_1 3 rfl rfl)
theorem dJ18_numberOfLeadingZeros_28 : decode cJ18_numberOfLeadingZeros 28 = .ok (.iload_n 0, 1) := dk_26 (dk_at dksJ18_numberOfLeadingZeros_1 6 rfl rfl)
theorem dJ18_numberOfLeadingZeros_29 : decode cJ18_numberOfLeadingZeros 29 = .ok (.bipush 16, 2) := dk_16 16 (dk_at dksJ18_numberOfLeadingZeros_1 7 rfl rfl)
theorem dJ18_numberOfLeadingZeros_31 : decode cJ18_numberOfLeadingZeros 31 = .ok (.iushr, 1) := dk_124 (dk_at dksJ18_numberOfLeadingZeros_1 9 rfl rfl)
theorem dJ18_numberOfLeadingZeros_32 : decode cJ18_numberOfLeadingZeros 32 = .ok (.istore_n 0, 1) := dk_59 (dk_at dksJ18_numberOfLeadingZeros_1 10 rfl rfl)
theorem dJ18_numberOfLeadingZeros_33 : decode cJ18_numberOfLeadingZeros 33 = .ok (.iload_n 0, 1) := dk_26 (dk_at dksJ18_numberOfLeadingZeros_1 11 rfl rfl)
theorem dJ18_numberOfLeadingZeros_34 : decode cJ18_numberOfLeadingZeros 34 = .ok (.sipush 256, 3) := dk_17 1 0 (dk_at dksJ18_numberOfLeadingZeros_1 12 rfl rfl)
theorem dJ18_numberOfLeadingZeros_37 : decode cJ18_numberOfLeadingZeros 37 = .ok (.if_icmp .lt 11, 3) := dk_161 0 11 (dk_at dksJ18_numberOfLeadingZeros_1 15 rfl rfl)
theorem dJ18_numberOfLeadingZeros_40 : decode cJ18_numberOfLeadingZeros 40 = .ok (.iinc 1 (-8), 3) := dk_132 1 248 (dk_at dksJ18_numberOfLeadingZeros_1 18 rfl rfl)
theorem dJ18_numberOfLeadingZeros_43 : decode cJ18_numberOfLeadingZeros 43 = .ok (.iload_n 0, 1) := dk_26 (dk_at dksJ18_numberOfLeadingZeros_1 21 rfl rfl)
theorem dJ18_numberOfLeadingZeros_44 : decode cJ18_numberOfLeadingZeros 44 = .ok (.bipush 8, 2) := dk_16 8 (dk_at dksJ18_numberOfLeadingZeros_1 22 rfl rfl)
theorem dJ18_numberOfLeadingZeros_46 : decode cJ18_numberOfLeadingZeros 46 = .ok (.iushr, 1) := dk_124 (dk_at dksJ18_numberOfLeadingZeros_2 0 rfl rfl)
theorem dJ18_numberOfLeadingZeros_47 : decode cJ18_numberOfLeadingZeros 47 = .ok (.istore_n 0, 1) := dk_59 (dk_at dksJ18_numberOfLeadingZeros_2 1 rfl rfl)
theorem dJ18_numberOfLeadingZeros_48 : decode cJ18_numberOfLeadingZeros 48 = .ok (.iload_n 0, 1) := dk_26 (dk_at dksJ18_numberOfLeadingZeros_2 2 rfl rfl)
theorem dJ18_numberOfLeadingZeros_49 : decode cJ18_numberOfLeadingZeros 49 = .ok (.bipush 16, 2) := dk_16 16 (dk_at dksJ18_numberOfLeadingZeros_2 3 rfl rfl)
theorem dJ18_numberOfLeadingZeros_51 : decode cJ18_numberOfLeadingZeros 51 = .ok (.if_icmp .lt 10, 3) := dk_161 0 10 (dk_at dksJ18_numberOfLeadingZeros_2 5 rfl rfl)
theorem dJ18_numberOfLeadingZeros_54 : decode cJ18_numberOfLeadingZeros 54 = .ok (.iinc 1 (-4), 3) := dk_132 1 252 (dk_at dksJ18_numberOfLeadingZeros_2 8 rfl rfl)
theorem dJ18_numberOfLeadingZeros_57 : decode cJ18_numberOfLeadingZeros 57 = .ok (.iload_n 0, 1) := dk_26 (dk_at dksJ18_numberOfLeadingZeros_2 11 rfl rfl)
theorem dJ18_numberOfLeadingZeros_58 : decode cJ18_numberOfLeadingZeros 58 = .ok (.iconst 4, 1) := dk_7 (dk_at dksJ18_numberOfLeadingZeros_2 12 rfl rfl)
theorem dJ18_numberOfLeadingZeros_59 : decode cJ18_numberOfLeadingZeros 59 = .ok (.iushr, 1) := dk_124 (dk_at dksJ18_numberOfLeadingZeros_2 13 rfl rfl)
theorem dJ18_numberOfLeadingZeros_60 : decode cJ18_numberOfLeadingZeros 60 = .ok (.istore_n 0, 1) := dk_59 (dk_at dksJ18_numberOfLeadingZeros_2 14 rfl rfl)
theorem dJ18_numberOfLeadingZeros_61 : decode cJ18_numberOfLeadingZeros 61 = .ok (.iload_n 0, 1) := dk_26 (dk_at dksJ18_numberOfLeadingZeros_2 15 rfl rfl)
theorem dJ18_numberOfLeadingZeros_62 : decode cJ18_numberOfLeadingZeros 62 = .ok (.iconst 4, 1) := dk_7 (dk_at dksJ18_numberOfLeadingZeros_2 16 rfl rfl)
theorem dJ18_numberOfLeadingZeros_63 : decode cJ18_numberOfLeadingZeros 63 = .ok (.if_icmp .lt 10, 3) := dk_161 0 10 (dk_at dksJ18_numberOfLeadingZeros_2 17 rfl rfl)
theorem dJ18_numberOfLeadingZeros_66 : decode cJ18_numberOfLeadingZeros 66 = .ok (.iinc 1 (-2), 3) := dk_132 1 254 (dk_at dksJ18_numberOfLeadingZeros_2 20 rfl rfl)
theorem dJ18_numberOfLeadingZeros_69 : decode cJ18_numberOfLeadingZeros 69 = .ok (.iload_n 0, 1) := dk_26 (dk_at dksJ18_numberOfLeadingZeros_2 23 rfl rfl)
theorem dJ18_numberOfLeadingZeros_70 : decode cJ18_numberOfLeadingZeros 70 = .ok (.iconst 2, 1) := dk_5 (dk_at dksJ18_numberOfLeadingZeros_3 0 rfl rfl)
theorem dJ18_numberOfLeadingZeros_71 : decode cJ18_numberOfLeadingZeros 71 = .ok (.iushr, 1) := dk_124 (dk_at dksJ18_numberOfLeadingZeros_3 1 rfl rfl)
theorem dJ18_numberOfLeadingZeros_72 : decode cJ18_numberOfLeadingZeros 72 = .ok (.istore_n 0, 1) := dk_59 (dk_at dksJ18_numberOfLeadingZeros_3 2 rfl rfl)
theorem dJ18_numberOfLeadingZeros_73 : decode cJ18_numberOfLeadingZeros 73 = .ok (.iload_n 1, 1) := dk_27 (dk_at dksJ18_numberOfLeadingZeros_3 3 rfl rfl)
theorem dJ18_numberOfLeadingZeros_74 : decode cJ18_numberOfLeadingZeros 74 = .ok (.iload_n 0, 1) := dk_26 (dk_at dksJ18_numberOfLeadingZeros_3 4 rfl rfl)
theorem dJ18_numberOfLeadingZeros_75 : decode cJ18_numberOfLeadingZeros 75 = .ok (.iconst 1, 1) := dk_4 (dk_at dksJ18_numberOfLeadingZeros_3 5 rfl rfl)
theorem dJ18_numberOfLeadingZeros_76 : decode cJ18_numberOfLeadingZeros 76 = .ok (.iushr, 1) := dk_124 (dk_at dksJ18_numberOfLeadingZeros_3 6 rfl rfl)
theorem dJ18_numberOfLeadingZeros_77 : decode cJ18_numberOfLeadingZeros 77 = .ok (.isub, 1) := dk_100 (dk_at dksJ18_numberOfLeadingZeros_3 7 rfl rfl)
theorem dJ18_numberOfLeadingZeros_78 : decode cJ18_numberOfLeadingZeros 78 = .ok (.ireturn, 1) := dk_172 (dk_at dksJ18_numberOfLeadingZeros_3 8 rfl rfl)
abbrev cJ18_numberOfTrailingZeros : ByteArray := prog_22_method_48_code
def yJ18_numberOfTrailingZeros : MethodName := ⟨RJ18, "numberOfTrailingZeros", "(I)I"⟩
def dkwJ18_numberOfTrailingZeros_3 : List UInt8 := [5, 124, 59, 27, 26, 4, 124, 96, 172]
abbrev dktJ18_numberOfTrailingZeros_3 : List UInt8 := dkwJ18_numberOfTrailingZeros_3 ++ []
def dkwJ18_numberOfTrailingZeros_2 : List UInt8 := [124, 59, 26, 16, 16, 164, 0, 10, 132, 1, 4, 26, 7, 124, 59, 26, 7, 164, 0, 10, 132, 1, 2, 26]
abbrev dktJ18_numberOfTrailingZeros_2 : List UInt8 := dkwJ18_numberOfTrailingZeros_2 ++ dktJ18_numberOfTrailingZeros_3
def dkwJ18_numberOfTrailingZeros_1 : List UInt8 := [164, 0, 11, 132, 1, 16, 26, 16, 16, 124, 59, 26, 17, 1, 0, 164, 0, 11, 132, 1, 8, 26, 16, 8]
abbrev dktJ18_numberOfTrailingZeros_1 : List UInt8 := dkwJ18_numberOfTrailingZeros_1 ++ dktJ18_numberOfTrailingZeros_2
def dkwJ18_numberOfTrailingZeros_0 : List UInt8 := [26, 2, 130, 26, 4, 100, 126, 59, 26, 157, 0, 8, 26, 16, 32, 126, 172, 4, 60, 26, 19, 1, 8]
abbrev dktJ18_numberOfTrailingZeros_0 : List UInt8 := dkwJ18_numberOfTrailingZeros_0 ++ dktJ18_numberOfTrailingZeros_1
theorem dksJ18_numberOfTrailingZeros_0 : cJ18_numberOfTrailingZeros.data.toList.drop 0 = dktJ18_numberOfTrailingZeros_0 := by decide +kernel
theorem dksJ18_numberOfTrailingZeros_1 : cJ18_numberOfTrailingZeros.data.toList.drop 23 = dktJ18_numberOfTrailingZeros_1 := dk_seg dksJ18_numberOfTrailingZeros_0 23 rfl rfl
theorem dksJ18_numberOfTrailingZeros_2 : cJ18_numberOfTrailingZeros.data.toList.drop 47 = dktJ18_numberOfTrailingZeros_2 := dk_seg dksJ18_numberOfTrailingZeros_1 24 rfl rfl
theorem dksJ18_numberOfTrailingZeros_3 : cJ18_numberOfTrailingZeros.data.toList.drop 71 = dktJ18_numberOfTrailingZeros_3 := dk_seg dksJ18_numberOfTrailingZeros_2 24 rfl rfl
theorem dJ18_numberOfTrailingZeros_0 : decode cJ18_numberOfTrailingZeros 0 = .ok (.iload_n 0, 1) := dk_26 (dk_at dksJ18_numberOfTrailingZeros_0 0 rfl rfl)
theorem dJ18_numberOfTrailingZeros_1 : decode cJ18_numberOfTrailingZeros 1 = .ok (.iconst (-1), 1) := dk_2 (dk_at dksJ18_numberOfTrailingZeros_0 1 rfl rfl)
theorem dJ18_numberOfTrailingZeros_2 : decode cJ18_numberOfTrailingZeros 2 = .ok (.ixor, 1) := dk_130 (dk_at dksJ18_numberOfTrailingZeros_0 2 rfl rfl)
theorem dJ18_numberOfTrailingZeros_3 : decode cJ18_numberOfTrailingZeros 3 = .ok (.iload_n 0, 1) := dk_26 (dk_at dksJ18_numberOfTrailingZeros_0 3 rfl rfl)
theorem dJ18_numberOfTrailingZeros_4 : decode cJ18_numberOfTrailingZeros 4 = .ok (.iconst 1, 1) := dk_4 (dk_at dksJ18_numberOfTrailingZeros_0 4 rfl rfl)
theorem dJ18_numberOfTrailingZeros_5 : decode cJ18_numberOfTrailingZeros 5 = .ok (.isub, 1) := dk_100 (dk_at dksJ18_numberOfTrailingZeros_0 5 rfl rfl)
theorem dJ18_numberOfTrailingZeros_6 : decode cJ18_numberOfTrailingZeros 6 = .ok (.iand, 1) := dk_126 (dk_at dksJ18_numberOfTrailingZeros_0 6 rfl rfl)
theorem dJ18_numberOfTrailingZeros_7 : decode cJ18_numberOfTrailingZeros 7 = .ok (.istore_n 0, 1) := dk_59 (dk_at dksJ18_numberOfTrailingZeros_0 7 rfl rfl)
theorem dJ18_numberOfTrailingZeros_8 : decode cJ18_numberOfTrailingZeros 8 = .ok (.iload_n 0, 1) := dk_26 (dk_at dksJ18_numberOfTrailingZeros_0 8 rfl rfl)
theorem dJ18_numberOfTrailingZeros_9 : decode cJ18_numberOfTrailingZeros 9 = .ok (.ifCond .gt 8, 3) := dk_157 0 8 (dk_at dksJ18_numberOfTrailingZeros_0 9 rfl rfl)
theorem dJ18_numberOfTrailingZeros_12 : decode cJ18_numberOfTrailingZeros 12 = .ok (.iload_n 0, 1) := dk_26 (dk_at dksJ18_numberOfTrailingZeros_0 12 rfl rfl)
theorem dJ18_numberOfTrailingZeros_13 : decode cJ18_numberOfTrailingZeros 13 = .ok (.bipush 32, 2) := dk_16 32 (dk_at dksJ18_numberOfTrailingZeros_0 13 rfl rfl)
theorem dJ18_numberOfTrailingZeros_15 : decode cJ18_numberOfTrailingZeros 15 = .ok (.iand, 1) := dk_126 (dk_at dksJ18_numberOfTrailingZeros_0 15 rfl rfl)
theorem dJ18_numberOfTrailingZeros_16 : decode cJ18_numberOfTrailingZeros 16 = .ok (.ireturn, 1) := dk_172 (dk_at dksJ18_numberOfTrailingZeros_0 16 rfl rfl)
theorem dJ18_numberOfTrailingZeros_17 : decode cJ18_numberOfTrailingZeros 17 = .ok (.iconst 1, 1) := dk_4 (dk_at dksJ18_numberOfTrailingZeros_0 17 rfl rfl)
theorem dJ18_numberOfTrailingZeros_18 : decode cJ18_numberOfTrailingZeros 18 = .ok (.istore_n 1, 1) := dk_60 (dk_at dksJ18_numberOfTrailingZeros_0 18 rfl rfl)
theorem dJ18_numberOfTrailingZeros_19 : decode cJ18_numberOfTrailingZeros 19 = .ok (.iload_n 0, 1) := dk_26 (dk_at dksJ18_numberOfTrailingZeros_0 19 rfl rfl)
theorem dJ18_numberOfTrailingZeros_20 : decode cJ18_numberOfTrailingZeros 20 = .ok (.ldc_w 264, 3) := dk_19 1 8 (dk_at dksJ18_numberOfTrailingZeros_0 20 rfl rfl)
theorem dJ18_numberOfTrailingZeros_23 : decode cJ18_numberOfTrailingZeros 23 = .ok (.if_icmp .le 11, 3) := dk_164 0 11 (dk_at dksJ18_numberOfTrailingZeros_1 0 rfl rfl)
theorem dJ18_numberOfTrailingZeros_26 : decode cJ18_numberOfTrailingZeros 26 = .ok (.iinc 1 16, 3) := dk_132 1 16 (dk_at dksJ18_numberOfTrailingZeros_1 3 rfl rfl)
theorem dJ18_numberOfTrailingZeros_29 : decode cJ18_numberOfTrailingZeros 29 = .ok (.iload_n 0, 1) := dk_26 (dk_at dksJ18_numberOfTrailingZeros_1 6 rfl rfl)
theorem dJ18_numberOfTrailingZeros_30 : decode cJ18_numberOfTrailingZeros 30 = .ok (.bipush 16, 2) := dk_16 16 (dk_at dksJ18_numberOfTrailingZeros_1 7 rfl rfl)
theorem dJ18_numberOfTrailingZeros_32 : decode cJ18_numberOfTrailingZeros 32 = .ok (.iushr, 1) := dk_124 (dk_at dksJ18_numberOfTrailingZeros_1 9 rfl rfl)
theorem dJ18_numberOfTrailingZeros_33 : decode cJ18_numberOfTrailingZeros 33 = .ok (.istore_n 0, 1) := dk_59 (dk_at dksJ18_numberOfTrailingZeros_1 10 rfl rfl)
theorem dJ18_numberOfTrailingZeros_34 : decode cJ18_numberOfTrailingZeros 34 = .ok (.iload_n 0, 1) := dk_26 (dk_at dksJ18_numberOfTrailingZeros_1 11 rfl rfl)
theorem dJ18_numberOfTrailingZeros_35 : decode cJ18_numberOfTrailingZeros 35 = .ok (.sipush 256, 3) := dk_17 1 0 (dk_at dksJ18_numberOfTrailingZeros_1 12 rfl rfl)
theorem dJ18_numberOfTrailingZeros_38 : decode cJ18_numberOfTrailingZeros 38 = .ok (.if_icmp .le 11, 3) := dk_164 0 11 (dk_at dksJ18_numberOfTrailingZeros_1 15 rfl rfl)
theorem dJ18_numberOfTrailingZeros_41 : decode cJ18_numberOfTrailingZeros 41 = .ok (.iinc 1 8, 3) := dk_132 1 8 (dk_at dksJ18_numberOfTrailingZeros_1 18 rfl rfl)
theorem dJ18_numberOfTrailingZeros_44 : decode cJ18_numberOfTrailingZeros 44 = .ok (.iload_n 0, 1) := dk_26 (dk_at dksJ18_numberOfTrailingZeros_1 21 rfl rfl)
theorem dJ18_numberOfTrailingZeros_45 : decode cJ18_numberOfTrailingZeros 45 = .ok (.bipush 8, 2) := dk_16 8 (dk_at dksJ18_numberOfTrailingZeros_1 22 rfl rfl)
theorem dJ18_numberOfTrailingZeros_47 : decode cJ18_numberOfTrailingZeros 47 = .ok (.iushr, 1) := dk_124 (dk_at dksJ18_numberOfTrailingZeros_2 0 rfl rfl)
theorem dJ18_numberOfTrailingZeros_48 : decode cJ18_numberOfTrailingZeros 48 = .ok (.istore_n 0, 1) := dk_59 (dk_at dksJ18_numberOfTrailingZeros_2 1 rfl rfl)
theorem dJ18_numberOfTrailingZeros_49 : decode cJ18_numberOfTrailingZeros 49 = .ok (.iload_n 0, 1) := dk_26 (dk_at dksJ18_numberOfTrailingZeros_2 2 rfl rfl)
theorem dJ18_numberOfTrailingZeros_50 : decode cJ18_numberOfTrailingZeros 50 = .ok (.bipush 16, 2) := dk_16 16 (dk_at dksJ18_numberOfTrailingZeros_2 3 rfl rfl)
theorem dJ18_numberOfTrailingZeros_52 : decode cJ18_numberOfTrailingZeros 52 = .ok (.if_icmp .le 10, 3) := dk_164 0 10 (dk_at dksJ18_numberOfTrailingZeros_2 5 rfl rfl)
theorem dJ18_numberOfTrailingZeros_55 : decode cJ18_numberOfTrailingZeros 55 = .ok (.iinc 1 4, 3) := dk_132 1 4 (dk_at dksJ18_numberOfTrailingZeros_2 8 rfl rfl)
theorem dJ18_numberOfTrailingZeros_58 : decode cJ18_numberOfTrailingZeros 58 = .ok (.iload_n 0, 1) := dk_26 (dk_at dksJ18_numberOfTrailingZeros_2 11 rfl rfl)
theorem dJ18_numberOfTrailingZeros_59 : decode cJ18_numberOfTrailingZeros 59 = .ok (.iconst 4, 1) := dk_7 (dk_at dksJ18_numberOfTrailingZeros_2 12 rfl rfl)
theorem dJ18_numberOfTrailingZeros_60 : decode cJ18_numberOfTrailingZeros 60 = .ok (.iushr, 1) := dk_124 (dk_at dksJ18_numberOfTrailingZeros_2 13 rfl rfl)
theorem dJ18_numberOfTrailingZeros_61 : decode cJ18_numberOfTrailingZeros 61 = .ok (.istore_n 0, 1) := dk_59 (dk_at dksJ18_numberOfTrailingZeros_2 14 rfl rfl)
theorem dJ18_numberOfTrailingZeros_62 : decode cJ18_numberOfTrailingZeros 62 = .ok (.iload_n 0, 1) := dk_26 (dk_at dksJ18_numberOfTrailingZeros_2 15 rfl rfl)
theorem dJ18_numberOfTrailingZeros_63 : decode cJ18_numberOfTrailingZeros 63 = .ok (.iconst 4, 1) := dk_7 (dk_at dksJ18_numberOfTrailingZeros_2 16 rfl rfl)
theorem dJ18_numberOfTrailingZeros_64 : decode cJ18_numberOfTrailingZeros 64 = .ok (.if_icmp .le 10, 3) := dk_164 0 10 (dk_at dksJ18_numberOfTrailingZeros_2 17 rfl rfl)
theorem dJ18_numberOfTrailingZeros_67 : decode cJ18_numberOfTrailingZeros 67 = .ok (.iinc 1 2, 3) := dk_132 1 2 (dk_at dksJ18_numberOfTrailingZeros_2 20 rfl rfl)
theorem dJ18_numberOfTrailingZeros_70 : decode cJ18_numberOfTrailingZeros 70 = .ok (.iload_n 0, 1) := dk_26 (dk_at dksJ18_numberOfTrailingZeros_2 23 rfl rfl)
theorem dJ18_numberOfTrailingZeros_71 : decode cJ18_numberOfTrailingZeros 71 = .ok (.iconst 2, 1) := dk_5 (dk_at dksJ18_numberOfTrailingZeros_3 0 rfl rfl)
theorem dJ18_numberOfTrailingZeros_72 : decode cJ18_numberOfTrailingZeros 72 = .ok (.iushr, 1) := dk_124 (dk_at dksJ18_numberOfTrailingZeros_3 1 rfl rfl)
theorem dJ18_numberOfTrailingZeros_73 : decode cJ18_numberOfTrailingZeros 73 = .ok (.istore_n 0, 1) := dk_59 (dk_at dksJ18_numberOfTrailingZeros_3 2 rfl rfl)
theorem dJ18_numberOfTrailingZeros_74 : decode cJ18_numberOfTrailingZeros 74 = .ok (.iload_n 1, 1) := dk_27 (dk_at dksJ18_numberOfTrailingZeros_3 3 rfl rfl)
theorem dJ18_numberOfTrailingZeros_75 : decode cJ18_numberOfTrailingZeros 75 = .ok (.iload_n 0, 1) := dk_26 (dk_at dksJ18_numberOfTrailingZeros_3 4 rfl rfl)
theorem dJ18_numberOfTrailingZeros_76 : decode cJ18_numberOfTrailingZeros 76 = .ok (.iconst 1, 1) := dk_4 (dk_at dksJ18_numberOfTrailingZeros_3 5 rfl rfl)
theorem dJ18_numberOfTrailingZeros_77 : decode cJ18_numberOfTrailingZeros 77 = .ok (.iushr, 1) := dk_124 (dk_at dksJ18_numberOfTrailingZeros_3 6 rfl rfl)
theorem dJ18_numberOfTrailingZeros_78 : decode cJ18_numberOfTrailingZeros 78 = .ok (.iadd, 1) := dk_96 (dk_at dksJ18_numberOfTrailingZeros_3 7 rfl rfl)
theorem dJ18_numberOfTrailingZeros_79 : decode cJ18_numberOfTrailingZeros 79 = .ok (.ireturn, 1) := dk_172 (dk_at dksJ18_numberOfTrailingZeros_3 8 rfl rfl)
theorem q134 : (Jvm.Cond.initialized "java/lang/Integer") ∈ lw_all := lw_g (lw_at lw_m1 31 rfl) rfl
theorem q850 : (Jvm.Cond.static ({ cls := "java/lang/Integer", name := "compare", desc := "(II)I" } : Jvm.MethodName)) ∈ lw_all := lw_g (lw_at lw_m4 27 rfl) rfl
theorem q851 : (Jvm.Cond.code ({ cls := "java/lang/Integer", name := "compare", desc := "(II)I" } : Jvm.MethodName) prog_22_method_40_code (2 : Nat) (Option.some Jvm.ClassFile.FieldType.int)) ∈ lw_all := lw_g (lw_at lw_m4 28 rfl) rfl
theorem q962 : (Jvm.Cond.static ({ cls := "java/lang/Integer", name := "numberOfLeadingZeros", desc := "(I)I" } : Jvm.MethodName)) ∈ lw_all := lw_g (lw_at lw_m4 139 rfl) rfl
theorem q963 : (Jvm.Cond.code ({ cls := "java/lang/Integer", name := "numberOfLeadingZeros", desc := "(I)I" } : Jvm.MethodName) prog_22_method_47_code (2 : Nat) (Option.some Jvm.ClassFile.FieldType.int)) ∈ lw_all := lw_g (lw_at lw_m4 140 rfl) rfl
theorem q964 : (Jvm.Cond.constant "java/lang/Integer" (264 : Nat) (65536 : Int32)) ∈ lw_all := lw_g (lw_at lw_m4 141 rfl) rfl
theorem q971 : (Jvm.Cond.static ({ cls := "java/lang/Integer", name := "numberOfTrailingZeros", desc := "(I)I" } : Jvm.MethodName)) ∈ lw_all := lw_g (lw_at lw_m4 148 rfl) rfl
theorem q972 : (Jvm.Cond.code ({ cls := "java/lang/Integer", name := "numberOfTrailingZeros", desc := "(I)I" } : Jvm.MethodName) prog_22_method_48_code (2 : Nat) (Option.some Jvm.ClassFile.FieldType.int)) ∈ lw_all := lw_g (lw_at lw_m4 149 rfl) rfl

/-! jdk/internal/misc/Unsafe -/
set_option maxRecDepth 100000
def RJ19 : String := "jdk/internal/misc/Unsafe"
abbrev cJ19_getLongUnaligned : ByteArray := prog_72_method_334_code
def yJ19_getLongUnaligned : MethodName := ⟨RJ19, "getLongUnaligned", "(Ljava/lang/Object;J)J"⟩
def dkwJ19_getLongUnaligned_7 : List UInt8 := [182, 0, 39, 184, 2, 197, 173]
abbrev dktJ19_getLongUnaligned_7 : List UInt8 := dkwJ19_getLongUnaligned_7 ++ []
def dkwJ19_getLongUnaligned_6 : List UInt8 := [20, 2, 195, 97, 182, 0, 39, 42, 43, 32, 20, 2, 190, 97, 182, 0, 39, 42, 43, 32, 20, 2, 184, 97]
abbrev dktJ19_getLongUnaligned_6 : List UInt8 := dkwJ19_getLongUnaligned_6 ++ dktJ19_getLongUnaligned_7
def dkwJ19_getLongUnaligned_5 : List UInt8 := [43, 32, 20, 1, 93, 97, 182, 0, 39, 42, 43, 32, 20, 0, 205, 97, 182, 0, 39, 42, 43, 32]
abbrev dktJ19_getLongUnaligned_5 : List UInt8 := dkwJ19_getLongUnaligned_5 ++ dktJ19_getLongUnaligned_6
def dkwJ19_getLongUnaligned_4 : List UInt8 := [43, 32, 182, 0, 39, 42, 43, 32, 10, 97, 182, 0, 39, 42, 43, 32, 20, 0, 203, 97, 182, 0, 39, 42]
abbrev dktJ19_getLongUnaligned_4 : List UInt8 := dkwJ19_getLongUnaligned_4 ++ dktJ19_getLongUnaligned_5
def dkwJ19_getLongUnaligned_3 : List UInt8 := [43, 32, 20, 0, 205, 97, 182, 0, 47, 42, 43, 32, 20, 2, 190, 97, 182, 0, 47, 184, 2, 192, 173, 42]
abbrev dktJ19_getLongUnaligned_3 : List UInt8 := dkwJ19_getLongUnaligned_3 ++ dktJ19_getLongUnaligned_4
def dkwJ19_getLongUnaligned_2 : List UInt8 := [10, 127, 9, 148, 154, 0, 43, 42, 43, 32, 182, 0, 47, 42, 43, 32, 20, 0, 203, 97, 182, 0, 47, 42]
abbrev dktJ19_getLongUnaligned_2 : List UInt8 := dkwJ19_getLongUnaligned_2 ++ dktJ19_getLongUnaligned_3
def dkwJ19_getLongUnaligned_1 : List UInt8 := [154, 0, 23, 42, 43, 32, 182, 0, 17, 42, 43, 32, 20, 0, 205, 97, 182, 0, 17, 184, 2, 186, 173, 32]
abbrev dktJ19_getLongUnaligned_1 : List UInt8 := dkwJ19_getLongUnaligned_1 ++ dktJ19_getLongUnaligned_2
def dkwJ19_getLongUnaligned_0 : List UInt8 := [32, 20, 2, 184, 127, 9, 148, 154, 0, 10, 42, 43, 32, 182, 0, 27, 173, 32, 20, 1, 93, 127, 9, 148]
abbrev dktJ19_getLongUnaligned_0 : List UInt8 := dkwJ19_getLongUnaligned_0 ++ dktJ19_getLongUnaligned_1
theorem dksJ19_getLongUnaligned_0 : cJ19_getLongUnaligned.data.toList.drop 0 = dktJ19_getLongUnaligned_0 := by decide +kernel
theorem dksJ19_getLongUnaligned_1 : cJ19_getLongUnaligned.data.toList.drop 24 = dktJ19_getLongUnaligned_1 := dk_seg dksJ19_getLongUnaligned_0 24 rfl rfl
theorem dksJ19_getLongUnaligned_2 : cJ19_getLongUnaligned.data.toList.drop 48 = dktJ19_getLongUnaligned_2 := dk_seg dksJ19_getLongUnaligned_1 24 rfl rfl
theorem dksJ19_getLongUnaligned_3 : cJ19_getLongUnaligned.data.toList.drop 72 = dktJ19_getLongUnaligned_3 := dk_seg dksJ19_getLongUnaligned_2 24 rfl rfl
theorem dksJ19_getLongUnaligned_4 : cJ19_getLongUnaligned.data.toList.drop 96 = dktJ19_getLongUnaligned_4 := dk_seg dksJ19_getLongUnaligned_3 24 rfl rfl
theorem dksJ19_getLongUnaligned_5 : cJ19_getLongUnaligned.data.toList.drop 120 = dktJ19_getLongUnaligned_5 := dk_seg dksJ19_getLongUnaligned_4 24 rfl rfl
theorem dksJ19_getLongUnaligned_6 : cJ19_getLongUnaligned.data.toList.drop 142 = dktJ19_getLongUnaligned_6 := dk_seg dksJ19_getLongUnaligned_5 22 rfl rfl
theorem dksJ19_getLongUnaligned_7 : cJ19_getLongUnaligned.data.toList.drop 166 = dktJ19_getLongUnaligned_7 := dk_seg dksJ19_getLongUnaligned_6 24 rfl rfl
theorem dJ19_getLongUnaligned_0 : decode cJ19_getLongUnaligned 0 = .ok (.lload_n 2, 1) := dk_32 (dk_at dksJ19_getLongUnaligned_0 0 rfl rfl)
theorem dJ19_getLongUnaligned_1 : decode cJ19_getLongUnaligned 1 = .ok (.ldc2_w 696, 3) := dk_20 2 184 (dk_at dksJ19_getLongUnaligned_0 1 rfl rfl)
theorem dJ19_getLongUnaligned_4 : decode cJ19_getLongUnaligned 4 = .ok (.land, 1) := dk_127 (dk_at dksJ19_getLongUnaligned_0 4 rfl rfl)
theorem dJ19_getLongUnaligned_5 : decode cJ19_getLongUnaligned 5 = .ok (.lconst 0, 1) := dk_9 (dk_at dksJ19_getLongUnaligned_0 5 rfl rfl)
theorem dJ19_getLongUnaligned_6 : decode cJ19_getLongUnaligned 6 = .ok (.lcmp, 1) := dk_148 (dk_at dksJ19_getLongUnaligned_0 6 rfl rfl)
theorem dJ19_getLongUnaligned_7 : decode cJ19_getLongUnaligned 7 = .ok (.ifCond .ne 10, 3) := dk_154 0 10 (dk_at dksJ19_getLongUnaligned_0 7 rfl rfl)
theorem dJ19_getLongUnaligned_10 : decode cJ19_getLongUnaligned 10 = .ok (.aload_n 0, 1) := dk_42 (dk_at dksJ19_getLongUnaligned_0 10 rfl rfl)
theorem dJ19_getLongUnaligned_11 : decode cJ19_getLongUnaligned 11 = .ok (.aload_n 1, 1) := dk_43 (dk_at dksJ19_getLongUnaligned_0 11 rfl rfl)
theorem dJ19_getLongUnaligned_12 : decode cJ19_getLongUnaligned 12 = .ok (.lload_n 2, 1) := dk_32 (dk_at dksJ19_getLongUnaligned_0 12 rfl rfl)
theorem dJ19_getLongUnaligned_13 : decode cJ19_getLongUnaligned 13 = .ok (.invokevirtual 27, 3) := dk_182 0 27 (dk_at dksJ19_getLongUnaligned_0 13 rfl rfl)
theorem dJ19_getLongUnaligned_16 : decode cJ19_getLongUnaligned 16 = .ok (.lreturn, 1) := dk_173 (dk_at dksJ19_getLongUnaligned_0 16 rfl rfl)
theorem dJ19_getLongUnaligned_17 : decode cJ19_getLongUnaligned 17 = .ok (.lload_n 2, 1) := dk_32 (dk_at dksJ19_getLongUnaligned_0 17 rfl rfl)
theorem dJ19_getLongUnaligned_18 : decode cJ19_getLongUnaligned 18 = .ok (.ldc2_w 349, 3) := dk_20 1 93 (dk_at dksJ19_getLongUnaligned_0 18 rfl rfl)
theorem dJ19_getLongUnaligned_21 : decode cJ19_getLongUnaligned 21 = .ok (.land, 1) := dk_127 (dk_at dksJ19_getLongUnaligned_0 21 rfl rfl)
theorem dJ19_getLongUnaligned_22 : decode cJ19_getLongUnaligned 22 = .ok (.lconst 0, 1) := dk_9 (dk_at dksJ19_getLongUnaligned_0 22 rfl rfl)
theorem dJ19_getLongUnaligned_23 : decode cJ19_getLongUnaligned 23 = .ok (.lcmp, 1) := dk_148 (dk_at dksJ19_getLongUnaligned_0 23 rfl rfl)
theorem dJ19_getLongUnaligned_24 : decode cJ19_getLongUnaligned 24 = .ok (.ifCond .ne 23, 3) := dk_154 0 23 (dk_at dksJ19_getLongUnaligned_1 0 rfl rfl)
theorem dJ19_getLongUnaligned_27 : decode cJ19_getLongUnaligned 27 = .ok (.aload_n 0, 1) := dk_42 (dk_at dksJ19_getLongUnaligned_1 3 rfl rfl)
theorem dJ19_getLongUnaligned_28 : decode cJ19_getLongUnaligned 28 = .ok (.aload_n 1, 1) := dk_43 (dk_at dksJ19_getLongUnaligned_1 4 rfl rfl)
theorem dJ19_getLongUnaligned_29 : decode cJ19_getLongUnaligned 29 = .ok (.lload_n 2, 1) := dk_32 (dk_at dksJ19_getLongUnaligned_1 5 rfl rfl)
theorem dJ19_getLongUnaligned_30 : decode cJ19_getLongUnaligned 30 = .ok (.invokevirtual 17, 3) := dk_182 0 17 (dk_at dksJ19_getLongUnaligned_1 6 rfl rfl)
theorem dJ19_getLongUnaligned_33 : decode cJ19_getLongUnaligned 33 = .ok (.aload_n 0, 1) := dk_42 (dk_at dksJ19_getLongUnaligned_1 9 rfl rfl)
theorem dJ19_getLongUnaligned_34 : decode cJ19_getLongUnaligned 34 = .ok (.aload_n 1, 1) := dk_43 (dk_at dksJ19_getLongUnaligned_1 10 rfl rfl)
theorem dJ19_getLongUnaligned_35 : decode cJ19_getLongUnaligned 35 = .ok (.lload_n 2, 1) := dk_32 (dk_at dksJ19_getLongUnaligned_1 11 rfl rfl)
theorem dJ19_getLongUnaligned_36 : decode cJ19_getLongUnaligned 36 = .ok (.ldc2_w 205, 3) := dk_20 0 205 (dk_at dksJ19_getLongUnaligned_1 12 rfl rfl)
theorem dJ19_getLongUnaligned_39 : decode cJ19_getLongUnaligned 39 = .ok (.ladd, 1) := dk_97 (dk_at dksJ19_getLongUnaligned_1 15 rfl rfl)
theorem dJ19_getLongUnaligned_40 : decode cJ19_getLongUnaligned 40 = .ok (.invokevirtual 17, 3) := dk_182 0 17 (dk_at dksJ19_getLongUnaligned_1 16 rfl rfl)
theorem dJ19_getLongUnaligned_43 : decode cJ19_getLongUnaligned 43 = .ok (.invokestatic 698, 3) := dk_184 2 186 (dk_at dksJ19_getLongUnaligned_1 19 rfl rfl)
theorem dJ19_getLongUnaligned_46 : decode cJ19_getLongUnaligned 46 = .ok (.lreturn, 1) := dk_173 (dk_at dksJ19_getLongUnaligned_1 22 rfl rfl)
theorem dJ19_getLongUnaligned_47 : decode cJ19_getLongUnaligned 47 = .ok (.lload_n 2, 1) := dk_32 (dk_at dksJ19_getLongUnaligned_1 23 rfl rfl)
theorem dJ19_getLongUnaligned_48 : decode cJ19_getLongUnaligned 48 = .ok (.lconst 1, 1) := dk_10 (dk_at dksJ19_getLongUnaligned_2 0 rfl rfl)
theorem dJ19_getLongUnaligned_49 : decode cJ19_getLongUnaligned 49 = .ok (.land, 1) := dk_127 (dk_at dksJ19_getLongUnaligned_2 1 rfl rfl)
theorem dJ19_getLongUnaligned_50 : decode cJ19_getLongUnaligned 50 = .ok (.lconst 0, 1) := dk_9 (dk_at dksJ19_getLongUnaligned_2 2 rfl rfl)
theorem dJ19_getLongUnaligned_51 : decode cJ19_getLongUnaligned 51 = .ok (.lcmp, 1) := dk_148 (dk_at dksJ19_getLongUnaligned_2 3 rfl rfl)
theorem dJ19_getLongUnaligned_52 : decode cJ19_getLongUnaligned 52 = .ok (.ifCond .ne 43, 3) := dk_154 0 43 (dk_at dksJ19_getLongUnaligned_2 4 rfl rfl)
theorem dJ19_getLongUnaligned_55 : decode cJ19_getLongUnaligned 55 = .ok (.aload_n 0, 1) := dk_42 (dk_at dksJ19_getLongUnaligned_2 7 rfl rfl)
theorem dJ19_getLongUnaligned_56 : decode cJ19_getLongUnaligned 56 = .ok (.aload_n 1, 1) := dk_43 (dk_at dksJ19_getLongUnaligned_2 8 rfl rfl)
theorem dJ19_getLongUnaligned_57 : decode cJ19_getLongUnaligned 57 = .ok (.lload_n 2, 1) := dk_32 (dk_at dksJ19_getLongUnaligned_2 9 rfl rfl)
theorem dJ19_getLongUnaligned_58 : decode cJ19_getLongUnaligned 58 = .ok (.invokevirtual 47, 3) := dk_182 0 47 (dk_at dksJ19_getLongUnaligned_2 10 rfl rfl)
theorem dJ19_getLongUnaligned_61 : decode cJ19_getLongUnaligned 61 = .ok (.aload_n 0, 1) := dk_42 (dk_at dksJ19_getLongUnaligned_2 13 rfl rfl)
theorem dJ19_getLongUnaligned_62 : decode cJ19_getLongUnaligned 62 = .ok (.aload_n 1, 1) := dk_43 (dk_at dksJ19_getLongUnaligned_2 14 rfl rfl)
theorem dJ19_getLongUnaligned_63 : decode cJ19_getLongUnaligned 63 = .ok (.lload_n 2, 1) := dk_32 (dk_at dksJ19_getLongUnaligned_2 15 rfl rfl)
theorem dJ19_getLongUnaligned_64 : decode cJ19_getLongUnaligned 64 = .ok (.ldc2_w 203, 3) := dk_20 0 203 (dk_at dksJ19_getLongUnaligned_2 16 rfl rfl)
theorem dJ19_getLongUnaligned_67 : decode cJ19_getLongUnaligned 67 = .ok (.ladd, 1) := dk_97 (dk_at dksJ19_getLongUnaligned_2 19 rfl rfl)
theorem dJ19_getLongUnaligned_68 : decode cJ19_getLongUnaligned 68 = .ok (.invokevirtual 47, 3) := dk_182 0 47 (dk_at dksJ19_getLongUnaligned_2 20 rfl rfl)
theorem dJ19_getLongUnaligned_71 : decode cJ19_getLongUnaligned 71 = .ok (.aload_n 0, 1) := dk_42 (dk_at dksJ19_getLongUnaligned_2 23 rfl rfl)
theorem dJ19_getLongUnaligned_72 : decode cJ19_getLongUnaligned 72 = .ok (.aload_n 1, 1) := dk_43 (dk_at dksJ19_getLongUnaligned_3 0 rfl rfl)
theorem dJ19_getLongUnaligned_73 : decode cJ19_getLongUnaligned 73 = .ok (.lload_n 2, 1) := dk_32 (dk_at dksJ19_getLongUnaligned_3 1 rfl rfl)
theorem dJ19_getLongUnaligned_74 : decode cJ19_getLongUnaligned 74 = .ok (.ldc2_w 205, 3) := dk_20 0 205 (dk_at dksJ19_getLongUnaligned_3 2 rfl rfl)
theorem dJ19_getLongUnaligned_77 : decode cJ19_getLongUnaligned 77 = .ok (.ladd, 1) := dk_97 (dk_at dksJ19_getLongUnaligned_3 5 rfl rfl)
theorem dJ19_getLongUnaligned_78 : decode cJ19_getLongUnaligned 78 = .ok (.invokevirtual 47, 3) := dk_182 0 47 (dk_at dksJ19_getLongUnaligned_3 6 rfl rfl)
theorem dJ19_getLongUnaligned_81 : decode cJ19_getLongUnaligned 81 = .ok (.aload_n 0, 1) := dk_42 (dk_at dksJ19_getLongUnaligned_3 9 rfl rfl)
theorem dJ19_getLongUnaligned_82 : decode cJ19_getLongUnaligned 82 = .ok (.aload_n 1, 1) := dk_43 (dk_at dksJ19_getLongUnaligned_3 10 rfl rfl)
theorem dJ19_getLongUnaligned_83 : decode cJ19_getLongUnaligned 83 = .ok (.lload_n 2, 1) := dk_32 (dk_at dksJ19_getLongUnaligned_3 11 rfl rfl)
theorem dJ19_getLongUnaligned_84 : decode cJ19_getLongUnaligned 84 = .ok (.ldc2_w 702, 3) := dk_20 2 190 (dk_at dksJ19_getLongUnaligned_3 12 rfl rfl)
theorem dJ19_getLongUnaligned_87 : decode cJ19_getLongUnaligned 87 = .ok (.ladd, 1) := dk_97 (dk_at dksJ19_getLongUnaligned_3 15 rfl rfl)
theorem dJ19_getLongUnaligned_88 : decode cJ19_getLongUnaligned 88 = .ok (.invokevirtual 47, 3) := dk_182 0 47 (dk_at dksJ19_getLongUnaligned_3 16 rfl rfl)
theorem dJ19_getLongUnaligned_91 : decode cJ19_getLongUnaligned 91 = .ok (.invokestatic 704, 3) := dk_184 2 192 (dk_at dksJ19_getLongUnaligned_3 19 rfl rfl)
theorem dJ19_getLongUnaligned_94 : decode cJ19_getLongUnaligned 94 = .ok (.lreturn, 1) := dk_173 (dk_at dksJ19_getLongUnaligned_3 22 rfl rfl)
theorem dJ19_getLongUnaligned_95 : decode cJ19_getLongUnaligned 95 = .ok (.aload_n 0, 1) := dk_42 (dk_at dksJ19_getLongUnaligned_3 23 rfl rfl)
theorem dJ19_getLongUnaligned_96 : decode cJ19_getLongUnaligned 96 = .ok (.aload_n 1, 1) := dk_43 (dk_at dksJ19_getLongUnaligned_4 0 rfl rfl)
theorem dJ19_getLongUnaligned_97 : decode cJ19_getLongUnaligned 97 = .ok (.lload_n 2, 1) := dk_32 (dk_at dksJ19_getLongUnaligned_4 1 rfl rfl)
theorem dJ19_getLongUnaligned_98 : decode cJ19_getLongUnaligned 98 = .ok (.invokevirtual 39, 3) := dk_182 0 39 (dk_at dksJ19_getLongUnaligned_4 2 rfl rfl)
theorem dJ19_getLongUnaligned_101 : decode cJ19_getLongUnaligned 101 = .ok (.aload_n 0, 1) := dk_42 (dk_at dksJ19_getLongUnaligned_4 5 rfl rfl)
theorem dJ19_getLongUnaligned_102 : decode cJ19_getLongUnaligned 102 = .ok (.aload_n 1, 1) := dk_43 (dk_at dksJ19_getLongUnaligned_4 6 rfl rfl)
theorem dJ19_getLongUnaligned_103 : decode cJ19_getLongUnaligned 103 = .ok (.lload_n 2, 1) := dk_32 (dk_at dksJ19_getLongUnaligned_4 7 rfl rfl)
theorem dJ19_getLongUnaligned_104 : decode cJ19_getLongUnaligned 104 = .ok (.lconst 1, 1) := dk_10 (dk_at dksJ19_getLongUnaligned_4 8 rfl rfl)
theorem dJ19_getLongUnaligned_105 : decode cJ19_getLongUnaligned 105 = .ok (.ladd, 1) := dk_97 (dk_at dksJ19_getLongUnaligned_4 9 rfl rfl)
theorem dJ19_getLongUnaligned_106 : decode cJ19_getLongUnaligned 106 = .ok (.invokevirtual 39, 3) := dk_182 0 39 (dk_at dksJ19_getLongUnaligned_4 10 rfl rfl)
theorem dJ19_getLongUnaligned_109 : decode cJ19_getLongUnaligned 109 = .ok (.aload_n 0, 1) := dk_42 (dk_at dksJ19_getLongUnaligned_4 13 rfl rfl)
theorem dJ19_getLongUnaligned_110 : decode cJ19_getLongUnaligned 110 = .ok (.aload_n 1, 1) := dk_43 (dk_at dksJ19_getLongUnaligned_4 14 rfl rfl)
theorem dJ19_getLongUnaligned_111 : decode cJ19_getLongUnaligned 111 = .ok (.lload_n 2, 1) := dk_32 (dk_at dksJ19_getLongUnaligned_4 15 rfl rfl)
theorem dJ19_getLongUnaligned_112 : decode cJ19_getLongUnaligned 112 = .ok (.ldc2_w 203, 3) := dk_20 0 203 (dk_at dksJ19_getLongUnaligned_4 16 rfl rfl)
theorem dJ19_getLongUnaligned_115 : decode cJ19_getLongUnaligned 115 = .ok (.ladd, 1) := dk_97 (dk_at dksJ19_getLongUnaligned_4 19 rfl rfl)
theorem dJ19_getLongUnaligned_116 : decode cJ19_getLongUnaligned 116 = .ok (.invokevirtual 39, 3) := dk_182 0 39 (dk_at dksJ19_getLongUnaligned_4 20 rfl rfl)
theorem dJ19_getLongUnaligned_119 : decode cJ19_getLongUnaligned 119 = .ok (.aload_n 0, 1) := dk_42 (dk_at dksJ19_getLongUnaligned_4 23 rfl rfl)
theorem dJ19_getLongUnaligned_120 : decode cJ19_getLongUnaligned 120 = .ok (.aload_n 1, 1) := dk_43 (dk_at dksJ19_getLongUnaligned_5 0 rfl rfl)
theorem dJ19_getLongUnaligned_121 : decode cJ19_getLongUnaligned 121 = .ok (.lload_n 2, 1) := dk_32 (dk_at dksJ19_getLongUnaligned_5 1 rfl rfl)
theorem dJ19_getLongUnaligned_122 : decode cJ19_getLongUnaligned 122 = .ok (.ldc2_w 349, 3) := dk_20 1 93 (dk_at dksJ19_getLongUnaligned_5 2 rfl rfl)
theorem dJ19_getLongUnaligned_125 : decode cJ19_getLongUnaligned 125 = .ok (.ladd, 1) := dk_97 (dk_at dksJ19_getLongUnaligned_5 5 rfl rfl)
theorem dJ19_getLongUnaligned_126 : decode cJ19_getLongUnaligned 126 = .ok (.invokevirtual 39, 3) := dk_182 0 39 (dk_at dksJ19_getLongUnaligned_5 6 rfl rfl)
theorem dJ19_getLongUnaligned_129 : decode cJ19_getLongUnaligned 129 = .ok (.aload_n 0, 1) := dk_42 (dk_at dksJ19_getLongUnaligned_5 9 rfl rfl)
theorem dJ19_getLongUnaligned_130 : decode cJ19_getLongUnaligned 130 = .ok (.aload_n 1, 1) := dk_43 (dk_at dksJ19_getLongUnaligned_5 10 rfl rfl)
theorem dJ19_getLongUnaligned_131 : decode cJ19_getLongUnaligned 131 = .ok (.lload_n 2, 1) := dk_32 (dk_at dksJ19_getLongUnaligned_5 11 rfl rfl)
theorem dJ19_getLongUnaligned_132 : decode cJ19_getLongUnaligned 132 = .ok (.ldc2_w 205, 3) := dk_20 0 205 (dk_at dksJ19_getLongUnaligned_5 12 rfl rfl)
theorem dJ19_getLongUnaligned_135 : decode cJ19_getLongUnaligned 135 = .ok (.ladd, 1) := dk_97 (dk_at dksJ19_getLongUnaligned_5 15 rfl rfl)
theorem dJ19_getLongUnaligned_136 : decode cJ19_getLongUnaligned 136 = .ok (.invokevirtual 39, 3) := dk_182 0 39 (dk_at dksJ19_getLongUnaligned_5 16 rfl rfl)
theorem dJ19_getLongUnaligned_139 : decode cJ19_getLongUnaligned 139 = .ok (.aload_n 0, 1) := dk_42 (dk_at dksJ19_getLongUnaligned_5 19 rfl rfl)
theorem dJ19_getLongUnaligned_140 : decode cJ19_getLongUnaligned 140 = .ok (.aload_n 1, 1) := dk_43 (dk_at dksJ19_getLongUnaligned_5 20 rfl rfl)
theorem dJ19_getLongUnaligned_141 : decode cJ19_getLongUnaligned 141 = .ok (.lload_n 2, 1) := dk_32 (dk_at dksJ19_getLongUnaligned_5 21 rfl rfl)
theorem dJ19_getLongUnaligned_142 : decode cJ19_getLongUnaligned 142 = .ok (.ldc2_w 707, 3) := dk_20 2 195 (dk_at dksJ19_getLongUnaligned_6 0 rfl rfl)
theorem dJ19_getLongUnaligned_145 : decode cJ19_getLongUnaligned 145 = .ok (.ladd, 1) := dk_97 (dk_at dksJ19_getLongUnaligned_6 3 rfl rfl)
theorem dJ19_getLongUnaligned_146 : decode cJ19_getLongUnaligned 146 = .ok (.invokevirtual 39, 3) := dk_182 0 39 (dk_at dksJ19_getLongUnaligned_6 4 rfl rfl)
theorem dJ19_getLongUnaligned_149 : decode cJ19_getLongUnaligned 149 = .ok (.aload_n 0, 1) := dk_42 (dk_at dksJ19_getLongUnaligned_6 7 rfl rfl)
theorem dJ19_getLongUnaligned_150 : decode cJ19_getLongUnaligned 150 = .ok (.aload_n 1, 1) := dk_43 (dk_at dksJ19_getLongUnaligned_6 8 rfl rfl)
theorem dJ19_getLongUnaligned_151 : decode cJ19_getLongUnaligned 151 = .ok (.lload_n 2, 1) := dk_32 (dk_at dksJ19_getLongUnaligned_6 9 rfl rfl)
theorem dJ19_getLongUnaligned_152 : decode cJ19_getLongUnaligned 152 = .ok (.ldc2_w 702, 3) := dk_20 2 190 (dk_at dksJ19_getLongUnaligned_6 10 rfl rfl)
theorem dJ19_getLongUnaligned_155 : decode cJ19_getLongUnaligned 155 = .ok (.ladd, 1) := dk_97 (dk_at dksJ19_getLongUnaligned_6 13 rfl rfl)
theorem dJ19_getLongUnaligned_156 : decode cJ19_getLongUnaligned 156 = .ok (.invokevirtual 39, 3) := dk_182 0 39 (dk_at dksJ19_getLongUnaligned_6 14 rfl rfl)
theorem dJ19_getLongUnaligned_159 : decode cJ19_getLongUnaligned 159 = .ok (.aload_n 0, 1) := dk_42 (dk_at dksJ19_getLongUnaligned_6 17 rfl rfl)
theorem dJ19_getLongUnaligned_160 : decode cJ19_getLongUnaligned 160 = .ok (.aload_n 1, 1) := dk_43 (dk_at dksJ19_getLongUnaligned_6 18 rfl rfl)
theorem dJ19_getLongUnaligned_161 : decode cJ19_getLongUnaligned 161 = .ok (.lload_n 2, 1) := dk_32 (dk_at dksJ19_getLongUnaligned_6 19 rfl rfl)
theorem dJ19_getLongUnaligned_162 : decode cJ19_getLongUnaligned 162 = .ok (.ldc2_w 696, 3) := dk_20 2 184 (dk_at dksJ19_getLongUnaligned_6 20 rfl rfl)
theorem dJ19_getLongUnaligned_165 : decode cJ19_getLongUnaligned 165 = .ok (.ladd, 1) := dk_97 (dk_at dksJ19_getLongUnaligned_6 23 rfl rfl)
theorem dJ19_getLongUnaligned_166 : decode cJ19_getLongUnaligned 166 = .ok (.invokevirtual 39, 3) := dk_182 0 39 (dk_at dksJ19_getLongUnaligned_7 0 rfl rfl)
theorem dJ19_getLongUnaligned_169 : decode cJ19_getLongUnaligned 169 = .ok (.invokestatic 709, 3) := dk_184 2 197 (dk_at dksJ19_getLongUnaligned_7 3 rfl rfl)
theorem dJ19_getLongUnaligned_172 : decode cJ19_getLongUnaligned 172 = .ok (.lreturn, 1) := dk_173 (dk_at dksJ19_getLongUnaligned_7 6 rfl rfl)
abbrev cJ19_makeLong : ByteArray := prog_72_method_353_code
def yJ19_makeLong : MethodName := ⟨RJ19, "makeLong", "(II)J"⟩
def dkwJ19_makeLong_1 : List UInt8 := [173]
abbrev dktJ19_makeLong_1 : List UInt8 := dkwJ19_makeLong_1 ++ []
def dkwJ19_makeLong_0 : List UInt8 := [26, 184, 3, 23, 16, 32, 3, 184, 3, 16, 121, 27, 184, 3, 23, 16, 32, 16, 32, 184, 3, 16, 121, 129]
abbrev dktJ19_makeLong_0 : List UInt8 := dkwJ19_makeLong_0 ++ dktJ19_makeLong_1
theorem dksJ19_makeLong_0 : cJ19_makeLong.data.toList.drop 0 = dktJ19_makeLong_0 := by decide +kernel
theorem dksJ19_makeLong_1 : cJ19_makeLong.data.toList.drop 24 = dktJ19_makeLong_1 := dk_seg dksJ19_makeLong_0 24 rfl rfl
theorem dJ19_makeLong_0 : decode cJ19_makeLong 0 = .ok (.iload_n 0, 1) := dk_26 (dk_at dksJ19_makeLong_0 0 rfl rfl)
theorem dJ19_makeLong_1 : decode cJ19_makeLong 1 = .ok (.invokestatic 791, 3) := dk_184 3 23 (dk_at dksJ19_makeLong_0 1 rfl rfl)
theorem dJ19_makeLong_4 : decode cJ19_makeLong 4 = .ok (.bipush 32, 2) := dk_16 32 (dk_at dksJ19_makeLong_0 4 rfl rfl)
theorem dJ19_makeLong_6 : decode cJ19_makeLong 6 = .ok (.iconst 0, 1) := dk_3 (dk_at dksJ19_makeLong_0 6 rfl rfl)
theorem dJ19_makeLong_7 : decode cJ19_makeLong 7 = .ok (.invokestatic 784, 3) := dk_184 3 16 (dk_at dksJ19_makeLong_0 7 rfl rfl)
theorem dJ19_makeLong_10 : decode cJ19_makeLong 10 = .ok (.lshl, 1) := dk_121 (dk_at dksJ19_makeLong_0 10 rfl rfl)
theorem dJ19_makeLong_11 : decode cJ19_makeLong 11 = .ok (.iload_n 1, 1) := dk_27 (dk_at dksJ19_makeLong_0 11 rfl rfl)
theorem dJ19_makeLong_12 : decode cJ19_makeLong 12 = .ok (.invokestatic 791, 3) := dk_184 3 23 (dk_at dksJ19_makeLong_0 12 rfl rfl)
theorem dJ19_makeLong_15 : decode cJ19_makeLong 15 = .ok (.bipush 32, 2) := dk_16 32 (dk_at dksJ19_makeLong_0 15 rfl rfl)
theorem dJ19_makeLong_17 : decode cJ19_makeLong 17 = .ok (.bipush 32, 2) := dk_16 32 (dk_at dksJ19_makeLong_0 17 rfl rfl)
theorem dJ19_makeLong_19 : decode cJ19_makeLong 19 = .ok (.invokestatic 784, 3) := dk_184 3 16 (dk_at dksJ19_makeLong_0 19 rfl rfl)
theorem dJ19_makeLong_22 : decode cJ19_makeLong 22 = .ok (.lshl, 1) := dk_121 (dk_at dksJ19_makeLong_0 22 rfl rfl)
theorem dJ19_makeLong_23 : decode cJ19_makeLong 23 = .ok (.lor, 1) := dk_129 (dk_at dksJ19_makeLong_0 23 rfl rfl)
theorem dJ19_makeLong_24 : decode cJ19_makeLong 24 = .ok (.lreturn, 1) := dk_173 (dk_at dksJ19_makeLong_1 0 rfl rfl)
abbrev cJ19_toUnsignedLong : ByteArray := prog_72_method_370_code
def yJ19_toUnsignedLong : MethodName := ⟨RJ19, "toUnsignedLong", "(I)J"⟩
def dkwJ19_toUnsignedLong_0 : List UInt8 := [26, 133, 20, 3, 44, 127, 173]
abbrev dktJ19_toUnsignedLong_0 : List UInt8 := dkwJ19_toUnsignedLong_0 ++ []
theorem dksJ19_toUnsignedLong_0 : cJ19_toUnsignedLong.data.toList.drop 0 = dktJ19_toUnsignedLong_0 := by decide +kernel
theorem dJ19_toUnsignedLong_0 : decode cJ19_toUnsignedLong 0 = .ok (.iload_n 0, 1) := dk_26 (dk_at dksJ19_toUnsignedLong_0 0 rfl rfl)
theorem dJ19_toUnsignedLong_1 : decode cJ19_toUnsignedLong 1 = .ok (.i2l, 1) := dk_133 (dk_at dksJ19_toUnsignedLong_0 1 rfl rfl)
theorem dJ19_toUnsignedLong_2 : decode cJ19_toUnsignedLong 2 = .ok (.ldc2_w 812, 3) := dk_20 3 44 (dk_at dksJ19_toUnsignedLong_0 2 rfl rfl)
theorem dJ19_toUnsignedLong_5 : decode cJ19_toUnsignedLong 5 = .ok (.land, 1) := dk_127 (dk_at dksJ19_toUnsignedLong_0 5 rfl rfl)
theorem dJ19_toUnsignedLong_6 : decode cJ19_toUnsignedLong 6 = .ok (.lreturn, 1) := dk_173 (dk_at dksJ19_toUnsignedLong_0 6 rfl rfl)
abbrev cJ19_pickPos : ByteArray := prog_72_method_350_code
def yJ19_pickPos : MethodName := ⟨RJ19, "pickPos", "(II)I"⟩
def dkwJ19_pickPos_0 : List UInt8 := [178, 1, 95, 153, 0, 9, 26, 27, 100, 167, 0, 4, 27, 172]
abbrev dktJ19_pickPos_0 : List UInt8 := dkwJ19_pickPos_0 ++ []
theorem dksJ19_pickPos_0 : cJ19_pickPos.data.toList.drop 0 = dktJ19_pickPos_0 := by decide +kernel
theorem dJ19_pickPos_0 : decode cJ19_pickPos 0 = .ok (.getstatic 351, 3) := dk_178 1 95 (dk_at dksJ19_pickPos_0 0 rfl rfl)
theorem dJ19_pickPos_3 : decode cJ19_pickPos 3 = .ok (.ifCond .eq 9, 3) := dk_153 0 9 (dk_at dksJ19_pickPos_0 3 rfl rfl)
theorem dJ19_pickPos_6 : decode cJ19_pickPos 6 = .ok (.iload_n 0, 1) := dk_26 (dk_at dksJ19_pickPos_0 6 rfl rfl)
theorem dJ19_pickPos_7 : decode cJ19_pickPos 7 = .ok (.iload_n 1, 1) := dk_27 (dk_at dksJ19_pickPos_0 7 rfl rfl)
theorem dJ19_pickPos_8 : decode cJ19_pickPos 8 = .ok (.isub, 1) := dk_100 (dk_at dksJ19_pickPos_0 8 rfl rfl)
theorem dJ19_pickPos_9 : decode cJ19_pickPos 9 = .ok (.goto 4, 3) := dk_167 0 4 (dk_at dksJ19_pickPos_0 9 rfl rfl)
theorem dJ19_pickPos_12 : decode cJ19_pickPos 12 = .ok (.iload_n 1, 1) := dk_27 (dk_at dksJ19_pickPos_0 12 rfl rfl)
theorem dJ19_pickPos_13 : decode cJ19_pickPos 13 = .ok (.ireturn, 1) := dk_172 (dk_at dksJ19_pickPos_0 13 rfl rfl)
abbrev cJ19_makeLong_2 : ByteArray := prog_72_method_352_code
def yJ19_makeLong_2 : MethodName := ⟨RJ19, "makeLong", "(SSSS)J"⟩
def dkwJ19_makeLong_2_2 : List UInt8 := [121, 129, 173]
abbrev dktJ19_makeLong_2_2 : List UInt8 := dkwJ19_makeLong_2_2 ++ []
def dkwJ19_makeLong_2_1 : List UInt8 := [28, 184, 3, 20, 16, 48, 16, 32, 184, 3, 16, 121, 129, 29, 184, 3, 20, 16, 48, 16, 48, 184, 3, 16]
abbrev dktJ19_makeLong_2_1 : List UInt8 := dkwJ19_makeLong_2_1 ++ dktJ19_makeLong_2_2
def dkwJ19_makeLong_2_0 : List UInt8 := [26, 184, 3, 20, 16, 48, 3, 184, 3, 16, 121, 27, 184, 3, 20, 16, 48, 16, 16, 184, 3, 16, 121, 129]
abbrev dktJ19_makeLong_2_0 : List UInt8 := dkwJ19_makeLong_2_0 ++ dktJ19_makeLong_2_1
theorem dksJ19_makeLong_2_0 : cJ19_makeLong_2.data.toList.drop 0 = dktJ19_makeLong_2_0 := by decide +kernel
theorem dksJ19_makeLong_2_1 : cJ19_makeLong_2.data.toList.drop 24 = dktJ19_makeLong_2_1 := dk_seg dksJ19_makeLong_2_0 24 rfl rfl
theorem dksJ19_makeLong_2_2 : cJ19_makeLong_2.data.toList.drop 48 = dktJ19_makeLong_2_2 := dk_seg dksJ19_makeLong_2_1 24 rfl rfl
theorem dJ19_makeLong_2_0 : decode cJ19_makeLong_2 0 = .ok (.iload_n 0, 1) := dk_26 (dk_at dksJ19_makeLong_2_0 0 rfl rfl)
theorem dJ19_makeLong_2_1 : decode cJ19_makeLong_2 1 = .ok (.invokestatic 788, 3) := dk_184 3 20 (dk_at dksJ19_makeLong_2_0 1 rfl rfl)
theorem dJ19_makeLong_2_4 : decode cJ19_makeLong_2 4 = .ok (.bipush 48, 2) := dk_16 48 (dk_at dksJ19_makeLong_2_0 4 rfl rfl)
theorem dJ19_makeLong_2_6 : decode cJ19_makeLong_2 6 = .ok (.iconst 0, 1) := dk_3 (dk_at dksJ19_makeLong_2_0 6 rfl rfl)
theorem dJ19_makeLong_2_7 : decode cJ19_makeLong_2 7 = .ok (.invokestatic 784, 3) := dk_184 3 16 (dk_at dksJ19_makeLong_2_0 7 rfl rfl)
theorem dJ19_makeLong_2_10 : decode cJ19_makeLong_2 10 = .ok (.lshl, 1) := dk_121 (dk_at dksJ19_makeLong_2_0 10 rfl rfl)
theorem dJ19_makeLong_2_11 : decode cJ19_makeLong_2 11 = .ok (.iload_n 1, 1) := dk_27 (dk_at dksJ19_makeLong_2_0 11 rfl rfl)
theorem dJ19_makeLong_2_12 : decode cJ19_makeLong_2 12 = .ok (.invokestatic 788, 3) := dk_184 3 20 (dk_at dksJ19_makeLong_2_0 12 rfl rfl)
theorem dJ19_makeLong_2_15 : decode cJ19_makeLong_2 15 = .ok (.bipush 48, 2) := dk_16 48 (dk_at dksJ19_makeLong_2_0 15 rfl rfl)
theorem dJ19_makeLong_2_17 : decode cJ19_makeLong_2 17 = .ok (.bipush 16, 2) := dk_16 16 (dk_at dksJ19_makeLong_2_0 17 rfl rfl)
theorem dJ19_makeLong_2_19 : decode cJ19_makeLong_2 19 = .ok (.invokestatic 784, 3) := dk_184 3 16 (dk_at dksJ19_makeLong_2_0 19 rfl rfl)
theorem dJ19_makeLong_2_22 : decode cJ19_makeLong_2 22 = .ok (.lshl, 1) := dk_121 (dk_at dksJ19_makeLong_2_0 22 rfl rfl)
theorem dJ19_makeLong_2_23 : decode cJ19_makeLong_2 23 = .ok (.lor, 1) := dk_129 (dk_at dksJ19_makeLong_2_0 23 rfl rfl)
theorem dJ19_makeLong_2_24 : decode cJ19_makeLong_2 24 = .ok (.iload_n 2, 1) := dk_28 (dk_at dksJ19_makeLong_2_1 0 rfl rfl)
theorem dJ19_makeLong_2_25 : decode cJ19_makeLong_2 25 = .ok (.invokestatic 788, 3) := dk_184 3 20 (dk_at dksJ19_makeLong_2_1 1 rfl rfl)
theorem dJ19_makeLong_2_28 : decode cJ19_makeLong_2 28 = .ok (.bipush 48, 2) := dk_16 48 (dk_at dksJ19_makeLong_2_1 4 rfl rfl)
theorem dJ19_makeLong_2_30 : decode cJ19_makeLong_2 30 = .ok (.bipush 32, 2) := dk_16 32 (dk_at dksJ19_makeLong_2_1 6 rfl rfl)
theorem dJ19_makeLong_2_32 : decode cJ19_makeLong_2 32 = .ok (.invokestatic 784, 3) := dk_184 3 16 (dk_at dksJ19_makeLong_2_1 8 rfl rfl)
theorem dJ19_makeLong_2_35 : decode cJ19_makeLong_2 35 = .ok (.lshl, 1) := dk_121 (dk_at dksJ19_makeLong_2_1 11 rfl rfl)
theorem dJ19_makeLong_2_36 : decode cJ19_makeLong_2 36 = .ok (.lor, 1) := dk_129 (dk_at dksJ19_makeLong_2_1 12 rfl rfl)
theorem dJ19_makeLong_2_37 : decode cJ19_makeLong_2 37 = .ok (.iload_n 3, 1) := dk_29 (dk_at dksJ19_makeLong_2_1 13 rfl rfl)
theorem dJ19_makeLong_2_38 : decode cJ19_makeLong_2 38 = .ok (.invokestatic 788, 3) := dk_184 3 20 (dk_at dksJ19_makeLong_2_1 14 rfl rfl)
theorem dJ19_makeLong_2_41 : decode cJ19_makeLong_2 41 = .ok (.bipush 48, 2) := dk_16 48 (dk_at dksJ19_makeLong_2_1 17 rfl rfl)
theorem dJ19_makeLong_2_43 : decode cJ19_makeLong_2 43 = .ok (.bipush 48, 2) := dk_16 48 (dk_at dksJ19_makeLong_2_1 19 rfl rfl)
theorem dJ19_makeLong_2_45 : decode cJ19_makeLong_2 45 = .ok (.invokestatic 784, 3) := dk_184 3 16 (dk_at dksJ19_makeLong_2_1 21 rfl rfl)
theorem dJ19_makeLong_2_48 : decode cJ19_makeLong_2 48 = .ok (.lshl, 1) := dk_121 (dk_at dksJ19_makeLong_2_2 0 rfl rfl)
theorem dJ19_makeLong_2_49 : decode cJ19_makeLong_2 49 = .ok (.lor, 1) := dk_129 (dk_at dksJ19_makeLong_2_2 1 rfl rfl)
theorem dJ19_makeLong_2_50 : decode cJ19_makeLong_2 50 = .ok (.lreturn, 1) := dk_173 (dk_at dksJ19_makeLong_2_2 2 rfl rfl)
abbrev cJ19_toUnsignedLong_2 : ByteArray := prog_72_method_369_code
def yJ19_toUnsignedLong_2 : MethodName := ⟨RJ19, "toUnsignedLong", "(S)J"⟩
def dkwJ19_toUnsignedLong_2_0 : List UInt8 := [26, 133, 20, 3, 42, 127, 173]
abbrev dktJ19_toUnsignedLong_2_0 : List UInt8 := dkwJ19_toUnsignedLong_2_0 ++ []
theorem dksJ19_toUnsignedLong_2_0 : cJ19_toUnsignedLong_2.data.toList.drop 0 = dktJ19_toUnsignedLong_2_0 := by decide +kernel
theorem dJ19_toUnsignedLong_2_0 : decode cJ19_toUnsignedLong_2 0 = .ok (.iload_n 0, 1) := dk_26 (dk_at dksJ19_toUnsignedLong_2_0 0 rfl rfl)
theorem dJ19_toUnsignedLong_2_1 : decode cJ19_toUnsignedLong_2 1 = .ok (.i2l, 1) := dk_133 (dk_at dksJ19_toUnsignedLong_2_0 1 rfl rfl)
theorem dJ19_toUnsignedLong_2_2 : decode cJ19_toUnsignedLong_2 2 = .ok (.ldc2_w 810, 3) := dk_20 3 42 (dk_at dksJ19_toUnsignedLong_2_0 2 rfl rfl)
theorem dJ19_toUnsignedLong_2_5 : decode cJ19_toUnsignedLong_2 5 = .ok (.land, 1) := dk_127 (dk_at dksJ19_toUnsignedLong_2_0 5 rfl rfl)
theorem dJ19_toUnsignedLong_2_6 : decode cJ19_toUnsignedLong_2 6 = .ok (.lreturn, 1) := dk_173 (dk_at dksJ19_toUnsignedLong_2_0 6 rfl rfl)
abbrev cJ19_makeLong_3 : ByteArray := prog_72_method_351_code
def yJ19_makeLong_3 : MethodName := ⟨RJ19, "makeLong", "(BBBBBBBB)J"⟩
def dkwJ19_makeLong_3_4 : List UInt8 := [184, 3, 13, 16, 56, 16, 56, 184, 3, 16, 121, 129, 173]
abbrev dktJ19_makeLong_3_4 : List UInt8 := dkwJ19_makeLong_3_4 ++ []
def dkwJ19_makeLong_3_3 : List UInt8 := [16, 40, 184, 3, 16, 121, 129, 21, 6, 184, 3, 13, 16, 56, 16, 48, 184, 3, 16, 121, 129, 21, 7]
abbrev dktJ19_makeLong_3_3 : List UInt8 := dkwJ19_makeLong_3_3 ++ dktJ19_makeLong_3_4
def dkwJ19_makeLong_3_2 : List UInt8 := [121, 129, 21, 4, 184, 3, 13, 16, 56, 16, 32, 184, 3, 16, 121, 129, 21, 5, 184, 3, 13, 16, 56]
abbrev dktJ19_makeLong_3_2 : List UInt8 := dkwJ19_makeLong_3_2 ++ dktJ19_makeLong_3_3
def dkwJ19_makeLong_3_1 : List UInt8 := [28, 184, 3, 13, 16, 56, 16, 16, 184, 3, 16, 121, 129, 29, 184, 3, 13, 16, 56, 16, 24, 184, 3, 16]
abbrev dktJ19_makeLong_3_1 : List UInt8 := dkwJ19_makeLong_3_1 ++ dktJ19_makeLong_3_2
def dkwJ19_makeLong_3_0 : List UInt8 := [26, 184, 3, 13, 16, 56, 3, 184, 3, 16, 121, 27, 184, 3, 13, 16, 56, 16, 8, 184, 3, 16, 121, 129]
abbrev dktJ19_makeLong_3_0 : List UInt8 := dkwJ19_makeLong_3_0 ++ dktJ19_makeLong_3_1
theorem dksJ19_makeLong_3_0 : cJ19_makeLong_3.data.toList.drop 0 = dktJ19_makeLong_3_0 := by decide +kernel
theorem dksJ19_makeLong_3_1 : cJ19_makeLong_3.data.toList.drop 24 = dktJ19_makeLong_3_1 := dk_seg dksJ19_makeLong_3_0 24 rfl rfl
theorem dksJ19_makeLong_3_2 : cJ19_makeLong_3.data.toList.drop 48 = dktJ19_makeLong_3_2 := dk_seg dksJ19_makeLong_3_1 24 rfl rfl
theorem dksJ19_makeLong_3_3 : cJ19_makeLong_3.data.toList.drop 71 = dktJ19_makeLong_3_3 := dk_seg dksJ19_makeLong_3_2 23 rfl rfl
theorem dksJ19_makeLong_3_4 : cJ19_makeLong_3.data.toList.drop 94 = dktJ19_makeLong_3_4 := dk_seg dksJ19_makeLong_3_3 23 rfl rfl
theorem dJ19_makeLong_3_0 : decode cJ19_makeLong_3 0 = .ok (.iload_n 0, 1) := dk_26 (dk_at dksJ19_makeLong_3_0 0 rfl rfl)
theorem dJ19_makeLong_3_1 : decode cJ19_makeLong_3 1 = .ok (.invokestatic 781, 3) := dk_184 3 13 (dk_at dksJ19_makeLong_3_0 1 rfl rfl)
theorem dJ19_makeLong_3_4 : decode cJ19_makeLong_3 4 = .ok (.bipush 56, 2) := dk_16 56 (dk_at dksJ19_makeLong_3_0 4 rfl rfl)
theorem dJ19_makeLong_3_6 : decode cJ19_makeLong_3 6 = .ok (.iconst 0, 1) := dk_3 (dk_at dksJ19_makeLong_3_0 6 rfl rfl)
theorem dJ19_makeLong_3_7 : decode cJ19_makeLong_3 7 = .ok (.invokestatic 784, 3) := dk_184 3 16 (dk_at dksJ19_makeLong_3_0 7 rfl rfl)
theorem dJ19_makeLong_3_10 : decode cJ19_makeLong_3 10 = .ok (.lshl, 1) := dk_121 (dk_at dksJ19_makeLong_3_0 10 rfl rfl)
theorem dJ19_makeLong_3_11 : decode cJ19_makeLong_3 11 = .ok (.iload_n 1, 1) := dk_27 (dk_at dksJ19_makeLong_3_0 11 rfl rfl)
theorem dJ19_makeLong_3_12 : decode cJ19_makeLong_3 12 = .ok (.invokestatic 781, 3) := dk_184 3 13 (dk_at dksJ19_makeLong_3_0 12 rfl rfl)
theorem dJ19_makeLong_3_15 : decode cJ19_makeLong_3 15 = .ok (.bipush 56, 2) := dk_16 56 (dk_at dksJ19_makeLong_3_0 15 rfl rfl)
theorem dJ19_makeLong_3_17 : decode cJ19_makeLong_3 17 = .ok (.bipush 8, 2) := dk_16 8 (dk_at dksJ19_makeLong_3_0 17 rfl rfl)
theorem dJ19_makeLong_3_19 : decode cJ19_makeLong_3 19 = .ok (.invokestatic 784, 3) := dk_184 3 16 (dk_at dksJ19_makeLong_3_0 19 rfl rfl)
theorem dJ19_makeLong_3_22 : decode cJ19_makeLong_3 22 = .ok (.lshl, 1) := dk_121 (dk_at dksJ19_makeLong_3_0 22 rfl rfl)
theorem dJ19_makeLong_3_23 : decode cJ19_makeLong_3 23 = .ok (.lor, 1) := dk_129 (dk_at dksJ19_makeLong_3_0 23 rfl rfl)
theorem dJ19_makeLong_3_24 : decode cJ19_makeLong_3 24 = .ok (.iload_n 2, 1) := dk_28 (dk_at dksJ19_makeLong_3_1 0 rfl rfl)
theorem dJ19_makeLong_3_25 : decode cJ19_makeLong_3 25 = .ok (.invokestatic 781, 3) := dk_184 3 13 (dk_at dksJ19_makeLong_3_1 1 rfl rfl)
theorem dJ19_makeLong_3_28 : decode cJ19_makeLong_3 28 = .ok (.bipush 56, 2) := dk_16 56 (dk_at dksJ19_makeLong_3_1 4 rfl rfl)
theorem dJ19_makeLong_3_30 : decode cJ19_makeLong_3 30 = .ok (.bipush 16, 2) := dk_16 16 (dk_at dksJ19_makeLong_3_1 6 rfl rfl)
theorem dJ19_makeLong_3_32 : decode cJ19_makeLong_3 32 = .ok (.invokestatic 784, 3) := dk_184 3 16 (dk_at dksJ19_makeLong_3_1 8 rfl rfl)
theorem dJ19_makeLong_3_35 : decode cJ19_makeLong_3 35 = .ok (.lshl, 1) := dk_121 (dk_at dksJ19_makeLong_3_1 11 rfl rfl)
theorem dJ19_makeLong_3_36 : decode cJ19_makeLong_3 36 = .ok (.lor, 1) := dk_129 (dk_at dksJ19_makeLong_3_1 12 rfl rfl)
theorem dJ19_makeLong_3_37 : decode cJ19_makeLong_3 37 = .ok (.iload_n 3, 1) := dk_29 (dk_at dksJ19_makeLong_3_1 13 rfl rfl)
theorem dJ19_makeLong_3_38 : decode cJ19_makeLong_3 38 = .ok (.invokestatic 781, 3) := dk_184 3 13 (dk_at dksJ19_makeLong_3_1 14 rfl rfl)
theorem dJ19_makeLong_3_41 : decode cJ19_makeLong_3 41 = .ok (.bipush 56, 2) := dk_16 56 (dk_at dksJ19_makeLong_3_1 17 rfl rfl)
theorem dJ19_makeLong_3_43 : decode cJ19_makeLong_3 43 = .ok (.bipush 24, 2) := dk_16 24 (dk_at dksJ19_makeLong_3_1 19 rfl rfl)
theorem dJ19_makeLong_3_45 : decode cJ19_makeLong_3 45 = .ok (.invokestatic 784, 3) := dk_184 3 16 (dk_at dksJ19_makeLong_3_1 21 rfl rfl)
theorem dJ19_makeLong_3_48 : decode cJ19_makeLong_3 48 = .ok (.lshl, 1) := dk_121 (dk_at dksJ19_makeLong_3_2 0 rfl rfl)
theorem dJ19_makeLong_3_49 : decode cJ19_makeLong_3 49 = .ok (.lor, 1) := dk_129 (dk_at dksJ19_makeLong_3_2 1 rfl rfl)
theorem dJ19_makeLong_3_50 : decode cJ19_makeLong_3 50 = .ok (.iload 4, 2) := dk_21 4 (dk_at dksJ19_makeLong_3_2 2 rfl rfl)
theorem dJ19_makeLong_3_52 : decode cJ19_makeLong_3 52 = .ok (.invokestatic 781, 3) := dk_184 3 13 (dk_at dksJ19_makeLong_3_2 4 rfl rfl)
theorem dJ19_makeLong_3_55 : decode cJ19_makeLong_3 55 = .ok (.bipush 56, 2) := dk_16 56 (dk_at dksJ19_makeLong_3_2 7 rfl rfl)
theorem dJ19_makeLong_3_57 : decode cJ19_makeLong_3 57 = .ok (.bipush 32, 2) := dk_16 32 (dk_at dksJ19_makeLong_3_2 9 rfl rfl)
theorem dJ19_makeLong_3_59 : decode cJ19_makeLong_3 59 = .ok (.invokestatic 784, 3) := dk_184 3 16 (dk_at dksJ19_makeLong_3_2 11 rfl rfl)
theorem dJ19_makeLong_3_62 : decode cJ19_makeLong_3 62 = .ok (.lshl, 1) := dk_121 (dk_at dksJ19_makeLong_3_2 14 rfl rfl)
theorem dJ19_makeLong_3_63 : decode cJ19_makeLong_3 63 = .ok (.lor, 1) := dk_129 (dk_at dksJ19_makeLong_3_2 15 rfl rfl)
theorem dJ19_makeLong_3_64 : decode cJ19_makeLong_3 64 = .ok (.iload 5, 2) := dk_21 5 (dk_at dksJ19_makeLong_3_2 16 rfl rfl)
theorem dJ19_makeLong_3_66 : decode cJ19_makeLong_3 66 = .ok (.invokestatic 781, 3) := dk_184 3 13 (dk_at dksJ19_makeLong_3_2 18 rfl rfl)
theorem dJ19_makeLong_3_69 : decode cJ19_makeLong_3 69 = .ok (.bipush 56, 2) := dk_16 56 (dk_at dksJ19_makeLong_3_2 21 rfl rfl)
theorem dJ19_makeLong_3_71 : decode cJ19_makeLong_3 71 = .ok (.bipush 40, 2) := dk_16 40 (dk_at dksJ19_makeLong_3_3 0 rfl rfl)
theorem dJ19_makeLong_3_73 : decode cJ19_makeLong_3 73 = .ok (.invokestatic 784, 3) := dk_184 3 16 (dk_at dksJ19_makeLong_3_3 2 rfl rfl)
theorem dJ19_makeLong_3_76 : decode cJ19_makeLong_3 76 = .ok (.lshl, 1) := dk_121 (dk_at dksJ19_makeLong_3_3 5 rfl rfl)
theorem dJ19_makeLong_3_77 : decode cJ19_makeLong_3 77 = .ok (.lor, 1) := dk_129 (dk_at dksJ19_makeLong_3_3 6 rfl rfl)
theorem dJ19_makeLong_3_78 : decode cJ19_makeLong_3 78 = .ok (.iload 6, 2) := dk_21 6 (dk_at dksJ19_makeLong_3_3 7 rfl rfl)
theorem dJ19_makeLong_3_80 : decode cJ19_makeLong_3 80 = .ok (.invokestatic 781, 3) := dk_184 3 13 (dk_at dksJ19_makeLong_3_3 9 rfl rfl)
theorem dJ19_makeLong_3_83 : decode cJ19_makeLong_3 83 = .ok (.bipush 56, 2) := dk_16 56 (dk_at dksJ19_makeLong_3_3 12 rfl rfl)
theorem dJ19_makeLong_3_85 : decode cJ19_makeLong_3 85 = .ok (.bipush 48, 2) := dk_16 48 (dk_at dksJ19_makeLong_3_3 14 rfl rfl)
theorem dJ19_makeLong_3_87 : decode cJ19_makeLong_3 87 = .ok (.invokestatic 784, 3) := dk_184 3 16 (dk_at dksJ19_makeLong_3_3 16 rfl rfl)
theorem dJ19_makeLong_3_90 : decode cJ19_makeLong_3 90 = .ok (.lshl, 1) := dk_121 (dk_at dksJ19_makeLong_3_3 19 rfl rfl)
theorem dJ19_makeLong_3_91 : decode cJ19_makeLong_3 91 = .ok (.lor, 1) := dk_129 (dk_at dksJ19_makeLong_3_3 20 rfl rfl)
theorem dJ19_makeLong_3_92 : decode cJ19_makeLong_3 92 = .ok (.iload 7, 2) := dk_21 7 (dk_at dksJ19_makeLong_3_3 21 rfl rfl)
theorem dJ19_makeLong_3_94 : decode cJ19_makeLong_3 94 = .ok (.invokestatic 781, 3) := dk_184 3 13 (dk_at dksJ19_makeLong_3_4 0 rfl rfl)
theorem dJ19_makeLong_3_97 : decode cJ19_makeLong_3 97 = .ok (.bipush 56, 2) := dk_16 56 (dk_at dksJ19_makeLong_3_4 3 rfl rfl)
theorem dJ19_makeLong_3_99 : decode cJ19_makeLong_3 99 = .ok (.bipush 56, 2) := dk_16 56 (dk_at dksJ19_makeLong_3_4 5 rfl rfl)
theorem dJ19_makeLong_3_101 : decode cJ19_makeLong_3 101 = .ok (.invokestatic 784, 3) := dk_184 3 16 (dk_at dksJ19_makeLong_3_4 7 rfl rfl)
theorem dJ19_makeLong_3_104 : decode cJ19_makeLong_3 104 = .ok (.lshl, 1) := dk_121 (dk_at dksJ19_makeLong_3_4 10 rfl rfl)
theorem dJ19_makeLong_3_105 : decode cJ19_makeLong_3 105 = .ok (.lor, 1) := dk_129 (dk_at dksJ19_makeLong_3_4 11 rfl rfl)
theorem dJ19_makeLong_3_106 : decode cJ19_makeLong_3 106 = .ok (.lreturn, 1) := dk_173 (dk_at dksJ19_makeLong_3_4 12 rfl rfl)
abbrev cJ19_toUnsignedLong_3 : ByteArray := prog_72_method_368_code
def yJ19_toUnsignedLong_3 : MethodName := ⟨RJ19, "toUnsignedLong", "(B)J"⟩
def dkwJ19_toUnsignedLong_3_0 : List UInt8 := [26, 133, 20, 3, 40, 127, 173]
abbrev dktJ19_toUnsignedLong_3_0 : List UInt8 := dkwJ19_toUnsignedLong_3_0 ++ []
theorem dksJ19_toUnsignedLong_3_0 : cJ19_toUnsignedLong_3.data.toList.drop 0 = dktJ19_toUnsignedLong_3_0 := by decide +kernel
theorem dJ19_toUnsignedLong_3_0 : decode cJ19_toUnsignedLong_3 0 = .ok (.iload_n 0, 1) := dk_26 (dk_at dksJ19_toUnsignedLong_3_0 0 rfl rfl)
theorem dJ19_toUnsignedLong_3_1 : decode cJ19_toUnsignedLong_3 1 = .ok (.i2l, 1) := dk_133 (dk_at dksJ19_toUnsignedLong_3_0 1 rfl rfl)
theorem dJ19_toUnsignedLong_3_2 : decode cJ19_toUnsignedLong_3 2 = .ok (.ldc2_w 808, 3) := dk_20 3 40 (dk_at dksJ19_toUnsignedLong_3_0 2 rfl rfl)
theorem dJ19_toUnsignedLong_3_5 : decode cJ19_toUnsignedLong_3 5 = .ok (.land, 1) := dk_127 (dk_at dksJ19_toUnsignedLong_3_0 5 rfl rfl)
theorem dJ19_toUnsignedLong_3_6 : decode cJ19_toUnsignedLong_3 6 = .ok (.lreturn, 1) := dk_173 (dk_at dksJ19_toUnsignedLong_3_0 6 rfl rfl)
abbrev cJ19_getIntUnaligned : ByteArray := prog_72_method_336_code
def yJ19_getIntUnaligned : MethodName := ⟨RJ19, "getIntUnaligned", "(Ljava/lang/Object;J)I"⟩
def dkwJ19_getIntUnaligned_3 : List UInt8 := [43, 32, 20, 1, 93, 97, 182, 0, 39, 184, 2, 211, 172]
abbrev dktJ19_getIntUnaligned_3 : List UInt8 := dkwJ19_getIntUnaligned_3 ++ []
def dkwJ19_getIntUnaligned_2 : List UInt8 := [43, 32, 182, 0, 39, 42, 43, 32, 10, 97, 182, 0, 39, 42, 43, 32, 20, 0, 203, 97, 182, 0, 39, 42]
abbrev dktJ19_getIntUnaligned_2 : List UInt8 := dkwJ19_getIntUnaligned_2 ++ dktJ19_getIntUnaligned_3
def dkwJ19_getIntUnaligned_1 : List UInt8 := [154, 0, 23, 42, 43, 32, 182, 0, 47, 42, 43, 32, 20, 0, 203, 97, 182, 0, 47, 184, 2, 207, 172, 42]
abbrev dktJ19_getIntUnaligned_1 : List UInt8 := dkwJ19_getIntUnaligned_1 ++ dktJ19_getIntUnaligned_2
def dkwJ19_getIntUnaligned_0 : List UInt8 := [32, 20, 1, 93, 127, 9, 148, 154, 0, 10, 42, 43, 32, 182, 0, 17, 172, 32, 10, 127, 9, 148]
abbrev dktJ19_getIntUnaligned_0 : List UInt8 := dkwJ19_getIntUnaligned_0 ++ dktJ19_getIntUnaligned_1
theorem dksJ19_getIntUnaligned_0 : cJ19_getIntUnaligned.data.toList.drop 0 = dktJ19_getIntUnaligned_0 := by decide +kernel
theorem dksJ19_getIntUnaligned_1 : cJ19_getIntUnaligned.data.toList.drop 22 = dktJ19_getIntUnaligned_1 := dk_seg dksJ19_getIntUnaligned_0 22 rfl rfl
theorem dksJ19_getIntUnaligned_2 : cJ19_getIntUnaligned.data.toList.drop 46 = dktJ19_getIntUnaligned_2 := dk_seg dksJ19_getIntUnaligned_1 24 rfl rfl
theorem dksJ19_getIntUnaligned_3 : cJ19_getIntUnaligned.data.toList.drop 70 = dktJ19_getIntUnaligned_3 := dk_seg dksJ19_getIntUnaligned_2 24 rfl rfl
theorem dJ19_getIntUnaligned_0 : decode cJ19_getIntUnaligned 0 = .ok (.lload_n 2, 1) := dk_32 (dk_at dksJ19_getIntUnaligned_0 0 rfl rfl)
theorem dJ19_getIntUnaligned_1 : decode cJ19_getIntUnaligned 1 = .ok (.ldc2_w 349, 3) := dk_20 1 93 (dk_at dksJ19_getIntUnaligned_0 1 rfl rfl)
theorem dJ19_getIntUnaligned_4 : decode cJ19_getIntUnaligned 4 = .ok (.land, 1) := dk_127 (dk_at dksJ19_getIntUnaligned_0 4 rfl rfl)
theorem dJ19_getIntUnaligned_5 : decode cJ19_getIntUnaligned 5 = .ok (.lconst 0, 1) := dk_9 (dk_at dksJ19_getIntUnaligned_0 5 rfl rfl)
theorem dJ19_getIntUnaligned_6 : decode cJ19_getIntUnaligned 6 = .ok (.lcmp, 1) := dk_148 (dk_at dksJ19_getIntUnaligned_0 6 rfl rfl)
theorem dJ19_getIntUnaligned_7 : decode cJ19_getIntUnaligned 7 = .ok (.ifCond .ne 10, 3) := dk_154 0 10 (dk_at dksJ19_getIntUnaligned_0 7 rfl rfl)
theorem dJ19_getIntUnaligned_10 : decode cJ19_getIntUnaligned 10 = .ok (.aload_n 0, 1) := dk_42 (dk_at dksJ19_getIntUnaligned_0 10 rfl rfl)
theorem dJ19_getIntUnaligned_11 : decode cJ19_getIntUnaligned 11 = .ok (.aload_n 1, 1) := dk_43 (dk_at dksJ19_getIntUnaligned_0 11 rfl rfl)
theorem dJ19_getIntUnaligned_12 : decode cJ19_getIntUnaligned 12 = .ok (.lload_n 2, 1) := dk_32 (dk_at dksJ19_getIntUnaligned_0 12 rfl rfl)
theorem dJ19_getIntUnaligned_13 : decode cJ19_getIntUnaligned 13 = .ok (.invokevirtual 17, 3) := dk_182 0 17 (dk_at dksJ19_getIntUnaligned_0 13 rfl rfl)
theorem dJ19_getIntUnaligned_16 : decode cJ19_getIntUnaligned 16 = .ok (.ireturn, 1) := dk_172 (dk_at dksJ19_getIntUnaligned_0 16 rfl rfl)
theorem dJ19_getIntUnaligned_17 : decode cJ19_getIntUnaligned 17 = .ok (.lload_n 2, 1) := dk_32 (dk_at dksJ19_getIntUnaligned_0 17 rfl rfl)
theorem dJ19_getIntUnaligned_18 : decode cJ19_getIntUnaligned 18 = .ok (.lconst 1, 1) := dk_10 (dk_at dksJ19_getIntUnaligned_0 18 rfl rfl)
theorem dJ19_getIntUnaligned_19 : decode cJ19_getIntUnaligned 19 = .ok (.land, 1) := dk_127 (dk_at dksJ19_getIntUnaligned_0 19 rfl rfl)
theorem dJ19_getIntUnaligned_20 : decode cJ19_getIntUnaligned 20 = .ok (.lconst 0, 1) := dk_9 (dk_at dksJ19_getIntUnaligned_0 20 rfl rfl)
theorem dJ19_getIntUnaligned_21 : decode cJ19_getIntUnaligned 21 = .ok (.lcmp, 1) := dk_148 (dk_at dksJ19_getIntUnaligned_0 21 rfl rfl)
theorem dJ19_getIntUnaligned_22 : decode cJ19_getIntUnaligned 22 = .ok (.ifCond .ne 23, 3) := dk_154 0 23 (dk_at dksJ19_getIntUnaligned_1 0 rfl rfl)
theorem dJ19_getIntUnaligned_25 : decode cJ19_getIntUnaligned 25 = .ok (.aload_n 0, 1) := dk_42 (dk_at dksJ19_getIntUnaligned_1 3 rfl rfl)
theorem dJ19_getIntUnaligned_26 : decode cJ19_getIntUnaligned 26 = .ok (.aload_n 1, 1) := dk_43 (dk_at dksJ19_getIntUnaligned_1 4 rfl rfl)
theorem dJ19_getIntUnaligned_27 : decode cJ19_getIntUnaligned 27 = .ok (.lload_n 2, 1) := dk_32 (dk_at dksJ19_getIntUnaligned_1 5 rfl rfl)
theorem dJ19_getIntUnaligned_28 : decode cJ19_getIntUnaligned 28 = .ok (.invokevirtual 47, 3) := dk_182 0 47 (dk_at dksJ19_getIntUnaligned_1 6 rfl rfl)
theorem dJ19_getIntUnaligned_31 : decode cJ19_getIntUnaligned 31 = .ok (.aload_n 0, 1) := dk_42 (dk_at dksJ19_getIntUnaligned_1 9 rfl rfl)
theorem dJ19_getIntUnaligned_32 : decode cJ19_getIntUnaligned 32 = .ok (.aload_n 1, 1) := dk_43 (dk_at dksJ19_getIntUnaligned_1 10 rfl rfl)
theorem dJ19_getIntUnaligned_33 : decode cJ19_getIntUnaligned 33 = .ok (.lload_n 2, 1) := dk_32 (dk_at dksJ19_getIntUnaligned_1 11 rfl rfl)
theorem dJ19_getIntUnaligned_34 : decode cJ19_getIntUnaligned 34 = .ok (.ldc2_w 203, 3) := dk_20 0 203 (dk_at dksJ19_getIntUnaligned_1 12 rfl rfl)
theorem dJ19_getIntUnaligned_37 : decode cJ19_getIntUnaligned 37 = .ok (.ladd, 1) := dk_97 (dk_at dksJ19_getIntUnaligned_1 15 rfl rfl)
theorem dJ19_getIntUnaligned_38 : decode cJ19_getIntUnaligned 38 = .ok (.invokevirtual 47, 3) := dk_182 0 47 (dk_at dksJ19_getIntUnaligned_1 16 rfl rfl)
theorem dJ19_getIntUnaligned_41 : decode cJ19_getIntUnaligned 41 = .ok (.invokestatic 719, 3) := dk_184 2 207 (dk_at dksJ19_getIntUnaligned_1 19 rfl rfl)
theorem dJ19_getIntUnaligned_44 : decode cJ19_getIntUnaligned 44 = .ok (.ireturn, 1) := dk_172 (dk_at dksJ19_getIntUnaligned_1 22 rfl rfl)
theorem dJ19_getIntUnaligned_45 : decode cJ19_getIntUnaligned 45 = .ok (.aload_n 0, 1) := dk_42 (dk_at dksJ19_getIntUnaligned_1 23 rfl rfl)
theorem dJ19_getIntUnaligned_46 : decode cJ19_getIntUnaligned 46 = .ok (.aload_n 1, 1) := dk_43 (dk_at dksJ19_getIntUnaligned_2 0 rfl rfl)
theorem dJ19_getIntUnaligned_47 : decode cJ19_getIntUnaligned 47 = .ok (.lload_n 2, 1) := dk_32 (dk_at dksJ19_getIntUnaligned_2 1 rfl rfl)
theorem dJ19_getIntUnaligned_48 : decode cJ19_getIntUnaligned 48 = .ok (.invokevirtual 39, 3) := dk_182 0 39 (dk_at dksJ19_getIntUnaligned_2 2 rfl rfl)
theorem dJ19_getIntUnaligned_51 : decode cJ19_getIntUnaligned 51 = .ok (.aload_n 0, 1) := dk_42 (dk_at dksJ19_getIntUnaligned_2 5 rfl rfl)
theorem dJ19_getIntUnaligned_52 : decode cJ19_getIntUnaligned 52 = .ok (.aload_n 1, 1) := dk_43 (dk_at dksJ19_getIntUnaligned_2 6 rfl rfl)
theorem dJ19_getIntUnaligned_53 : decode cJ19_getIntUnaligned 53 = .ok (.lload_n 2, 1) := dk_32 (dk_at dksJ19_getIntUnaligned_2 7 rfl rfl)
theorem dJ19_getIntUnaligned_54 : decode cJ19_getIntUnaligned 54 = .ok (.lconst 1, 1) := dk_10 (dk_at dksJ19_getIntUnaligned_2 8 rfl rfl)
theorem dJ19_getIntUnaligned_55 : decode cJ19_getIntUnaligned 55 = .ok (.ladd, 1) := dk_97 (dk_at dksJ19_getIntUnaligned_2 9 rfl rfl)
theorem dJ19_getIntUnaligned_56 : decode cJ19_getIntUnaligned 56 = .ok (.invokevirtual 39, 3) := dk_182 0 39 (dk_at dksJ19_getIntUnaligned_2 10 rfl rfl)
theorem dJ19_getIntUnaligned_59 : decode cJ19_getIntUnaligned 59 = .ok (.aload_n 0, 1) := dk_42 (dk_at dksJ19_getIntUnaligned_2 13 rfl rfl)
theorem dJ19_getIntUnaligned_60 : decode cJ19_getIntUnaligned 60 = .ok (.aload_n 1, 1) := dk_43 (dk_at dksJ19_getIntUnaligned_2 14 rfl rfl)
theorem dJ19_getIntUnaligned_61 : decode cJ19_getIntUnaligned 61 = .ok (.lload_n 2, 1) := dk_32 (dk_at dksJ19_getIntUnaligned_2 15 rfl rfl)
theorem dJ19_getIntUnaligned_62 : decode cJ19_getIntUnaligned 62 = .ok (.ldc2_w 203, 3) := dk_20 0 203 (dk_at dksJ19_getIntUnaligned_2 16 rfl rfl)
theorem dJ19_getIntUnaligned_65 : decode cJ19_getIntUnaligned 65 = .ok (.ladd, 1) := dk_97 (dk_at dksJ19_getIntUnaligned_2 19 rfl rfl)
theorem dJ19_getIntUnaligned_66 : decode cJ19_getIntUnaligned 66 = .ok (.invokevirtual 39, 3) := dk_182 0 39 (dk_at dksJ19_getIntUnaligned_2 20 rfl rfl)
theorem dJ19_getIntUnaligned_69 : decode cJ19_getIntUnaligned 69 = .ok (.aload_n 0, 1) := dk_42 (dk_at dksJ19_getIntUnaligned_2 23 rfl rfl)
theorem dJ19_getIntUnaligned_70 : decode cJ19_getIntUnaligned 70 = .ok (.aload_n 1, 1) := dk_43 (dk_at dksJ19_getIntUnaligned_3 0 rfl rfl)
theorem dJ19_getIntUnaligned_71 : decode cJ19_getIntUnaligned 71 = .ok (.lload_n 2, 1) := dk_32 (dk_at dksJ19_getIntUnaligned_3 1 rfl rfl)
theorem dJ19_getIntUnaligned_72 : decode cJ19_getIntUnaligned 72 = .ok (.ldc2_w 349, 3) := dk_20 1 93 (dk_at dksJ19_getIntUnaligned_3 2 rfl rfl)
theorem dJ19_getIntUnaligned_75 : decode cJ19_getIntUnaligned 75 = .ok (.ladd, 1) := dk_97 (dk_at dksJ19_getIntUnaligned_3 5 rfl rfl)
theorem dJ19_getIntUnaligned_76 : decode cJ19_getIntUnaligned 76 = .ok (.invokevirtual 39, 3) := dk_182 0 39 (dk_at dksJ19_getIntUnaligned_3 6 rfl rfl)
theorem dJ19_getIntUnaligned_79 : decode cJ19_getIntUnaligned 79 = .ok (.invokestatic 723, 3) := dk_184 2 211 (dk_at dksJ19_getIntUnaligned_3 9 rfl rfl)
theorem dJ19_getIntUnaligned_82 : decode cJ19_getIntUnaligned 82 = .ok (.ireturn, 1) := dk_172 (dk_at dksJ19_getIntUnaligned_3 12 rfl rfl)
abbrev cJ19_makeInt : ByteArray := prog_72_method_354_code
def yJ19_makeInt : MethodName := ⟨RJ19, "makeInt", "(SS)I"⟩
def dkwJ19_makeInt_1 : List UInt8 := [172]
abbrev dktJ19_makeInt_1 : List UInt8 := dkwJ19_makeInt_1 ++ []
def dkwJ19_makeInt_0 : List UInt8 := [26, 184, 3, 24, 16, 16, 3, 184, 3, 16, 120, 27, 184, 3, 24, 16, 16, 16, 16, 184, 3, 16, 120, 128]
abbrev dktJ19_makeInt_0 : List UInt8 := dkwJ19_makeInt_0 ++ dktJ19_makeInt_1
theorem dksJ19_makeInt_0 : cJ19_makeInt.data.toList.drop 0 = dktJ19_makeInt_0 := by decide +kernel
theorem dksJ19_makeInt_1 : cJ19_makeInt.data.toList.drop 24 = dktJ19_makeInt_1 := dk_seg dksJ19_makeInt_0 24 rfl rfl
theorem dJ19_makeInt_0 : decode cJ19_makeInt 0 = .ok (.iload_n 0, 1) := dk_26 (dk_at dksJ19_makeInt_0 0 rfl rfl)
theorem dJ19_makeInt_1 : decode cJ19_makeInt 1 = .ok (.invokestatic 792, 3) := dk_184 3 24 (dk_at dksJ19_makeInt_0 1 rfl rfl)
theorem dJ19_makeInt_4 : decode cJ19_makeInt 4 = .ok (.bipush 16, 2) := dk_16 16 (dk_at dksJ19_makeInt_0 4 rfl rfl)
theorem dJ19_makeInt_6 : decode cJ19_makeInt 6 = .ok (.iconst 0, 1) := dk_3 (dk_at dksJ19_makeInt_0 6 rfl rfl)
theorem dJ19_makeInt_7 : decode cJ19_makeInt 7 = .ok (.invokestatic 784, 3) := dk_184 3 16 (dk_at dksJ19_makeInt_0 7 rfl rfl)
theorem dJ19_makeInt_10 : decode cJ19_makeInt 10 = .ok (.ishl, 1) := dk_120 (dk_at dksJ19_makeInt_0 10 rfl rfl)
theorem dJ19_makeInt_11 : decode cJ19_makeInt 11 = .ok (.iload_n 1, 1) := dk_27 (dk_at dksJ19_makeInt_0 11 rfl rfl)
theorem dJ19_makeInt_12 : decode cJ19_makeInt 12 = .ok (.invokestatic 792, 3) := dk_184 3 24 (dk_at dksJ19_makeInt_0 12 rfl rfl)
theorem dJ19_makeInt_15 : decode cJ19_makeInt 15 = .ok (.bipush 16, 2) := dk_16 16 (dk_at dksJ19_makeInt_0 15 rfl rfl)
theorem dJ19_makeInt_17 : decode cJ19_makeInt 17 = .ok (.bipush 16, 2) := dk_16 16 (dk_at dksJ19_makeInt_0 17 rfl rfl)
theorem dJ19_makeInt_19 : decode cJ19_makeInt 19 = .ok (.invokestatic 784, 3) := dk_184 3 16 (dk_at dksJ19_makeInt_0 19 rfl rfl)
theorem dJ19_makeInt_22 : decode cJ19_makeInt 22 = .ok (.ishl, 1) := dk_120 (dk_at dksJ19_makeInt_0 22 rfl rfl)
theorem dJ19_makeInt_23 : decode cJ19_makeInt 23 = .ok (.ior, 1) := dk_128 (dk_at dksJ19_makeInt_0 23 rfl rfl)
theorem dJ19_makeInt_24 : decode cJ19_makeInt 24 = .ok (.ireturn, 1) := dk_172 (dk_at dksJ19_makeInt_1 0 rfl rfl)
abbrev cJ19_toUnsignedInt : ByteArray := prog_72_method_367_code
def yJ19_toUnsignedInt : MethodName := ⟨RJ19, "toUnsignedInt", "(S)I"⟩
def dkwJ19_toUnsignedInt_0 : List UInt8 := [26, 19, 1, 118, 126, 172]
abbrev dktJ19_toUnsignedInt_0 : List UInt8 := dkwJ19_toUnsignedInt_0 ++ []
theorem dksJ19_toUnsignedInt_0 : cJ19_toUnsignedInt.data.toList.drop 0 = dktJ19_toUnsignedInt_0 := by decide +kernel
theorem dJ19_toUnsignedInt_0 : decode cJ19_toUnsignedInt 0 = .ok (.iload_n 0, 1) := dk_26 (dk_at dksJ19_toUnsignedInt_0 0 rfl rfl)
theorem dJ19_toUnsignedInt_1 : decode cJ19_toUnsignedInt 1 = .ok (.ldc_w 374, 3) := dk_19 1 118 (dk_at dksJ19_toUnsignedInt_0 1 rfl rfl)
theorem dJ19_toUnsignedInt_4 : decode cJ19_toUnsignedInt 4 = .ok (.iand, 1) := dk_126 (dk_at dksJ19_toUnsignedInt_0 4 rfl rfl)
theorem dJ19_toUnsignedInt_5 : decode cJ19_toUnsignedInt 5 = .ok (.ireturn, 1) := dk_172 (dk_at dksJ19_toUnsignedInt_0 5 rfl rfl)
abbrev cJ19_makeInt_2 : ByteArray := prog_72_method_355_code
def yJ19_makeInt_2 : MethodName := ⟨RJ19, "makeInt", "(BBBB)I"⟩
def dkwJ19_makeInt_2_2 : List UInt8 := [120, 128, 172]
abbrev dktJ19_makeInt_2_2 : List UInt8 := dkwJ19_makeInt_2_2 ++ []
def dkwJ19_makeInt_2_1 : List UInt8 := [28, 184, 3, 28, 16, 24, 16, 16, 184, 3, 16, 120, 128, 29, 184, 3, 28, 16, 24, 16, 24, 184, 3, 16]
abbrev dktJ19_makeInt_2_1 : List UInt8 := dkwJ19_makeInt_2_1 ++ dktJ19_makeInt_2_2
def dkwJ19_makeInt_2_0 : List UInt8 := [26, 184, 3, 28, 16, 24, 3, 184, 3, 16, 120, 27, 184, 3, 28, 16, 24, 16, 8, 184, 3, 16, 120, 128]
abbrev dktJ19_makeInt_2_0 : List UInt8 := dkwJ19_makeInt_2_0 ++ dktJ19_makeInt_2_1
theorem dksJ19_makeInt_2_0 : cJ19_makeInt_2.data.toList.drop 0 = dktJ19_makeInt_2_0 := by decide +kernel
theorem dksJ19_makeInt_2_1 : cJ19_makeInt_2.data.toList.drop 24 = dktJ19_makeInt_2_1 := dk_seg dksJ19_makeInt_2_0 24 rfl rfl
theorem dksJ19_makeInt_2_2 : cJ19_makeInt_2.data.toList.drop 48 = dktJ19_makeInt_2_2 := dk_seg dksJ19_makeInt_2_1 24 rfl rfl
theorem dJ19_makeInt_2_0 : decode cJ19_makeInt_2 0 = .ok (.iload_n 0, 1) := dk_26 (dk_at dksJ19_makeInt_2_0 0 rfl rfl)
theorem dJ19_makeInt_2_1 : decode cJ19_makeInt_2 1 = .ok (.invokestatic 796, 3) := dk_184 3 28 (dk_at dksJ19_makeInt_2_0 1 rfl rfl)
theorem dJ19_makeInt_2_4 : decode cJ19_makeInt_2 4 = .ok (.bipush 24, 2) := dk_16 24 (dk_at dksJ19_makeInt_2_0 4 rfl rfl)
theorem dJ19_makeInt_2_6 : decode cJ19_makeInt_2 6 = .ok (.iconst 0, 1) := dk_3 (dk_at dksJ19_makeInt_2_0 6 rfl rfl)
theorem dJ19_makeInt_2_7 : decode cJ19_makeInt_2 7 = .ok (.invokestatic 784, 3) := dk_184 3 16 (dk_at dksJ19_makeInt_2_0 7 rfl rfl)
theorem dJ19_makeInt_2_10 : decode cJ19_makeInt_2 10 = .ok (.ishl, 1) := dk_120 (dk_at dksJ19_makeInt_2_0 10 rfl rfl)
theorem dJ19_makeInt_2_11 : decode cJ19_makeInt_2 11 = .ok (.iload_n 1, 1) := dk_27 (dk_at dksJ19_makeInt_2_0 11 rfl rfl)
theorem dJ19_makeInt_2_12 : decode cJ19_makeInt_2 12 = .ok (.invokestatic 796, 3) := dk_184 3 28 (dk_at dksJ19_makeInt_2_0 12 rfl rfl)
theorem dJ19_makeInt_2_15 : decode cJ19_makeInt_2 15 = .ok (.bipush 24, 2) := dk_16 24 (dk_at dksJ19_makeInt_2_0 15 rfl rfl)
theorem dJ19_makeInt_2_17 : decode cJ19_makeInt_2 17 = .ok (.bipush 8, 2) := dk_16 8 (dk_at dksJ19_makeInt_2_0 17 rfl rfl)
theorem dJ19_makeInt_2_19 : decode cJ19_makeInt_2 19 = .ok (.invokestatic 784, 3) := dk_184 3 16 (dk_at dksJ19_makeInt_2_0 19 rfl rfl)
theorem dJ19_makeInt_2_22 : decode cJ19_makeInt_2 22 = .ok (.ishl, 1) := dk_120 (dk_at dksJ19_makeInt_2_0 22 rfl rfl)
theorem dJ19_makeInt_2_23 : decode cJ19_makeInt_2 23 = .ok (.ior, 1) := dk_128 (dk_at dksJ19_makeInt_2_0 23 rfl rfl)
theorem dJ19_makeInt_2_24 : decode cJ19_makeInt_2 24 = .ok (.iload_n 2, 1) := dk_28 (dk_at dksJ19_makeInt_2_1 0 rfl rfl)
theorem dJ19_makeInt_2_25 : decode cJ19_makeInt_2 25 = .ok (.invokestatic 796, 3) := dk_184 3 28 (dk_at dksJ19_makeInt_2_1 1 rfl rfl)
theorem dJ19_makeInt_2_28 : decode cJ19_makeInt_2 28 = .ok (.bipush 24, 2) := dk_16 24 (dk_at dksJ19_makeInt_2_1 4 rfl rfl)
theorem dJ19_makeInt_2_30 : decode cJ19_makeInt_2 30 = .ok (.bipush 16, 2) := dk_16 16 (dk_at dksJ19_makeInt_2_1 6 rfl rfl)
theorem dJ19_makeInt_2_32 : decode cJ19_makeInt_2 32 = .ok (.invokestatic 784, 3) := dk_184 3 16 (dk_at dksJ19_makeInt_2_1 8 rfl rfl)
theorem dJ19_makeInt_2_35 : decode cJ19_makeInt_2 35 = .ok (.ishl, 1) := dk_120 (dk_at dksJ19_makeInt_2_1 11 rfl rfl)
theorem dJ19_makeInt_2_36 : decode cJ19_makeInt_2 36 = .ok (.ior, 1) := dk_128 (dk_at dksJ19_makeInt_2_1 12 rfl rfl)
theorem dJ19_makeInt_2_37 : decode cJ19_makeInt_2 37 = .ok (.iload_n 3, 1) := dk_29 (dk_at dksJ19_makeInt_2_1 13 rfl rfl)
theorem dJ19_makeInt_2_38 : decode cJ19_makeInt_2 38 = .ok (.invokestatic 796, 3) := dk_184 3 28 (dk_at dksJ19_makeInt_2_1 14 rfl rfl)
theorem dJ19_makeInt_2_41 : decode cJ19_makeInt_2 41 = .ok (.bipush 24, 2) := dk_16 24 (dk_at dksJ19_makeInt_2_1 17 rfl rfl)
theorem dJ19_makeInt_2_43 : decode cJ19_makeInt_2 43 = .ok (.bipush 24, 2) := dk_16 24 (dk_at dksJ19_makeInt_2_1 19 rfl rfl)
theorem dJ19_makeInt_2_45 : decode cJ19_makeInt_2 45 = .ok (.invokestatic 784, 3) := dk_184 3 16 (dk_at dksJ19_makeInt_2_1 21 rfl rfl)
theorem dJ19_makeInt_2_48 : decode cJ19_makeInt_2 48 = .ok (.ishl, 1) := dk_120 (dk_at dksJ19_makeInt_2_2 0 rfl rfl)
theorem dJ19_makeInt_2_49 : decode cJ19_makeInt_2 49 = .ok (.ior, 1) := dk_128 (dk_at dksJ19_makeInt_2_2 1 rfl rfl)
theorem dJ19_makeInt_2_50 : decode cJ19_makeInt_2 50 = .ok (.ireturn, 1) := dk_172 (dk_at dksJ19_makeInt_2_2 2 rfl rfl)
abbrev cJ19_toUnsignedInt_2 : ByteArray := prog_72_method_366_code
def yJ19_toUnsignedInt_2 : MethodName := ⟨RJ19, "toUnsignedInt", "(B)I"⟩
def dkwJ19_toUnsignedInt_2_0 : List UInt8 := [26, 17, 0, 255, 126, 172]
abbrev dktJ19_toUnsignedInt_2_0 : List UInt8 := dkwJ19_toUnsignedInt_2_0 ++ []
theorem dksJ19_toUnsignedInt_2_0 : cJ19_toUnsignedInt_2.data.toList.drop 0 = dktJ19_toUnsignedInt_2_0 := by decide +kernel
theorem dJ19_toUnsignedInt_2_0 : decode cJ19_toUnsignedInt_2 0 = .ok (.iload_n 0, 1) := dk_26 (dk_at dksJ19_toUnsignedInt_2_0 0 rfl rfl)
theorem dJ19_toUnsignedInt_2_1 : decode cJ19_toUnsignedInt_2 1 = .ok (.sipush 255, 3) := dk_17 0 255 (dk_at dksJ19_toUnsignedInt_2_0 1 rfl rfl)
theorem dJ19_toUnsignedInt_2_4 : decode cJ19_toUnsignedInt_2 4 = .ok (.iand, 1) := dk_126 (dk_at dksJ19_toUnsignedInt_2_0 4 rfl rfl)
theorem dJ19_toUnsignedInt_2_5 : decode cJ19_toUnsignedInt_2 5 = .ok (.ireturn, 1) := dk_172 (dk_at dksJ19_toUnsignedInt_2_0 5 rfl rfl)
theorem q135 : (Jvm.Cond.initialized "jdk/internal/misc/Unsafe") ∈ lw_all := lw_g (lw_at lw_m1 32 rfl) rfl
theorem q817 : (Jvm.Cond.selects "jdk/internal/misc/Unsafe" ({ cls := "java/lang/Object", name := "getClass", desc := "()Ljava/lang/Class;" } : Jvm.MethodName) ({ cls := "java/lang/Object", name := "getClass", desc := "()Ljava/lang/Class;" } : Jvm.MethodName)) ∈ lw_all := lw_g (lw_at lw_m3 234 rfl) rfl
theorem q894 : (Jvm.Cond.laysStatic "jdk/internal/misc/Unsafe" "ARRAY_BYTE_BASE_OFFSET" "I") ∈ lw_tbl := lw_at lw_m4 71 rfl
theorem q905 : (Jvm.Cond.instanceMethod ({ cls := "jdk/internal/misc/Unsafe", name := "getLongUnaligned", desc := "(Ljava/lang/Object;J)J" } : Jvm.MethodName)) ∈ lw_all := lw_g (lw_at lw_m4 82 rfl) rfl
theorem q906 : (Jvm.Cond.selects "jdk/internal/misc/Unsafe" ({ cls := "jdk/internal/misc/Unsafe", name := "getLongUnaligned", desc := "(Ljava/lang/Object;J)J" } : Jvm.MethodName) ({ cls := "jdk/internal/misc/Unsafe", name := "getLongUnaligned", desc := "(Ljava/lang/Object;J)J" } : Jvm.MethodName)) ∈ lw_all := lw_g (lw_at lw_m4 83 rfl) rfl
theorem q907 : (Jvm.Cond.code ({ cls := "jdk/internal/misc/Unsafe", name := "getLongUnaligned", desc := "(Ljava/lang/Object;J)J" } : Jvm.MethodName) prog_72_method_334_code (4 : Nat) (Option.some Jvm.ClassFile.FieldType.long)) ∈ lw_all := lw_g (lw_at lw_m4 84 rfl) rfl
theorem q908 : (Jvm.Cond.constantLong "jdk/internal/misc/Unsafe" (696 : Nat) (7 : Int64)) ∈ lw_all := lw_g (lw_at lw_m4 85 rfl) rfl
theorem q909 : (Jvm.Cond.methodLink "jdk/internal/misc/Unsafe" (27 : Nat) ({ cls := "jdk/internal/misc/Unsafe", name := "getLong", desc := "(Ljava/lang/Object;J)J" } : Jvm.MethodName)) ∈ lw_all := lw_g (lw_at lw_m4 86 rfl) rfl
theorem q910 : (Jvm.Cond.instanceMethod ({ cls := "jdk/internal/misc/Unsafe", name := "getLong", desc := "(Ljava/lang/Object;J)J" } : Jvm.MethodName)) ∈ lw_all := lw_g (lw_at lw_m4 87 rfl) rfl
theorem q911 : (Jvm.Cond.selects "jdk/internal/misc/Unsafe" ({ cls := "jdk/internal/misc/Unsafe", name := "getLong", desc := "(Ljava/lang/Object;J)J" } : Jvm.MethodName) ({ cls := "jdk/internal/misc/Unsafe", name := "getLong", desc := "(Ljava/lang/Object;J)J" } : Jvm.MethodName)) ∈ lw_all := lw_g (lw_at lw_m4 88 rfl) rfl
theorem q912 : (Jvm.Cond.native ({ cls := "jdk/internal/misc/Unsafe", name := "getLong", desc := "(Ljava/lang/Object;J)J" } : Jvm.MethodName)) ∈ lw_all := lw_g (lw_at lw_m4 89 rfl) rfl
theorem q913 : (Jvm.Cond.constantLong "jdk/internal/misc/Unsafe" (349 : Nat) (3 : Int64)) ∈ lw_all := lw_g (lw_at lw_m4 90 rfl) rfl
theorem q914 : (Jvm.Cond.methodLink "jdk/internal/misc/Unsafe" (17 : Nat) ({ cls := "jdk/internal/misc/Unsafe", name := "getInt", desc := "(Ljava/lang/Object;J)I" } : Jvm.MethodName)) ∈ lw_all := lw_g (lw_at lw_m4 91 rfl) rfl
theorem q915 : (Jvm.Cond.instanceMethod ({ cls := "jdk/internal/misc/Unsafe", name := "getInt", desc := "(Ljava/lang/Object;J)I" } : Jvm.MethodName)) ∈ lw_all := lw_g (lw_at lw_m4 92 rfl) rfl
theorem q916 : (Jvm.Cond.selects "jdk/internal/misc/Unsafe" ({ cls := "jdk/internal/misc/Unsafe", name := "getInt", desc := "(Ljava/lang/Object;J)I" } : Jvm.MethodName) ({ cls := "jdk/internal/misc/Unsafe", name := "getInt", desc := "(Ljava/lang/Object;J)I" } : Jvm.MethodName)) ∈ lw_all := lw_g (lw_at lw_m4 93 rfl) rfl
theorem q917 : (Jvm.Cond.native ({ cls := "jdk/internal/misc/Unsafe", name := "getInt", desc := "(Ljava/lang/Object;J)I" } : Jvm.MethodName)) ∈ lw_all := lw_g (lw_at lw_m4 94 rfl) rfl
theorem q918 : (Jvm.Cond.constantLong "jdk/internal/misc/Unsafe" (205 : Nat) (4 : Int64)) ∈ lw_all := lw_g (lw_at lw_m4 95 rfl) rfl
theorem q919 : (Jvm.Cond.methodLink "jdk/internal/misc/Unsafe" (698 : Nat) ({ cls := "jdk/internal/misc/Unsafe", name := "makeLong", desc := "(II)J" } : Jvm.MethodName)) ∈ lw_all := lw_g (lw_at lw_m4 96 rfl) rfl
theorem q920 : (Jvm.Cond.static ({ cls := "jdk/internal/misc/Unsafe", name := "makeLong", desc := "(II)J" } : Jvm.MethodName)) ∈ lw_all := lw_g (lw_at lw_m4 97 rfl) rfl
theorem q921 : (Jvm.Cond.code ({ cls := "jdk/internal/misc/Unsafe", name := "makeLong", desc := "(II)J" } : Jvm.MethodName) prog_72_method_353_code (2 : Nat) (Option.some Jvm.ClassFile.FieldType.long)) ∈ lw_all := lw_g (lw_at lw_m4 98 rfl) rfl
theorem q922 : (Jvm.Cond.methodLink "jdk/internal/misc/Unsafe" (791 : Nat) ({ cls := "jdk/internal/misc/Unsafe", name := "toUnsignedLong", desc := "(I)J" } : Jvm.MethodName)) ∈ lw_all := lw_g (lw_at lw_m4 99 rfl) rfl
theorem q923 : (Jvm.Cond.static ({ cls := "jdk/internal/misc/Unsafe", name := "toUnsignedLong", desc := "(I)J" } : Jvm.MethodName)) ∈ lw_all := lw_g (lw_at lw_m4 100 rfl) rfl
theorem q924 : (Jvm.Cond.code ({ cls := "jdk/internal/misc/Unsafe", name := "toUnsignedLong", desc := "(I)J" } : Jvm.MethodName) prog_72_method_370_code (1 : Nat) (Option.some Jvm.ClassFile.FieldType.long)) ∈ lw_all := lw_g (lw_at lw_m4 101 rfl) rfl
theorem q925 : (Jvm.Cond.constantLong "jdk/internal/misc/Unsafe" (812 : Nat) (4294967295 : Int64)) ∈ lw_all := lw_g (lw_at lw_m4 102 rfl) rfl
theorem q926 : (Jvm.Cond.methodLink "jdk/internal/misc/Unsafe" (784 : Nat) ({ cls := "jdk/internal/misc/Unsafe", name := "pickPos", desc := "(II)I" } : Jvm.MethodName)) ∈ lw_all := lw_g (lw_at lw_m4 103 rfl) rfl
theorem q927 : (Jvm.Cond.static ({ cls := "jdk/internal/misc/Unsafe", name := "pickPos", desc := "(II)I" } : Jvm.MethodName)) ∈ lw_all := lw_g (lw_at lw_m4 104 rfl) rfl
theorem q928 : (Jvm.Cond.code ({ cls := "jdk/internal/misc/Unsafe", name := "pickPos", desc := "(II)I" } : Jvm.MethodName) prog_72_method_350_code (2 : Nat) (Option.some Jvm.ClassFile.FieldType.int)) ∈ lw_all := lw_g (lw_at lw_m4 105 rfl) rfl
theorem q929 : (Jvm.Cond.fieldLink "jdk/internal/misc/Unsafe" (351 : Nat) "jdk/internal/misc/UnsafeConstants" "BIG_ENDIAN" "Z") ∈ lw_all := lw_g (lw_at lw_m4 106 rfl) rfl
theorem q931 : (Jvm.Cond.methodLink "jdk/internal/misc/Unsafe" (47 : Nat) ({ cls := "jdk/internal/misc/Unsafe", name := "getShort", desc := "(Ljava/lang/Object;J)S" } : Jvm.MethodName)) ∈ lw_all := lw_g (lw_at lw_m4 108 rfl) rfl
theorem q932 : (Jvm.Cond.instanceMethod ({ cls := "jdk/internal/misc/Unsafe", name := "getShort", desc := "(Ljava/lang/Object;J)S" } : Jvm.MethodName)) ∈ lw_all := lw_g (lw_at lw_m4 109 rfl) rfl
theorem q933 : (Jvm.Cond.selects "jdk/internal/misc/Unsafe" ({ cls := "jdk/internal/misc/Unsafe", name := "getShort", desc := "(Ljava/lang/Object;J)S" } : Jvm.MethodName) ({ cls := "jdk/internal/misc/Unsafe", name := "getShort", desc := "(Ljava/lang/Object;J)S" } : Jvm.MethodName)) ∈ lw_all := lw_g (lw_at lw_m4 110 rfl) rfl
theorem q934 : (Jvm.Cond.native ({ cls := "jdk/internal/misc/Unsafe", name := "getShort", desc := "(Ljava/lang/Object;J)S" } : Jvm.MethodName)) ∈ lw_all := lw_g (lw_at lw_m4 111 rfl) rfl
theorem q935 : (Jvm.Cond.constantLong "jdk/internal/misc/Unsafe" (203 : Nat) (2 : Int64)) ∈ lw_all := lw_g (lw_at lw_m4 112 rfl) rfl
theorem q936 : (Jvm.Cond.constantLong "jdk/internal/misc/Unsafe" (702 : Nat) (6 : Int64)) ∈ lw_all := lw_g (lw_at lw_m4 113 rfl) rfl
theorem q937 : (Jvm.Cond.methodLink "jdk/internal/misc/Unsafe" (704 : Nat) ({ cls := "jdk/internal/misc/Unsafe", name := "makeLong", desc := "(SSSS)J" } : Jvm.MethodName)) ∈ lw_all := lw_g (lw_at lw_m4 114 rfl) rfl
theorem q938 : (Jvm.Cond.static ({ cls := "jdk/internal/misc/Unsafe", name := "makeLong", desc := "(SSSS)J" } : Jvm.MethodName)) ∈ lw_all := lw_g (lw_at lw_m4 115 rfl) rfl
theorem q939 : (Jvm.Cond.code ({ cls := "jdk/internal/misc/Unsafe", name := "makeLong", desc := "(SSSS)J" } : Jvm.MethodName) prog_72_method_352_code (4 : Nat) (Option.some Jvm.ClassFile.FieldType.long)) ∈ lw_all := lw_g (lw_at lw_m4 116 rfl) rfl
theorem q940 : (Jvm.Cond.methodLink "jdk/internal/misc/Unsafe" (788 : Nat) ({ cls := "jdk/internal/misc/Unsafe", name := "toUnsignedLong", desc := "(S)J" } : Jvm.MethodName)) ∈ lw_all := lw_g (lw_at lw_m4 117 rfl) rfl
theorem q941 : (Jvm.Cond.static ({ cls := "jdk/internal/misc/Unsafe", name := "toUnsignedLong", desc := "(S)J" } : Jvm.MethodName)) ∈ lw_all := lw_g (lw_at lw_m4 118 rfl) rfl
theorem q942 : (Jvm.Cond.code ({ cls := "jdk/internal/misc/Unsafe", name := "toUnsignedLong", desc := "(S)J" } : Jvm.MethodName) prog_72_method_369_code (1 : Nat) (Option.some Jvm.ClassFile.FieldType.long)) ∈ lw_all := lw_g (lw_at lw_m4 119 rfl) rfl
theorem q943 : (Jvm.Cond.constantLong "jdk/internal/misc/Unsafe" (810 : Nat) (65535 : Int64)) ∈ lw_all := lw_g (lw_at lw_m4 120 rfl) rfl
theorem q944 : (Jvm.Cond.methodLink "jdk/internal/misc/Unsafe" (39 : Nat) ({ cls := "jdk/internal/misc/Unsafe", name := "getByte", desc := "(Ljava/lang/Object;J)B" } : Jvm.MethodName)) ∈ lw_all := lw_g (lw_at lw_m4 121 rfl) rfl
theorem q945 : (Jvm.Cond.instanceMethod ({ cls := "jdk/internal/misc/Unsafe", name := "getByte", desc := "(Ljava/lang/Object;J)B" } : Jvm.MethodName)) ∈ lw_all := lw_g (lw_at lw_m4 122 rfl) rfl
theorem q946 : (Jvm.Cond.selects "jdk/internal/misc/Unsafe" ({ cls := "jdk/internal/misc/Unsafe", name := "getByte", desc := "(Ljava/lang/Object;J)B" } : Jvm.MethodName) ({ cls := "jdk/internal/misc/Unsafe", name := "getByte", desc := "(Ljava/lang/Object;J)B" } : Jvm.MethodName)) ∈ lw_all := lw_g (lw_at lw_m4 123 rfl) rfl
theorem q947 : (Jvm.Cond.native ({ cls := "jdk/internal/misc/Unsafe", name := "getByte", desc := "(Ljava/lang/Object;J)B" } : Jvm.MethodName)) ∈ lw_all := lw_g (lw_at lw_m4 124 rfl) rfl
theorem q948 : (Jvm.Cond.constantLong "jdk/internal/misc/Unsafe" (707 : Nat) (5 : Int64)) ∈ lw_all := lw_g (lw_at lw_m4 125 rfl) rfl
theorem q949 : (Jvm.Cond.methodLink "jdk/internal/misc/Unsafe" (709 : Nat) ({ cls := "jdk/internal/misc/Unsafe", name := "makeLong", desc := "(BBBBBBBB)J" } : Jvm.MethodName)) ∈ lw_all := lw_g (lw_at lw_m4 126 rfl) rfl
theorem q950 : (Jvm.Cond.static ({ cls := "jdk/internal/misc/Unsafe", name := "makeLong", desc := "(BBBBBBBB)J" } : Jvm.MethodName)) ∈ lw_all := lw_g (lw_at lw_m4 127 rfl) rfl
theorem q951 : (Jvm.Cond.code ({ cls := "jdk/internal/misc/Unsafe", name := "makeLong", desc := "(BBBBBBBB)J" } : Jvm.MethodName) prog_72_method_351_code (8 : Nat) (Option.some Jvm.ClassFile.FieldType.long)) ∈ lw_all := lw_g (lw_at lw_m4 128 rfl) rfl
theorem q952 : (Jvm.Cond.methodLink "jdk/internal/misc/Unsafe" (781 : Nat) ({ cls := "jdk/internal/misc/Unsafe", name := "toUnsignedLong", desc := "(B)J" } : Jvm.MethodName)) ∈ lw_all := lw_g (lw_at lw_m4 129 rfl) rfl
theorem q953 : (Jvm.Cond.static ({ cls := "jdk/internal/misc/Unsafe", name := "toUnsignedLong", desc := "(B)J" } : Jvm.MethodName)) ∈ lw_all := lw_g (lw_at lw_m4 130 rfl) rfl
theorem q954 : (Jvm.Cond.code ({ cls := "jdk/internal/misc/Unsafe", name := "toUnsignedLong", desc := "(B)J" } : Jvm.MethodName) prog_72_method_368_code (1 : Nat) (Option.some Jvm.ClassFile.FieldType.long)) ∈ lw_all := lw_g (lw_at lw_m4 131 rfl) rfl
theorem q955 : (Jvm.Cond.constantLong "jdk/internal/misc/Unsafe" (808 : Nat) (255 : Int64)) ∈ lw_all := lw_g (lw_at lw_m4 132 rfl) rfl
theorem q976 : (Jvm.Cond.instanceMethod ({ cls := "jdk/internal/misc/Unsafe", name := "getIntUnaligned", desc := "(Ljava/lang/Object;J)I" } : Jvm.MethodName)) ∈ lw_all := lw_g (lw_at lw_m4 153 rfl) rfl
theorem q977 : (Jvm.Cond.selects "jdk/internal/misc/Unsafe" ({ cls := "jdk/internal/misc/Unsafe", name := "getIntUnaligned", desc := "(Ljava/lang/Object;J)I" } : Jvm.MethodName) ({ cls := "jdk/internal/misc/Unsafe", name := "getIntUnaligned", desc := "(Ljava/lang/Object;J)I" } : Jvm.MethodName)) ∈ lw_all := lw_g (lw_at lw_m4 154 rfl) rfl
theorem q978 : (Jvm.Cond.code ({ cls := "jdk/internal/misc/Unsafe", name := "getIntUnaligned", desc := "(Ljava/lang/Object;J)I" } : Jvm.MethodName) prog_72_method_336_code (4 : Nat) (Option.some Jvm.ClassFile.FieldType.int)) ∈ lw_all := lw_g (lw_at lw_m4 155 rfl) rfl
theorem q979 : (Jvm.Cond.methodLink "jdk/internal/misc/Unsafe" (719 : Nat) ({ cls := "jdk/internal/misc/Unsafe", name := "makeInt", desc := "(SS)I" } : Jvm.MethodName)) ∈ lw_all := lw_g (lw_at lw_m4 156 rfl) rfl
theorem q980 : (Jvm.Cond.static ({ cls := "jdk/internal/misc/Unsafe", name := "makeInt", desc := "(SS)I" } : Jvm.MethodName)) ∈ lw_all := lw_g (lw_at lw_m4 157 rfl) rfl
theorem q981 : (Jvm.Cond.code ({ cls := "jdk/internal/misc/Unsafe", name := "makeInt", desc := "(SS)I" } : Jvm.MethodName) prog_72_method_354_code (2 : Nat) (Option.some Jvm.ClassFile.FieldType.int)) ∈ lw_all := lw_g (lw_at lw_m4 158 rfl) rfl
theorem q982 : (Jvm.Cond.methodLink "jdk/internal/misc/Unsafe" (792 : Nat) ({ cls := "jdk/internal/misc/Unsafe", name := "toUnsignedInt", desc := "(S)I" } : Jvm.MethodName)) ∈ lw_all := lw_g (lw_at lw_m4 159 rfl) rfl
theorem q983 : (Jvm.Cond.static ({ cls := "jdk/internal/misc/Unsafe", name := "toUnsignedInt", desc := "(S)I" } : Jvm.MethodName)) ∈ lw_all := lw_g (lw_at lw_m4 160 rfl) rfl
theorem q984 : (Jvm.Cond.code ({ cls := "jdk/internal/misc/Unsafe", name := "toUnsignedInt", desc := "(S)I" } : Jvm.MethodName) prog_72_method_367_code (1 : Nat) (Option.some Jvm.ClassFile.FieldType.int)) ∈ lw_all := lw_g (lw_at lw_m4 161 rfl) rfl
theorem q985 : (Jvm.Cond.constant "jdk/internal/misc/Unsafe" (374 : Nat) (65535 : Int32)) ∈ lw_all := lw_g (lw_at lw_m4 162 rfl) rfl
theorem q986 : (Jvm.Cond.methodLink "jdk/internal/misc/Unsafe" (723 : Nat) ({ cls := "jdk/internal/misc/Unsafe", name := "makeInt", desc := "(BBBB)I" } : Jvm.MethodName)) ∈ lw_all := lw_g (lw_at lw_m4 163 rfl) rfl
theorem q987 : (Jvm.Cond.static ({ cls := "jdk/internal/misc/Unsafe", name := "makeInt", desc := "(BBBB)I" } : Jvm.MethodName)) ∈ lw_all := lw_g (lw_at lw_m4 164 rfl) rfl
theorem q988 : (Jvm.Cond.code ({ cls := "jdk/internal/misc/Unsafe", name := "makeInt", desc := "(BBBB)I" } : Jvm.MethodName) prog_72_method_355_code (4 : Nat) (Option.some Jvm.ClassFile.FieldType.int)) ∈ lw_all := lw_g (lw_at lw_m4 165 rfl) rfl
theorem q989 : (Jvm.Cond.methodLink "jdk/internal/misc/Unsafe" (796 : Nat) ({ cls := "jdk/internal/misc/Unsafe", name := "toUnsignedInt", desc := "(B)I" } : Jvm.MethodName)) ∈ lw_all := lw_g (lw_at lw_m4 166 rfl) rfl
theorem q990 : (Jvm.Cond.static ({ cls := "jdk/internal/misc/Unsafe", name := "toUnsignedInt", desc := "(B)I" } : Jvm.MethodName)) ∈ lw_all := lw_g (lw_at lw_m4 167 rfl) rfl
theorem q991 : (Jvm.Cond.code ({ cls := "jdk/internal/misc/Unsafe", name := "toUnsignedInt", desc := "(B)I" } : Jvm.MethodName) prog_72_method_366_code (1 : Nat) (Option.some Jvm.ClassFile.FieldType.int)) ∈ lw_all := lw_g (lw_at lw_m4 168 rfl) rfl
theorem q1536 : (Jvm.Cond.selects "jdk/internal/misc/Unsafe" ({ cls := "java/lang/Object", name := "equals", desc := "(Ljava/lang/Object;)Z" } : Jvm.MethodName) ({ cls := "java/lang/Object", name := "equals", desc := "(Ljava/lang/Object;)Z" } : Jvm.MethodName)) ∈ lw_all := lw_g (lw_at lw_m6 233 rfl) rfl
theorem q2310 : (Jvm.Cond.castable "jdk/internal/misc/Unsafe" "java/lang/Object") ∈ lw_tbl := lw_at lw_m10 47 rfl

/-! java/lang/Long -/
set_option maxRecDepth 100000
def RJ20 : String := "java/lang/Long"
abbrev cJ20_numberOfLeadingZeros : ByteArray := prog_24_method_48_code
def yJ20_numberOfLeadingZeros : MethodName := ⟨RJ20, "numberOfLeadingZeros", "(J)I"⟩
def dkwJ20_numberOfLeadingZeros_1 : List UInt8 := [184, 1, 52, 172]
abbrev dktJ20_numberOfLeadingZeros_1 : List UInt8 := dkwJ20_numberOfLeadingZeros_1 ++ []
def dkwJ20_numberOfLeadingZeros_0 : List UInt8 := [30, 16, 32, 125, 136, 61, 28, 154, 0, 14, 16, 32, 30, 136, 184, 1, 52, 96, 167, 0, 7, 28]
abbrev dktJ20_numberOfLeadingZeros_0 : List UInt8 := dkwJ20_numberOfLeadingZeros_0 ++ dktJ20_numberOfLeadingZeros_1
theorem dksJ20_numberOfLeadingZeros_0 : cJ20_numberOfLeadingZeros.data.toList.drop 0 = dktJ20_numberOfLeadingZeros_0 := by decide +kernel
theorem dksJ20_numberOfLeadingZeros_1 : cJ20_numberOfLeadingZeros.data.toList.drop 22 = dktJ20_numberOfLeadingZeros_1 := dk_seg dksJ20_numberOfLeadingZeros_0 22 rfl rfl
theorem dJ20_numberOfLeadingZeros_0 : decode cJ20_numberOfLeadingZeros 0 = .ok (.lload_n 0, 1) := dk_30 (dk_at dksJ20_numberOfLeadingZeros_0 0 rfl rfl)
theorem dJ20_numberOfLeadingZeros_1 : decode cJ20_numberOfLeadingZeros 1 = .ok (.bipush 32, 2) := dk_16 32 (dk_at dksJ20_numberOfLeadingZeros_0 1 rfl rfl)
theorem dJ20_numberOfLeadingZeros_3 : decode cJ20_numberOfLeadingZeros 3 = .ok (.lushr, 1) := dk_125 (dk_at dksJ20_numberOfLeadingZeros_0 3 rfl rfl)
theorem dJ20_numberOfLeadingZeros_4 : decode cJ20_numberOfLeadingZeros 4 = .ok (.l2i, 1) := dk_136 (dk_at dksJ20_numberOfLeadingZeros_0 4 rfl rfl)
theorem dJ20_numberOfLeadingZeros_5 : decode cJ20_numberOfLeadingZeros 5 = .ok (.istore_n 2, 1) := dk_61 (dk_at dksJ20_numberOfLeadingZeros_0 5 rfl rfl)
theorem dJ20_numberOfLeadingZeros_6 : decode cJ20_numberOfLeadingZeros 6 = .ok (.iload_n 2, 1) := dk_28 (dk_at dksJ20_numberOfLeadingZeros_0 6 rfl rfl)
theorem dJ20_numberOfLeadingZeros_7 : decode cJ20_numberOfLeadingZeros 7 = .ok (.ifCond .ne 14, 3) := dk_154 0 14 (dk_at dksJ20_numberOfLeadingZeros_0 7 rfl rfl)
theorem dJ20_numberOfLeadingZeros_10 : decode cJ20_numberOfLeadingZeros 10 = .ok (.bipush 32, 2) := dk_16 32 (dk_at dksJ20_numberOfLeadingZeros_0 10 rfl rfl)
theorem dJ20_numberOfLeadingZeros_12 : decode cJ20_numberOfLeadingZeros 12 = .ok (.lload_n 0, 1) := dk_30 (dk_at dksJ20_numberOfLeadingZeros_0 12 rfl rfl)
theorem dJ20_numberOfLeadingZeros_13 : decode cJ20_numberOfLeadingZeros 13 = .ok (.l2i, 1) := dk_136 (dk_at dksJ20_numberOfLeadingZeros_0 13 rfl rfl)
theorem dJ20_numberOfLeadingZeros_14 : decode cJ20_numberOfLeadingZeros 14 = .ok (.invokestatic 308, 3) := dk_184 1 52 (dk_at dksJ20_numberOfLeadingZeros_0 14 rfl rfl)
theorem dJ20_numberOfLeadingZeros_17 : decode cJ20_numberOfLeadingZeros 17 = .ok (.iadd, 1) := dk_96 (dk_at dksJ20_numberOfLeadingZeros_0 17 rfl rfl)
theorem dJ20_numberOfLeadingZeros_18 : decode cJ20_numberOfLeadingZeros 18 = .ok (.goto 7, 3) := dk_167 0 7 (dk_at dksJ20_numberOfLeadingZeros_0 18 rfl rfl)
theorem dJ20_numberOfLeadingZeros_21 : decode cJ20_numberOfLeadingZeros 21 = .ok (.iload_n 2, 1) := dk_28 (dk_at dksJ20_numberOfLeadingZeros_0 21 rfl rfl)
theorem dJ20_numberOfLeadingZeros_22 : decode cJ20_numberOfLeadingZeros 22 = .ok (.invokestatic 308, 3) := dk_184 1 52 (dk_at dksJ20_numberOfLeadingZeros_1 0 rfl rfl)
theorem dJ20_numberOfLeadingZeros_25 : decode cJ20_numberOfLeadingZeros 25 = .ok (.ireturn, 1) := dk_172 (dk_at dksJ20_numberOfLeadingZeros_1 3 rfl rfl)
abbrev cJ20_numberOfTrailingZeros : ByteArray := prog_24_method_49_code
def yJ20_numberOfTrailingZeros : MethodName := ⟨RJ20, "numberOfTrailingZeros", "(J)I"⟩
def dkwJ20_numberOfTrailingZeros_1 : List UInt8 := [184, 1, 55, 172]
abbrev dktJ20_numberOfTrailingZeros_1 : List UInt8 := dkwJ20_numberOfTrailingZeros_1 ++ []
def dkwJ20_numberOfTrailingZeros_0 : List UInt8 := [30, 136, 61, 28, 154, 0, 17, 16, 32, 30, 16, 32, 125, 136, 184, 1, 55, 96, 167, 0, 7, 28]
abbrev dktJ20_numberOfTrailingZeros_0 : List UInt8 := dkwJ20_numberOfTrailingZeros_0 ++ dktJ20_numberOfTrailingZeros_1
theorem dksJ20_numberOfTrailingZeros_0 : cJ20_numberOfTrailingZeros.data.toList.drop 0 = dktJ20_numberOfTrailingZeros_0 := by decide +kernel
theorem dksJ20_numberOfTrailingZeros_1 : cJ20_numberOfTrailingZeros.data.toList.drop 22 = dktJ20_numberOfTrailingZeros_1 := dk_seg dksJ20_numberOfTrailingZeros_0 22 rfl rfl
theorem dJ20_numberOfTrailingZeros_0 : decode cJ20_numberOfTrailingZeros 0 = .ok (.lload_n 0, 1) := dk_30 (dk_at dksJ20_numberOfTrailingZeros_0 0 rfl rfl)
theorem dJ20_numberOfTrailingZeros_1 : decode cJ20_numberOfTrailingZeros 1 = .ok (.l2i, 1) := dk_136 (dk_at dksJ20_numberOfTrailingZeros_0 1 rfl rfl)
theorem dJ20_numberOfTrailingZeros_2 : decode cJ20_numberOfTrailingZeros 2 = .ok (.istore_n 2, 1) := dk_61 (dk_at dksJ20_numberOfTrailingZeros_0 2 rfl rfl)
theorem dJ20_numberOfTrailingZeros_3 : decode cJ20_numberOfTrailingZeros 3 = .ok (.iload_n 2, 1) := dk_28 (dk_at dksJ20_numberOfTrailingZeros_0 3 rfl rfl)
theorem dJ20_numberOfTrailingZeros_4 : decode cJ20_numberOfTrailingZeros 4 = .ok (.ifCond .ne 17, 3) := dk_154 0 17 (dk_at dksJ20_numberOfTrailingZeros_0 4 rfl rfl)
theorem dJ20_numberOfTrailingZeros_7 : decode cJ20_numberOfTrailingZeros 7 = .ok (.bipush 32, 2) := dk_16 32 (dk_at dksJ20_numberOfTrailingZeros_0 7 rfl rfl)
theorem dJ20_numberOfTrailingZeros_9 : decode cJ20_numberOfTrailingZeros 9 = .ok (.lload_n 0, 1) := dk_30 (dk_at dksJ20_numberOfTrailingZeros_0 9 rfl rfl)
theorem dJ20_numberOfTrailingZeros_10 : decode cJ20_numberOfTrailingZeros 10 = .ok (.bipush 32, 2) := dk_16 32 (dk_at dksJ20_numberOfTrailingZeros_0 10 rfl rfl)
theorem dJ20_numberOfTrailingZeros_12 : decode cJ20_numberOfTrailingZeros 12 = .ok (.lushr, 1) := dk_125 (dk_at dksJ20_numberOfTrailingZeros_0 12 rfl rfl)
theorem dJ20_numberOfTrailingZeros_13 : decode cJ20_numberOfTrailingZeros 13 = .ok (.l2i, 1) := dk_136 (dk_at dksJ20_numberOfTrailingZeros_0 13 rfl rfl)
theorem dJ20_numberOfTrailingZeros_14 : decode cJ20_numberOfTrailingZeros 14 = .ok (.invokestatic 311, 3) := dk_184 1 55 (dk_at dksJ20_numberOfTrailingZeros_0 14 rfl rfl)
theorem dJ20_numberOfTrailingZeros_17 : decode cJ20_numberOfTrailingZeros 17 = .ok (.iadd, 1) := dk_96 (dk_at dksJ20_numberOfTrailingZeros_0 17 rfl rfl)
theorem dJ20_numberOfTrailingZeros_18 : decode cJ20_numberOfTrailingZeros 18 = .ok (.goto 7, 3) := dk_167 0 7 (dk_at dksJ20_numberOfTrailingZeros_0 18 rfl rfl)
theorem dJ20_numberOfTrailingZeros_21 : decode cJ20_numberOfTrailingZeros 21 = .ok (.iload_n 2, 1) := dk_28 (dk_at dksJ20_numberOfTrailingZeros_0 21 rfl rfl)
theorem dJ20_numberOfTrailingZeros_22 : decode cJ20_numberOfTrailingZeros 22 = .ok (.invokestatic 311, 3) := dk_184 1 55 (dk_at dksJ20_numberOfTrailingZeros_1 0 rfl rfl)
theorem dJ20_numberOfTrailingZeros_25 : decode cJ20_numberOfTrailingZeros 25 = .ok (.ireturn, 1) := dk_172 (dk_at dksJ20_numberOfTrailingZeros_1 3 rfl rfl)
theorem q137 : (Jvm.Cond.initialized "java/lang/Long") ∈ lw_all := lw_g (lw_at lw_m1 34 rfl) rfl
theorem q959 : (Jvm.Cond.static ({ cls := "java/lang/Long", name := "numberOfLeadingZeros", desc := "(J)I" } : Jvm.MethodName)) ∈ lw_all := lw_g (lw_at lw_m4 136 rfl) rfl
theorem q960 : (Jvm.Cond.code ({ cls := "java/lang/Long", name := "numberOfLeadingZeros", desc := "(J)I" } : Jvm.MethodName) prog_24_method_48_code (3 : Nat) (Option.some Jvm.ClassFile.FieldType.int)) ∈ lw_all := lw_g (lw_at lw_m4 137 rfl) rfl
theorem q961 : (Jvm.Cond.methodLink "java/lang/Long" (308 : Nat) ({ cls := "java/lang/Integer", name := "numberOfLeadingZeros", desc := "(I)I" } : Jvm.MethodName)) ∈ lw_all := lw_g (lw_at lw_m4 138 rfl) rfl
theorem q968 : (Jvm.Cond.static ({ cls := "java/lang/Long", name := "numberOfTrailingZeros", desc := "(J)I" } : Jvm.MethodName)) ∈ lw_all := lw_g (lw_at lw_m4 145 rfl) rfl
theorem q969 : (Jvm.Cond.code ({ cls := "java/lang/Long", name := "numberOfTrailingZeros", desc := "(J)I" } : Jvm.MethodName) prog_24_method_49_code (3 : Nat) (Option.some Jvm.ClassFile.FieldType.int)) ∈ lw_all := lw_g (lw_at lw_m4 146 rfl) rfl
theorem q970 : (Jvm.Cond.methodLink "java/lang/Long" (311 : Nat) ({ cls := "java/lang/Integer", name := "numberOfTrailingZeros", desc := "(I)I" } : Jvm.MethodName)) ∈ lw_all := lw_g (lw_at lw_m4 147 rfl) rfl

/-! java/util/TreeMap$Entry -/
set_option maxRecDepth 100000
def RJ21 : String := "java/util/TreeMap$Entry"
def TJ21 : u_T := fun k => match k with
  | 0 => ("java/util/TreeMap$Entry", "key", "Ljava/lang/Object;", false)
  | 1 => ("java/util/TreeMap$Entry", "value", "Ljava/lang/Object;", false)
  | 2 => ("java/util/TreeMap$Entry", "left", "Ljava/util/TreeMap$Entry;", false)
  | 3 => ("java/util/TreeMap$Entry", "right", "Ljava/util/TreeMap$Entry;", false)
  | 4 => ("java/util/TreeMap$Entry", "parent", "Ljava/util/TreeMap$Entry;", false)
  | _ => ("java/util/TreeMap$Entry", "color", "Z", false)
def tyJ21 : Nat → FieldType := fun k => match k with
  | 0 => .object "java/lang/Object"
  | 1 => .object "java/lang/Object"
  | 2 => .object "java/util/TreeMap$Entry"
  | 3 => .object "java/util/TreeMap$Entry"
  | 4 => .object "java/util/TreeMap$Entry"
  | _ => .boolean
abbrev wsJ210 : List Cond := u_ws RJ21 TJ21 6
theorem nmJ21 : ∀ a, a < 6 → ∀ b, b < 6 → a ≠ b → (TJ21 a).2.1 ≠ (TJ21 b).2.1 := by decide +kernel
theorem tyJ21_ok : ∀ k, k < 6 → parseFieldDescriptor (TJ21 k).2.2.1 = some (tyJ21 k) := by decide +kernel
abbrev cJ21_init : ByteArray := prog_66_method_1_code
def yJ21_init : MethodName := ⟨RJ21, "<init>", "(Ljava/lang/Object;Ljava/lang/Object;Ljava/util/TreeMap$Entry;)V"⟩
def dkwJ21_init_1 : List UInt8 := [177]
abbrev dktJ21_init_1 : List UInt8 := dkwJ21_init_1 ++ []
def dkwJ21_init_0 : List UInt8 := [42, 183, 0, 3, 42, 4, 181, 0, 9, 42, 43, 181, 0, 15, 42, 44, 181, 0, 19, 42, 45, 181, 0, 22]
abbrev dktJ21_init_0 : List UInt8 := dkwJ21_init_0 ++ dktJ21_init_1
theorem dksJ21_init_0 : cJ21_init.data.toList.drop 0 = dktJ21_init_0 := by decide +kernel
theorem dksJ21_init_1 : cJ21_init.data.toList.drop 24 = dktJ21_init_1 := dk_seg dksJ21_init_0 24 rfl rfl
theorem dJ21_init_0 : decode cJ21_init 0 = .ok (.aload_n 0, 1) := dk_42 (dk_at dksJ21_init_0 0 rfl rfl)
theorem dJ21_init_1 : decode cJ21_init 1 = .ok (.invokespecial 3, 3) := dk_183 0 3 (dk_at dksJ21_init_0 1 rfl rfl)
theorem dJ21_init_4 : decode cJ21_init 4 = .ok (.aload_n 0, 1) := dk_42 (dk_at dksJ21_init_0 4 rfl rfl)
theorem dJ21_init_5 : decode cJ21_init 5 = .ok (.iconst 1, 1) := dk_4 (dk_at dksJ21_init_0 5 rfl rfl)
theorem dJ21_init_6 : decode cJ21_init 6 = .ok (.putfield 9, 3) := dk_181 0 9 (dk_at dksJ21_init_0 6 rfl rfl)
theorem dJ21_init_9 : decode cJ21_init 9 = .ok (.aload_n 0, 1) := dk_42 (dk_at dksJ21_init_0 9 rfl rfl)
theorem dJ21_init_10 : decode cJ21_init 10 = .ok (.aload_n 1, 1) := dk_43 (dk_at dksJ21_init_0 10 rfl rfl)
theorem dJ21_init_11 : decode cJ21_init 11 = .ok (.putfield 15, 3) := dk_181 0 15 (dk_at dksJ21_init_0 11 rfl rfl)
theorem dJ21_init_14 : decode cJ21_init 14 = .ok (.aload_n 0, 1) := dk_42 (dk_at dksJ21_init_0 14 rfl rfl)
theorem dJ21_init_15 : decode cJ21_init 15 = .ok (.aload_n 2, 1) := dk_44 (dk_at dksJ21_init_0 15 rfl rfl)
theorem dJ21_init_16 : decode cJ21_init 16 = .ok (.putfield 19, 3) := dk_181 0 19 (dk_at dksJ21_init_0 16 rfl rfl)
theorem dJ21_init_19 : decode cJ21_init 19 = .ok (.aload_n 0, 1) := dk_42 (dk_at dksJ21_init_0 19 rfl rfl)
theorem dJ21_init_20 : decode cJ21_init 20 = .ok (.aload_n 3, 1) := dk_45 (dk_at dksJ21_init_0 20 rfl rfl)
theorem dJ21_init_21 : decode cJ21_init 21 = .ok (.putfield 22, 3) := dk_181 0 22 (dk_at dksJ21_init_0 21 rfl rfl)
theorem dJ21_init_24 : decode cJ21_init 24 = .ok (.return_, 1) := dk_177 (dk_at dksJ21_init_1 0 rfl rfl)
abbrev cJ21_getKey : ByteArray := prog_66_method_2_code
def yJ21_getKey : MethodName := ⟨RJ21, "getKey", "()Ljava/lang/Object;"⟩
theorem dJ21_getKey_0 : decode cJ21_getKey 0 = .ok (.aload_n 0, 1) := by decide +kernel
theorem dJ21_getKey_1 : decode cJ21_getKey 1 = .ok (.getfield 15, 3) := by decide +kernel
theorem dJ21_getKey_4 : decode cJ21_getKey 4 = .ok (.areturn, 1) := by decide +kernel
abbrev cJ21_getValue : ByteArray := prog_66_method_3_code
def yJ21_getValue : MethodName := ⟨RJ21, "getValue", "()Ljava/lang/Object;"⟩
theorem dJ21_getValue_0 : decode cJ21_getValue 0 = .ok (.aload_n 0, 1) := by decide +kernel
theorem dJ21_getValue_1 : decode cJ21_getValue 1 = .ok (.getfield 19, 3) := by decide +kernel
theorem dJ21_getValue_4 : decode cJ21_getValue 4 = .ok (.areturn, 1) := by decide +kernel
theorem q139 : (Jvm.Cond.initialized "java/util/TreeMap$Entry") ∈ lw_all := lw_g (lw_at lw_m1 36 rfl) rfl
theorem q813 : (Jvm.Cond.selects "java/util/TreeMap$Entry" ({ cls := "java/lang/Object", name := "getClass", desc := "()Ljava/lang/Class;" } : Jvm.MethodName) ({ cls := "java/lang/Object", name := "getClass", desc := "()Ljava/lang/Class;" } : Jvm.MethodName)) ∈ lw_all := lw_g (lw_at lw_m3 230 rfl) rfl
theorem q1099 : (Jvm.Cond.instantiable "java/util/TreeMap$Entry" (6 : Nat)) ∈ lw_all := lw_g (lw_at lw_m5 36 rfl) rfl
theorem q1101 : (Jvm.Cond.instanceMethod ({ cls := "java/util/TreeMap$Entry", name := "<init>", desc := "(Ljava/lang/Object;Ljava/lang/Object;Ljava/util/TreeMap$Entry;)V" } : Jvm.MethodName)) ∈ lw_all := lw_g (lw_at lw_m5 38 rfl) rfl
theorem q1102 : (Jvm.Cond.code ({ cls := "java/util/TreeMap$Entry", name := "<init>", desc := "(Ljava/lang/Object;Ljava/lang/Object;Ljava/util/TreeMap$Entry;)V" } : Jvm.MethodName) prog_66_method_1_code (4 : Nat) (Option.none : Option Jvm.ClassFile.FieldType)) ∈ lw_all := lw_g (lw_at lw_m5 39 rfl) rfl
theorem q1103 : (Jvm.Cond.methodLink "java/util/TreeMap$Entry" (3 : Nat) ({ cls := "java/lang/Object", name := "<init>", desc := "()V" } : Jvm.MethodName)) ∈ lw_all := lw_g (lw_at lw_m5 40 rfl) rfl
theorem q1104 : (Jvm.Cond.fieldLink "java/util/TreeMap$Entry" (15 : Nat) "java/util/TreeMap$Entry" "key" "Ljava/lang/Object;") ∈ lw_all := lw_g (lw_at lw_m5 41 rfl) rfl
theorem q1107 : (Jvm.Cond.fieldLink "java/util/TreeMap$Entry" (19 : Nat) "java/util/TreeMap$Entry" "value" "Ljava/lang/Object;") ∈ lw_all := lw_g (lw_at lw_m5 44 rfl) rfl
theorem q1111 : (Jvm.Cond.fieldLink "java/util/TreeMap$Entry" (22 : Nat) "java/util/TreeMap$Entry" "parent" "Ljava/util/TreeMap$Entry;") ∈ lw_all := lw_g (lw_at lw_m5 48 rfl) rfl
theorem q1113 : (Jvm.Cond.fieldLink "java/util/TreeMap$Entry" (9 : Nat) "java/util/TreeMap$Entry" "color" "Z") ∈ lw_all := lw_g (lw_at lw_m5 50 rfl) rfl
theorem q1115 : (Jvm.Cond.lays "java/util/TreeMap$Entry" "java/util/TreeMap$Entry" "key" "Ljava/lang/Object;") ∈ lw_all := lw_g (lw_at lw_m5 52 rfl) rfl
theorem q1116 : (Jvm.Cond.soleField "java/util/TreeMap$Entry" "key") ∈ lw_all := lw_g (lw_at lw_m5 53 rfl) rfl
theorem q1117 : (Jvm.Cond.lays "java/util/TreeMap$Entry" "java/util/TreeMap$Entry" "value" "Ljava/lang/Object;") ∈ lw_all := lw_g (lw_at lw_m5 54 rfl) rfl
theorem q1118 : (Jvm.Cond.soleField "java/util/TreeMap$Entry" "value") ∈ lw_all := lw_g (lw_at lw_m5 55 rfl) rfl
theorem q1119 : (Jvm.Cond.lays "java/util/TreeMap$Entry" "java/util/TreeMap$Entry" "left" "Ljava/util/TreeMap$Entry;") ∈ lw_all := lw_g (lw_at lw_m5 56 rfl) rfl
theorem q1120 : (Jvm.Cond.soleField "java/util/TreeMap$Entry" "left") ∈ lw_all := lw_g (lw_at lw_m5 57 rfl) rfl
theorem q1121 : (Jvm.Cond.lays "java/util/TreeMap$Entry" "java/util/TreeMap$Entry" "right" "Ljava/util/TreeMap$Entry;") ∈ lw_all := lw_g (lw_at lw_m5 58 rfl) rfl
theorem q1122 : (Jvm.Cond.soleField "java/util/TreeMap$Entry" "right") ∈ lw_all := lw_g (lw_at lw_m5 59 rfl) rfl
theorem q1123 : (Jvm.Cond.lays "java/util/TreeMap$Entry" "java/util/TreeMap$Entry" "parent" "Ljava/util/TreeMap$Entry;") ∈ lw_all := lw_g (lw_at lw_m5 60 rfl) rfl
theorem q1124 : (Jvm.Cond.soleField "java/util/TreeMap$Entry" "parent") ∈ lw_all := lw_g (lw_at lw_m5 61 rfl) rfl
theorem q1125 : (Jvm.Cond.lays "java/util/TreeMap$Entry" "java/util/TreeMap$Entry" "color" "Z") ∈ lw_all := lw_g (lw_at lw_m5 62 rfl) rfl
theorem q1126 : (Jvm.Cond.soleField "java/util/TreeMap$Entry" "color") ∈ lw_all := lw_g (lw_at lw_m5 63 rfl) rfl
theorem q1127 : (Jvm.Cond.superclass "java/util/TreeMap$Entry" "java/lang/Object") ∈ lw_all := lw_g (lw_at lw_m5 64 rfl) rfl
theorem q1200 : (Jvm.Cond.castable "java/util/TreeMap$Entry" "java/util/Map$Entry") ∈ lw_tbl := lw_at lw_m5 137 rfl
theorem q1201 : (Jvm.Cond.selects "java/util/TreeMap$Entry" ({ cls := "java/util/Map$Entry", name := "getKey", desc := "()Ljava/lang/Object;" } : Jvm.MethodName) ({ cls := "java/util/TreeMap$Entry", name := "getKey", desc := "()Ljava/lang/Object;" } : Jvm.MethodName)) ∈ lw_all := lw_g (lw_at lw_m5 138 rfl) rfl
theorem q1202 : (Jvm.Cond.unhidden "java/util/TreeMap$Entry" "getKey" "()Ljava/lang/Object;") ∈ lw_tbl := lw_at lw_m5 139 rfl
theorem q1203 : (Jvm.Cond.instanceMethod ({ cls := "java/util/TreeMap$Entry", name := "getKey", desc := "()Ljava/lang/Object;" } : Jvm.MethodName)) ∈ lw_all := lw_g (lw_at lw_m5 140 rfl) rfl
theorem q1204 : (Jvm.Cond.publicMethod ({ cls := "java/util/TreeMap$Entry", name := "getKey", desc := "()Ljava/lang/Object;" } : Jvm.MethodName)) ∈ lw_tbl := lw_at lw_m5 141 rfl
theorem q1205 : (Jvm.Cond.code ({ cls := "java/util/TreeMap$Entry", name := "getKey", desc := "()Ljava/lang/Object;" } : Jvm.MethodName) prog_66_method_2_code (1 : Nat) (Option.some (Jvm.ClassFile.FieldType.object "java/lang/Object"))) ∈ lw_all := lw_g (lw_at lw_m5 142 rfl) rfl
theorem q1215 : (Jvm.Cond.selects "java/util/TreeMap$Entry" ({ cls := "java/util/Map$Entry", name := "getValue", desc := "()Ljava/lang/Object;" } : Jvm.MethodName) ({ cls := "java/util/TreeMap$Entry", name := "getValue", desc := "()Ljava/lang/Object;" } : Jvm.MethodName)) ∈ lw_all := lw_g (lw_at lw_m5 152 rfl) rfl
theorem q1216 : (Jvm.Cond.unhidden "java/util/TreeMap$Entry" "getValue" "()Ljava/lang/Object;") ∈ lw_tbl := lw_at lw_m5 153 rfl
theorem q1217 : (Jvm.Cond.instanceMethod ({ cls := "java/util/TreeMap$Entry", name := "getValue", desc := "()Ljava/lang/Object;" } : Jvm.MethodName)) ∈ lw_all := lw_g (lw_at lw_m5 154 rfl) rfl
theorem q1218 : (Jvm.Cond.publicMethod ({ cls := "java/util/TreeMap$Entry", name := "getValue", desc := "()Ljava/lang/Object;" } : Jvm.MethodName)) ∈ lw_tbl := lw_at lw_m5 155 rfl
theorem q1219 : (Jvm.Cond.code ({ cls := "java/util/TreeMap$Entry", name := "getValue", desc := "()Ljava/lang/Object;" } : Jvm.MethodName) prog_66_method_3_code (1 : Nat) (Option.some (Jvm.ClassFile.FieldType.object "java/lang/Object"))) ∈ lw_all := lw_g (lw_at lw_m5 156 rfl) rfl
theorem q2312 : (Jvm.Cond.castable "java/util/TreeMap$Entry" "java/lang/Object") ∈ lw_tbl := lw_at lw_m10 49 rfl
theorem in_J21 : ∀ w ∈ wsJ210, w ∈ lw_all := lw_in wsJ210 [1115, 1117, 1119, 1121, 1123, 1125] (by decide +kernel) (by decide +kernel)

/-! java/util/Objects -/
set_option maxRecDepth 100000
def RJ22 : String := "java/util/Objects"
abbrev cJ22_requireNonNull : ByteArray := prog_54_method_10_code
def yJ22_requireNonNull : MethodName := ⟨RJ22, "requireNonNull", "(Ljava/lang/Object;)Ljava/lang/Object;"⟩
def dkwJ22_requireNonNull_0 : List UInt8 := [42, 199, 0, 11, 187, 0, 84, 89, 183, 0, 86, 191, 42, 176]
abbrev dktJ22_requireNonNull_0 : List UInt8 := dkwJ22_requireNonNull_0 ++ []
theorem dksJ22_requireNonNull_0 : cJ22_requireNonNull.data.toList.drop 0 = dktJ22_requireNonNull_0 := by decide +kernel
theorem dJ22_requireNonNull_0 : decode cJ22_requireNonNull 0 = .ok (.aload_n 0, 1) := dk_42 (dk_at dksJ22_requireNonNull_0 0 rfl rfl)
theorem dJ22_requireNonNull_1 : decode cJ22_requireNonNull 1 = .ok (.ifnonnull 11, 3) := dk_199 0 11 (dk_at dksJ22_requireNonNull_0 1 rfl rfl)
theorem dJ22_requireNonNull_4 : decode cJ22_requireNonNull 4 = .ok (.new 84, 3) := dk_187 0 84 (dk_at dksJ22_requireNonNull_0 4 rfl rfl)
theorem dJ22_requireNonNull_7 : decode cJ22_requireNonNull 7 = .ok (.dup, 1) := dk_89 (dk_at dksJ22_requireNonNull_0 7 rfl rfl)
theorem dJ22_requireNonNull_8 : decode cJ22_requireNonNull 8 = .ok (.invokespecial 86, 3) := dk_183 0 86 (dk_at dksJ22_requireNonNull_0 8 rfl rfl)
theorem dJ22_requireNonNull_11 : decode cJ22_requireNonNull 11 = .ok (.athrow, 1) := dk_191 (dk_at dksJ22_requireNonNull_0 11 rfl rfl)
theorem dJ22_requireNonNull_12 : decode cJ22_requireNonNull 12 = .ok (.aload_n 0, 1) := dk_42 (dk_at dksJ22_requireNonNull_0 12 rfl rfl)
theorem dJ22_requireNonNull_13 : decode cJ22_requireNonNull 13 = .ok (.areturn, 1) := dk_176 (dk_at dksJ22_requireNonNull_0 13 rfl rfl)
abbrev cJ22_equals : ByteArray := prog_54_method_2_code
def yJ22_equals : MethodName := ⟨RJ22, "equals", "(Ljava/lang/Object;Ljava/lang/Object;)Z"⟩
def dkwJ22_equals_0 : List UInt8 := [42, 43, 165, 0, 15, 42, 198, 0, 15, 42, 43, 182, 0, 14, 153, 0, 7, 4, 167, 0, 4, 3, 172]
abbrev dktJ22_equals_0 : List UInt8 := dkwJ22_equals_0 ++ []
theorem dksJ22_equals_0 : cJ22_equals.data.toList.drop 0 = dktJ22_equals_0 := by decide +kernel
theorem dJ22_equals_0 : decode cJ22_equals 0 = .ok (.aload_n 0, 1) := dk_42 (dk_at dksJ22_equals_0 0 rfl rfl)
theorem dJ22_equals_1 : decode cJ22_equals 1 = .ok (.aload_n 1, 1) := dk_43 (dk_at dksJ22_equals_0 1 rfl rfl)
theorem dJ22_equals_2 : decode cJ22_equals 2 = .ok (.if_acmp .eq 15, 3) := dk_165 0 15 (dk_at dksJ22_equals_0 2 rfl rfl)
theorem dJ22_equals_5 : decode cJ22_equals 5 = .ok (.aload_n 0, 1) := dk_42 (dk_at dksJ22_equals_0 5 rfl rfl)
theorem dJ22_equals_6 : decode cJ22_equals 6 = .ok (.ifnull 15, 3) := dk_198 0 15 (dk_at dksJ22_equals_0 6 rfl rfl)
theorem dJ22_equals_9 : decode cJ22_equals 9 = .ok (.aload_n 0, 1) := dk_42 (dk_at dksJ22_equals_0 9 rfl rfl)
theorem dJ22_equals_10 : decode cJ22_equals 10 = .ok (.aload_n 1, 1) := dk_43 (dk_at dksJ22_equals_0 10 rfl rfl)
theorem dJ22_equals_11 : decode cJ22_equals 11 = .ok (.invokevirtual 14, 3) := dk_182 0 14 (dk_at dksJ22_equals_0 11 rfl rfl)
theorem dJ22_equals_14 : decode cJ22_equals 14 = .ok (.ifCond .eq 7, 3) := dk_153 0 7 (dk_at dksJ22_equals_0 14 rfl rfl)
theorem dJ22_equals_17 : decode cJ22_equals 17 = .ok (.iconst 1, 1) := dk_4 (dk_at dksJ22_equals_0 17 rfl rfl)
theorem dJ22_equals_18 : decode cJ22_equals 18 = .ok (.goto 4, 3) := dk_167 0 4 (dk_at dksJ22_equals_0 18 rfl rfl)
theorem dJ22_equals_21 : decode cJ22_equals 21 = .ok (.iconst 0, 1) := dk_3 (dk_at dksJ22_equals_0 21 rfl rfl)
theorem dJ22_equals_22 : decode cJ22_equals 22 = .ok (.ireturn, 1) := dk_172 (dk_at dksJ22_equals_0 22 rfl rfl)
theorem q140 : (Jvm.Cond.initialized "java/util/Objects") ∈ lw_all := lw_g (lw_at lw_m1 37 rfl) rfl
theorem q1129 : (Jvm.Cond.static ({ cls := "java/util/Objects", name := "requireNonNull", desc := "(Ljava/lang/Object;)Ljava/lang/Object;" } : Jvm.MethodName)) ∈ lw_all := lw_g (lw_at lw_m5 66 rfl) rfl
theorem q1130 : (Jvm.Cond.code ({ cls := "java/util/Objects", name := "requireNonNull", desc := "(Ljava/lang/Object;)Ljava/lang/Object;" } : Jvm.MethodName) prog_54_method_10_code (1 : Nat) (Option.some (Jvm.ClassFile.FieldType.object "java/lang/Object"))) ∈ lw_all := lw_g (lw_at lw_m5 67 rfl) rfl
theorem q1131 : (Jvm.Cond.classLink "java/util/Objects" (84 : Nat) "java/lang/NullPointerException") ∈ lw_all := lw_g (lw_at lw_m5 68 rfl) rfl
theorem q1132 : (Jvm.Cond.methodLink "java/util/Objects" (86 : Nat) ({ cls := "java/lang/NullPointerException", name := "<init>", desc := "()V" } : Jvm.MethodName)) ∈ lw_all := lw_g (lw_at lw_m5 69 rfl) rfl
theorem q1509 : (Jvm.Cond.static ({ cls := "java/util/Objects", name := "equals", desc := "(Ljava/lang/Object;Ljava/lang/Object;)Z" } : Jvm.MethodName)) ∈ lw_all := lw_g (lw_at lw_m6 206 rfl) rfl
theorem q1510 : (Jvm.Cond.code ({ cls := "java/util/Objects", name := "equals", desc := "(Ljava/lang/Object;Ljava/lang/Object;)Z" } : Jvm.MethodName) prog_54_method_2_code (2 : Nat) (Option.some Jvm.ClassFile.FieldType.boolean)) ∈ lw_all := lw_g (lw_at lw_m6 207 rfl) rfl
theorem q1512 : (Jvm.Cond.methodLink "java/util/Objects" (14 : Nat) ({ cls := "java/lang/Object", name := "equals", desc := "(Ljava/lang/Object;)Z" } : Jvm.MethodName)) ∈ lw_all := lw_g (lw_at lw_m6 209 rfl) rfl

/-! java/util/AbstractMap$SimpleImmutableEntry -/
set_option maxRecDepth 100000
def RJ23 : String := "java/util/AbstractMap$SimpleImmutableEntry"
def TJ23 : u_T := fun k => match k with
  | 0 => ("java/util/AbstractMap$SimpleImmutableEntry", "key", "Ljava/lang/Object;", true)
  | _ => ("java/util/AbstractMap$SimpleImmutableEntry", "value", "Ljava/lang/Object;", true)
def tyJ23 : Nat → FieldType := fun k => match k with
  | 0 => .object "java/lang/Object"
  | _ => .object "java/lang/Object"
abbrev wsJ230 : List Cond := u_ws RJ23 TJ23 2
theorem nmJ23 : ∀ a, a < 2 → ∀ b, b < 2 → a ≠ b → (TJ23 a).2.1 ≠ (TJ23 b).2.1 := by decide +kernel
theorem tyJ23_ok : ∀ k, k < 2 → parseFieldDescriptor (TJ23 k).2.2.1 = some (tyJ23 k) := by decide +kernel
abbrev cJ23_init : ByteArray := prog_40_method_2_code
def yJ23_init : MethodName := ⟨RJ23, "<init>", "(Ljava/util/Map$Entry;)V"⟩
def dkwJ23_init_1 : List UInt8 := [177]
abbrev dktJ23_init_1 : List UInt8 := dkwJ23_init_1 ++ []
def dkwJ23_init_0 : List UInt8 := [42, 183, 0, 1, 42, 43, 185, 0, 16, 1, 0, 181, 0, 7, 42, 43, 185, 0, 22, 1, 0, 181, 0, 13]
abbrev dktJ23_init_0 : List UInt8 := dkwJ23_init_0 ++ dktJ23_init_1
theorem dksJ23_init_0 : cJ23_init.data.toList.drop 0 = dktJ23_init_0 := by decide +kernel
theorem dksJ23_init_1 : cJ23_init.data.toList.drop 24 = dktJ23_init_1 := dk_seg dksJ23_init_0 24 rfl rfl
theorem dJ23_init_0 : decode cJ23_init 0 = .ok (.aload_n 0, 1) := dk_42 (dk_at dksJ23_init_0 0 rfl rfl)
theorem dJ23_init_1 : decode cJ23_init 1 = .ok (.invokespecial 1, 3) := dk_183 0 1 (dk_at dksJ23_init_0 1 rfl rfl)
theorem dJ23_init_4 : decode cJ23_init 4 = .ok (.aload_n 0, 1) := dk_42 (dk_at dksJ23_init_0 4 rfl rfl)
theorem dJ23_init_5 : decode cJ23_init 5 = .ok (.aload_n 1, 1) := dk_43 (dk_at dksJ23_init_0 5 rfl rfl)
theorem dJ23_init_6 : decode cJ23_init 6 = .ok (.invokeinterface 16 1, 5) := by decide +kernel
theorem dJ23_init_11 : decode cJ23_init 11 = .ok (.putfield 7, 3) := dk_181 0 7 (dk_at dksJ23_init_0 11 rfl rfl)
theorem dJ23_init_14 : decode cJ23_init 14 = .ok (.aload_n 0, 1) := dk_42 (dk_at dksJ23_init_0 14 rfl rfl)
theorem dJ23_init_15 : decode cJ23_init 15 = .ok (.aload_n 1, 1) := dk_43 (dk_at dksJ23_init_0 15 rfl rfl)
theorem dJ23_init_16 : decode cJ23_init 16 = .ok (.invokeinterface 22 1, 5) := by decide +kernel
theorem dJ23_init_21 : decode cJ23_init 21 = .ok (.putfield 13, 3) := dk_181 0 13 (dk_at dksJ23_init_0 21 rfl rfl)
theorem dJ23_init_24 : decode cJ23_init 24 = .ok (.return_, 1) := dk_177 (dk_at dksJ23_init_1 0 rfl rfl)
abbrev cJ23_getKey : ByteArray := prog_40_method_3_code
def yJ23_getKey : MethodName := ⟨RJ23, "getKey", "()Ljava/lang/Object;"⟩
theorem dJ23_getKey_0 : decode cJ23_getKey 0 = .ok (.aload_n 0, 1) := by decide +kernel
theorem dJ23_getKey_1 : decode cJ23_getKey 1 = .ok (.getfield 7, 3) := by decide +kernel
theorem dJ23_getKey_4 : decode cJ23_getKey 4 = .ok (.areturn, 1) := by decide +kernel
abbrev cJ23_getValue : ByteArray := prog_40_method_4_code
def yJ23_getValue : MethodName := ⟨RJ23, "getValue", "()Ljava/lang/Object;"⟩
theorem dJ23_getValue_0 : decode cJ23_getValue 0 = .ok (.aload_n 0, 1) := by decide +kernel
theorem dJ23_getValue_1 : decode cJ23_getValue 1 = .ok (.getfield 13, 3) := by decide +kernel
theorem dJ23_getValue_4 : decode cJ23_getValue 4 = .ok (.areturn, 1) := by decide +kernel
theorem q141 : (Jvm.Cond.initialized "java/util/AbstractMap$SimpleImmutableEntry") ∈ lw_all := lw_g (lw_at lw_m1 38 rfl) rfl
theorem q809 : (Jvm.Cond.selects "java/util/AbstractMap$SimpleImmutableEntry" ({ cls := "java/lang/Object", name := "getClass", desc := "()Ljava/lang/Class;" } : Jvm.MethodName) ({ cls := "java/lang/Object", name := "getClass", desc := "()Ljava/lang/Class;" } : Jvm.MethodName)) ∈ lw_all := lw_g (lw_at lw_m3 226 rfl) rfl
theorem q1185 : (Jvm.Cond.instantiable "java/util/AbstractMap$SimpleImmutableEntry" (2 : Nat)) ∈ lw_all := lw_g (lw_at lw_m5 122 rfl) rfl
theorem q1187 : (Jvm.Cond.instanceMethod ({ cls := "java/util/AbstractMap$SimpleImmutableEntry", name := "<init>", desc := "(Ljava/util/Map$Entry;)V" } : Jvm.MethodName)) ∈ lw_all := lw_g (lw_at lw_m5 124 rfl) rfl
theorem q1188 : (Jvm.Cond.code ({ cls := "java/util/AbstractMap$SimpleImmutableEntry", name := "<init>", desc := "(Ljava/util/Map$Entry;)V" } : Jvm.MethodName) prog_40_method_2_code (2 : Nat) (Option.none : Option Jvm.ClassFile.FieldType)) ∈ lw_all := lw_g (lw_at lw_m5 125 rfl) rfl
theorem q1189 : (Jvm.Cond.methodLink "java/util/AbstractMap$SimpleImmutableEntry" (1 : Nat) ({ cls := "java/lang/Object", name := "<init>", desc := "()V" } : Jvm.MethodName)) ∈ lw_all := lw_g (lw_at lw_m5 126 rfl) rfl
theorem q1190 : (Jvm.Cond.interfaceEntry "java/util/AbstractMap$SimpleImmutableEntry" (16 : Nat)) ∈ lw_tbl := lw_at lw_m5 127 rfl
theorem q1191 : (Jvm.Cond.methodLink "java/util/AbstractMap$SimpleImmutableEntry" (16 : Nat) ({ cls := "java/util/Map$Entry", name := "getKey", desc := "()Ljava/lang/Object;" } : Jvm.MethodName)) ∈ lw_all := lw_g (lw_at lw_m5 128 rfl) rfl
theorem q1194 : (Jvm.Cond.castable "java/util/AbstractMap$SimpleImmutableEntry" "java/util/Map$Entry") ∈ lw_tbl := lw_at lw_m5 131 rfl
theorem q1195 : (Jvm.Cond.selects "java/util/AbstractMap$SimpleImmutableEntry" ({ cls := "java/util/Map$Entry", name := "getKey", desc := "()Ljava/lang/Object;" } : Jvm.MethodName) ({ cls := "java/util/AbstractMap$SimpleImmutableEntry", name := "getKey", desc := "()Ljava/lang/Object;" } : Jvm.MethodName)) ∈ lw_all := lw_g (lw_at lw_m5 132 rfl) rfl
theorem q1196 : (Jvm.Cond.unhidden "java/util/AbstractMap$SimpleImmutableEntry" "getKey" "()Ljava/lang/Object;") ∈ lw_tbl := lw_at lw_m5 133 rfl
theorem q1197 : (Jvm.Cond.instanceMethod ({ cls := "java/util/AbstractMap$SimpleImmutableEntry", name := "getKey", desc := "()Ljava/lang/Object;" } : Jvm.MethodName)) ∈ lw_all := lw_g (lw_at lw_m5 134 rfl) rfl
theorem q1198 : (Jvm.Cond.publicMethod ({ cls := "java/util/AbstractMap$SimpleImmutableEntry", name := "getKey", desc := "()Ljava/lang/Object;" } : Jvm.MethodName)) ∈ lw_tbl := lw_at lw_m5 135 rfl
theorem q1199 : (Jvm.Cond.code ({ cls := "java/util/AbstractMap$SimpleImmutableEntry", name := "getKey", desc := "()Ljava/lang/Object;" } : Jvm.MethodName) prog_40_method_3_code (1 : Nat) (Option.some (Jvm.ClassFile.FieldType.object "java/lang/Object"))) ∈ lw_all := lw_g (lw_at lw_m5 136 rfl) rfl
theorem q1206 : (Jvm.Cond.interfaceEntry "java/util/AbstractMap$SimpleImmutableEntry" (22 : Nat)) ∈ lw_tbl := lw_at lw_m5 143 rfl
theorem q1207 : (Jvm.Cond.methodLink "java/util/AbstractMap$SimpleImmutableEntry" (22 : Nat) ({ cls := "java/util/Map$Entry", name := "getValue", desc := "()Ljava/lang/Object;" } : Jvm.MethodName)) ∈ lw_all := lw_g (lw_at lw_m5 144 rfl) rfl
theorem q1210 : (Jvm.Cond.selects "java/util/AbstractMap$SimpleImmutableEntry" ({ cls := "java/util/Map$Entry", name := "getValue", desc := "()Ljava/lang/Object;" } : Jvm.MethodName) ({ cls := "java/util/AbstractMap$SimpleImmutableEntry", name := "getValue", desc := "()Ljava/lang/Object;" } : Jvm.MethodName)) ∈ lw_all := lw_g (lw_at lw_m5 147 rfl) rfl
theorem q1211 : (Jvm.Cond.unhidden "java/util/AbstractMap$SimpleImmutableEntry" "getValue" "()Ljava/lang/Object;") ∈ lw_tbl := lw_at lw_m5 148 rfl
theorem q1212 : (Jvm.Cond.instanceMethod ({ cls := "java/util/AbstractMap$SimpleImmutableEntry", name := "getValue", desc := "()Ljava/lang/Object;" } : Jvm.MethodName)) ∈ lw_all := lw_g (lw_at lw_m5 149 rfl) rfl
theorem q1213 : (Jvm.Cond.publicMethod ({ cls := "java/util/AbstractMap$SimpleImmutableEntry", name := "getValue", desc := "()Ljava/lang/Object;" } : Jvm.MethodName)) ∈ lw_tbl := lw_at lw_m5 150 rfl
theorem q1214 : (Jvm.Cond.code ({ cls := "java/util/AbstractMap$SimpleImmutableEntry", name := "getValue", desc := "()Ljava/lang/Object;" } : Jvm.MethodName) prog_40_method_4_code (1 : Nat) (Option.some (Jvm.ClassFile.FieldType.object "java/lang/Object"))) ∈ lw_all := lw_g (lw_at lw_m5 151 rfl) rfl
theorem q1220 : (Jvm.Cond.fieldLink "java/util/AbstractMap$SimpleImmutableEntry" (7 : Nat) "java/util/AbstractMap$SimpleImmutableEntry" "key" "Ljava/lang/Object;") ∈ lw_all := lw_g (lw_at lw_m5 157 rfl) rfl
theorem q1221 : (Jvm.Cond.fieldLink "java/util/AbstractMap$SimpleImmutableEntry" (13 : Nat) "java/util/AbstractMap$SimpleImmutableEntry" "value" "Ljava/lang/Object;") ∈ lw_all := lw_g (lw_at lw_m5 158 rfl) rfl
theorem q1222 : (Jvm.Cond.laysFinal "java/util/AbstractMap$SimpleImmutableEntry" "java/util/AbstractMap$SimpleImmutableEntry" "key" "Ljava/lang/Object;") ∈ lw_all := lw_g (lw_at lw_m5 159 rfl) rfl
theorem q1223 : (Jvm.Cond.soleField "java/util/AbstractMap$SimpleImmutableEntry" "key") ∈ lw_all := lw_g (lw_at lw_m5 160 rfl) rfl
theorem q1224 : (Jvm.Cond.laysFinal "java/util/AbstractMap$SimpleImmutableEntry" "java/util/AbstractMap$SimpleImmutableEntry" "value" "Ljava/lang/Object;") ∈ lw_all := lw_g (lw_at lw_m5 161 rfl) rfl
theorem q1225 : (Jvm.Cond.soleField "java/util/AbstractMap$SimpleImmutableEntry" "value") ∈ lw_all := lw_g (lw_at lw_m5 162 rfl) rfl
theorem q1226 : (Jvm.Cond.superclass "java/util/AbstractMap$SimpleImmutableEntry" "java/lang/Object") ∈ lw_all := lw_g (lw_at lw_m5 163 rfl) rfl
theorem q2313 : (Jvm.Cond.castable "java/util/AbstractMap$SimpleImmutableEntry" "java/lang/Object") ∈ lw_tbl := lw_at lw_m10 50 rfl
theorem in_J23 : ∀ w ∈ wsJ230, w ∈ lw_all := lw_in wsJ230 [1222, 1224] (by decide +kernel) (by decide +kernel)

/-! java/util/TreeMap$KeySet -/
set_option maxRecDepth 100000
def RJ24 : String := "java/util/TreeMap$KeySet"
def TJ24 : u_T := fun k => match k with
  | _ => ("java/util/TreeMap$KeySet", "m", "Ljava/util/NavigableMap;", true)
def tyJ24 : Nat → FieldType := fun k => match k with
  | _ => .object "java/util/NavigableMap"
abbrev wsJ240 : List Cond := u_ws RJ24 TJ24 1
theorem nmJ24 : ∀ a, a < 1 → ∀ b, b < 1 → a ≠ b → (TJ24 a).2.1 ≠ (TJ24 b).2.1 := by decide +kernel
theorem tyJ24_ok : ∀ k, k < 1 → parseFieldDescriptor (TJ24 k).2.2.1 = some (tyJ24 k) := by decide +kernel
abbrev cJ24_init : ByteArray := prog_68_method_1_code
def yJ24_init : MethodName := ⟨RJ24, "<init>", "(Ljava/util/NavigableMap;)V"⟩
def dkwJ24_init_0 : List UInt8 := [42, 183, 0, 1, 42, 43, 181, 0, 7, 177]
abbrev dktJ24_init_0 : List UInt8 := dkwJ24_init_0 ++ []
theorem dksJ24_init_0 : cJ24_init.data.toList.drop 0 = dktJ24_init_0 := by decide +kernel
theorem dJ24_init_0 : decode cJ24_init 0 = .ok (.aload_n 0, 1) := dk_42 (dk_at dksJ24_init_0 0 rfl rfl)
theorem dJ24_init_1 : decode cJ24_init 1 = .ok (.invokespecial 1, 3) := dk_183 0 1 (dk_at dksJ24_init_0 1 rfl rfl)
theorem dJ24_init_4 : decode cJ24_init 4 = .ok (.aload_n 0, 1) := dk_42 (dk_at dksJ24_init_0 4 rfl rfl)
theorem dJ24_init_5 : decode cJ24_init 5 = .ok (.aload_n 1, 1) := dk_43 (dk_at dksJ24_init_0 5 rfl rfl)
theorem dJ24_init_6 : decode cJ24_init 6 = .ok (.putfield 7, 3) := dk_181 0 7 (dk_at dksJ24_init_0 6 rfl rfl)
theorem dJ24_init_9 : decode cJ24_init 9 = .ok (.return_, 1) := dk_177 (dk_at dksJ24_init_0 9 rfl rfl)
abbrev cJ24_iterator : ByteArray := prog_68_method_2_code
def yJ24_iterator : MethodName := ⟨RJ24, "iterator", "()Ljava/util/Iterator;"⟩
def dkwJ24_iterator_1 : List UInt8 := [180, 0, 7, 192, 0, 19, 182, 0, 21, 176]
abbrev dktJ24_iterator_1 : List UInt8 := dkwJ24_iterator_1 ++ []
def dkwJ24_iterator_0 : List UInt8 := [42, 180, 0, 7, 193, 0, 13, 153, 0, 14, 42, 180, 0, 7, 192, 0, 13, 182, 0, 15, 176, 42]
abbrev dktJ24_iterator_0 : List UInt8 := dkwJ24_iterator_0 ++ dktJ24_iterator_1
theorem dksJ24_iterator_0 : cJ24_iterator.data.toList.drop 0 = dktJ24_iterator_0 := by decide +kernel
theorem dksJ24_iterator_1 : cJ24_iterator.data.toList.drop 22 = dktJ24_iterator_1 := dk_seg dksJ24_iterator_0 22 rfl rfl
theorem dJ24_iterator_0 : decode cJ24_iterator 0 = .ok (.aload_n 0, 1) := dk_42 (dk_at dksJ24_iterator_0 0 rfl rfl)
theorem dJ24_iterator_1 : decode cJ24_iterator 1 = .ok (.getfield 7, 3) := dk_180 0 7 (dk_at dksJ24_iterator_0 1 rfl rfl)
theorem dJ24_iterator_4 : decode cJ24_iterator 4 = .ok (.instanceof 13, 3) := dk_193 0 13 (dk_at dksJ24_iterator_0 4 rfl rfl)
theorem dJ24_iterator_7 : decode cJ24_iterator 7 = .ok (.ifCond .eq 14, 3) := dk_153 0 14 (dk_at dksJ24_iterator_0 7 rfl rfl)
theorem dJ24_iterator_10 : decode cJ24_iterator 10 = .ok (.aload_n 0, 1) := dk_42 (dk_at dksJ24_iterator_0 10 rfl rfl)
theorem dJ24_iterator_11 : decode cJ24_iterator 11 = .ok (.getfield 7, 3) := dk_180 0 7 (dk_at dksJ24_iterator_0 11 rfl rfl)
theorem dJ24_iterator_14 : decode cJ24_iterator 14 = .ok (.checkcast 13, 3) := dk_192 0 13 (dk_at dksJ24_iterator_0 14 rfl rfl)
theorem dJ24_iterator_17 : decode cJ24_iterator 17 = .ok (.invokevirtual 15, 3) := dk_182 0 15 (dk_at dksJ24_iterator_0 17 rfl rfl)
theorem dJ24_iterator_20 : decode cJ24_iterator 20 = .ok (.areturn, 1) := dk_176 (dk_at dksJ24_iterator_0 20 rfl rfl)
theorem dJ24_iterator_21 : decode cJ24_iterator 21 = .ok (.aload_n 0, 1) := dk_42 (dk_at dksJ24_iterator_0 21 rfl rfl)
theorem dJ24_iterator_22 : decode cJ24_iterator 22 = .ok (.getfield 7, 3) := dk_180 0 7 (dk_at dksJ24_iterator_1 0 rfl rfl)
theorem dJ24_iterator_25 : decode cJ24_iterator 25 = .ok (.checkcast 19, 3) := dk_192 0 19 (dk_at dksJ24_iterator_1 3 rfl rfl)
theorem dJ24_iterator_28 : decode cJ24_iterator 28 = .ok (.invokevirtual 21, 3) := dk_182 0 21 (dk_at dksJ24_iterator_1 6 rfl rfl)
theorem dJ24_iterator_31 : decode cJ24_iterator 31 = .ok (.areturn, 1) := dk_176 (dk_at dksJ24_iterator_1 9 rfl rfl)
abbrev cJ24_size : ByteArray := prog_68_method_4_code
def yJ24_size : MethodName := ⟨RJ24, "size", "()I"⟩
def dkwJ24_size_0 : List UInt8 := [42, 180, 0, 7, 185, 0, 26, 1, 0, 172]
abbrev dktJ24_size_0 : List UInt8 := dkwJ24_size_0 ++ []
theorem dksJ24_size_0 : cJ24_size.data.toList.drop 0 = dktJ24_size_0 := by decide +kernel
theorem dJ24_size_0 : decode cJ24_size 0 = .ok (.aload_n 0, 1) := dk_42 (dk_at dksJ24_size_0 0 rfl rfl)
theorem dJ24_size_1 : decode cJ24_size 1 = .ok (.getfield 7, 3) := dk_180 0 7 (dk_at dksJ24_size_0 1 rfl rfl)
theorem dJ24_size_4 : decode cJ24_size 4 = .ok (.invokeinterface 26 1, 5) := by decide +kernel
theorem dJ24_size_9 : decode cJ24_size 9 = .ok (.ireturn, 1) := dk_172 (dk_at dksJ24_size_0 9 rfl rfl)
abbrev cJ24_comparator : ByteArray := prog_68_method_14_code
def yJ24_comparator : MethodName := ⟨RJ24, "comparator", "()Ljava/util/Comparator;"⟩
def dkwJ24_comparator_0 : List UInt8 := [42, 180, 0, 7, 185, 0, 63, 1, 0, 176]
abbrev dktJ24_comparator_0 : List UInt8 := dkwJ24_comparator_0 ++ []
theorem dksJ24_comparator_0 : cJ24_comparator.data.toList.drop 0 = dktJ24_comparator_0 := by decide +kernel
theorem dJ24_comparator_0 : decode cJ24_comparator 0 = .ok (.aload_n 0, 1) := dk_42 (dk_at dksJ24_comparator_0 0 rfl rfl)
theorem dJ24_comparator_1 : decode cJ24_comparator 1 = .ok (.getfield 7, 3) := dk_180 0 7 (dk_at dksJ24_comparator_0 1 rfl rfl)
theorem dJ24_comparator_4 : decode cJ24_comparator 4 = .ok (.invokeinterface 63 1, 5) := by decide +kernel
theorem dJ24_comparator_9 : decode cJ24_comparator 9 = .ok (.areturn, 1) := dk_176 (dk_at dksJ24_comparator_0 9 rfl rfl)
theorem q142 : (Jvm.Cond.initialized "java/util/TreeMap$KeySet") ∈ lw_all := lw_g (lw_at lw_m1 39 rfl) rfl
theorem q815 : (Jvm.Cond.selects "java/util/TreeMap$KeySet" ({ cls := "java/lang/Object", name := "getClass", desc := "()Ljava/lang/Class;" } : Jvm.MethodName) ({ cls := "java/lang/Object", name := "getClass", desc := "()Ljava/lang/Class;" } : Jvm.MethodName)) ∈ lw_all := lw_g (lw_at lw_m3 232 rfl) rfl
theorem q1267 : (Jvm.Cond.instantiable "java/util/TreeMap$KeySet" (1 : Nat)) ∈ lw_all := lw_g (lw_at lw_m5 204 rfl) rfl
theorem q1269 : (Jvm.Cond.instanceMethod ({ cls := "java/util/TreeMap$KeySet", name := "<init>", desc := "(Ljava/util/NavigableMap;)V" } : Jvm.MethodName)) ∈ lw_all := lw_g (lw_at lw_m5 206 rfl) rfl
theorem q1270 : (Jvm.Cond.code ({ cls := "java/util/TreeMap$KeySet", name := "<init>", desc := "(Ljava/util/NavigableMap;)V" } : Jvm.MethodName) prog_68_method_1_code (2 : Nat) (Option.none : Option Jvm.ClassFile.FieldType)) ∈ lw_all := lw_g (lw_at lw_m5 207 rfl) rfl
theorem q1271 : (Jvm.Cond.methodLink "java/util/TreeMap$KeySet" (1 : Nat) ({ cls := "java/util/AbstractSet", name := "<init>", desc := "()V" } : Jvm.MethodName)) ∈ lw_all := lw_g (lw_at lw_m5 208 rfl) rfl
theorem q1278 : (Jvm.Cond.fieldLink "java/util/TreeMap$KeySet" (7 : Nat) "java/util/TreeMap$KeySet" "m" "Ljava/util/NavigableMap;") ∈ lw_all := lw_g (lw_at lw_m5 215 rfl) rfl
theorem q1279 : (Jvm.Cond.laysFinal "java/util/TreeMap$KeySet" "java/util/TreeMap$KeySet" "m" "Ljava/util/NavigableMap;") ∈ lw_all := lw_g (lw_at lw_m5 216 rfl) rfl
theorem q1280 : (Jvm.Cond.soleField "java/util/TreeMap$KeySet" "m") ∈ lw_all := lw_g (lw_at lw_m5 217 rfl) rfl
theorem q1281 : (Jvm.Cond.superclass "java/util/TreeMap$KeySet" "java/util/AbstractSet") ∈ lw_all := lw_g (lw_at lw_m5 218 rfl) rfl
theorem q1286 : (Jvm.Cond.castable "java/util/TreeMap$KeySet" "java/util/NavigableSet") ∈ lw_tbl := lw_at lw_m5 223 rfl
theorem q1287 : (Jvm.Cond.selects "java/util/TreeMap$KeySet" ({ cls := "java/util/NavigableSet", name := "iterator", desc := "()Ljava/util/Iterator;" } : Jvm.MethodName) ({ cls := "java/util/TreeMap$KeySet", name := "iterator", desc := "()Ljava/util/Iterator;" } : Jvm.MethodName)) ∈ lw_all := lw_g (lw_at lw_m5 224 rfl) rfl
theorem q1288 : (Jvm.Cond.unhidden "java/util/TreeMap$KeySet" "iterator" "()Ljava/util/Iterator;") ∈ lw_tbl := lw_at lw_m5 225 rfl
theorem q1289 : (Jvm.Cond.instanceMethod ({ cls := "java/util/TreeMap$KeySet", name := "iterator", desc := "()Ljava/util/Iterator;" } : Jvm.MethodName)) ∈ lw_all := lw_g (lw_at lw_m5 226 rfl) rfl
theorem q1290 : (Jvm.Cond.publicMethod ({ cls := "java/util/TreeMap$KeySet", name := "iterator", desc := "()Ljava/util/Iterator;" } : Jvm.MethodName)) ∈ lw_tbl := lw_at lw_m5 227 rfl
theorem q1291 : (Jvm.Cond.code ({ cls := "java/util/TreeMap$KeySet", name := "iterator", desc := "()Ljava/util/Iterator;" } : Jvm.MethodName) prog_68_method_2_code (1 : Nat) (Option.some (Jvm.ClassFile.FieldType.object "java/util/Iterator"))) ∈ lw_all := lw_g (lw_at lw_m5 228 rfl) rfl
theorem q1292 : (Jvm.Cond.classLink "java/util/TreeMap$KeySet" (13 : Nat) "java/util/TreeMap") ∈ lw_all := lw_g (lw_at lw_m5 229 rfl) rfl
theorem q1293 : (Jvm.Cond.methodLink "java/util/TreeMap$KeySet" (15 : Nat) ({ cls := "java/util/TreeMap", name := "keyIterator", desc := "()Ljava/util/Iterator;" } : Jvm.MethodName)) ∈ lw_all := lw_g (lw_at lw_m5 230 rfl) rfl
theorem q1319 : (Jvm.Cond.classLink "java/util/TreeMap$KeySet" (19 : Nat) "java/util/TreeMap$NavigableSubMap") ∈ lw_all := lw_g (lw_at lw_m6 16 rfl) rfl
theorem q1320 : (Jvm.Cond.methodLink "java/util/TreeMap$KeySet" (21 : Nat) ({ cls := "java/util/TreeMap$NavigableSubMap", name := "keyIterator", desc := "()Ljava/util/Iterator;" } : Jvm.MethodName)) ∈ lw_all := lw_g (lw_at lw_m6 17 rfl) rfl
theorem q1470 : (Jvm.Cond.castable "java/util/TreeMap$KeySet" "java/util/Collection") ∈ lw_tbl := lw_at lw_m6 167 rfl
theorem q1471 : (Jvm.Cond.selects "java/util/TreeMap$KeySet" ({ cls := "java/util/Collection", name := "size", desc := "()I" } : Jvm.MethodName) ({ cls := "java/util/TreeMap$KeySet", name := "size", desc := "()I" } : Jvm.MethodName)) ∈ lw_all := lw_g (lw_at lw_m6 168 rfl) rfl
theorem q1472 : (Jvm.Cond.unhidden "java/util/TreeMap$KeySet" "size" "()I") ∈ lw_tbl := lw_at lw_m6 169 rfl
theorem q1473 : (Jvm.Cond.instanceMethod ({ cls := "java/util/TreeMap$KeySet", name := "size", desc := "()I" } : Jvm.MethodName)) ∈ lw_all := lw_g (lw_at lw_m6 170 rfl) rfl
theorem q1474 : (Jvm.Cond.publicMethod ({ cls := "java/util/TreeMap$KeySet", name := "size", desc := "()I" } : Jvm.MethodName)) ∈ lw_tbl := lw_at lw_m6 171 rfl
theorem q1475 : (Jvm.Cond.code ({ cls := "java/util/TreeMap$KeySet", name := "size", desc := "()I" } : Jvm.MethodName) prog_68_method_4_code (1 : Nat) (Option.some Jvm.ClassFile.FieldType.int)) ∈ lw_all := lw_g (lw_at lw_m6 172 rfl) rfl
theorem q1476 : (Jvm.Cond.interfaceEntry "java/util/TreeMap$KeySet" (26 : Nat)) ∈ lw_tbl := lw_at lw_m6 173 rfl
theorem q1486 : (Jvm.Cond.castable "java/util/TreeMap$KeySet" "java/util/SortedSet") ∈ lw_tbl := lw_at lw_m6 183 rfl
theorem q1487 : (Jvm.Cond.selects "java/util/TreeMap$KeySet" ({ cls := "java/util/SortedSet", name := "comparator", desc := "()Ljava/util/Comparator;" } : Jvm.MethodName) ({ cls := "java/util/TreeMap$KeySet", name := "comparator", desc := "()Ljava/util/Comparator;" } : Jvm.MethodName)) ∈ lw_all := lw_g (lw_at lw_m6 184 rfl) rfl
theorem q1488 : (Jvm.Cond.unhidden "java/util/TreeMap$KeySet" "comparator" "()Ljava/util/Comparator;") ∈ lw_tbl := lw_at lw_m6 185 rfl
theorem q1489 : (Jvm.Cond.instanceMethod ({ cls := "java/util/TreeMap$KeySet", name := "comparator", desc := "()Ljava/util/Comparator;" } : Jvm.MethodName)) ∈ lw_all := lw_g (lw_at lw_m6 186 rfl) rfl
theorem q1490 : (Jvm.Cond.publicMethod ({ cls := "java/util/TreeMap$KeySet", name := "comparator", desc := "()Ljava/util/Comparator;" } : Jvm.MethodName)) ∈ lw_tbl := lw_at lw_m6 187 rfl
theorem q1491 : (Jvm.Cond.code ({ cls := "java/util/TreeMap$KeySet", name := "comparator", desc := "()Ljava/util/Comparator;" } : Jvm.MethodName) prog_68_method_14_code (1 : Nat) (Option.some (Jvm.ClassFile.FieldType.object "java/util/Comparator"))) ∈ lw_all := lw_g (lw_at lw_m6 188 rfl) rfl
theorem q1492 : (Jvm.Cond.interfaceEntry "java/util/TreeMap$KeySet" (63 : Nat)) ∈ lw_tbl := lw_at lw_m6 189 rfl
theorem q1547 : (Jvm.Cond.selects "java/util/TreeMap$KeySet" ({ cls := "java/lang/Iterable", name := "iterator", desc := "()Ljava/util/Iterator;" } : Jvm.MethodName) ({ cls := "java/util/TreeMap$KeySet", name := "iterator", desc := "()Ljava/util/Iterator;" } : Jvm.MethodName)) ∈ lw_all := lw_g (lw_at lw_m7 4 rfl) rfl
theorem q1608 : (Jvm.Cond.selects "java/util/TreeMap$KeySet" ({ cls := "java/util/Collection", name := "iterator", desc := "()Ljava/util/Iterator;" } : Jvm.MethodName) ({ cls := "java/util/TreeMap$KeySet", name := "iterator", desc := "()Ljava/util/Iterator;" } : Jvm.MethodName)) ∈ lw_all := lw_g (lw_at lw_m7 65 rfl) rfl
theorem q1618 : (Jvm.Cond.selects "java/util/TreeMap$KeySet" ({ cls := "java/util/AbstractCollection", name := "add", desc := "(Ljava/lang/Object;)Z" } : Jvm.MethodName) ({ cls := "java/util/AbstractCollection", name := "add", desc := "(Ljava/lang/Object;)Z" } : Jvm.MethodName)) ∈ lw_all := lw_g (lw_at lw_m7 75 rfl) rfl
theorem q2314 : (Jvm.Cond.castable "java/util/TreeMap$KeySet" "java/lang/Object") ∈ lw_tbl := lw_at lw_m10 51 rfl
theorem in_J24 : ∀ w ∈ wsJ240, w ∈ lw_all := lw_in wsJ240 [1279] (by decide +kernel) (by decide +kernel)

/-! java/util/TreeMap$PrivateEntryIterator -/
set_option maxRecDepth 100000
def RJ25 : String := "java/util/TreeMap$PrivateEntryIterator"
abbrev cJ25_init : ByteArray := prog_70_method_1_code
def yJ25_init : MethodName := ⟨RJ25, "<init>", "(Ljava/util/TreeMap;Ljava/util/TreeMap$Entry;)V"⟩
def dkwJ25_init_1 : List UInt8 := [181, 0, 26, 177]
abbrev dktJ25_init_1 : List UInt8 := dkwJ25_init_1 ++ []
def dkwJ25_init_0 : List UInt8 := [42, 43, 181, 0, 1, 42, 183, 0, 7, 42, 43, 180, 0, 13, 181, 0, 19, 42, 1, 181, 0, 22, 42, 44]
abbrev dktJ25_init_0 : List UInt8 := dkwJ25_init_0 ++ dktJ25_init_1
theorem dksJ25_init_0 : cJ25_init.data.toList.drop 0 = dktJ25_init_0 := by decide +kernel
theorem dksJ25_init_1 : cJ25_init.data.toList.drop 24 = dktJ25_init_1 := dk_seg dksJ25_init_0 24 rfl rfl
theorem dJ25_init_0 : decode cJ25_init 0 = .ok (.aload_n 0, 1) := dk_42 (dk_at dksJ25_init_0 0 rfl rfl)
theorem dJ25_init_1 : decode cJ25_init 1 = .ok (.aload_n 1, 1) := dk_43 (dk_at dksJ25_init_0 1 rfl rfl)
theorem dJ25_init_2 : decode cJ25_init 2 = .ok (.putfield 1, 3) := dk_181 0 1 (dk_at dksJ25_init_0 2 rfl rfl)
theorem dJ25_init_5 : decode cJ25_init 5 = .ok (.aload_n 0, 1) := dk_42 (dk_at dksJ25_init_0 5 rfl rfl)
theorem dJ25_init_6 : decode cJ25_init 6 = .ok (.invokespecial 7, 3) := dk_183 0 7 (dk_at dksJ25_init_0 6 rfl rfl)
theorem dJ25_init_9 : decode cJ25_init 9 = .ok (.aload_n 0, 1) := dk_42 (dk_at dksJ25_init_0 9 rfl rfl)
theorem dJ25_init_10 : decode cJ25_init 10 = .ok (.aload_n 1, 1) := dk_43 (dk_at dksJ25_init_0 10 rfl rfl)
theorem dJ25_init_11 : decode cJ25_init 11 = .ok (.getfield 13, 3) := dk_180 0 13 (dk_at dksJ25_init_0 11 rfl rfl)
theorem dJ25_init_14 : decode cJ25_init 14 = .ok (.putfield 19, 3) := dk_181 0 19 (dk_at dksJ25_init_0 14 rfl rfl)
theorem dJ25_init_17 : decode cJ25_init 17 = .ok (.aload_n 0, 1) := dk_42 (dk_at dksJ25_init_0 17 rfl rfl)
theorem dJ25_init_18 : decode cJ25_init 18 = .ok (.aconst_null, 1) := dk_1 (dk_at dksJ25_init_0 18 rfl rfl)
theorem dJ25_init_19 : decode cJ25_init 19 = .ok (.putfield 22, 3) := dk_181 0 22 (dk_at dksJ25_init_0 19 rfl rfl)
theorem dJ25_init_22 : decode cJ25_init 22 = .ok (.aload_n 0, 1) := dk_42 (dk_at dksJ25_init_0 22 rfl rfl)
theorem dJ25_init_23 : decode cJ25_init 23 = .ok (.aload_n 2, 1) := dk_44 (dk_at dksJ25_init_0 23 rfl rfl)
theorem dJ25_init_24 : decode cJ25_init 24 = .ok (.putfield 26, 3) := dk_181 0 26 (dk_at dksJ25_init_1 0 rfl rfl)
theorem dJ25_init_27 : decode cJ25_init 27 = .ok (.return_, 1) := dk_177 (dk_at dksJ25_init_1 3 rfl rfl)
abbrev cJ25_hasNext : ByteArray := prog_70_method_2_code
def yJ25_hasNext : MethodName := ⟨RJ25, "hasNext", "()Z"⟩
def dkwJ25_hasNext_0 : List UInt8 := [42, 180, 0, 26, 198, 0, 7, 4, 167, 0, 4, 3, 172]
abbrev dktJ25_hasNext_0 : List UInt8 := dkwJ25_hasNext_0 ++ []
theorem dksJ25_hasNext_0 : cJ25_hasNext.data.toList.drop 0 = dktJ25_hasNext_0 := by decide +kernel
theorem dJ25_hasNext_0 : decode cJ25_hasNext 0 = .ok (.aload_n 0, 1) := dk_42 (dk_at dksJ25_hasNext_0 0 rfl rfl)
theorem dJ25_hasNext_1 : decode cJ25_hasNext 1 = .ok (.getfield 26, 3) := dk_180 0 26 (dk_at dksJ25_hasNext_0 1 rfl rfl)
theorem dJ25_hasNext_4 : decode cJ25_hasNext 4 = .ok (.ifnull 7, 3) := dk_198 0 7 (dk_at dksJ25_hasNext_0 4 rfl rfl)
theorem dJ25_hasNext_7 : decode cJ25_hasNext 7 = .ok (.iconst 1, 1) := dk_4 (dk_at dksJ25_hasNext_0 7 rfl rfl)
theorem dJ25_hasNext_8 : decode cJ25_hasNext 8 = .ok (.goto 4, 3) := dk_167 0 4 (dk_at dksJ25_hasNext_0 8 rfl rfl)
theorem dJ25_hasNext_11 : decode cJ25_hasNext 11 = .ok (.iconst 0, 1) := dk_3 (dk_at dksJ25_hasNext_0 11 rfl rfl)
theorem dJ25_hasNext_12 : decode cJ25_hasNext 12 = .ok (.ireturn, 1) := dk_172 (dk_at dksJ25_hasNext_0 12 rfl rfl)
abbrev cJ25_nextEntry : ByteArray := prog_70_method_3_code
def yJ25_nextEntry : MethodName := ⟨RJ25, "nextEntry", "()Ljava/util/TreeMap$Entry;"⟩
def dkwJ25_nextEntry_2 : List UInt8 := [43, 181, 0, 22, 43, 176]
abbrev dktJ25_nextEntry_2 : List UInt8 := dkwJ25_nextEntry_2 ++ []
def dkwJ25_nextEntry_1 : List UInt8 := [42, 180, 0, 19, 159, 0, 11, 187, 0, 32, 89, 183, 0, 34, 191, 42, 43, 184, 0, 35, 181, 0, 26, 42]
abbrev dktJ25_nextEntry_1 : List UInt8 := dkwJ25_nextEntry_1 ++ dktJ25_nextEntry_2
def dkwJ25_nextEntry_0 : List UInt8 := [42, 180, 0, 26, 76, 43, 199, 0, 11, 187, 0, 29, 89, 183, 0, 31, 191, 42, 180, 0, 1, 180, 0, 13]
abbrev dktJ25_nextEntry_0 : List UInt8 := dkwJ25_nextEntry_0 ++ dktJ25_nextEntry_1
theorem dksJ25_nextEntry_0 : cJ25_nextEntry.data.toList.drop 0 = dktJ25_nextEntry_0 := by decide +kernel
theorem dksJ25_nextEntry_1 : cJ25_nextEntry.data.toList.drop 24 = dktJ25_nextEntry_1 := dk_seg dksJ25_nextEntry_0 24 rfl rfl
theorem dksJ25_nextEntry_2 : cJ25_nextEntry.data.toList.drop 48 = dktJ25_nextEntry_2 := dk_seg dksJ25_nextEntry_1 24 rfl rfl
theorem dJ25_nextEntry_0 : decode cJ25_nextEntry 0 = .ok (.aload_n 0, 1) := dk_42 (dk_at dksJ25_nextEntry_0 0 rfl rfl)
theorem dJ25_nextEntry_1 : decode cJ25_nextEntry 1 = .ok (.getfield 26, 3) := dk_180 0 26 (dk_at dksJ25_nextEntry_0 1 rfl rfl)
theorem dJ25_nextEntry_4 : decode cJ25_nextEntry 4 = .ok (.astore_n 1, 1) := dk_76 (dk_at dksJ25_nextEntry_0 4 rfl rfl)
theorem dJ25_nextEntry_5 : decode cJ25_nextEntry 5 = .ok (.aload_n 1, 1) := dk_43 (dk_at dksJ25_nextEntry_0 5 rfl rfl)
theorem dJ25_nextEntry_6 : decode cJ25_nextEntry 6 = .ok (.ifnonnull 11, 3) := dk_199 0 11 (dk_at dksJ25_nextEntry_0 6 rfl rfl)
theorem dJ25_nextEntry_9 : decode cJ25_nextEntry 9 = .ok (.new 29, 3) := dk_187 0 29 (dk_at dksJ25_nextEntry_0 9 rfl rfl)
theorem dJ25_nextEntry_12 : decode cJ25_nextEntry 12 = .ok (.dup, 1) := dk_89 (dk_at dksJ25_nextEntry_0 12 rfl rfl)
theorem dJ25_nextEntry_13 : decode cJ25_nextEntry 13 = .ok (.invokespecial 31, 3) := dk_183 0 31 (dk_at dksJ25_nextEntry_0 13 rfl rfl)
theorem dJ25_nextEntry_16 : decode cJ25_nextEntry 16 = .ok (.athrow, 1) := dk_191 (dk_at dksJ25_nextEntry_0 16 rfl rfl)
theorem dJ25_nextEntry_17 : decode cJ25_nextEntry 17 = .ok (.aload_n 0, 1) := dk_42 (dk_at dksJ25_nextEntry_0 17 rfl rfl)
theorem dJ25_nextEntry_18 : decode cJ25_nextEntry 18 = .ok (.getfield 1, 3) := dk_180 0 1 (dk_at dksJ25_nextEntry_0 18 rfl rfl)
theorem dJ25_nextEntry_21 : decode cJ25_nextEntry 21 = .ok (.getfield 13, 3) := dk_180 0 13 (dk_at dksJ25_nextEntry_0 21 rfl rfl)
theorem dJ25_nextEntry_24 : decode cJ25_nextEntry 24 = .ok (.aload_n 0, 1) := dk_42 (dk_at dksJ25_nextEntry_1 0 rfl rfl)
theorem dJ25_nextEntry_25 : decode cJ25_nextEntry 25 = .ok (.getfield 19, 3) := dk_180 0 19 (dk_at dksJ25_nextEntry_1 1 rfl rfl)
theorem dJ25_nextEntry_28 : decode cJ25_nextEntry 28 = .ok (.if_icmp .eq 11, 3) := dk_159 0 11 (dk_at dksJ25_nextEntry_1 4 rfl rfl)
theorem dJ25_nextEntry_31 : decode cJ25_nextEntry 31 = .ok (.new 32, 3) := dk_187 0 32 (dk_at dksJ25_nextEntry_1 7 rfl rfl)
theorem dJ25_nextEntry_34 : decode cJ25_nextEntry 34 = .ok (.dup, 1) := dk_89 (dk_at dksJ25_nextEntry_1 10 rfl rfl)
theorem dJ25_nextEntry_35 : decode cJ25_nextEntry 35 = .ok (.invokespecial 34, 3) := dk_183 0 34 (dk_at dksJ25_nextEntry_1 11 rfl rfl)
theorem dJ25_nextEntry_38 : decode cJ25_nextEntry 38 = .ok (.athrow, 1) := dk_191 (dk_at dksJ25_nextEntry_1 14 rfl rfl)
theorem dJ25_nextEntry_39 : decode cJ25_nextEntry 39 = .ok (.aload_n 0, 1) := dk_42 (dk_at dksJ25_nextEntry_1 15 rfl rfl)
theorem dJ25_nextEntry_40 : decode cJ25_nextEntry 40 = .ok (.aload_n 1, 1) := dk_43 (dk_at dksJ25_nextEntry_1 16 rfl rfl)
theorem dJ25_nextEntry_41 : decode cJ25_nextEntry 41 = .ok (.invokestatic 35, 3) := dk_184 0 35 (dk_at dksJ25_nextEntry_1 17 rfl rfl)
theorem dJ25_nextEntry_44 : decode cJ25_nextEntry 44 = .ok (.putfield 26, 3) := dk_181 0 26 (dk_at dksJ25_nextEntry_1 20 rfl rfl)
theorem dJ25_nextEntry_47 : decode cJ25_nextEntry 47 = .ok (.aload_n 0, 1) := dk_42 (dk_at dksJ25_nextEntry_1 23 rfl rfl)
theorem dJ25_nextEntry_48 : decode cJ25_nextEntry 48 = .ok (.aload_n 1, 1) := dk_43 (dk_at dksJ25_nextEntry_2 0 rfl rfl)
theorem dJ25_nextEntry_49 : decode cJ25_nextEntry 49 = .ok (.putfield 22, 3) := dk_181 0 22 (dk_at dksJ25_nextEntry_2 1 rfl rfl)
theorem dJ25_nextEntry_52 : decode cJ25_nextEntry 52 = .ok (.aload_n 1, 1) := dk_43 (dk_at dksJ25_nextEntry_2 4 rfl rfl)
theorem dJ25_nextEntry_53 : decode cJ25_nextEntry 53 = .ok (.areturn, 1) := dk_176 (dk_at dksJ25_nextEntry_2 5 rfl rfl)
theorem q143 : (Jvm.Cond.initialized "java/util/TreeMap$PrivateEntryIterator") ∈ lw_all := lw_g (lw_at lw_m1 40 rfl) rfl
theorem q1303 : (Jvm.Cond.instanceMethod ({ cls := "java/util/TreeMap$PrivateEntryIterator", name := "<init>", desc := "(Ljava/util/TreeMap;Ljava/util/TreeMap$Entry;)V" } : Jvm.MethodName)) ∈ lw_all := lw_g (lw_at lw_m6 0 rfl) rfl
theorem q1304 : (Jvm.Cond.code ({ cls := "java/util/TreeMap$PrivateEntryIterator", name := "<init>", desc := "(Ljava/util/TreeMap;Ljava/util/TreeMap$Entry;)V" } : Jvm.MethodName) prog_70_method_1_code (3 : Nat) (Option.none : Option Jvm.ClassFile.FieldType)) ∈ lw_all := lw_g (lw_at lw_m6 1 rfl) rfl
theorem q1305 : (Jvm.Cond.methodLink "java/util/TreeMap$PrivateEntryIterator" (7 : Nat) ({ cls := "java/lang/Object", name := "<init>", desc := "()V" } : Jvm.MethodName)) ∈ lw_all := lw_g (lw_at lw_m6 2 rfl) rfl
theorem q1306 : (Jvm.Cond.fieldLink "java/util/TreeMap$PrivateEntryIterator" (26 : Nat) "java/util/TreeMap$PrivateEntryIterator" "next" "Ljava/util/TreeMap$Entry;") ∈ lw_all := lw_g (lw_at lw_m6 3 rfl) rfl
theorem q1307 : (Jvm.Cond.fieldLink "java/util/TreeMap$PrivateEntryIterator" (22 : Nat) "java/util/TreeMap$PrivateEntryIterator" "lastReturned" "Ljava/util/TreeMap$Entry;") ∈ lw_all := lw_g (lw_at lw_m6 4 rfl) rfl
theorem q1308 : (Jvm.Cond.fieldLink "java/util/TreeMap$PrivateEntryIterator" (19 : Nat) "java/util/TreeMap$PrivateEntryIterator" "expectedModCount" "I") ∈ lw_all := lw_g (lw_at lw_m6 5 rfl) rfl
theorem q1309 : (Jvm.Cond.fieldLink "java/util/TreeMap$PrivateEntryIterator" (1 : Nat) "java/util/TreeMap$PrivateEntryIterator" "this$0" "Ljava/util/TreeMap;") ∈ lw_all := lw_g (lw_at lw_m6 6 rfl) rfl
theorem q1311 : (Jvm.Cond.soleField "java/util/TreeMap$PrivateEntryIterator" "next") ∈ lw_all := lw_g (lw_at lw_m6 8 rfl) rfl
theorem q1313 : (Jvm.Cond.soleField "java/util/TreeMap$PrivateEntryIterator" "lastReturned") ∈ lw_all := lw_g (lw_at lw_m6 10 rfl) rfl
theorem q1315 : (Jvm.Cond.soleField "java/util/TreeMap$PrivateEntryIterator" "expectedModCount") ∈ lw_all := lw_g (lw_at lw_m6 12 rfl) rfl
theorem q1317 : (Jvm.Cond.soleField "java/util/TreeMap$PrivateEntryIterator" "this$0") ∈ lw_all := lw_g (lw_at lw_m6 14 rfl) rfl
theorem q1344 : (Jvm.Cond.instanceMethod ({ cls := "java/util/TreeMap$PrivateEntryIterator", name := "hasNext", desc := "()Z" } : Jvm.MethodName)) ∈ lw_all := lw_g (lw_at lw_m6 41 rfl) rfl
theorem q1345 : (Jvm.Cond.publicMethod ({ cls := "java/util/TreeMap$PrivateEntryIterator", name := "hasNext", desc := "()Z" } : Jvm.MethodName)) ∈ lw_tbl := lw_at lw_m6 42 rfl
theorem q1346 : (Jvm.Cond.code ({ cls := "java/util/TreeMap$PrivateEntryIterator", name := "hasNext", desc := "()Z" } : Jvm.MethodName) prog_70_method_2_code (1 : Nat) (Option.some Jvm.ClassFile.FieldType.boolean)) ∈ lw_all := lw_g (lw_at lw_m6 43 rfl) rfl
theorem q1377 : (Jvm.Cond.declares ({ cls := "java/util/TreeMap$PrivateEntryIterator", name := "nextEntry", desc := "()Ljava/util/TreeMap$Entry;" } : Jvm.MethodName)) ∈ lw_tbl := lw_at lw_m6 74 rfl
theorem q1379 : (Jvm.Cond.instanceMethod ({ cls := "java/util/TreeMap$PrivateEntryIterator", name := "nextEntry", desc := "()Ljava/util/TreeMap$Entry;" } : Jvm.MethodName)) ∈ lw_all := lw_g (lw_at lw_m6 76 rfl) rfl
theorem q1380 : (Jvm.Cond.code ({ cls := "java/util/TreeMap$PrivateEntryIterator", name := "nextEntry", desc := "()Ljava/util/TreeMap$Entry;" } : Jvm.MethodName) prog_70_method_3_code (2 : Nat) (Option.some (Jvm.ClassFile.FieldType.object "java/util/TreeMap$Entry"))) ∈ lw_all := lw_g (lw_at lw_m6 77 rfl) rfl
theorem q1381 : (Jvm.Cond.methodLink "java/util/TreeMap$PrivateEntryIterator" (35 : Nat) ({ cls := "java/util/TreeMap", name := "successor", desc := "(Ljava/util/TreeMap$Entry;)Ljava/util/TreeMap$Entry;" } : Jvm.MethodName)) ∈ lw_all := lw_g (lw_at lw_m6 78 rfl) rfl
theorem q1414 : (Jvm.Cond.fieldLinkNest "java/util/TreeMap$PrivateEntryIterator" (13 : Nat) "java/util/TreeMap" "modCount" "I" "java/util/TreeMap") ∈ lw_tbl := lw_at lw_m6 111 rfl

/-! java/util/TreeMap$KeyIterator -/
set_option maxRecDepth 100000
def RJ26 : String := "java/util/TreeMap$KeyIterator"
def TJ26 : u_T := fun k => match k with
  | 0 => ("java/util/TreeMap$PrivateEntryIterator", "next", "Ljava/util/TreeMap$Entry;", false)
  | 1 => ("java/util/TreeMap$PrivateEntryIterator", "lastReturned", "Ljava/util/TreeMap$Entry;", false)
  | 2 => ("java/util/TreeMap$PrivateEntryIterator", "expectedModCount", "I", false)
  | _ => ("java/util/TreeMap$PrivateEntryIterator", "this$0", "Ljava/util/TreeMap;", true)
def tyJ26 : Nat → FieldType := fun k => match k with
  | 0 => .object "java/util/TreeMap$Entry"
  | 1 => .object "java/util/TreeMap$Entry"
  | 2 => .int
  | _ => .object "java/util/TreeMap"
abbrev wsJ260 : List Cond := u_ws RJ26 TJ26 4
theorem nmJ26 : ∀ a, a < 4 → ∀ b, b < 4 → a ≠ b → (TJ26 a).2.1 ≠ (TJ26 b).2.1 := by decide +kernel
theorem tyJ26_ok : ∀ k, k < 4 → parseFieldDescriptor (TJ26 k).2.2.1 = some (tyJ26 k) := by decide +kernel
abbrev cJ26_init : ByteArray := prog_67_method_1_code
def yJ26_init : MethodName := ⟨RJ26, "<init>", "(Ljava/util/TreeMap;Ljava/util/TreeMap$Entry;)V"⟩
def dkwJ26_init_0 : List UInt8 := [42, 43, 44, 183, 0, 1, 177]
abbrev dktJ26_init_0 : List UInt8 := dkwJ26_init_0 ++ []
theorem dksJ26_init_0 : cJ26_init.data.toList.drop 0 = dktJ26_init_0 := by decide +kernel
theorem dJ26_init_0 : decode cJ26_init 0 = .ok (.aload_n 0, 1) := dk_42 (dk_at dksJ26_init_0 0 rfl rfl)
theorem dJ26_init_1 : decode cJ26_init 1 = .ok (.aload_n 1, 1) := dk_43 (dk_at dksJ26_init_0 1 rfl rfl)
theorem dJ26_init_2 : decode cJ26_init 2 = .ok (.aload_n 2, 1) := dk_44 (dk_at dksJ26_init_0 2 rfl rfl)
theorem dJ26_init_3 : decode cJ26_init 3 = .ok (.invokespecial 1, 3) := dk_183 0 1 (dk_at dksJ26_init_0 3 rfl rfl)
theorem dJ26_init_6 : decode cJ26_init 6 = .ok (.return_, 1) := dk_177 (dk_at dksJ26_init_0 6 rfl rfl)
abbrev cJ26_next : ByteArray := prog_67_method_2_code
def yJ26_next : MethodName := ⟨RJ26, "next", "()Ljava/lang/Object;"⟩
def dkwJ26_next_0 : List UInt8 := [42, 182, 0, 7, 180, 0, 13, 176]
abbrev dktJ26_next_0 : List UInt8 := dkwJ26_next_0 ++ []
theorem dksJ26_next_0 : cJ26_next.data.toList.drop 0 = dktJ26_next_0 := by decide +kernel
theorem dJ26_next_0 : decode cJ26_next 0 = .ok (.aload_n 0, 1) := dk_42 (dk_at dksJ26_next_0 0 rfl rfl)
theorem dJ26_next_1 : decode cJ26_next 1 = .ok (.invokevirtual 7, 3) := dk_182 0 7 (dk_at dksJ26_next_0 1 rfl rfl)
theorem dJ26_next_4 : decode cJ26_next 4 = .ok (.getfield 13, 3) := dk_180 0 13 (dk_at dksJ26_next_0 4 rfl rfl)
theorem dJ26_next_7 : decode cJ26_next 7 = .ok (.areturn, 1) := dk_176 (dk_at dksJ26_next_0 7 rfl rfl)
theorem q144 : (Jvm.Cond.initialized "java/util/TreeMap$KeyIterator") ∈ lw_all := lw_g (lw_at lw_m1 41 rfl) rfl
theorem q814 : (Jvm.Cond.selects "java/util/TreeMap$KeyIterator" ({ cls := "java/lang/Object", name := "getClass", desc := "()Ljava/lang/Class;" } : Jvm.MethodName) ({ cls := "java/lang/Object", name := "getClass", desc := "()Ljava/lang/Class;" } : Jvm.MethodName)) ∈ lw_all := lw_g (lw_at lw_m3 231 rfl) rfl
theorem q1105 : (Jvm.Cond.fieldLink "java/util/TreeMap$KeyIterator" (13 : Nat) "java/util/TreeMap$Entry" "key" "Ljava/lang/Object;") ∈ lw_all := lw_g (lw_at lw_m5 42 rfl) rfl
theorem q1298 : (Jvm.Cond.instantiable "java/util/TreeMap$KeyIterator" (4 : Nat)) ∈ lw_all := lw_g (lw_at lw_m5 235 rfl) rfl
theorem q1300 : (Jvm.Cond.instanceMethod ({ cls := "java/util/TreeMap$KeyIterator", name := "<init>", desc := "(Ljava/util/TreeMap;Ljava/util/TreeMap$Entry;)V" } : Jvm.MethodName)) ∈ lw_all := lw_g (lw_at lw_m5 237 rfl) rfl
theorem q1301 : (Jvm.Cond.code ({ cls := "java/util/TreeMap$KeyIterator", name := "<init>", desc := "(Ljava/util/TreeMap;Ljava/util/TreeMap$Entry;)V" } : Jvm.MethodName) prog_67_method_1_code (3 : Nat) (Option.none : Option Jvm.ClassFile.FieldType)) ∈ lw_all := lw_g (lw_at lw_m5 238 rfl) rfl
theorem q1302 : (Jvm.Cond.methodLink "java/util/TreeMap$KeyIterator" (1 : Nat) ({ cls := "java/util/TreeMap$PrivateEntryIterator", name := "<init>", desc := "(Ljava/util/TreeMap;Ljava/util/TreeMap$Entry;)V" } : Jvm.MethodName)) ∈ lw_all := lw_g (lw_at lw_m5 239 rfl) rfl
theorem q1310 : (Jvm.Cond.lays "java/util/TreeMap$KeyIterator" "java/util/TreeMap$PrivateEntryIterator" "next" "Ljava/util/TreeMap$Entry;") ∈ lw_all := lw_g (lw_at lw_m6 7 rfl) rfl
theorem q1312 : (Jvm.Cond.lays "java/util/TreeMap$KeyIterator" "java/util/TreeMap$PrivateEntryIterator" "lastReturned" "Ljava/util/TreeMap$Entry;") ∈ lw_all := lw_g (lw_at lw_m6 9 rfl) rfl
theorem q1314 : (Jvm.Cond.lays "java/util/TreeMap$KeyIterator" "java/util/TreeMap$PrivateEntryIterator" "expectedModCount" "I") ∈ lw_all := lw_g (lw_at lw_m6 11 rfl) rfl
theorem q1316 : (Jvm.Cond.laysFinal "java/util/TreeMap$KeyIterator" "java/util/TreeMap$PrivateEntryIterator" "this$0" "Ljava/util/TreeMap;") ∈ lw_all := lw_g (lw_at lw_m6 13 rfl) rfl
theorem q1318 : (Jvm.Cond.superclass "java/util/TreeMap$KeyIterator" "java/util/TreeMap$PrivateEntryIterator") ∈ lw_all := lw_g (lw_at lw_m6 15 rfl) rfl
theorem q1341 : (Jvm.Cond.castable "java/util/TreeMap$KeyIterator" "java/util/Iterator") ∈ lw_tbl := lw_at lw_m6 38 rfl
theorem q1342 : (Jvm.Cond.selects "java/util/TreeMap$KeyIterator" ({ cls := "java/util/Iterator", name := "hasNext", desc := "()Z" } : Jvm.MethodName) ({ cls := "java/util/TreeMap$PrivateEntryIterator", name := "hasNext", desc := "()Z" } : Jvm.MethodName)) ∈ lw_all := lw_g (lw_at lw_m6 39 rfl) rfl
theorem q1343 : (Jvm.Cond.unhidden "java/util/TreeMap$KeyIterator" "hasNext" "()Z") ∈ lw_tbl := lw_at lw_m6 40 rfl
theorem q1370 : (Jvm.Cond.selects "java/util/TreeMap$KeyIterator" ({ cls := "java/util/Iterator", name := "next", desc := "()Ljava/lang/Object;" } : Jvm.MethodName) ({ cls := "java/util/TreeMap$KeyIterator", name := "next", desc := "()Ljava/lang/Object;" } : Jvm.MethodName)) ∈ lw_all := lw_g (lw_at lw_m6 67 rfl) rfl
theorem q1371 : (Jvm.Cond.unhidden "java/util/TreeMap$KeyIterator" "next" "()Ljava/lang/Object;") ∈ lw_tbl := lw_at lw_m6 68 rfl
theorem q1372 : (Jvm.Cond.instanceMethod ({ cls := "java/util/TreeMap$KeyIterator", name := "next", desc := "()Ljava/lang/Object;" } : Jvm.MethodName)) ∈ lw_all := lw_g (lw_at lw_m6 69 rfl) rfl
theorem q1373 : (Jvm.Cond.publicMethod ({ cls := "java/util/TreeMap$KeyIterator", name := "next", desc := "()Ljava/lang/Object;" } : Jvm.MethodName)) ∈ lw_tbl := lw_at lw_m6 70 rfl
theorem q1374 : (Jvm.Cond.code ({ cls := "java/util/TreeMap$KeyIterator", name := "next", desc := "()Ljava/lang/Object;" } : Jvm.MethodName) prog_67_method_2_code (1 : Nat) (Option.some (Jvm.ClassFile.FieldType.object "java/lang/Object"))) ∈ lw_all := lw_g (lw_at lw_m6 71 rfl) rfl
theorem q1375 : (Jvm.Cond.methodLink "java/util/TreeMap$KeyIterator" (7 : Nat) ({ cls := "java/util/TreeMap$KeyIterator", name := "nextEntry", desc := "()Ljava/util/TreeMap$Entry;" } : Jvm.MethodName)) ∈ lw_all := lw_g (lw_at lw_m6 72 rfl) rfl
theorem q1376 : (Jvm.Cond.sameMethod "java/util/TreeMap$KeyIterator" "java/util/TreeMap$PrivateEntryIterator" "nextEntry" "()Ljava/util/TreeMap$Entry;") ∈ lw_all := lw_g (lw_at lw_m6 73 rfl) rfl
theorem q1378 : (Jvm.Cond.selects "java/util/TreeMap$KeyIterator" ({ cls := "java/util/TreeMap$KeyIterator", name := "nextEntry", desc := "()Ljava/util/TreeMap$Entry;" } : Jvm.MethodName) ({ cls := "java/util/TreeMap$PrivateEntryIterator", name := "nextEntry", desc := "()Ljava/util/TreeMap$Entry;" } : Jvm.MethodName)) ∈ lw_all := lw_g (lw_at lw_m6 75 rfl) rfl
theorem q2315 : (Jvm.Cond.castable "java/util/TreeMap$KeyIterator" "java/lang/Object") ∈ lw_tbl := lw_at lw_m10 52 rfl
theorem in_J26 : ∀ w ∈ wsJ260, w ∈ lw_all := lw_in wsJ260 [1310, 1312, 1314, 1316] (by decide +kernel) (by decide +kernel)

/-! java/util/ArrayDeque -/
set_option maxRecDepth 100000
def RJ27 : String := "java/util/ArrayDeque"
abbrev cJ27_isEmpty : ByteArray := prog_43_method_38_code
def yJ27_isEmpty : MethodName := ⟨RJ27, "isEmpty", "()Z"⟩
def dkwJ27_isEmpty_0 : List UInt8 := [42, 180, 0, 24, 42, 180, 0, 20, 160, 0, 7, 4, 167, 0, 4, 3, 172]
abbrev dktJ27_isEmpty_0 : List UInt8 := dkwJ27_isEmpty_0 ++ []
theorem dksJ27_isEmpty_0 : cJ27_isEmpty.data.toList.drop 0 = dktJ27_isEmpty_0 := by decide +kernel
theorem dJ27_isEmpty_0 : decode cJ27_isEmpty 0 = .ok (.aload_n 0, 1) := dk_42 (dk_at dksJ27_isEmpty_0 0 rfl rfl)
theorem dJ27_isEmpty_1 : decode cJ27_isEmpty 1 = .ok (.getfield 24, 3) := dk_180 0 24 (dk_at dksJ27_isEmpty_0 1 rfl rfl)
theorem dJ27_isEmpty_4 : decode cJ27_isEmpty 4 = .ok (.aload_n 0, 1) := dk_42 (dk_at dksJ27_isEmpty_0 4 rfl rfl)
theorem dJ27_isEmpty_5 : decode cJ27_isEmpty 5 = .ok (.getfield 20, 3) := dk_180 0 20 (dk_at dksJ27_isEmpty_0 5 rfl rfl)
theorem dJ27_isEmpty_8 : decode cJ27_isEmpty 8 = .ok (.if_icmp .ne 7, 3) := dk_160 0 7 (dk_at dksJ27_isEmpty_0 8 rfl rfl)
theorem dJ27_isEmpty_11 : decode cJ27_isEmpty 11 = .ok (.iconst 1, 1) := dk_4 (dk_at dksJ27_isEmpty_0 11 rfl rfl)
theorem dJ27_isEmpty_12 : decode cJ27_isEmpty 12 = .ok (.goto 4, 3) := dk_167 0 4 (dk_at dksJ27_isEmpty_0 12 rfl rfl)
theorem dJ27_isEmpty_15 : decode cJ27_isEmpty 15 = .ok (.iconst 0, 1) := dk_3 (dk_at dksJ27_isEmpty_0 15 rfl rfl)
theorem dJ27_isEmpty_16 : decode cJ27_isEmpty 16 = .ok (.ireturn, 1) := dk_172 (dk_at dksJ27_isEmpty_0 16 rfl rfl)
abbrev cJ27_poll : ByteArray := prog_43_method_31_code
def yJ27_poll : MethodName := ⟨RJ27, "poll", "()Ljava/lang/Object;"⟩
theorem dJ27_poll_0 : decode cJ27_poll 0 = .ok (.aload_n 0, 1) := by decide +kernel
theorem dJ27_poll_1 : decode cJ27_poll 1 = .ok (.invokevirtual 93, 3) := by decide +kernel
theorem dJ27_poll_4 : decode cJ27_poll 4 = .ok (.areturn, 1) := by decide +kernel
abbrev cJ27_pollFirst : ByteArray := prog_43_method_20_code
def yJ27_pollFirst : MethodName := ⟨RJ27, "pollFirst", "()Ljava/lang/Object;"⟩
def dkwJ27_pollFirst_1 : List UInt8 := [42, 28, 43, 190, 184, 0, 74, 181, 0, 24, 45, 176]
abbrev dktJ27_pollFirst_1 : List UInt8 := dkwJ27_pollFirst_1 ++ []
def dkwJ27_pollFirst_0 : List UInt8 := [42, 180, 0, 3, 89, 76, 42, 180, 0, 24, 89, 61, 184, 0, 103, 78, 45, 198, 0, 17, 43, 28, 1, 83]
abbrev dktJ27_pollFirst_0 : List UInt8 := dkwJ27_pollFirst_0 ++ dktJ27_pollFirst_1
theorem dksJ27_pollFirst_0 : cJ27_pollFirst.data.toList.drop 0 = dktJ27_pollFirst_0 := by decide +kernel
theorem dksJ27_pollFirst_1 : cJ27_pollFirst.data.toList.drop 24 = dktJ27_pollFirst_1 := dk_seg dksJ27_pollFirst_0 24 rfl rfl
theorem dJ27_pollFirst_0 : decode cJ27_pollFirst 0 = .ok (.aload_n 0, 1) := dk_42 (dk_at dksJ27_pollFirst_0 0 rfl rfl)
theorem dJ27_pollFirst_1 : decode cJ27_pollFirst 1 = .ok (.getfield 3, 3) := dk_180 0 3 (dk_at dksJ27_pollFirst_0 1 rfl rfl)
theorem dJ27_pollFirst_4 : decode cJ27_pollFirst 4 = .ok (.dup, 1) := dk_89 (dk_at dksJ27_pollFirst_0 4 rfl rfl)
theorem dJ27_pollFirst_5 : decode cJ27_pollFirst 5 = .ok (.astore_n 1, 1) := dk_76 (dk_at dksJ27_pollFirst_0 5 rfl rfl)
theorem dJ27_pollFirst_6 : decode cJ27_pollFirst 6 = .ok (.aload_n 0, 1) := dk_42 (dk_at dksJ27_pollFirst_0 6 rfl rfl)
theorem dJ27_pollFirst_7 : decode cJ27_pollFirst 7 = .ok (.getfield 24, 3) := dk_180 0 24 (dk_at dksJ27_pollFirst_0 7 rfl rfl)
theorem dJ27_pollFirst_10 : decode cJ27_pollFirst 10 = .ok (.dup, 1) := dk_89 (dk_at dksJ27_pollFirst_0 10 rfl rfl)
theorem dJ27_pollFirst_11 : decode cJ27_pollFirst 11 = .ok (.istore_n 2, 1) := dk_61 (dk_at dksJ27_pollFirst_0 11 rfl rfl)
theorem dJ27_pollFirst_12 : decode cJ27_pollFirst 12 = .ok (.invokestatic 103, 3) := dk_184 0 103 (dk_at dksJ27_pollFirst_0 12 rfl rfl)
theorem dJ27_pollFirst_15 : decode cJ27_pollFirst 15 = .ok (.astore_n 3, 1) := dk_78 (dk_at dksJ27_pollFirst_0 15 rfl rfl)
theorem dJ27_pollFirst_16 : decode cJ27_pollFirst 16 = .ok (.aload_n 3, 1) := dk_45 (dk_at dksJ27_pollFirst_0 16 rfl rfl)
theorem dJ27_pollFirst_17 : decode cJ27_pollFirst 17 = .ok (.ifnull 17, 3) := dk_198 0 17 (dk_at dksJ27_pollFirst_0 17 rfl rfl)
theorem dJ27_pollFirst_20 : decode cJ27_pollFirst 20 = .ok (.aload_n 1, 1) := dk_43 (dk_at dksJ27_pollFirst_0 20 rfl rfl)
theorem dJ27_pollFirst_21 : decode cJ27_pollFirst 21 = .ok (.iload_n 2, 1) := dk_28 (dk_at dksJ27_pollFirst_0 21 rfl rfl)
theorem dJ27_pollFirst_22 : decode cJ27_pollFirst 22 = .ok (.aconst_null, 1) := dk_1 (dk_at dksJ27_pollFirst_0 22 rfl rfl)
theorem dJ27_pollFirst_23 : decode cJ27_pollFirst 23 = .ok (.aastore, 1) := dk_83 (dk_at dksJ27_pollFirst_0 23 rfl rfl)
theorem dJ27_pollFirst_24 : decode cJ27_pollFirst 24 = .ok (.aload_n 0, 1) := dk_42 (dk_at dksJ27_pollFirst_1 0 rfl rfl)
theorem dJ27_pollFirst_25 : decode cJ27_pollFirst 25 = .ok (.iload_n 2, 1) := dk_28 (dk_at dksJ27_pollFirst_1 1 rfl rfl)
theorem dJ27_pollFirst_26 : decode cJ27_pollFirst 26 = .ok (.aload_n 1, 1) := dk_43 (dk_at dksJ27_pollFirst_1 2 rfl rfl)
theorem dJ27_pollFirst_27 : decode cJ27_pollFirst 27 = .ok (.arraylength, 1) := dk_190 (dk_at dksJ27_pollFirst_1 3 rfl rfl)
theorem dJ27_pollFirst_28 : decode cJ27_pollFirst 28 = .ok (.invokestatic 74, 3) := dk_184 0 74 (dk_at dksJ27_pollFirst_1 4 rfl rfl)
theorem dJ27_pollFirst_31 : decode cJ27_pollFirst 31 = .ok (.putfield 24, 3) := dk_181 0 24 (dk_at dksJ27_pollFirst_1 7 rfl rfl)
theorem dJ27_pollFirst_34 : decode cJ27_pollFirst 34 = .ok (.aload_n 3, 1) := dk_45 (dk_at dksJ27_pollFirst_1 10 rfl rfl)
theorem dJ27_pollFirst_35 : decode cJ27_pollFirst 35 = .ok (.areturn, 1) := dk_176 (dk_at dksJ27_pollFirst_1 11 rfl rfl)
abbrev cJ27_elementAt : ByteArray := prog_43_method_10_code
def yJ27_elementAt : MethodName := ⟨RJ27, "elementAt", "([Ljava/lang/Object;I)Ljava/lang/Object;"⟩
def dkwJ27_elementAt_0 : List UInt8 := [42, 27, 50, 176]
abbrev dktJ27_elementAt_0 : List UInt8 := dkwJ27_elementAt_0 ++ []
theorem dksJ27_elementAt_0 : cJ27_elementAt.data.toList.drop 0 = dktJ27_elementAt_0 := by decide +kernel
theorem dJ27_elementAt_0 : decode cJ27_elementAt 0 = .ok (.aload_n 0, 1) := dk_42 (dk_at dksJ27_elementAt_0 0 rfl rfl)
theorem dJ27_elementAt_1 : decode cJ27_elementAt 1 = .ok (.iload_n 1, 1) := dk_27 (dk_at dksJ27_elementAt_0 1 rfl rfl)
theorem dJ27_elementAt_2 : decode cJ27_elementAt 2 = .ok (.aaload, 1) := dk_50 (dk_at dksJ27_elementAt_0 2 rfl rfl)
theorem dJ27_elementAt_3 : decode cJ27_elementAt 3 = .ok (.areturn, 1) := dk_176 (dk_at dksJ27_elementAt_0 3 rfl rfl)
abbrev cJ27_inc : ByteArray := prog_43_method_6_code
def yJ27_inc : MethodName := ⟨RJ27, "inc", "(II)I"⟩
def dkwJ27_inc_0 : List UInt8 := [132, 0, 1, 26, 27, 161, 0, 5, 3, 59, 26, 172]
abbrev dktJ27_inc_0 : List UInt8 := dkwJ27_inc_0 ++ []
theorem dksJ27_inc_0 : cJ27_inc.data.toList.drop 0 = dktJ27_inc_0 := by decide +kernel
theorem dJ27_inc_0 : decode cJ27_inc 0 = .ok (.iinc 0 1, 3) := dk_132 0 1 (dk_at dksJ27_inc_0 0 rfl rfl)
theorem dJ27_inc_3 : decode cJ27_inc 3 = .ok (.iload_n 0, 1) := dk_26 (dk_at dksJ27_inc_0 3 rfl rfl)
theorem dJ27_inc_4 : decode cJ27_inc 4 = .ok (.iload_n 1, 1) := dk_27 (dk_at dksJ27_inc_0 4 rfl rfl)
theorem dJ27_inc_5 : decode cJ27_inc 5 = .ok (.if_icmp .lt 5, 3) := dk_161 0 5 (dk_at dksJ27_inc_0 5 rfl rfl)
theorem dJ27_inc_8 : decode cJ27_inc 8 = .ok (.iconst 0, 1) := dk_3 (dk_at dksJ27_inc_0 8 rfl rfl)
theorem dJ27_inc_9 : decode cJ27_inc 9 = .ok (.istore_n 0, 1) := dk_59 (dk_at dksJ27_inc_0 9 rfl rfl)
theorem dJ27_inc_10 : decode cJ27_inc 10 = .ok (.iload_n 0, 1) := dk_26 (dk_at dksJ27_inc_0 10 rfl rfl)
theorem dJ27_inc_11 : decode cJ27_inc 11 = .ok (.ireturn, 1) := dk_172 (dk_at dksJ27_inc_0 11 rfl rfl)
theorem q145 : (Jvm.Cond.initialized "java/util/ArrayDeque") ∈ lw_all := lw_g (lw_at lw_m1 42 rfl) rfl
theorem q1338 : (Jvm.Cond.instanceMethod ({ cls := "java/util/ArrayDeque", name := "isEmpty", desc := "()Z" } : Jvm.MethodName)) ∈ lw_all := lw_g (lw_at lw_m6 35 rfl) rfl
theorem q1339 : (Jvm.Cond.selects "java/util/ArrayDeque" ({ cls := "java/util/ArrayDeque", name := "isEmpty", desc := "()Z" } : Jvm.MethodName) ({ cls := "java/util/ArrayDeque", name := "isEmpty", desc := "()Z" } : Jvm.MethodName)) ∈ lw_all := lw_g (lw_at lw_m6 36 rfl) rfl
theorem q1340 : (Jvm.Cond.code ({ cls := "java/util/ArrayDeque", name := "isEmpty", desc := "()Z" } : Jvm.MethodName) prog_43_method_38_code (1 : Nat) (Option.some Jvm.ClassFile.FieldType.boolean)) ∈ lw_all := lw_g (lw_at lw_m6 37 rfl) rfl
theorem q1357 : (Jvm.Cond.instanceMethod ({ cls := "java/util/ArrayDeque", name := "poll", desc := "()Ljava/lang/Object;" } : Jvm.MethodName)) ∈ lw_all := lw_g (lw_at lw_m6 54 rfl) rfl
theorem q1358 : (Jvm.Cond.selects "java/util/ArrayDeque" ({ cls := "java/util/ArrayDeque", name := "poll", desc := "()Ljava/lang/Object;" } : Jvm.MethodName) ({ cls := "java/util/ArrayDeque", name := "poll", desc := "()Ljava/lang/Object;" } : Jvm.MethodName)) ∈ lw_all := lw_g (lw_at lw_m6 55 rfl) rfl
theorem q1359 : (Jvm.Cond.code ({ cls := "java/util/ArrayDeque", name := "poll", desc := "()Ljava/lang/Object;" } : Jvm.MethodName) prog_43_method_31_code (1 : Nat) (Option.some (Jvm.ClassFile.FieldType.object "java/lang/Object"))) ∈ lw_all := lw_g (lw_at lw_m6 56 rfl) rfl
theorem q1360 : (Jvm.Cond.methodLink "java/util/ArrayDeque" (93 : Nat) ({ cls := "java/util/ArrayDeque", name := "pollFirst", desc := "()Ljava/lang/Object;" } : Jvm.MethodName)) ∈ lw_all := lw_g (lw_at lw_m6 57 rfl) rfl
theorem q1361 : (Jvm.Cond.instanceMethod ({ cls := "java/util/ArrayDeque", name := "pollFirst", desc := "()Ljava/lang/Object;" } : Jvm.MethodName)) ∈ lw_all := lw_g (lw_at lw_m6 58 rfl) rfl
theorem q1362 : (Jvm.Cond.selects "java/util/ArrayDeque" ({ cls := "java/util/ArrayDeque", name := "pollFirst", desc := "()Ljava/lang/Object;" } : Jvm.MethodName) ({ cls := "java/util/ArrayDeque", name := "pollFirst", desc := "()Ljava/lang/Object;" } : Jvm.MethodName)) ∈ lw_all := lw_g (lw_at lw_m6 59 rfl) rfl
theorem q1363 : (Jvm.Cond.code ({ cls := "java/util/ArrayDeque", name := "pollFirst", desc := "()Ljava/lang/Object;" } : Jvm.MethodName) prog_43_method_20_code (4 : Nat) (Option.some (Jvm.ClassFile.FieldType.object "java/lang/Object"))) ∈ lw_all := lw_g (lw_at lw_m6 60 rfl) rfl
theorem q1364 : (Jvm.Cond.methodLink "java/util/ArrayDeque" (103 : Nat) ({ cls := "java/util/ArrayDeque", name := "elementAt", desc := "([Ljava/lang/Object;I)Ljava/lang/Object;" } : Jvm.MethodName)) ∈ lw_all := lw_g (lw_at lw_m6 61 rfl) rfl
theorem q1365 : (Jvm.Cond.static ({ cls := "java/util/ArrayDeque", name := "elementAt", desc := "([Ljava/lang/Object;I)Ljava/lang/Object;" } : Jvm.MethodName)) ∈ lw_all := lw_g (lw_at lw_m6 62 rfl) rfl
theorem q1366 : (Jvm.Cond.code ({ cls := "java/util/ArrayDeque", name := "elementAt", desc := "([Ljava/lang/Object;I)Ljava/lang/Object;" } : Jvm.MethodName) prog_43_method_10_code (2 : Nat) (Option.some (Jvm.ClassFile.FieldType.object "java/lang/Object"))) ∈ lw_all := lw_g (lw_at lw_m6 63 rfl) rfl
theorem q1367 : (Jvm.Cond.methodLink "java/util/ArrayDeque" (74 : Nat) ({ cls := "java/util/ArrayDeque", name := "inc", desc := "(II)I" } : Jvm.MethodName)) ∈ lw_all := lw_g (lw_at lw_m6 64 rfl) rfl
theorem q1368 : (Jvm.Cond.static ({ cls := "java/util/ArrayDeque", name := "inc", desc := "(II)I" } : Jvm.MethodName)) ∈ lw_all := lw_g (lw_at lw_m6 65 rfl) rfl
theorem q1369 : (Jvm.Cond.code ({ cls := "java/util/ArrayDeque", name := "inc", desc := "(II)I" } : Jvm.MethodName) prog_43_method_6_code (2 : Nat) (Option.some Jvm.ClassFile.FieldType.int)) ∈ lw_all := lw_g (lw_at lw_m6 66 rfl) rfl
theorem q2335 : (Jvm.Cond.fieldLink "java/util/ArrayDeque" (24 : Nat) "java/util/ArrayDeque" "head" "I") ∈ lw_all := lw_g (lw_at lw_m10 72 rfl) rfl
theorem q2336 : (Jvm.Cond.fieldLink "java/util/ArrayDeque" (20 : Nat) "java/util/ArrayDeque" "tail" "I") ∈ lw_all := lw_g (lw_at lw_m10 73 rfl) rfl
theorem q2337 : (Jvm.Cond.fieldLink "java/util/ArrayDeque" (3 : Nat) "java/util/ArrayDeque" "elements" "[Ljava/lang/Object;") ∈ lw_all := lw_g (lw_at lw_m10 74 rfl) rfl

/-! java/util/PriorityQueue$Itr -/
set_option maxRecDepth 100000
def RJ28 : String := "java/util/PriorityQueue$Itr"
def TJ28 : u_T := fun k => match k with
  | 0 => ("java/util/PriorityQueue$Itr", "cursor", "I", false)
  | 1 => ("java/util/PriorityQueue$Itr", "lastRet", "I", false)
  | 2 => ("java/util/PriorityQueue$Itr", "forgetMeNot", "Ljava/util/ArrayDeque;", false)
  | 3 => ("java/util/PriorityQueue$Itr", "lastRetElt", "Ljava/lang/Object;", false)
  | 4 => ("java/util/PriorityQueue$Itr", "expectedModCount", "I", false)
  | _ => ("java/util/PriorityQueue$Itr", "this$0", "Ljava/util/PriorityQueue;", true)
def tyJ28 : Nat → FieldType := fun k => match k with
  | 0 => .int
  | 1 => .int
  | 2 => .object "java/util/ArrayDeque"
  | 3 => .object "java/lang/Object"
  | 4 => .int
  | _ => .object "java/util/PriorityQueue"
abbrev wsJ280 : List Cond := u_ws RJ28 TJ28 6
theorem nmJ28 : ∀ a, a < 6 → ∀ b, b < 6 → a ≠ b → (TJ28 a).2.1 ≠ (TJ28 b).2.1 := by decide +kernel
theorem tyJ28_ok : ∀ k, k < 6 → parseFieldDescriptor (TJ28 k).2.2.1 = some (tyJ28 k) := by decide +kernel
abbrev cJ28_hasNext : ByteArray := prog_56_method_2_code
def yJ28_hasNext : MethodName := ⟨RJ28, "hasNext", "()Z"⟩
def dkwJ28_hasNext_1 : List UInt8 := [180, 0, 31, 182, 0, 35, 154, 0, 7, 4, 167, 0, 4, 3, 172]
abbrev dktJ28_hasNext_1 : List UInt8 := dkwJ28_hasNext_1 ++ []
def dkwJ28_hasNext_0 : List UInt8 := [42, 180, 0, 25, 42, 180, 0, 1, 180, 0, 28, 161, 0, 20, 42, 180, 0, 31, 198, 0, 17, 42]
abbrev dktJ28_hasNext_0 : List UInt8 := dkwJ28_hasNext_0 ++ dktJ28_hasNext_1
theorem dksJ28_hasNext_0 : cJ28_hasNext.data.toList.drop 0 = dktJ28_hasNext_0 := by decide +kernel
theorem dksJ28_hasNext_1 : cJ28_hasNext.data.toList.drop 22 = dktJ28_hasNext_1 := dk_seg dksJ28_hasNext_0 22 rfl rfl
theorem dJ28_hasNext_0 : decode cJ28_hasNext 0 = .ok (.aload_n 0, 1) := dk_42 (dk_at dksJ28_hasNext_0 0 rfl rfl)
theorem dJ28_hasNext_1 : decode cJ28_hasNext 1 = .ok (.getfield 25, 3) := dk_180 0 25 (dk_at dksJ28_hasNext_0 1 rfl rfl)
theorem dJ28_hasNext_4 : decode cJ28_hasNext 4 = .ok (.aload_n 0, 1) := dk_42 (dk_at dksJ28_hasNext_0 4 rfl rfl)
theorem dJ28_hasNext_5 : decode cJ28_hasNext 5 = .ok (.getfield 1, 3) := dk_180 0 1 (dk_at dksJ28_hasNext_0 5 rfl rfl)
theorem dJ28_hasNext_8 : decode cJ28_hasNext 8 = .ok (.getfield 28, 3) := dk_180 0 28 (dk_at dksJ28_hasNext_0 8 rfl rfl)
theorem dJ28_hasNext_11 : decode cJ28_hasNext 11 = .ok (.if_icmp .lt 20, 3) := dk_161 0 20 (dk_at dksJ28_hasNext_0 11 rfl rfl)
theorem dJ28_hasNext_14 : decode cJ28_hasNext 14 = .ok (.aload_n 0, 1) := dk_42 (dk_at dksJ28_hasNext_0 14 rfl rfl)
theorem dJ28_hasNext_15 : decode cJ28_hasNext 15 = .ok (.getfield 31, 3) := dk_180 0 31 (dk_at dksJ28_hasNext_0 15 rfl rfl)
theorem dJ28_hasNext_18 : decode cJ28_hasNext 18 = .ok (.ifnull 17, 3) := dk_198 0 17 (dk_at dksJ28_hasNext_0 18 rfl rfl)
theorem dJ28_hasNext_21 : decode cJ28_hasNext 21 = .ok (.aload_n 0, 1) := dk_42 (dk_at dksJ28_hasNext_0 21 rfl rfl)
theorem dJ28_hasNext_22 : decode cJ28_hasNext 22 = .ok (.getfield 31, 3) := dk_180 0 31 (dk_at dksJ28_hasNext_1 0 rfl rfl)
theorem dJ28_hasNext_25 : decode cJ28_hasNext 25 = .ok (.invokevirtual 35, 3) := dk_182 0 35 (dk_at dksJ28_hasNext_1 3 rfl rfl)
theorem dJ28_hasNext_28 : decode cJ28_hasNext 28 = .ok (.ifCond .ne 7, 3) := dk_154 0 7 (dk_at dksJ28_hasNext_1 6 rfl rfl)
theorem dJ28_hasNext_31 : decode cJ28_hasNext 31 = .ok (.iconst 1, 1) := dk_4 (dk_at dksJ28_hasNext_1 9 rfl rfl)
theorem dJ28_hasNext_32 : decode cJ28_hasNext 32 = .ok (.goto 4, 3) := dk_167 0 4 (dk_at dksJ28_hasNext_1 10 rfl rfl)
theorem dJ28_hasNext_35 : decode cJ28_hasNext 35 = .ok (.iconst 0, 1) := dk_3 (dk_at dksJ28_hasNext_1 13 rfl rfl)
theorem dJ28_hasNext_36 : decode cJ28_hasNext 36 = .ok (.ireturn, 1) := dk_172 (dk_at dksJ28_hasNext_1 14 rfl rfl)
abbrev cJ28_next : ByteArray := prog_56_method_3_code
def yJ28_next : MethodName := ⟨RJ28, "next", "()Ljava/lang/Object;"⟩
def dkwJ28_next_4 : List UInt8 := [180, 0, 52, 176, 187, 0, 56, 89, 183, 0, 58, 191]
abbrev dktJ28_next_4 : List UInt8 := dkwJ28_next_4 ++ []
def dkwJ28_next_3 : List UInt8 := [181, 0, 13, 42, 42, 180, 0, 31, 182, 0, 48, 181, 0, 52, 42, 180, 0, 52, 198, 0, 8, 42]
abbrev dktJ28_next_3 : List UInt8 := dkwJ28_next_3 ++ dktJ28_next_4
def dkwJ28_next_2 : List UInt8 := [180, 0, 25, 90, 4, 96, 181, 0, 25, 90, 181, 0, 13, 50, 176, 42, 180, 0, 31, 198, 0, 31, 42, 2]
abbrev dktJ28_next_2 : List UInt8 := dkwJ28_next_2 ++ dktJ28_next_3
def dkwJ28_next_1 : List UInt8 := [180, 0, 25, 42, 180, 0, 1, 180, 0, 28, 162, 0, 28, 42, 180, 0, 1, 180, 0, 44, 42, 42, 89]
abbrev dktJ28_next_1 : List UInt8 := dkwJ28_next_1 ++ dktJ28_next_2
def dkwJ28_next_0 : List UInt8 := [42, 180, 0, 22, 42, 180, 0, 1, 180, 0, 17, 159, 0, 11, 187, 0, 41, 89, 183, 0, 43, 191, 42]
abbrev dktJ28_next_0 : List UInt8 := dkwJ28_next_0 ++ dktJ28_next_1
theorem dksJ28_next_0 : cJ28_next.data.toList.drop 0 = dktJ28_next_0 := by decide +kernel
theorem dksJ28_next_1 : cJ28_next.data.toList.drop 23 = dktJ28_next_1 := dk_seg dksJ28_next_0 23 rfl rfl
theorem dksJ28_next_2 : cJ28_next.data.toList.drop 46 = dktJ28_next_2 := dk_seg dksJ28_next_1 23 rfl rfl
theorem dksJ28_next_3 : cJ28_next.data.toList.drop 70 = dktJ28_next_3 := dk_seg dksJ28_next_2 24 rfl rfl
theorem dksJ28_next_4 : cJ28_next.data.toList.drop 92 = dktJ28_next_4 := dk_seg dksJ28_next_3 22 rfl rfl
theorem dJ28_next_0 : decode cJ28_next 0 = .ok (.aload_n 0, 1) := dk_42 (dk_at dksJ28_next_0 0 rfl rfl)
theorem dJ28_next_1 : decode cJ28_next 1 = .ok (.getfield 22, 3) := dk_180 0 22 (dk_at dksJ28_next_0 1 rfl rfl)
theorem dJ28_next_4 : decode cJ28_next 4 = .ok (.aload_n 0, 1) := dk_42 (dk_at dksJ28_next_0 4 rfl rfl)
theorem dJ28_next_5 : decode cJ28_next 5 = .ok (.getfield 1, 3) := dk_180 0 1 (dk_at dksJ28_next_0 5 rfl rfl)
theorem dJ28_next_8 : decode cJ28_next 8 = .ok (.getfield 17, 3) := dk_180 0 17 (dk_at dksJ28_next_0 8 rfl rfl)
theorem dJ28_next_11 : decode cJ28_next 11 = .ok (.if_icmp .eq 11, 3) := dk_159 0 11 (dk_at dksJ28_next_0 11 rfl rfl)
theorem dJ28_next_14 : decode cJ28_next 14 = .ok (.new 41, 3) := dk_187 0 41 (dk_at dksJ28_next_0 14 rfl rfl)
theorem dJ28_next_17 : decode cJ28_next 17 = .ok (.dup, 1) := dk_89 (dk_at dksJ28_next_0 17 rfl rfl)
theorem dJ28_next_18 : decode cJ28_next 18 = .ok (.invokespecial 43, 3) := dk_183 0 43 (dk_at dksJ28_next_0 18 rfl rfl)
theorem dJ28_next_21 : decode cJ28_next 21 = .ok (.athrow, 1) := dk_191 (dk_at dksJ28_next_0 21 rfl rfl)
theorem dJ28_next_22 : decode cJ28_next 22 = .ok (.aload_n 0, 1) := dk_42 (dk_at dksJ28_next_0 22 rfl rfl)
theorem dJ28_next_23 : decode cJ28_next 23 = .ok (.getfield 25, 3) := dk_180 0 25 (dk_at dksJ28_next_1 0 rfl rfl)
theorem dJ28_next_26 : decode cJ28_next 26 = .ok (.aload_n 0, 1) := dk_42 (dk_at dksJ28_next_1 3 rfl rfl)
theorem dJ28_next_27 : decode cJ28_next 27 = .ok (.getfield 1, 3) := dk_180 0 1 (dk_at dksJ28_next_1 4 rfl rfl)
theorem dJ28_next_30 : decode cJ28_next 30 = .ok (.getfield 28, 3) := dk_180 0 28 (dk_at dksJ28_next_1 7 rfl rfl)
theorem dJ28_next_33 : decode cJ28_next 33 = .ok (.if_icmp .ge 28, 3) := dk_162 0 28 (dk_at dksJ28_next_1 10 rfl rfl)
theorem dJ28_next_36 : decode cJ28_next 36 = .ok (.aload_n 0, 1) := dk_42 (dk_at dksJ28_next_1 13 rfl rfl)
theorem dJ28_next_37 : decode cJ28_next 37 = .ok (.getfield 1, 3) := dk_180 0 1 (dk_at dksJ28_next_1 14 rfl rfl)
theorem dJ28_next_40 : decode cJ28_next 40 = .ok (.getfield 44, 3) := dk_180 0 44 (dk_at dksJ28_next_1 17 rfl rfl)
theorem dJ28_next_43 : decode cJ28_next 43 = .ok (.aload_n 0, 1) := dk_42 (dk_at dksJ28_next_1 20 rfl rfl)
theorem dJ28_next_44 : decode cJ28_next 44 = .ok (.aload_n 0, 1) := dk_42 (dk_at dksJ28_next_1 21 rfl rfl)
theorem dJ28_next_45 : decode cJ28_next 45 = .ok (.dup, 1) := dk_89 (dk_at dksJ28_next_1 22 rfl rfl)
theorem dJ28_next_46 : decode cJ28_next 46 = .ok (.getfield 25, 3) := dk_180 0 25 (dk_at dksJ28_next_2 0 rfl rfl)
theorem dJ28_next_49 : decode cJ28_next 49 = .ok (.dup_x1, 1) := dk_90 (dk_at dksJ28_next_2 3 rfl rfl)
theorem dJ28_next_50 : decode cJ28_next 50 = .ok (.iconst 1, 1) := dk_4 (dk_at dksJ28_next_2 4 rfl rfl)
theorem dJ28_next_51 : decode cJ28_next 51 = .ok (.iadd, 1) := dk_96 (dk_at dksJ28_next_2 5 rfl rfl)
theorem dJ28_next_52 : decode cJ28_next 52 = .ok (.putfield 25, 3) := dk_181 0 25 (dk_at dksJ28_next_2 6 rfl rfl)
theorem dJ28_next_55 : decode cJ28_next 55 = .ok (.dup_x1, 1) := dk_90 (dk_at dksJ28_next_2 9 rfl rfl)
theorem dJ28_next_56 : decode cJ28_next 56 = .ok (.putfield 13, 3) := dk_181 0 13 (dk_at dksJ28_next_2 10 rfl rfl)
theorem dJ28_next_59 : decode cJ28_next 59 = .ok (.aaload, 1) := dk_50 (dk_at dksJ28_next_2 13 rfl rfl)
theorem dJ28_next_60 : decode cJ28_next 60 = .ok (.areturn, 1) := dk_176 (dk_at dksJ28_next_2 14 rfl rfl)
theorem dJ28_next_61 : decode cJ28_next 61 = .ok (.aload_n 0, 1) := dk_42 (dk_at dksJ28_next_2 15 rfl rfl)
theorem dJ28_next_62 : decode cJ28_next 62 = .ok (.getfield 31, 3) := dk_180 0 31 (dk_at dksJ28_next_2 16 rfl rfl)
theorem dJ28_next_65 : decode cJ28_next 65 = .ok (.ifnull 31, 3) := dk_198 0 31 (dk_at dksJ28_next_2 19 rfl rfl)
theorem dJ28_next_68 : decode cJ28_next 68 = .ok (.aload_n 0, 1) := dk_42 (dk_at dksJ28_next_2 22 rfl rfl)
theorem dJ28_next_69 : decode cJ28_next 69 = .ok (.iconst (-1), 1) := dk_2 (dk_at dksJ28_next_2 23 rfl rfl)
theorem dJ28_next_70 : decode cJ28_next 70 = .ok (.putfield 13, 3) := dk_181 0 13 (dk_at dksJ28_next_3 0 rfl rfl)
theorem dJ28_next_73 : decode cJ28_next 73 = .ok (.aload_n 0, 1) := dk_42 (dk_at dksJ28_next_3 3 rfl rfl)
theorem dJ28_next_74 : decode cJ28_next 74 = .ok (.aload_n 0, 1) := dk_42 (dk_at dksJ28_next_3 4 rfl rfl)
theorem dJ28_next_75 : decode cJ28_next 75 = .ok (.getfield 31, 3) := dk_180 0 31 (dk_at dksJ28_next_3 5 rfl rfl)
theorem dJ28_next_78 : decode cJ28_next 78 = .ok (.invokevirtual 48, 3) := dk_182 0 48 (dk_at dksJ28_next_3 8 rfl rfl)
theorem dJ28_next_81 : decode cJ28_next 81 = .ok (.putfield 52, 3) := dk_181 0 52 (dk_at dksJ28_next_3 11 rfl rfl)
theorem dJ28_next_84 : decode cJ28_next 84 = .ok (.aload_n 0, 1) := dk_42 (dk_at dksJ28_next_3 14 rfl rfl)
theorem dJ28_next_85 : decode cJ28_next 85 = .ok (.getfield 52, 3) := dk_180 0 52 (dk_at dksJ28_next_3 15 rfl rfl)
theorem dJ28_next_88 : decode cJ28_next 88 = .ok (.ifnull 8, 3) := dk_198 0 8 (dk_at dksJ28_next_3 18 rfl rfl)
theorem dJ28_next_91 : decode cJ28_next 91 = .ok (.aload_n 0, 1) := dk_42 (dk_at dksJ28_next_3 21 rfl rfl)
theorem dJ28_next_92 : decode cJ28_next 92 = .ok (.getfield 52, 3) := dk_180 0 52 (dk_at dksJ28_next_4 0 rfl rfl)
theorem dJ28_next_95 : decode cJ28_next 95 = .ok (.areturn, 1) := dk_176 (dk_at dksJ28_next_4 3 rfl rfl)
theorem dJ28_next_96 : decode cJ28_next 96 = .ok (.new 56, 3) := dk_187 0 56 (dk_at dksJ28_next_4 4 rfl rfl)
theorem dJ28_next_99 : decode cJ28_next 99 = .ok (.dup, 1) := dk_89 (dk_at dksJ28_next_4 7 rfl rfl)
theorem dJ28_next_100 : decode cJ28_next 100 = .ok (.invokespecial 58, 3) := dk_183 0 58 (dk_at dksJ28_next_4 8 rfl rfl)
theorem dJ28_next_103 : decode cJ28_next 103 = .ok (.athrow, 1) := dk_191 (dk_at dksJ28_next_4 11 rfl rfl)
abbrev cJ28_init : ByteArray := prog_56_method_1_code
def yJ28_init : MethodName := ⟨RJ28, "<init>", "(Ljava/util/PriorityQueue;)V"⟩
def dkwJ28_init_1 : List UInt8 := [181, 0, 22, 177]
abbrev dktJ28_init_1 : List UInt8 := dkwJ28_init_1 ++ []
def dkwJ28_init_0 : List UInt8 := [42, 43, 181, 0, 1, 42, 183, 0, 7, 42, 2, 181, 0, 13, 42, 42, 180, 0, 1, 180, 0, 17]
abbrev dktJ28_init_0 : List UInt8 := dkwJ28_init_0 ++ dktJ28_init_1
theorem dksJ28_init_0 : cJ28_init.data.toList.drop 0 = dktJ28_init_0 := by decide +kernel
theorem dksJ28_init_1 : cJ28_init.data.toList.drop 22 = dktJ28_init_1 := dk_seg dksJ28_init_0 22 rfl rfl
theorem dJ28_init_0 : decode cJ28_init 0 = .ok (.aload_n 0, 1) := dk_42 (dk_at dksJ28_init_0 0 rfl rfl)
theorem dJ28_init_1 : decode cJ28_init 1 = .ok (.aload_n 1, 1) := dk_43 (dk_at dksJ28_init_0 1 rfl rfl)
theorem dJ28_init_2 : decode cJ28_init 2 = .ok (.putfield 1, 3) := dk_181 0 1 (dk_at dksJ28_init_0 2 rfl rfl)
theorem dJ28_init_5 : decode cJ28_init 5 = .ok (.aload_n 0, 1) := dk_42 (dk_at dksJ28_init_0 5 rfl rfl)
theorem dJ28_init_6 : decode cJ28_init 6 = .ok (.invokespecial 7, 3) := dk_183 0 7 (dk_at dksJ28_init_0 6 rfl rfl)
theorem dJ28_init_9 : decode cJ28_init 9 = .ok (.aload_n 0, 1) := dk_42 (dk_at dksJ28_init_0 9 rfl rfl)
theorem dJ28_init_10 : decode cJ28_init 10 = .ok (.iconst (-1), 1) := dk_2 (dk_at dksJ28_init_0 10 rfl rfl)
theorem dJ28_init_11 : decode cJ28_init 11 = .ok (.putfield 13, 3) := dk_181 0 13 (dk_at dksJ28_init_0 11 rfl rfl)
theorem dJ28_init_14 : decode cJ28_init 14 = .ok (.aload_n 0, 1) := dk_42 (dk_at dksJ28_init_0 14 rfl rfl)
theorem dJ28_init_15 : decode cJ28_init 15 = .ok (.aload_n 0, 1) := dk_42 (dk_at dksJ28_init_0 15 rfl rfl)
theorem dJ28_init_16 : decode cJ28_init 16 = .ok (.getfield 1, 3) := dk_180 0 1 (dk_at dksJ28_init_0 16 rfl rfl)
theorem dJ28_init_19 : decode cJ28_init 19 = .ok (.getfield 17, 3) := dk_180 0 17 (dk_at dksJ28_init_0 19 rfl rfl)
theorem dJ28_init_22 : decode cJ28_init 22 = .ok (.putfield 22, 3) := dk_181 0 22 (dk_at dksJ28_init_1 0 rfl rfl)
theorem dJ28_init_25 : decode cJ28_init 25 = .ok (.return_, 1) := dk_177 (dk_at dksJ28_init_1 3 rfl rfl)
theorem q146 : (Jvm.Cond.initialized "java/util/PriorityQueue$Itr") ∈ lw_all := lw_g (lw_at lw_m1 43 rfl) rfl
theorem q811 : (Jvm.Cond.selects "java/util/PriorityQueue$Itr" ({ cls := "java/lang/Object", name := "getClass", desc := "()Ljava/lang/Class;" } : Jvm.MethodName) ({ cls := "java/lang/Object", name := "getClass", desc := "()Ljava/lang/Class;" } : Jvm.MethodName)) ∈ lw_all := lw_g (lw_at lw_m3 228 rfl) rfl
theorem q1331 : (Jvm.Cond.castable "java/util/PriorityQueue$Itr" "java/util/Iterator") ∈ lw_tbl := lw_at lw_m6 28 rfl
theorem q1332 : (Jvm.Cond.selects "java/util/PriorityQueue$Itr" ({ cls := "java/util/Iterator", name := "hasNext", desc := "()Z" } : Jvm.MethodName) ({ cls := "java/util/PriorityQueue$Itr", name := "hasNext", desc := "()Z" } : Jvm.MethodName)) ∈ lw_all := lw_g (lw_at lw_m6 29 rfl) rfl
theorem q1333 : (Jvm.Cond.unhidden "java/util/PriorityQueue$Itr" "hasNext" "()Z") ∈ lw_tbl := lw_at lw_m6 30 rfl
theorem q1334 : (Jvm.Cond.instanceMethod ({ cls := "java/util/PriorityQueue$Itr", name := "hasNext", desc := "()Z" } : Jvm.MethodName)) ∈ lw_all := lw_g (lw_at lw_m6 31 rfl) rfl
theorem q1335 : (Jvm.Cond.publicMethod ({ cls := "java/util/PriorityQueue$Itr", name := "hasNext", desc := "()Z" } : Jvm.MethodName)) ∈ lw_tbl := lw_at lw_m6 32 rfl
theorem q1336 : (Jvm.Cond.code ({ cls := "java/util/PriorityQueue$Itr", name := "hasNext", desc := "()Z" } : Jvm.MethodName) prog_56_method_2_code (1 : Nat) (Option.some Jvm.ClassFile.FieldType.boolean)) ∈ lw_all := lw_g (lw_at lw_m6 33 rfl) rfl
theorem q1337 : (Jvm.Cond.methodLink "java/util/PriorityQueue$Itr" (35 : Nat) ({ cls := "java/util/ArrayDeque", name := "isEmpty", desc := "()Z" } : Jvm.MethodName)) ∈ lw_all := lw_g (lw_at lw_m6 34 rfl) rfl
theorem q1351 : (Jvm.Cond.selects "java/util/PriorityQueue$Itr" ({ cls := "java/util/Iterator", name := "next", desc := "()Ljava/lang/Object;" } : Jvm.MethodName) ({ cls := "java/util/PriorityQueue$Itr", name := "next", desc := "()Ljava/lang/Object;" } : Jvm.MethodName)) ∈ lw_all := lw_g (lw_at lw_m6 48 rfl) rfl
theorem q1352 : (Jvm.Cond.unhidden "java/util/PriorityQueue$Itr" "next" "()Ljava/lang/Object;") ∈ lw_tbl := lw_at lw_m6 49 rfl
theorem q1353 : (Jvm.Cond.instanceMethod ({ cls := "java/util/PriorityQueue$Itr", name := "next", desc := "()Ljava/lang/Object;" } : Jvm.MethodName)) ∈ lw_all := lw_g (lw_at lw_m6 50 rfl) rfl
theorem q1354 : (Jvm.Cond.publicMethod ({ cls := "java/util/PriorityQueue$Itr", name := "next", desc := "()Ljava/lang/Object;" } : Jvm.MethodName)) ∈ lw_tbl := lw_at lw_m6 51 rfl
theorem q1355 : (Jvm.Cond.code ({ cls := "java/util/PriorityQueue$Itr", name := "next", desc := "()Ljava/lang/Object;" } : Jvm.MethodName) prog_56_method_3_code (1 : Nat) (Option.some (Jvm.ClassFile.FieldType.object "java/lang/Object"))) ∈ lw_all := lw_g (lw_at lw_m6 52 rfl) rfl
theorem q1356 : (Jvm.Cond.methodLink "java/util/PriorityQueue$Itr" (48 : Nat) ({ cls := "java/util/ArrayDeque", name := "poll", desc := "()Ljava/lang/Object;" } : Jvm.MethodName)) ∈ lw_all := lw_g (lw_at lw_m6 53 rfl) rfl
theorem q1584 : (Jvm.Cond.instantiable "java/util/PriorityQueue$Itr" (6 : Nat)) ∈ lw_all := lw_g (lw_at lw_m7 41 rfl) rfl
theorem q1586 : (Jvm.Cond.instanceMethod ({ cls := "java/util/PriorityQueue$Itr", name := "<init>", desc := "(Ljava/util/PriorityQueue;)V" } : Jvm.MethodName)) ∈ lw_all := lw_g (lw_at lw_m7 43 rfl) rfl
theorem q1587 : (Jvm.Cond.code ({ cls := "java/util/PriorityQueue$Itr", name := "<init>", desc := "(Ljava/util/PriorityQueue;)V" } : Jvm.MethodName) prog_56_method_1_code (2 : Nat) (Option.none : Option Jvm.ClassFile.FieldType)) ∈ lw_all := lw_g (lw_at lw_m7 44 rfl) rfl
theorem q1588 : (Jvm.Cond.methodLink "java/util/PriorityQueue$Itr" (7 : Nat) ({ cls := "java/lang/Object", name := "<init>", desc := "()V" } : Jvm.MethodName)) ∈ lw_all := lw_g (lw_at lw_m7 45 rfl) rfl
theorem q1589 : (Jvm.Cond.fieldLink "java/util/PriorityQueue$Itr" (25 : Nat) "java/util/PriorityQueue$Itr" "cursor" "I") ∈ lw_all := lw_g (lw_at lw_m7 46 rfl) rfl
theorem q1590 : (Jvm.Cond.fieldLink "java/util/PriorityQueue$Itr" (13 : Nat) "java/util/PriorityQueue$Itr" "lastRet" "I") ∈ lw_all := lw_g (lw_at lw_m7 47 rfl) rfl
theorem q1591 : (Jvm.Cond.fieldLink "java/util/PriorityQueue$Itr" (31 : Nat) "java/util/PriorityQueue$Itr" "forgetMeNot" "Ljava/util/ArrayDeque;") ∈ lw_all := lw_g (lw_at lw_m7 48 rfl) rfl
theorem q1592 : (Jvm.Cond.fieldLink "java/util/PriorityQueue$Itr" (52 : Nat) "java/util/PriorityQueue$Itr" "lastRetElt" "Ljava/lang/Object;") ∈ lw_all := lw_g (lw_at lw_m7 49 rfl) rfl
theorem q1593 : (Jvm.Cond.fieldLink "java/util/PriorityQueue$Itr" (22 : Nat) "java/util/PriorityQueue$Itr" "expectedModCount" "I") ∈ lw_all := lw_g (lw_at lw_m7 50 rfl) rfl
theorem q1594 : (Jvm.Cond.fieldLink "java/util/PriorityQueue$Itr" (1 : Nat) "java/util/PriorityQueue$Itr" "this$0" "Ljava/util/PriorityQueue;") ∈ lw_all := lw_g (lw_at lw_m7 51 rfl) rfl
theorem q1595 : (Jvm.Cond.lays "java/util/PriorityQueue$Itr" "java/util/PriorityQueue$Itr" "cursor" "I") ∈ lw_all := lw_g (lw_at lw_m7 52 rfl) rfl
theorem q1596 : (Jvm.Cond.soleField "java/util/PriorityQueue$Itr" "cursor") ∈ lw_all := lw_g (lw_at lw_m7 53 rfl) rfl
theorem q1597 : (Jvm.Cond.lays "java/util/PriorityQueue$Itr" "java/util/PriorityQueue$Itr" "lastRet" "I") ∈ lw_all := lw_g (lw_at lw_m7 54 rfl) rfl
theorem q1598 : (Jvm.Cond.soleField "java/util/PriorityQueue$Itr" "lastRet") ∈ lw_all := lw_g (lw_at lw_m7 55 rfl) rfl
theorem q1599 : (Jvm.Cond.lays "java/util/PriorityQueue$Itr" "java/util/PriorityQueue$Itr" "forgetMeNot" "Ljava/util/ArrayDeque;") ∈ lw_all := lw_g (lw_at lw_m7 56 rfl) rfl
theorem q1600 : (Jvm.Cond.soleField "java/util/PriorityQueue$Itr" "forgetMeNot") ∈ lw_all := lw_g (lw_at lw_m7 57 rfl) rfl
theorem q1601 : (Jvm.Cond.lays "java/util/PriorityQueue$Itr" "java/util/PriorityQueue$Itr" "lastRetElt" "Ljava/lang/Object;") ∈ lw_all := lw_g (lw_at lw_m7 58 rfl) rfl
theorem q1602 : (Jvm.Cond.soleField "java/util/PriorityQueue$Itr" "lastRetElt") ∈ lw_all := lw_g (lw_at lw_m7 59 rfl) rfl
theorem q1603 : (Jvm.Cond.lays "java/util/PriorityQueue$Itr" "java/util/PriorityQueue$Itr" "expectedModCount" "I") ∈ lw_all := lw_g (lw_at lw_m7 60 rfl) rfl
theorem q1604 : (Jvm.Cond.soleField "java/util/PriorityQueue$Itr" "expectedModCount") ∈ lw_all := lw_g (lw_at lw_m7 61 rfl) rfl
theorem q1605 : (Jvm.Cond.laysFinal "java/util/PriorityQueue$Itr" "java/util/PriorityQueue$Itr" "this$0" "Ljava/util/PriorityQueue;") ∈ lw_all := lw_g (lw_at lw_m7 62 rfl) rfl
theorem q1606 : (Jvm.Cond.soleField "java/util/PriorityQueue$Itr" "this$0") ∈ lw_all := lw_g (lw_at lw_m7 63 rfl) rfl
theorem q1607 : (Jvm.Cond.superclass "java/util/PriorityQueue$Itr" "java/lang/Object") ∈ lw_all := lw_g (lw_at lw_m7 64 rfl) rfl
theorem q1654 : (Jvm.Cond.fieldLink "java/util/PriorityQueue$Itr" (44 : Nat) "java/util/PriorityQueue" "queue" "[Ljava/lang/Object;") ∈ lw_all := lw_g (lw_at lw_m7 111 rfl) rfl
theorem q1656 : (Jvm.Cond.fieldLink "java/util/PriorityQueue$Itr" (28 : Nat) "java/util/PriorityQueue" "size" "I") ∈ lw_all := lw_g (lw_at lw_m7 113 rfl) rfl
theorem q1659 : (Jvm.Cond.fieldLink "java/util/PriorityQueue$Itr" (17 : Nat) "java/util/PriorityQueue" "modCount" "I") ∈ lw_all := lw_g (lw_at lw_m7 116 rfl) rfl
theorem q2316 : (Jvm.Cond.castable "java/util/PriorityQueue$Itr" "java/lang/Object") ∈ lw_tbl := lw_at lw_m10 53 rfl
theorem in_J28 : ∀ w ∈ wsJ280, w ∈ lw_all := lw_in wsJ280 [1595, 1597, 1599, 1601, 1603, 1605] (by decide +kernel) (by decide +kernel)

/-! java/lang/NegativeArraySizeException -/
set_option maxRecDepth 100000
def RJ29 : String := "java/lang/NegativeArraySizeException"
def TJ29 : u_T := fun k => match k with
  | 0 => ("java/lang/Throwable", "backtrace", "Ljava/lang/Object;", false)
  | 1 => ("java/lang/Throwable", "detailMessage", "Ljava/lang/String;", false)
  | 2 => ("java/lang/Throwable", "cause", "Ljava/lang/Throwable;", false)
  | 3 => ("java/lang/Throwable", "stackTrace", "[Ljava/lang/StackTraceElement;", false)
  | 4 => ("java/lang/Throwable", "depth", "I", false)
  | _ => ("java/lang/Throwable", "suppressedExceptions", "Ljava/util/List;", false)
def tyJ29 : Nat → FieldType := fun k => match k with
  | 0 => .object "java/lang/Object"
  | 1 => .object "java/lang/String"
  | 2 => .object "java/lang/Throwable"
  | 3 => .array (.object "java/lang/StackTraceElement")
  | 4 => .int
  | _ => .object "java/util/List"
abbrev wsJ290 : List Cond := u_ws RJ29 TJ29 6
theorem nmJ29 : ∀ a, a < 6 → ∀ b, b < 6 → a ≠ b → (TJ29 a).2.1 ≠ (TJ29 b).2.1 := by decide +kernel
theorem tyJ29_ok : ∀ k, k < 6 → parseFieldDescriptor (TJ29 k).2.2.1 = some (tyJ29 k) := by decide +kernel
abbrev cJ29_init : ByteArray := prog_26_method_2_code
def yJ29_init : MethodName := ⟨RJ29, "<init>", "(Ljava/lang/String;)V"⟩
def dkwJ29_init_0 : List UInt8 := [42, 43, 183, 0, 7, 177]
abbrev dktJ29_init_0 : List UInt8 := dkwJ29_init_0 ++ []
theorem dksJ29_init_0 : cJ29_init.data.toList.drop 0 = dktJ29_init_0 := by decide +kernel
theorem dJ29_init_0 : decode cJ29_init 0 = .ok (.aload_n 0, 1) := dk_42 (dk_at dksJ29_init_0 0 rfl rfl)
theorem dJ29_init_1 : decode cJ29_init 1 = .ok (.aload_n 1, 1) := dk_43 (dk_at dksJ29_init_0 1 rfl rfl)
theorem dJ29_init_2 : decode cJ29_init 2 = .ok (.invokespecial 7, 3) := dk_183 0 7 (dk_at dksJ29_init_0 2 rfl rfl)
theorem dJ29_init_5 : decode cJ29_init 5 = .ok (.return_, 1) := dk_177 (dk_at dksJ29_init_0 5 rfl rfl)
theorem q147 : (Jvm.Cond.initialized "java/lang/NegativeArraySizeException") ∈ lw_all := lw_g (lw_at lw_m1 44 rfl) rfl
theorem q302 : (Jvm.Cond.selects "java/lang/NegativeArraySizeException" ({ cls := "java/lang/Throwable", name := "fillInStackTrace", desc := "()Ljava/lang/Throwable;" } : Jvm.MethodName) ({ cls := "java/lang/Throwable", name := "fillInStackTrace", desc := "()Ljava/lang/Throwable;" } : Jvm.MethodName)) ∈ lw_all := lw_g (lw_at lw_m1 199 rfl) rfl
theorem q807 : (Jvm.Cond.selects "java/lang/NegativeArraySizeException" ({ cls := "java/lang/Object", name := "getClass", desc := "()Ljava/lang/Class;" } : Jvm.MethodName) ({ cls := "java/lang/Object", name := "getClass", desc := "()Ljava/lang/Class;" } : Jvm.MethodName)) ∈ lw_all := lw_g (lw_at lw_m3 224 rfl) rfl
theorem q1528 : (Jvm.Cond.selects "java/lang/NegativeArraySizeException" ({ cls := "java/lang/Object", name := "equals", desc := "(Ljava/lang/Object;)Z" } : Jvm.MethodName) ({ cls := "java/lang/Object", name := "equals", desc := "(Ljava/lang/Object;)Z" } : Jvm.MethodName)) ∈ lw_all := lw_g (lw_at lw_m6 225 rfl) rfl
theorem q1755 : (Jvm.Cond.instantiable "java/lang/NegativeArraySizeException" (6 : Nat)) ∈ lw_all := lw_g (lw_at lw_m7 212 rfl) rfl
theorem q1756 : (Jvm.Cond.instanceMethod ({ cls := "java/lang/NegativeArraySizeException", name := "<init>", desc := "(Ljava/lang/String;)V" } : Jvm.MethodName)) ∈ lw_all := lw_g (lw_at lw_m7 213 rfl) rfl
theorem q1757 : (Jvm.Cond.code ({ cls := "java/lang/NegativeArraySizeException", name := "<init>", desc := "(Ljava/lang/String;)V" } : Jvm.MethodName) prog_26_method_2_code (2 : Nat) (Option.none : Option Jvm.ClassFile.FieldType)) ∈ lw_all := lw_g (lw_at lw_m7 214 rfl) rfl
theorem q1758 : (Jvm.Cond.methodLink "java/lang/NegativeArraySizeException" (7 : Nat) ({ cls := "java/lang/RuntimeException", name := "<init>", desc := "(Ljava/lang/String;)V" } : Jvm.MethodName)) ∈ lw_all := lw_g (lw_at lw_m7 215 rfl) rfl
theorem q1767 : (Jvm.Cond.lays "java/lang/NegativeArraySizeException" "java/lang/Throwable" "backtrace" "Ljava/lang/Object;") ∈ lw_all := lw_g (lw_at lw_m7 224 rfl) rfl
theorem q1768 : (Jvm.Cond.lays "java/lang/NegativeArraySizeException" "java/lang/Throwable" "detailMessage" "Ljava/lang/String;") ∈ lw_all := lw_g (lw_at lw_m7 225 rfl) rfl
theorem q1769 : (Jvm.Cond.lays "java/lang/NegativeArraySizeException" "java/lang/Throwable" "cause" "Ljava/lang/Throwable;") ∈ lw_all := lw_g (lw_at lw_m7 226 rfl) rfl
theorem q1770 : (Jvm.Cond.lays "java/lang/NegativeArraySizeException" "java/lang/Throwable" "stackTrace" "[Ljava/lang/StackTraceElement;") ∈ lw_all := lw_g (lw_at lw_m7 227 rfl) rfl
theorem q1771 : (Jvm.Cond.lays "java/lang/NegativeArraySizeException" "java/lang/Throwable" "depth" "I") ∈ lw_all := lw_g (lw_at lw_m7 228 rfl) rfl
theorem q1772 : (Jvm.Cond.lays "java/lang/NegativeArraySizeException" "java/lang/Throwable" "suppressedExceptions" "Ljava/util/List;") ∈ lw_all := lw_g (lw_at lw_m7 229 rfl) rfl
theorem q1773 : (Jvm.Cond.superclass "java/lang/NegativeArraySizeException" "java/lang/RuntimeException") ∈ lw_all := lw_g (lw_at lw_m7 230 rfl) rfl
theorem q1774 : (Jvm.Cond.castable "java/lang/NegativeArraySizeException" "java/lang/NegativeArraySizeException") ∈ lw_tbl := lw_at lw_m7 231 rfl
theorem q1775 : (Jvm.Cond.selects "java/lang/NegativeArraySizeException" ({ cls := "java/lang/Throwable", name := "fillInStackTrace", desc := "(I)Ljava/lang/Throwable;" } : Jvm.MethodName) ({ cls := "java/lang/Throwable", name := "fillInStackTrace", desc := "(I)Ljava/lang/Throwable;" } : Jvm.MethodName)) ∈ lw_all := lw_g (lw_at lw_m7 232 rfl) rfl
theorem q2317 : (Jvm.Cond.castable "java/lang/NegativeArraySizeException" "java/lang/Object") ∈ lw_tbl := lw_at lw_m10 54 rfl
theorem in_J29 : ∀ w ∈ wsJ290, w ∈ lw_all := lw_in wsJ290 [1767, 1768, 1769, 1770, 1771, 1772] (by decide +kernel) (by decide +kernel)

/-! java/lang/IndexOutOfBoundsException -/
set_option maxRecDepth 100000
def RJ30 : String := "java/lang/IndexOutOfBoundsException"
abbrev cJ30_init : ByteArray := prog_21_method_2_code
def yJ30_init : MethodName := ⟨RJ30, "<init>", "(Ljava/lang/String;)V"⟩
def dkwJ30_init_0 : List UInt8 := [42, 43, 183, 0, 7, 177]
abbrev dktJ30_init_0 : List UInt8 := dkwJ30_init_0 ++ []
theorem dksJ30_init_0 : cJ30_init.data.toList.drop 0 = dktJ30_init_0 := by decide +kernel
theorem dJ30_init_0 : decode cJ30_init 0 = .ok (.aload_n 0, 1) := dk_42 (dk_at dksJ30_init_0 0 rfl rfl)
theorem dJ30_init_1 : decode cJ30_init 1 = .ok (.aload_n 1, 1) := dk_43 (dk_at dksJ30_init_0 1 rfl rfl)
theorem dJ30_init_2 : decode cJ30_init 2 = .ok (.invokespecial 7, 3) := dk_183 0 7 (dk_at dksJ30_init_0 2 rfl rfl)
theorem dJ30_init_5 : decode cJ30_init 5 = .ok (.return_, 1) := dk_177 (dk_at dksJ30_init_0 5 rfl rfl)
theorem q148 : (Jvm.Cond.initialized "java/lang/IndexOutOfBoundsException") ∈ lw_all := lw_g (lw_at lw_m1 45 rfl) rfl
theorem q1797 : (Jvm.Cond.instanceMethod ({ cls := "java/lang/IndexOutOfBoundsException", name := "<init>", desc := "(Ljava/lang/String;)V" } : Jvm.MethodName)) ∈ lw_all := lw_g (lw_at lw_m8 14 rfl) rfl
theorem q1798 : (Jvm.Cond.code ({ cls := "java/lang/IndexOutOfBoundsException", name := "<init>", desc := "(Ljava/lang/String;)V" } : Jvm.MethodName) prog_21_method_2_code (2 : Nat) (Option.none : Option Jvm.ClassFile.FieldType)) ∈ lw_all := lw_g (lw_at lw_m8 15 rfl) rfl
theorem q1799 : (Jvm.Cond.methodLink "java/lang/IndexOutOfBoundsException" (7 : Nat) ({ cls := "java/lang/RuntimeException", name := "<init>", desc := "(Ljava/lang/String;)V" } : Jvm.MethodName)) ∈ lw_all := lw_g (lw_at lw_m8 16 rfl) rfl
theorem q1808 : (Jvm.Cond.declares ({ cls := "java/lang/IndexOutOfBoundsException", name := "<init>", desc := "()V" } : Jvm.MethodName)) ∈ lw_tbl := lw_at lw_m8 25 rfl
theorem q1809 : (Jvm.Cond.declares ({ cls := "java/lang/IndexOutOfBoundsException", name := "<init>", desc := "(Ljava/lang/String;)V" } : Jvm.MethodName)) ∈ lw_tbl := lw_at lw_m8 26 rfl

/-! java/lang/ArrayIndexOutOfBoundsException -/
set_option maxRecDepth 100000
def RJ31 : String := "java/lang/ArrayIndexOutOfBoundsException"
def TJ31 : u_T := fun k => match k with
  | 0 => ("java/lang/Throwable", "backtrace", "Ljava/lang/Object;", false)
  | 1 => ("java/lang/Throwable", "detailMessage", "Ljava/lang/String;", false)
  | 2 => ("java/lang/Throwable", "cause", "Ljava/lang/Throwable;", false)
  | 3 => ("java/lang/Throwable", "stackTrace", "[Ljava/lang/StackTraceElement;", false)
  | 4 => ("java/lang/Throwable", "depth", "I", false)
  | _ => ("java/lang/Throwable", "suppressedExceptions", "Ljava/util/List;", false)
def tyJ31 : Nat → FieldType := fun k => match k with
  | 0 => .object "java/lang/Object"
  | 1 => .object "java/lang/String"
  | 2 => .object "java/lang/Throwable"
  | 3 => .array (.object "java/lang/StackTraceElement")
  | 4 => .int
  | _ => .object "java/util/List"
abbrev wsJ310 : List Cond := u_ws RJ31 TJ31 6
theorem nmJ31 : ∀ a, a < 6 → ∀ b, b < 6 → a ≠ b → (TJ31 a).2.1 ≠ (TJ31 b).2.1 := by decide +kernel
theorem tyJ31_ok : ∀ k, k < 6 → parseFieldDescriptor (TJ31 k).2.2.1 = some (tyJ31 k) := by decide +kernel
abbrev cJ31_init : ByteArray := prog_15_method_2_code
def yJ31_init : MethodName := ⟨RJ31, "<init>", "(Ljava/lang/String;)V"⟩
def dkwJ31_init_0 : List UInt8 := [42, 43, 183, 0, 7, 177]
abbrev dktJ31_init_0 : List UInt8 := dkwJ31_init_0 ++ []
theorem dksJ31_init_0 : cJ31_init.data.toList.drop 0 = dktJ31_init_0 := by decide +kernel
theorem dJ31_init_0 : decode cJ31_init 0 = .ok (.aload_n 0, 1) := dk_42 (dk_at dksJ31_init_0 0 rfl rfl)
theorem dJ31_init_1 : decode cJ31_init 1 = .ok (.aload_n 1, 1) := dk_43 (dk_at dksJ31_init_0 1 rfl rfl)
theorem dJ31_init_2 : decode cJ31_init 2 = .ok (.invokespecial 7, 3) := dk_183 0 7 (dk_at dksJ31_init_0 2 rfl rfl)
theorem dJ31_init_5 : decode cJ31_init 5 = .ok (.return_, 1) := dk_177 (dk_at dksJ31_init_0 5 rfl rfl)
theorem q149 : (Jvm.Cond.initialized "java/lang/ArrayIndexOutOfBoundsException") ∈ lw_all := lw_g (lw_at lw_m1 46 rfl) rfl
theorem q300 : (Jvm.Cond.selects "java/lang/ArrayIndexOutOfBoundsException" ({ cls := "java/lang/Throwable", name := "fillInStackTrace", desc := "()Ljava/lang/Throwable;" } : Jvm.MethodName) ({ cls := "java/lang/Throwable", name := "fillInStackTrace", desc := "()Ljava/lang/Throwable;" } : Jvm.MethodName)) ∈ lw_all := lw_g (lw_at lw_m1 197 rfl) rfl
theorem q805 : (Jvm.Cond.selects "java/lang/ArrayIndexOutOfBoundsException" ({ cls := "java/lang/Object", name := "getClass", desc := "()Ljava/lang/Class;" } : Jvm.MethodName) ({ cls := "java/lang/Object", name := "getClass", desc := "()Ljava/lang/Class;" } : Jvm.MethodName)) ∈ lw_all := lw_g (lw_at lw_m3 222 rfl) rfl
theorem q1526 : (Jvm.Cond.selects "java/lang/ArrayIndexOutOfBoundsException" ({ cls := "java/lang/Object", name := "equals", desc := "(Ljava/lang/Object;)Z" } : Jvm.MethodName) ({ cls := "java/lang/Object", name := "equals", desc := "(Ljava/lang/Object;)Z" } : Jvm.MethodName)) ∈ lw_all := lw_g (lw_at lw_m6 223 rfl) rfl
theorem q1793 : (Jvm.Cond.instantiable "java/lang/ArrayIndexOutOfBoundsException" (6 : Nat)) ∈ lw_all := lw_g (lw_at lw_m8 10 rfl) rfl
theorem q1794 : (Jvm.Cond.instanceMethod ({ cls := "java/lang/ArrayIndexOutOfBoundsException", name := "<init>", desc := "(Ljava/lang/String;)V" } : Jvm.MethodName)) ∈ lw_all := lw_g (lw_at lw_m8 11 rfl) rfl
theorem q1795 : (Jvm.Cond.code ({ cls := "java/lang/ArrayIndexOutOfBoundsException", name := "<init>", desc := "(Ljava/lang/String;)V" } : Jvm.MethodName) prog_15_method_2_code (2 : Nat) (Option.none : Option Jvm.ClassFile.FieldType)) ∈ lw_all := lw_g (lw_at lw_m8 12 rfl) rfl
theorem q1796 : (Jvm.Cond.methodLink "java/lang/ArrayIndexOutOfBoundsException" (7 : Nat) ({ cls := "java/lang/IndexOutOfBoundsException", name := "<init>", desc := "(Ljava/lang/String;)V" } : Jvm.MethodName)) ∈ lw_all := lw_g (lw_at lw_m8 13 rfl) rfl
theorem q1800 : (Jvm.Cond.lays "java/lang/ArrayIndexOutOfBoundsException" "java/lang/Throwable" "backtrace" "Ljava/lang/Object;") ∈ lw_all := lw_g (lw_at lw_m8 17 rfl) rfl
theorem q1801 : (Jvm.Cond.lays "java/lang/ArrayIndexOutOfBoundsException" "java/lang/Throwable" "detailMessage" "Ljava/lang/String;") ∈ lw_all := lw_g (lw_at lw_m8 18 rfl) rfl
theorem q1802 : (Jvm.Cond.lays "java/lang/ArrayIndexOutOfBoundsException" "java/lang/Throwable" "cause" "Ljava/lang/Throwable;") ∈ lw_all := lw_g (lw_at lw_m8 19 rfl) rfl
theorem q1803 : (Jvm.Cond.lays "java/lang/ArrayIndexOutOfBoundsException" "java/lang/Throwable" "stackTrace" "[Ljava/lang/StackTraceElement;") ∈ lw_all := lw_g (lw_at lw_m8 20 rfl) rfl
theorem q1804 : (Jvm.Cond.lays "java/lang/ArrayIndexOutOfBoundsException" "java/lang/Throwable" "depth" "I") ∈ lw_all := lw_g (lw_at lw_m8 21 rfl) rfl
theorem q1805 : (Jvm.Cond.lays "java/lang/ArrayIndexOutOfBoundsException" "java/lang/Throwable" "suppressedExceptions" "Ljava/util/List;") ∈ lw_all := lw_g (lw_at lw_m8 22 rfl) rfl
theorem q1806 : (Jvm.Cond.superclass "java/lang/ArrayIndexOutOfBoundsException" "java/lang/IndexOutOfBoundsException") ∈ lw_all := lw_g (lw_at lw_m8 23 rfl) rfl
theorem q1807 : (Jvm.Cond.castable "java/lang/ArrayIndexOutOfBoundsException" "java/lang/ArrayIndexOutOfBoundsException") ∈ lw_tbl := lw_at lw_m8 24 rfl
theorem q1810 : (Jvm.Cond.selects "java/lang/ArrayIndexOutOfBoundsException" ({ cls := "java/lang/Throwable", name := "fillInStackTrace", desc := "(I)Ljava/lang/Throwable;" } : Jvm.MethodName) ({ cls := "java/lang/Throwable", name := "fillInStackTrace", desc := "(I)Ljava/lang/Throwable;" } : Jvm.MethodName)) ∈ lw_all := lw_g (lw_at lw_m8 27 rfl) rfl
theorem q2318 : (Jvm.Cond.castable "java/lang/ArrayIndexOutOfBoundsException" "java/lang/Object") ∈ lw_tbl := lw_at lw_m10 55 rfl
theorem in_J31 : ∀ w ∈ wsJ310, w ∈ lw_all := lw_in wsJ310 [1800, 1801, 1802, 1803, 1804, 1805] (by decide +kernel) (by decide +kernel)

/-! java/lang/ClassCastException -/
set_option maxRecDepth 100000
def RJ32 : String := "java/lang/ClassCastException"
def TJ32 : u_T := fun k => match k with
  | 0 => ("java/lang/Throwable", "backtrace", "Ljava/lang/Object;", false)
  | 1 => ("java/lang/Throwable", "detailMessage", "Ljava/lang/String;", false)
  | 2 => ("java/lang/Throwable", "cause", "Ljava/lang/Throwable;", false)
  | 3 => ("java/lang/Throwable", "stackTrace", "[Ljava/lang/StackTraceElement;", false)
  | 4 => ("java/lang/Throwable", "depth", "I", false)
  | _ => ("java/lang/Throwable", "suppressedExceptions", "Ljava/util/List;", false)
def tyJ32 : Nat → FieldType := fun k => match k with
  | 0 => .object "java/lang/Object"
  | 1 => .object "java/lang/String"
  | 2 => .object "java/lang/Throwable"
  | 3 => .array (.object "java/lang/StackTraceElement")
  | 4 => .int
  | _ => .object "java/util/List"
abbrev wsJ320 : List Cond := u_ws RJ32 TJ32 6
theorem nmJ32 : ∀ a, a < 6 → ∀ b, b < 6 → a ≠ b → (TJ32 a).2.1 ≠ (TJ32 b).2.1 := by decide +kernel
theorem tyJ32_ok : ∀ k, k < 6 → parseFieldDescriptor (TJ32 k).2.2.1 = some (tyJ32 k) := by decide +kernel
abbrev cJ32_init : ByteArray := prog_17_method_2_code
def yJ32_init : MethodName := ⟨RJ32, "<init>", "(Ljava/lang/String;)V"⟩
def dkwJ32_init_0 : List UInt8 := [42, 43, 183, 0, 7, 177]
abbrev dktJ32_init_0 : List UInt8 := dkwJ32_init_0 ++ []
theorem dksJ32_init_0 : cJ32_init.data.toList.drop 0 = dktJ32_init_0 := by decide +kernel
theorem dJ32_init_0 : decode cJ32_init 0 = .ok (.aload_n 0, 1) := dk_42 (dk_at dksJ32_init_0 0 rfl rfl)
theorem dJ32_init_1 : decode cJ32_init 1 = .ok (.aload_n 1, 1) := dk_43 (dk_at dksJ32_init_0 1 rfl rfl)
theorem dJ32_init_2 : decode cJ32_init 2 = .ok (.invokespecial 7, 3) := dk_183 0 7 (dk_at dksJ32_init_0 2 rfl rfl)
theorem dJ32_init_5 : decode cJ32_init 5 = .ok (.return_, 1) := dk_177 (dk_at dksJ32_init_0 5 rfl rfl)
theorem q150 : (Jvm.Cond.initialized "java/lang/ClassCastException") ∈ lw_all := lw_g (lw_at lw_m1 47 rfl) rfl
theorem q301 : (Jvm.Cond.selects "java/lang/ClassCastException" ({ cls := "java/lang/Throwable", name := "fillInStackTrace", desc := "()Ljava/lang/Throwable;" } : Jvm.MethodName) ({ cls := "java/lang/Throwable", name := "fillInStackTrace", desc := "()Ljava/lang/Throwable;" } : Jvm.MethodName)) ∈ lw_all := lw_g (lw_at lw_m1 198 rfl) rfl
theorem q806 : (Jvm.Cond.selects "java/lang/ClassCastException" ({ cls := "java/lang/Object", name := "getClass", desc := "()Ljava/lang/Class;" } : Jvm.MethodName) ({ cls := "java/lang/Object", name := "getClass", desc := "()Ljava/lang/Class;" } : Jvm.MethodName)) ∈ lw_all := lw_g (lw_at lw_m3 223 rfl) rfl
theorem q1527 : (Jvm.Cond.selects "java/lang/ClassCastException" ({ cls := "java/lang/Object", name := "equals", desc := "(Ljava/lang/Object;)Z" } : Jvm.MethodName) ({ cls := "java/lang/Object", name := "equals", desc := "(Ljava/lang/Object;)Z" } : Jvm.MethodName)) ∈ lw_all := lw_g (lw_at lw_m6 224 rfl) rfl
theorem q1824 : (Jvm.Cond.instantiable "java/lang/ClassCastException" (6 : Nat)) ∈ lw_all := lw_g (lw_at lw_m8 41 rfl) rfl
theorem q1825 : (Jvm.Cond.instanceMethod ({ cls := "java/lang/ClassCastException", name := "<init>", desc := "(Ljava/lang/String;)V" } : Jvm.MethodName)) ∈ lw_all := lw_g (lw_at lw_m8 42 rfl) rfl
theorem q1826 : (Jvm.Cond.code ({ cls := "java/lang/ClassCastException", name := "<init>", desc := "(Ljava/lang/String;)V" } : Jvm.MethodName) prog_17_method_2_code (2 : Nat) (Option.none : Option Jvm.ClassFile.FieldType)) ∈ lw_all := lw_g (lw_at lw_m8 43 rfl) rfl
theorem q1827 : (Jvm.Cond.methodLink "java/lang/ClassCastException" (7 : Nat) ({ cls := "java/lang/RuntimeException", name := "<init>", desc := "(Ljava/lang/String;)V" } : Jvm.MethodName)) ∈ lw_all := lw_g (lw_at lw_m8 44 rfl) rfl
theorem q1828 : (Jvm.Cond.lays "java/lang/ClassCastException" "java/lang/Throwable" "backtrace" "Ljava/lang/Object;") ∈ lw_all := lw_g (lw_at lw_m8 45 rfl) rfl
theorem q1829 : (Jvm.Cond.lays "java/lang/ClassCastException" "java/lang/Throwable" "detailMessage" "Ljava/lang/String;") ∈ lw_all := lw_g (lw_at lw_m8 46 rfl) rfl
theorem q1830 : (Jvm.Cond.lays "java/lang/ClassCastException" "java/lang/Throwable" "cause" "Ljava/lang/Throwable;") ∈ lw_all := lw_g (lw_at lw_m8 47 rfl) rfl
theorem q1831 : (Jvm.Cond.lays "java/lang/ClassCastException" "java/lang/Throwable" "stackTrace" "[Ljava/lang/StackTraceElement;") ∈ lw_all := lw_g (lw_at lw_m8 48 rfl) rfl
theorem q1832 : (Jvm.Cond.lays "java/lang/ClassCastException" "java/lang/Throwable" "depth" "I") ∈ lw_all := lw_g (lw_at lw_m8 49 rfl) rfl
theorem q1833 : (Jvm.Cond.lays "java/lang/ClassCastException" "java/lang/Throwable" "suppressedExceptions" "Ljava/util/List;") ∈ lw_all := lw_g (lw_at lw_m8 50 rfl) rfl
theorem q1834 : (Jvm.Cond.superclass "java/lang/ClassCastException" "java/lang/RuntimeException") ∈ lw_all := lw_g (lw_at lw_m8 51 rfl) rfl
theorem q1835 : (Jvm.Cond.castable "java/lang/ClassCastException" "java/lang/ClassCastException") ∈ lw_tbl := lw_at lw_m8 52 rfl
theorem q1836 : (Jvm.Cond.selects "java/lang/ClassCastException" ({ cls := "java/lang/Throwable", name := "fillInStackTrace", desc := "(I)Ljava/lang/Throwable;" } : Jvm.MethodName) ({ cls := "java/lang/Throwable", name := "fillInStackTrace", desc := "(I)Ljava/lang/Throwable;" } : Jvm.MethodName)) ∈ lw_all := lw_g (lw_at lw_m8 53 rfl) rfl
theorem q2319 : (Jvm.Cond.castable "java/lang/ClassCastException" "java/lang/Object") ∈ lw_tbl := lw_at lw_m10 56 rfl
theorem in_J32 : ∀ w ∈ wsJ320, w ∈ lw_all := lw_in wsJ320 [1828, 1829, 1830, 1831, 1832, 1833] (by decide +kernel) (by decide +kernel)

/-! java/lang/Object -/
set_option maxRecDepth 100000
def RJ33 : String := "java/lang/Object"
abbrev cJ33_init : ByteArray := object_method_1_code
def yJ33_init : MethodName := ⟨RJ33, "<init>", "()V"⟩
theorem dJ33_init_0 : decode cJ33_init 0 = .ok (.return_, 1) := by decide +kernel
abbrev cJ33_equals : ByteArray := object_method_4_code
def yJ33_equals : MethodName := ⟨RJ33, "equals", "(Ljava/lang/Object;)Z"⟩
def dkwJ33_equals_0 : List UInt8 := [42, 43, 166, 0, 7, 4, 167, 0, 4, 3, 172]
abbrev dktJ33_equals_0 : List UInt8 := dkwJ33_equals_0 ++ []
theorem dksJ33_equals_0 : cJ33_equals.data.toList.drop 0 = dktJ33_equals_0 := by decide +kernel
theorem dJ33_equals_0 : decode cJ33_equals 0 = .ok (.aload_n 0, 1) := dk_42 (dk_at dksJ33_equals_0 0 rfl rfl)
theorem dJ33_equals_1 : decode cJ33_equals 1 = .ok (.aload_n 1, 1) := dk_43 (dk_at dksJ33_equals_0 1 rfl rfl)
theorem dJ33_equals_2 : decode cJ33_equals 2 = .ok (.if_acmp .ne 7, 3) := dk_166 0 7 (dk_at dksJ33_equals_0 2 rfl rfl)
theorem dJ33_equals_5 : decode cJ33_equals 5 = .ok (.iconst 1, 1) := dk_4 (dk_at dksJ33_equals_0 5 rfl rfl)
theorem dJ33_equals_6 : decode cJ33_equals 6 = .ok (.goto 4, 3) := dk_167 0 4 (dk_at dksJ33_equals_0 6 rfl rfl)
theorem dJ33_equals_9 : decode cJ33_equals 9 = .ok (.iconst 0, 1) := dk_3 (dk_at dksJ33_equals_0 9 rfl rfl)
theorem dJ33_equals_10 : decode cJ33_equals 10 = .ok (.ireturn, 1) := dk_172 (dk_at dksJ33_equals_0 10 rfl rfl)
theorem q177 : (Jvm.Cond.instanceMethod ({ cls := "java/lang/Object", name := "<init>", desc := "()V" } : Jvm.MethodName)) ∈ lw_all := lw_g (lw_at lw_m1 74 rfl) rfl
theorem q178 : (Jvm.Cond.code ({ cls := "java/lang/Object", name := "<init>", desc := "()V" } : Jvm.MethodName) object_method_1_code (1 : Nat) (Option.none : Option Jvm.ClassFile.FieldType)) ∈ lw_all := lw_g (lw_at lw_m1 75 rfl) rfl
theorem q792 : (Jvm.Cond.instanceMethod ({ cls := "java/lang/Object", name := "getClass", desc := "()Ljava/lang/Class;" } : Jvm.MethodName)) ∈ lw_all := lw_g (lw_at lw_m3 209 rfl) rfl
theorem q793 : (Jvm.Cond.sameMethod "java/lang/Object" "java/lang/Object" "getClass" "()Ljava/lang/Class;") ∈ lw_all := lw_g (lw_at lw_m3 210 rfl) rfl
theorem q818 : (Jvm.Cond.native ({ cls := "java/lang/Object", name := "getClass", desc := "()Ljava/lang/Class;" } : Jvm.MethodName)) ∈ lw_all := lw_g (lw_at lw_m3 235 rfl) rfl
theorem q1511 : (Jvm.Cond.declares ({ cls := "java/lang/Object", name := "equals", desc := "(Ljava/lang/Object;)Z" } : Jvm.MethodName)) ∈ lw_tbl := lw_at lw_m6 208 rfl
theorem q1513 : (Jvm.Cond.instanceMethod ({ cls := "java/lang/Object", name := "equals", desc := "(Ljava/lang/Object;)Z" } : Jvm.MethodName)) ∈ lw_all := lw_g (lw_at lw_m6 210 rfl) rfl
theorem q1514 : (Jvm.Cond.sameMethod "java/lang/Object" "java/lang/Object" "equals" "(Ljava/lang/Object;)Z") ∈ lw_all := lw_g (lw_at lw_m6 211 rfl) rfl
theorem q1537 : (Jvm.Cond.code ({ cls := "java/lang/Object", name := "equals", desc := "(Ljava/lang/Object;)Z" } : Jvm.MethodName) object_method_4_code (2 : Nat) (Option.some Jvm.ClassFile.FieldType.boolean)) ∈ lw_all := lw_g (lw_at lw_m6 234 rfl) rfl
theorem q2294 : (Jvm.Cond.initialized "java/lang/Object") ∈ lw_all := lw_g (lw_at lw_m10 31 rfl) rfl
theorem q2295 : (Jvm.Cond.selects "java/lang/Object" ({ cls := "java/lang/Object", name := "equals", desc := "(Ljava/lang/Object;)Z" } : Jvm.MethodName) ({ cls := "java/lang/Object", name := "equals", desc := "(Ljava/lang/Object;)Z" } : Jvm.MethodName)) ∈ lw_all := lw_g (lw_at lw_m10 32 rfl) rfl
theorem q2324 : (Jvm.Cond.declares ({ cls := "java/lang/Object", name := "getClass", desc := "()Ljava/lang/Class;" } : Jvm.MethodName)) ∈ lw_tbl := lw_at lw_m10 61 rfl
theorem q2338 : (Jvm.Cond.instantiable "java/lang/Object" (0 : Nat)) ∈ lw_all := lw_g (lw_at lw_m10 75 rfl) rfl

theorem q103 : (Jvm.Cond.initialized "LineDispatchLaw") ∈ lw_all := lw_g (lw_at lw_m1 0 rfl) rfl
set_option maxRecDepth 100000
theorem q151 : (Jvm.Cond.methodLink "LineDispatchLaw" (13 : Nat) ({ cls := "LineDispatch", name := "feed", desc := "(I)I" } : Jvm.MethodName)) ∈ lw_all := lw_g (lw_at lw_m1 48 rfl) rfl
theorem q159 : (Jvm.Cond.methodLink "LineDispatchLaw" (18 : Nat) ({ cls := "LineDispatch", name := "end", desc := "(I)I" } : Jvm.MethodName)) ∈ lw_all := lw_g (lw_at lw_m1 56 rfl) rfl
theorem q163 : (Jvm.Cond.methodLink "LineDispatchLaw" (22 : Nat) ({ cls := "LineDispatch", name := "text", desc := "()I" } : Jvm.MethodName)) ∈ lw_all := lw_g (lw_at lw_m1 60 rfl) rfl
theorem q557 : (Jvm.Cond.methodLink "LineDispatchLaw" (27 : Nat) ({ cls := "LineDispatch", name := "fault", desc := "()I" } : Jvm.MethodName)) ∈ lw_all := lw_g (lw_at lw_m2 214 rfl) rfl
theorem q561 : (Jvm.Cond.methodLink "LineDispatchLaw" (31 : Nat) ({ cls := "LineDispatch", name := "rule", desc := "(I)I" } : Jvm.MethodName)) ∈ lw_all := lw_g (lw_at lw_m2 218 rfl) rfl
theorem q637 : (Jvm.Cond.methodLink "LineDispatchLaw" (35 : Nat) ({ cls := "LineDispatch", name := "place", desc := "(II)I" } : Jvm.MethodName)) ∈ lw_all := lw_g (lw_at lw_m3 54 rfl) rfl
theorem q648 : (Jvm.Cond.methodLink "LineDispatchLaw" (40 : Nat) ({ cls := "LineDispatch", name := "train", desc := "(II)I" } : Jvm.MethodName)) ∈ lw_all := lw_g (lw_at lw_m3 65 rfl) rfl
theorem q661 : (Jvm.Cond.methodLink "LineDispatchLaw" (44 : Nat) ({ cls := "LineDispatch", name := "why", desc := "(I)I" } : Jvm.MethodName)) ∈ lw_all := lw_g (lw_at lw_m3 78 rfl) rfl
theorem q665 : (Jvm.Cond.methodLink "LineDispatchLaw" (48 : Nat) ({ cls := "LineDispatch", name := "who", desc := "(I)I" } : Jvm.MethodName)) ∈ lw_all := lw_g (lw_at lw_m3 82 rfl) rfl
theorem q688 : (Jvm.Cond.methodLink "LineDispatchLaw" (52 : Nat) ({ cls := "LineDispatch", name := "order", desc := "(I)I" } : Jvm.MethodName)) ∈ lw_all := lw_g (lw_at lw_m3 105 rfl) rfl
theorem q692 : (Jvm.Cond.methodLink "LineDispatchLaw" (56 : Nat) ({ cls := "LineDispatch", name := "reach", desc := "(I)I" } : Jvm.MethodName)) ∈ lw_all := lw_g (lw_at lw_m3 109 rfl) rfl
theorem q696 : (Jvm.Cond.methodLink "LineDispatchLaw" (60 : Nat) ({ cls := "LineDispatch", name := "plan", desc := "(II)I" } : Jvm.MethodName)) ∈ lw_all := lw_g (lw_at lw_m3 113 rfl) rfl
theorem q1034 : (Jvm.Cond.methodLink "LineDispatchLaw" (64 : Nat) ({ cls := "LineDispatch", name := "best", desc := "()I" } : Jvm.MethodName)) ∈ lw_all := lw_g (lw_at lw_m4 211 rfl) rfl
theorem q1039 : (Jvm.Cond.methodLink "LineDispatchLaw" (68 : Nat) ({ cls := "LineDispatch", name := "let", desc := "(I)I" } : Jvm.MethodName)) ∈ lw_all := lw_g (lw_at lw_m4 216 rfl) rfl
theorem q1240 : (Jvm.Cond.methodLink "LineDispatchLaw" (72 : Nat) ({ cls := "LineDispatch", name := "tick", desc := "(I)I" } : Jvm.MethodName)) ∈ lw_all := lw_g (lw_at lw_m5 177 rfl) rfl
theorem q1245 : (Jvm.Cond.methodLink "LineDispatchLaw" (76 : Nat) ({ cls := "LineDispatch", name := "send", desc := "(I)I" } : Jvm.MethodName)) ∈ lw_all := lw_g (lw_at lw_m5 182 rfl) rfl
theorem q1249 : (Jvm.Cond.methodLink "LineDispatchLaw" (80 : Nat) ({ cls := "LineDispatch", name := "journal", desc := "(II)I" } : Jvm.MethodName)) ∈ lw_all := lw_g (lw_at lw_m5 186 rfl) rfl
theorem q1382 : (Jvm.Cond.methodLink "LineDispatchLaw" (84 : Nat) ({ cls := "LineDispatch", name := "add", desc := "(III)I" } : Jvm.MethodName)) ∈ lw_all := lw_g (lw_at lw_m6 79 rfl) rfl
theorem q1393 : (Jvm.Cond.methodLink "LineDispatchLaw" (89 : Nat) ({ cls := "LineDispatch", name := "drop", desc := "(I)I" } : Jvm.MethodName)) ∈ lw_all := lw_g (lw_at lw_m6 90 rfl) rfl
theorem q1444 : (Jvm.Cond.methodLink "LineDispatchLaw" (93 : Nat) ({ cls := "LineDispatch", name := "draw", desc := "(II)I" } : Jvm.MethodName)) ∈ lw_all := lw_g (lw_at lw_m6 141 rfl) rfl
theorem q1450 : (Jvm.Cond.methodLink "LineDispatchLaw" (97 : Nat) ({ cls := "LineDispatch", name := "keep", desc := "(I)I" } : Jvm.MethodName)) ∈ lw_all := lw_g (lw_at lw_m6 147 rfl) rfl
theorem q1621 : (Jvm.Cond.methodLink "LineDispatchLaw" (101 : Nat) ({ cls := "LineDispatch", name := "back", desc := "(I)I" } : Jvm.MethodName)) ∈ lw_all := lw_g (lw_at lw_m7 78 rfl) rfl
theorem q1629 : (Jvm.Cond.classLink "LineDispatchLaw" (7 : Nat) "LineDispatch") ∈ lw_all := lw_g (lw_at lw_m7 86 rfl) rfl
theorem q1630 : (Jvm.Cond.methodLink "LineDispatchLaw" (9 : Nat) ({ cls := "LineDispatch", name := "<init>", desc := "()V" } : Jvm.MethodName)) ∈ lw_all := lw_g (lw_at lw_m7 87 rfl) rfl
theorem q1750 : (Jvm.Cond.methodLink "LineDispatchLaw" (105 : Nat) ({ cls := "LineDispatch", name := "sheet", desc := "(III)I" } : Jvm.MethodName)) ∈ lw_all := lw_g (lw_at lw_m7 207 rfl) rfl
theorem q1786 : (Jvm.Cond.methodLink "LineDispatchLaw" (109 : Nat) ({ cls := "LineDispatch", name := "lay", desc := "(III)I" } : Jvm.MethodName)) ∈ lw_all := lw_g (lw_at lw_m8 3 rfl) rfl
theorem q1814 : (Jvm.Cond.methodLink "LineDispatchLaw" (113 : Nat) ({ cls := "LineDispatch", name := "read", desc := "(IIII)I" } : Jvm.MethodName)) ∈ lw_all := lw_g (lw_at lw_m8 31 rfl) rfl
theorem q1840 : (Jvm.Cond.methodLink "LineDispatchLaw" (118 : Nat) ({ cls := "LineDispatch", name := "torn", desc := "()I" } : Jvm.MethodName)) ∈ lw_all := lw_g (lw_at lw_m8 57 rfl) rfl
theorem q1844 : (Jvm.Cond.methodLink "LineDispatchLaw" (122 : Nat) ({ cls := "LineDispatch", name := "count", desc := "(I)I" } : Jvm.MethodName)) ∈ lw_all := lw_g (lw_at lw_m8 61 rfl) rfl
theorem q1856 : (Jvm.Cond.classLink "LineDispatchLaw" (10 : Nat) "LineDispatchModel") ∈ lw_all := lw_g (lw_at lw_m8 73 rfl) rfl
theorem q1858 : (Jvm.Cond.methodLink "LineDispatchLaw" (12 : Nat) ({ cls := "LineDispatchModel", name := "<init>", desc := "()V" } : Jvm.MethodName)) ∈ lw_all := lw_g (lw_at lw_m8 75 rfl) rfl
theorem q1935 : (Jvm.Cond.methodLink "LineDispatchLaw" (17 : Nat) ({ cls := "LineDispatchModel", name := "feed", desc := "(I)I" } : Jvm.MethodName)) ∈ lw_all := lw_g (lw_at lw_m8 152 rfl) rfl
theorem q1943 : (Jvm.Cond.methodLink "LineDispatchLaw" (21 : Nat) ({ cls := "LineDispatchModel", name := "end", desc := "(I)I" } : Jvm.MethodName)) ∈ lw_all := lw_g (lw_at lw_m8 160 rfl) rfl
theorem q1947 : (Jvm.Cond.methodLink "LineDispatchLaw" (26 : Nat) ({ cls := "LineDispatchModel", name := "text", desc := "()I" } : Jvm.MethodName)) ∈ lw_all := lw_g (lw_at lw_m8 164 rfl) rfl
theorem q2069 : (Jvm.Cond.methodLink "LineDispatchLaw" (30 : Nat) ({ cls := "LineDispatchModel", name := "fault", desc := "()I" } : Jvm.MethodName)) ∈ lw_all := lw_g (lw_at lw_m9 46 rfl) rfl
theorem q2073 : (Jvm.Cond.methodLink "LineDispatchLaw" (34 : Nat) ({ cls := "LineDispatchModel", name := "rule", desc := "(I)I" } : Jvm.MethodName)) ∈ lw_all := lw_g (lw_at lw_m9 50 rfl) rfl
theorem q2113 : (Jvm.Cond.methodLink "LineDispatchLaw" (39 : Nat) ({ cls := "LineDispatchModel", name := "place", desc := "(II)I" } : Jvm.MethodName)) ∈ lw_all := lw_g (lw_at lw_m9 90 rfl) rfl
theorem q2129 : (Jvm.Cond.methodLink "LineDispatchLaw" (43 : Nat) ({ cls := "LineDispatchModel", name := "train", desc := "(II)I" } : Jvm.MethodName)) ∈ lw_all := lw_g (lw_at lw_m9 106 rfl) rfl
theorem q2145 : (Jvm.Cond.methodLink "LineDispatchLaw" (47 : Nat) ({ cls := "LineDispatchModel", name := "why", desc := "(I)I" } : Jvm.MethodName)) ∈ lw_all := lw_g (lw_at lw_m9 122 rfl) rfl
theorem q2149 : (Jvm.Cond.methodLink "LineDispatchLaw" (51 : Nat) ({ cls := "LineDispatchModel", name := "who", desc := "(I)I" } : Jvm.MethodName)) ∈ lw_all := lw_g (lw_at lw_m9 126 rfl) rfl
theorem q2165 : (Jvm.Cond.methodLink "LineDispatchLaw" (55 : Nat) ({ cls := "LineDispatchModel", name := "order", desc := "(I)I" } : Jvm.MethodName)) ∈ lw_all := lw_g (lw_at lw_m9 142 rfl) rfl
theorem q2169 : (Jvm.Cond.methodLink "LineDispatchLaw" (59 : Nat) ({ cls := "LineDispatchModel", name := "reach", desc := "(I)I" } : Jvm.MethodName)) ∈ lw_all := lw_g (lw_at lw_m9 146 rfl) rfl
theorem q2173 : (Jvm.Cond.methodLink "LineDispatchLaw" (63 : Nat) ({ cls := "LineDispatchModel", name := "plan", desc := "(II)I" } : Jvm.MethodName)) ∈ lw_all := lw_g (lw_at lw_m9 150 rfl) rfl
theorem q2210 : (Jvm.Cond.methodLink "LineDispatchLaw" (67 : Nat) ({ cls := "LineDispatchModel", name := "best", desc := "()I" } : Jvm.MethodName)) ∈ lw_all := lw_g (lw_at lw_m9 187 rfl) rfl
theorem q2214 : (Jvm.Cond.methodLink "LineDispatchLaw" (71 : Nat) ({ cls := "LineDispatchModel", name := "let", desc := "(I)I" } : Jvm.MethodName)) ∈ lw_all := lw_g (lw_at lw_m9 191 rfl) rfl
theorem q2218 : (Jvm.Cond.methodLink "LineDispatchLaw" (75 : Nat) ({ cls := "LineDispatchModel", name := "tick", desc := "(I)I" } : Jvm.MethodName)) ∈ lw_all := lw_g (lw_at lw_m9 195 rfl) rfl
theorem q2223 : (Jvm.Cond.methodLink "LineDispatchLaw" (79 : Nat) ({ cls := "LineDispatchModel", name := "send", desc := "(I)I" } : Jvm.MethodName)) ∈ lw_all := lw_g (lw_at lw_m9 200 rfl) rfl
theorem q2227 : (Jvm.Cond.methodLink "LineDispatchLaw" (83 : Nat) ({ cls := "LineDispatchModel", name := "journal", desc := "(II)I" } : Jvm.MethodName)) ∈ lw_all := lw_g (lw_at lw_m9 204 rfl) rfl
theorem q2231 : (Jvm.Cond.methodLink "LineDispatchLaw" (88 : Nat) ({ cls := "LineDispatchModel", name := "add", desc := "(III)I" } : Jvm.MethodName)) ∈ lw_all := lw_g (lw_at lw_m9 208 rfl) rfl
theorem q2240 : (Jvm.Cond.methodLink "LineDispatchLaw" (92 : Nat) ({ cls := "LineDispatchModel", name := "drop", desc := "(I)I" } : Jvm.MethodName)) ∈ lw_all := lw_g (lw_at lw_m9 217 rfl) rfl
theorem q2248 : (Jvm.Cond.methodLink "LineDispatchLaw" (96 : Nat) ({ cls := "LineDispatchModel", name := "draw", desc := "(II)I" } : Jvm.MethodName)) ∈ lw_all := lw_g (lw_at lw_m9 225 rfl) rfl
theorem q2255 : (Jvm.Cond.methodLink "LineDispatchLaw" (100 : Nat) ({ cls := "LineDispatchModel", name := "keep", desc := "(I)I" } : Jvm.MethodName)) ∈ lw_all := lw_g (lw_at lw_m9 232 rfl) rfl
theorem q2259 : (Jvm.Cond.methodLink "LineDispatchLaw" (104 : Nat) ({ cls := "LineDispatchModel", name := "back", desc := "(I)I" } : Jvm.MethodName)) ∈ lw_all := lw_g (lw_at lw_m9 236 rfl) rfl
theorem q2263 : (Jvm.Cond.methodLink "LineDispatchLaw" (108 : Nat) ({ cls := "LineDispatchModel", name := "sheet", desc := "(III)I" } : Jvm.MethodName)) ∈ lw_all := lw_g (lw_at lw_m10 0 rfl) rfl
theorem q2271 : (Jvm.Cond.methodLink "LineDispatchLaw" (112 : Nat) ({ cls := "LineDispatchModel", name := "lay", desc := "(III)I" } : Jvm.MethodName)) ∈ lw_all := lw_g (lw_at lw_m10 8 rfl) rfl
theorem q2275 : (Jvm.Cond.methodLink "LineDispatchLaw" (117 : Nat) ({ cls := "LineDispatchModel", name := "read", desc := "(IIII)I" } : Jvm.MethodName)) ∈ lw_all := lw_g (lw_at lw_m10 12 rfl) rfl
theorem q2280 : (Jvm.Cond.methodLink "LineDispatchLaw" (121 : Nat) ({ cls := "LineDispatchModel", name := "torn", desc := "()I" } : Jvm.MethodName)) ∈ lw_all := lw_g (lw_at lw_m10 17 rfl) rfl
theorem q2284 : (Jvm.Cond.methodLink "LineDispatchLaw" (125 : Nat) ({ cls := "LineDispatchModel", name := "count", desc := "(I)I" } : Jvm.MethodName)) ∈ lw_all := lw_g (lw_at lw_m10 21 rfl) rfl

theorem q575 : (Jvm.Cond.interfaceMethod "LineDispatch$Before" "LineDispatch$Before" "is" "(II)Z") ∈ lw_tbl := lw_at lw_m2 232 rfl
set_option maxRecDepth 100000
theorem q576 : (Jvm.Cond.declares ({ cls := "LineDispatch$Before", name := "is", desc := "(II)Z" } : Jvm.MethodName)) ∈ lw_tbl := lw_at lw_m2 233 rfl

theorem q2326 : (Jvm.Cond.castable "[B" "java/lang/Object") ∈ lw_tbl := lw_at lw_m10 63 rfl
set_option maxRecDepth 100000

theorem q2327 : (Jvm.Cond.castable "[I" "java/lang/Object") ∈ lw_tbl := lw_at lw_m10 64 rfl
set_option maxRecDepth 100000

theorem q2330 : (Jvm.Cond.castable "[LLineDispatch$Image;" "java/lang/Object") ∈ lw_tbl := lw_at lw_m10 67 rfl
set_option maxRecDepth 100000

theorem q2331 : (Jvm.Cond.castable "[LLineDispatch$Sheet;" "java/lang/Object") ∈ lw_tbl := lw_at lw_m10 68 rfl
set_option maxRecDepth 100000

theorem q2322 : (Jvm.Cond.sameMethod "[Ljava/lang/Object;" "java/lang/Object" "getClass" "()Ljava/lang/Class;") ∈ lw_all := lw_g (lw_at lw_m10 59 rfl) rfl
set_option maxRecDepth 100000
theorem q2323 : (Jvm.Cond.selects "[Ljava/lang/Object;" ({ cls := "java/lang/Object", name := "getClass", desc := "()Ljava/lang/Class;" } : Jvm.MethodName) ({ cls := "java/lang/Object", name := "getClass", desc := "()Ljava/lang/Class;" } : Jvm.MethodName)) ∈ lw_all := lw_g (lw_at lw_m10 60 rfl) rfl
theorem q2329 : (Jvm.Cond.castable "[Ljava/lang/Object;" "java/lang/Object") ∈ lw_tbl := lw_at lw_m10 66 rfl

theorem q2332 : (Jvm.Cond.castable "[S" "java/lang/Object") ∈ lw_tbl := lw_at lw_m10 69 rfl
set_option maxRecDepth 100000

theorem q2328 : (Jvm.Cond.castable "[Z" "java/lang/Object") ∈ lw_tbl := lw_at lw_m10 65 rfl
set_option maxRecDepth 100000

theorem q2325 : (Jvm.Cond.castable "[[I" "java/lang/Object") ∈ lw_tbl := lw_at lw_m10 62 rfl
set_option maxRecDepth 100000

theorem q858 : (Jvm.Cond.interfaceMethod "java/lang/Comparable" "java/lang/Comparable" "compareTo" "(Ljava/lang/Object;)I") ∈ lw_tbl := lw_at lw_m4 35 rfl
set_option maxRecDepth 100000
theorem q859 : (Jvm.Cond.declares ({ cls := "java/lang/Comparable", name := "compareTo", desc := "(Ljava/lang/Object;)I" } : Jvm.MethodName)) ∈ lw_tbl := lw_at lw_m4 36 rfl

theorem q1545 : (Jvm.Cond.publicMethod ({ cls := "java/lang/Iterable", name := "iterator", desc := "()Ljava/util/Iterator;" } : Jvm.MethodName)) ∈ lw_tbl := lw_at lw_m7 2 rfl
set_option maxRecDepth 100000
theorem q1546 : (Jvm.Cond.declares ({ cls := "java/lang/Iterable", name := "iterator", desc := "()Ljava/util/Iterator;" } : Jvm.MethodName)) ∈ lw_tbl := lw_at lw_m7 3 rfl

theorem q133 : (Jvm.Cond.initialized "java/lang/Number") ∈ lw_all := lw_g (lw_at lw_m1 30 rfl) rfl
set_option maxRecDepth 100000

theorem q118 : (Jvm.Cond.initialized "java/lang/System") ∈ lw_all := lw_g (lw_at lw_m1 15 rfl) rfl
set_option maxRecDepth 100000
theorem q169 : (Jvm.Cond.static ({ cls := "java/lang/System", name := "arraycopy", desc := "(Ljava/lang/Object;ILjava/lang/Object;II)V" } : Jvm.MethodName)) ∈ lw_all := lw_g (lw_at lw_m1 66 rfl) rfl
theorem q170 : (Jvm.Cond.native ({ cls := "java/lang/System", name := "arraycopy", desc := "(Ljava/lang/Object;ILjava/lang/Object;II)V" } : Jvm.MethodName)) ∈ lw_all := lw_g (lw_at lw_m1 67 rfl) rfl

theorem q1464 : (Jvm.Cond.interfaceMethod "java/util/Collection" "java/util/Collection" "size" "()I") ∈ lw_tbl := lw_at lw_m6 161 rfl
set_option maxRecDepth 100000
theorem q1465 : (Jvm.Cond.declares ({ cls := "java/util/Collection", name := "size", desc := "()I" } : Jvm.MethodName)) ∈ lw_tbl := lw_at lw_m6 162 rfl
theorem q1543 : (Jvm.Cond.publicMethod ({ cls := "java/util/Collection", name := "size", desc := "()I" } : Jvm.MethodName)) ∈ lw_tbl := lw_at lw_m7 0 rfl
theorem q1576 : (Jvm.Cond.interfaceMethod "java/util/Collection" "java/util/Collection" "iterator" "()Ljava/util/Iterator;") ∈ lw_tbl := lw_at lw_m7 33 rfl
theorem q1577 : (Jvm.Cond.declares ({ cls := "java/util/Collection", name := "iterator", desc := "()Ljava/util/Iterator;" } : Jvm.MethodName)) ∈ lw_tbl := lw_at lw_m7 34 rfl

theorem q836 : (Jvm.Cond.interfaceMethod "java/util/Comparator" "java/util/Comparator" "compare" "(Ljava/lang/Object;Ljava/lang/Object;)I") ∈ lw_tbl := lw_at lw_m4 13 rfl
set_option maxRecDepth 100000
theorem q837 : (Jvm.Cond.declares ({ cls := "java/util/Comparator", name := "compare", desc := "(Ljava/lang/Object;Ljava/lang/Object;)I" } : Jvm.MethodName)) ∈ lw_tbl := lw_at lw_m4 14 rfl

theorem q1329 : (Jvm.Cond.interfaceMethod "java/util/Iterator" "java/util/Iterator" "hasNext" "()Z") ∈ lw_tbl := lw_at lw_m6 26 rfl
set_option maxRecDepth 100000
theorem q1330 : (Jvm.Cond.declares ({ cls := "java/util/Iterator", name := "hasNext", desc := "()Z" } : Jvm.MethodName)) ∈ lw_tbl := lw_at lw_m6 27 rfl
theorem q1349 : (Jvm.Cond.interfaceMethod "java/util/Iterator" "java/util/Iterator" "next" "()Ljava/lang/Object;") ∈ lw_tbl := lw_at lw_m6 46 rfl
theorem q1350 : (Jvm.Cond.declares ({ cls := "java/util/Iterator", name := "next", desc := "()Ljava/lang/Object;" } : Jvm.MethodName)) ∈ lw_tbl := lw_at lw_m6 47 rfl

theorem q549 : (Jvm.Cond.publicMethod ({ cls := "java/util/Map", name := "clear", desc := "()V" } : Jvm.MethodName)) ∈ lw_tbl := lw_at lw_m2 206 rfl
set_option maxRecDepth 100000
theorem q550 : (Jvm.Cond.declares ({ cls := "java/util/Map", name := "clear", desc := "()V" } : Jvm.MethodName)) ∈ lw_tbl := lw_at lw_m2 207 rfl
theorem q589 : (Jvm.Cond.publicMethod ({ cls := "java/util/Map", name := "size", desc := "()I" } : Jvm.MethodName)) ∈ lw_tbl := lw_at lw_m3 6 rfl
theorem q590 : (Jvm.Cond.declares ({ cls := "java/util/Map", name := "size", desc := "()I" } : Jvm.MethodName)) ∈ lw_tbl := lw_at lw_m3 7 rfl
theorem q1073 : (Jvm.Cond.publicMethod ({ cls := "java/util/Map", name := "put", desc := "(Ljava/lang/Object;Ljava/lang/Object;)Ljava/lang/Object;" } : Jvm.MethodName)) ∈ lw_tbl := lw_at lw_m5 10 rfl
theorem q1074 : (Jvm.Cond.declares ({ cls := "java/util/Map", name := "put", desc := "(Ljava/lang/Object;Ljava/lang/Object;)Ljava/lang/Object;" } : Jvm.MethodName)) ∈ lw_tbl := lw_at lw_m5 11 rfl

theorem q1192 : (Jvm.Cond.interfaceMethod "java/util/Map$Entry" "java/util/Map$Entry" "getKey" "()Ljava/lang/Object;") ∈ lw_tbl := lw_at lw_m5 129 rfl
set_option maxRecDepth 100000
theorem q1193 : (Jvm.Cond.declares ({ cls := "java/util/Map$Entry", name := "getKey", desc := "()Ljava/lang/Object;" } : Jvm.MethodName)) ∈ lw_tbl := lw_at lw_m5 130 rfl
theorem q1208 : (Jvm.Cond.interfaceMethod "java/util/Map$Entry" "java/util/Map$Entry" "getValue" "()Ljava/lang/Object;") ∈ lw_tbl := lw_at lw_m5 145 rfl
theorem q1209 : (Jvm.Cond.declares ({ cls := "java/util/Map$Entry", name := "getValue", desc := "()Ljava/lang/Object;" } : Jvm.MethodName)) ∈ lw_tbl := lw_at lw_m5 146 rfl

theorem q1170 : (Jvm.Cond.interfaceMethod "java/util/NavigableMap" "java/util/NavigableMap" "pollFirstEntry" "()Ljava/util/Map$Entry;") ∈ lw_tbl := lw_at lw_m5 107 rfl
set_option maxRecDepth 100000
theorem q1171 : (Jvm.Cond.declares ({ cls := "java/util/NavigableMap", name := "pollFirstEntry", desc := "()Ljava/util/Map$Entry;" } : Jvm.MethodName)) ∈ lw_tbl := lw_at lw_m5 108 rfl
theorem q1259 : (Jvm.Cond.interfaceMethod "java/util/NavigableMap" "java/util/NavigableMap" "navigableKeySet" "()Ljava/util/NavigableSet;") ∈ lw_tbl := lw_at lw_m5 196 rfl
theorem q1260 : (Jvm.Cond.declares ({ cls := "java/util/NavigableMap", name := "navigableKeySet", desc := "()Ljava/util/NavigableSet;" } : Jvm.MethodName)) ∈ lw_tbl := lw_at lw_m5 197 rfl

theorem q1284 : (Jvm.Cond.interfaceMethod "java/util/NavigableSet" "java/util/NavigableSet" "iterator" "()Ljava/util/Iterator;") ∈ lw_tbl := lw_at lw_m5 221 rfl
set_option maxRecDepth 100000
theorem q1285 : (Jvm.Cond.declares ({ cls := "java/util/NavigableSet", name := "iterator", desc := "()Ljava/util/Iterator;" } : Jvm.MethodName)) ∈ lw_tbl := lw_at lw_m5 222 rfl

theorem q1493 : (Jvm.Cond.publicMethod ({ cls := "java/util/SortedMap", name := "comparator", desc := "()Ljava/util/Comparator;" } : Jvm.MethodName)) ∈ lw_tbl := lw_at lw_m6 190 rfl
set_option maxRecDepth 100000
theorem q1494 : (Jvm.Cond.declares ({ cls := "java/util/SortedMap", name := "comparator", desc := "()Ljava/util/Comparator;" } : Jvm.MethodName)) ∈ lw_tbl := lw_at lw_m6 191 rfl

theorem q1484 : (Jvm.Cond.interfaceMethod "java/util/SortedSet" "java/util/SortedSet" "comparator" "()Ljava/util/Comparator;") ∈ lw_tbl := lw_at lw_m6 181 rfl
set_option maxRecDepth 100000
theorem q1485 : (Jvm.Cond.declares ({ cls := "java/util/SortedSet", name := "comparator", desc := "()Ljava/util/Comparator;" } : Jvm.MethodName)) ∈ lw_tbl := lw_at lw_m6 182 rfl

theorem q1321 : (Jvm.Cond.declares ({ cls := "java/util/TreeMap$NavigableSubMap", name := "keyIterator", desc := "()Ljava/util/Iterator;" } : Jvm.MethodName)) ∈ lw_tbl := lw_at lw_m6 18 rfl
set_option maxRecDepth 100000
theorem q1322 : (Jvm.Cond.selects "java/util/TreeMap$NavigableSubMap" ({ cls := "java/util/TreeMap$NavigableSubMap", name := "keyIterator", desc := "()Ljava/util/Iterator;" } : Jvm.MethodName) ({ cls := "java/util/TreeMap$NavigableSubMap", name := "keyIterator", desc := "()Ljava/util/Iterator;" } : Jvm.MethodName)) ∈ lw_all := lw_g (lw_at lw_m6 19 rfl) rfl

theorem q136 : (Jvm.Cond.initialized "jdk/internal/misc/UnsafeConstants") ∈ lw_all := lw_g (lw_at lw_m1 33 rfl) rfl
set_option maxRecDepth 100000
theorem q930 : (Jvm.Cond.laysStatic "jdk/internal/misc/UnsafeConstants" "BIG_ENDIAN" "Z") ∈ lw_tbl := lw_at lw_m4 107 rfl

theorem q186 : (Jvm.Cond.arrayOver (Jvm.ClassFile.FieldType.array Jvm.ClassFile.FieldType.int)) ∈ lw_tbl := lw_at lw_m1 83 rfl
set_option maxRecDepth 100000
theorem q247 : (Jvm.Cond.arrayClass Jvm.ClassFile.FieldType.byte) ∈ lw_all := lw_g (lw_at lw_m1 144 rfl) rfl
theorem q248 : (Jvm.Cond.arrayClass Jvm.ClassFile.FieldType.int) ∈ lw_all := lw_g (lw_at lw_m1 145 rfl) rfl
theorem q249 : (Jvm.Cond.arrayClass Jvm.ClassFile.FieldType.boolean) ∈ lw_all := lw_g (lw_at lw_m1 146 rfl) rfl
theorem q823 : (Jvm.Cond.arrayOver (Jvm.ClassFile.FieldType.object "java/lang/Object")) ∈ lw_tbl := lw_at lw_m4 0 rfl
theorem q1671 : (Jvm.Cond.arrayOver (Jvm.ClassFile.FieldType.object "LineDispatch$Image")) ∈ lw_tbl := lw_at lw_m7 128 rfl
theorem q1694 : (Jvm.Cond.arrayOver (Jvm.ClassFile.FieldType.object "LineDispatch$Sheet")) ∈ lw_tbl := lw_at lw_m7 151 rfl
theorem q1785 : (Jvm.Cond.arrayClass Jvm.ClassFile.FieldType.short) ∈ lw_all := lw_g (lw_at lw_m8 2 rfl) rfl
