set_option maxRecDepth 100000
theorem q1184 : (Jvm.Cond.interfaceMethod "MinistryDesks$Node" "MinistryDesks$Node" "value" "(LMinistryDesks$Scene;)J") ∈ lw_tbl := lw_at lw_m5 64 rfl
theorem q1185 : (Jvm.Cond.declares ({ cls := "MinistryDesks$Node", name := "value", desc := "(LMinistryDesks$Scene;)J" } : Jvm.MethodName)) ∈ lw_tbl := lw_at lw_m5 65 rfl
theorem q2432 : (Jvm.Cond.castable "[B" "java/lang/Object") ∈ lw_tbl := lw_at lw_m10 112 rfl
theorem q2434 : (Jvm.Cond.castable "[I" "java/lang/Object") ∈ lw_tbl := lw_at lw_m10 114 rfl
theorem q2433 : (Jvm.Cond.castable "[J" "java/lang/Object") ∈ lw_tbl := lw_at lw_m10 113 rfl
theorem q2429 : (Jvm.Cond.sameMethod "[Ljava/lang/Object;" "java/lang/Object" "getClass" "()Ljava/lang/Class;") ∈ lw_all := lw_g (lw_at lw_m10 109 rfl) rfl
theorem q2430 : (Jvm.Cond.selects "[Ljava/lang/Object;" ({ cls := "java/lang/Object", name := "getClass", desc := "()Ljava/lang/Class;" } : Jvm.MethodName) ({ cls := "java/lang/Object", name := "getClass", desc := "()Ljava/lang/Class;" } : Jvm.MethodName)) ∈ lw_all := lw_g (lw_at lw_m10 110 rfl) rfl
theorem q2436 : (Jvm.Cond.castable "[Ljava/lang/Object;" "java/lang/Object") ∈ lw_tbl := lw_at lw_m10 116 rfl
theorem q2435 : (Jvm.Cond.castable "[Z" "java/lang/Object") ∈ lw_tbl := lw_at lw_m10 115 rfl
theorem q184 : (Jvm.Cond.initialized "java/lang/System") ∈ lw_all := lw_g (lw_at lw_m1 24 rfl) rfl
theorem q929 : (Jvm.Cond.static ({ cls := "java/lang/System", name := "arraycopy", desc := "(Ljava/lang/Object;ILjava/lang/Object;II)V" } : Jvm.MethodName)) ∈ lw_all := lw_g (lw_at lw_m4 49 rfl) rfl
theorem q930 : (Jvm.Cond.native ({ cls := "java/lang/System", name := "arraycopy", desc := "(Ljava/lang/Object;ILjava/lang/Object;II)V" } : Jvm.MethodName)) ∈ lw_all := lw_g (lw_at lw_m4 50 rfl) rfl
theorem q243 : (Jvm.Cond.arrayClass Jvm.ClassFile.FieldType.byte) ∈ lw_all := lw_g (lw_at lw_m1 83 rfl) rfl
theorem q319 : (Jvm.Cond.arrayClass Jvm.ClassFile.FieldType.long) ∈ lw_all := lw_g (lw_at lw_m1 159 rfl) rfl
theorem q433 : (Jvm.Cond.arrayClass Jvm.ClassFile.FieldType.int) ∈ lw_all := lw_g (lw_at lw_m2 33 rfl) rfl
theorem q434 : (Jvm.Cond.arrayClass Jvm.ClassFile.FieldType.boolean) ∈ lw_all := lw_g (lw_at lw_m2 34 rfl) rfl
theorem q925 : (Jvm.Cond.arrayOver (Jvm.ClassFile.FieldType.object "java/lang/Object")) ∈ lw_tbl := lw_at lw_m4 45 rfl
abbrev cJ0_init : ByteArray := prog_40_method_1_code
def yJ0_init : MethodName := ⟨RJ0, "<init>", "()V"⟩
theorem dJ0_init_0 : decode cJ0_init 0 = .ok (.aload_n 0, 1) := by decide +kernel
theorem dJ0_init_1 : decode cJ0_init 1 = .ok (.invokespecial 1, 3) := by decide +kernel
theorem dJ0_init_4 : decode cJ0_init 4 = .ok (.return_, 1) := by decide +kernel
theorem q163 : (Jvm.Cond.initialized "java/util/AbstractCollection") ∈ lw_all := lw_g (lw_at lw_m1 3 rfl) rfl
theorem q226 : (Jvm.Cond.instanceMethod ({ cls := "java/util/AbstractCollection", name := "<init>", desc := "()V" } : Jvm.MethodName)) ∈ lw_all := lw_g (lw_at lw_m1 66 rfl) rfl
theorem q227 : (Jvm.Cond.code ({ cls := "java/util/AbstractCollection", name := "<init>", desc := "()V" } : Jvm.MethodName) prog_40_method_1_code (1 : Nat) (Option.none : Option Jvm.ClassFile.FieldType)) ∈ lw_all := lw_g (lw_at lw_m1 67 rfl) rfl
theorem q228 : (Jvm.Cond.methodLink "java/util/AbstractCollection" (1 : Nat) ({ cls := "java/lang/Object", name := "<init>", desc := "()V" } : Jvm.MethodName)) ∈ lw_all := lw_g (lw_at lw_m1 68 rfl) rfl

abbrev cJ1_init : ByteArray := prog_41_method_1_code
def yJ1_init : MethodName := ⟨RJ1, "<init>", "()V"⟩
def dkwJ1_init_0 : List UInt8 := [42, 183, 0, 1, 42, 3, 181, 0, 7, 177]
abbrev dktJ1_init_0 : List UInt8 := dkwJ1_init_0 ++ []
theorem dksJ1_init_0 : cJ1_init.data.toList.drop 0 = dktJ1_init_0 := by decide +kernel
theorem dJ1_init_0 : decode cJ1_init 0 = .ok (.aload_n 0, 1) := dk_42 (dk_at dksJ1_init_0 0 rfl rfl)
theorem dJ1_init_1 : decode cJ1_init 1 = .ok (.invokespecial 1, 3) := dk_183 0 1 (dk_at dksJ1_init_0 1 rfl rfl)
theorem dJ1_init_4 : decode cJ1_init 4 = .ok (.aload_n 0, 1) := dk_42 (dk_at dksJ1_init_0 4 rfl rfl)
theorem dJ1_init_5 : decode cJ1_init 5 = .ok (.iconst 0, 1) := dk_3 (dk_at dksJ1_init_0 5 rfl rfl)
theorem dJ1_init_6 : decode cJ1_init 6 = .ok (.putfield 7, 3) := dk_181 0 7 (dk_at dksJ1_init_0 6 rfl rfl)
theorem dJ1_init_9 : decode cJ1_init 9 = .ok (.return_, 1) := dk_177 (dk_at dksJ1_init_0 9 rfl rfl)
theorem q164 : (Jvm.Cond.initialized "java/util/AbstractList") ∈ lw_all := lw_g (lw_at lw_m1 4 rfl) rfl
theorem q223 : (Jvm.Cond.instanceMethod ({ cls := "java/util/AbstractList", name := "<init>", desc := "()V" } : Jvm.MethodName)) ∈ lw_all := lw_g (lw_at lw_m1 63 rfl) rfl
theorem q224 : (Jvm.Cond.code ({ cls := "java/util/AbstractList", name := "<init>", desc := "()V" } : Jvm.MethodName) prog_41_method_1_code (1 : Nat) (Option.none : Option Jvm.ClassFile.FieldType)) ∈ lw_all := lw_g (lw_at lw_m1 64 rfl) rfl
theorem q225 : (Jvm.Cond.methodLink "java/util/AbstractList" (1 : Nat) ({ cls := "java/util/AbstractCollection", name := "<init>", desc := "()V" } : Jvm.MethodName)) ∈ lw_all := lw_g (lw_at lw_m1 65 rfl) rfl
theorem q233 : (Jvm.Cond.fieldLink "java/util/AbstractList" (7 : Nat) "java/util/AbstractList" "modCount" "I") ∈ lw_all := lw_g (lw_at lw_m1 73 rfl) rfl
theorem q241 : (Jvm.Cond.soleField "java/util/AbstractList" "modCount") ∈ lw_all := lw_g (lw_at lw_m1 81 rfl) rfl

abbrev cJ10_init : ByteArray := prog_28_method_5_code
def yJ10_init : MethodName := ⟨RJ10, "<init>", "(Ljava/lang/String;Ljava/lang/Throwable;ZZ)V"⟩
def dkwJ10_init_0 : List UInt8 := [42, 43, 44, 29, 21, 4, 183, 0, 16, 177]
abbrev dktJ10_init_0 : List UInt8 := dkwJ10_init_0 ++ []
theorem dksJ10_init_0 : cJ10_init.data.toList.drop 0 = dktJ10_init_0 := by decide +kernel
theorem dJ10_init_0 : decode cJ10_init 0 = .ok (.aload_n 0, 1) := dk_42 (dk_at dksJ10_init_0 0 rfl rfl)
theorem dJ10_init_1 : decode cJ10_init 1 = .ok (.aload_n 1, 1) := dk_43 (dk_at dksJ10_init_0 1 rfl rfl)
theorem dJ10_init_2 : decode cJ10_init 2 = .ok (.aload_n 2, 1) := dk_44 (dk_at dksJ10_init_0 2 rfl rfl)
theorem dJ10_init_3 : decode cJ10_init 3 = .ok (.iload_n 3, 1) := dk_29 (dk_at dksJ10_init_0 3 rfl rfl)
theorem dJ10_init_4 : decode cJ10_init 4 = .ok (.iload 4, 2) := dk_21 4 (dk_at dksJ10_init_0 4 rfl rfl)
theorem dJ10_init_6 : decode cJ10_init 6 = .ok (.invokespecial 16, 3) := dk_183 0 16 (dk_at dksJ10_init_0 6 rfl rfl)
theorem dJ10_init_9 : decode cJ10_init 9 = .ok (.return_, 1) := dk_177 (dk_at dksJ10_init_0 9 rfl rfl)
abbrev cJ10_init_2 : ByteArray := prog_28_method_2_code
def yJ10_init_2 : MethodName := ⟨RJ10, "<init>", "(Ljava/lang/String;)V"⟩
def dkwJ10_init_2_0 : List UInt8 := [42, 43, 183, 0, 7, 177]
abbrev dktJ10_init_2_0 : List UInt8 := dkwJ10_init_2_0 ++ []
theorem dksJ10_init_2_0 : cJ10_init_2.data.toList.drop 0 = dktJ10_init_2_0 := by decide +kernel
theorem dJ10_init_2_0 : decode cJ10_init_2 0 = .ok (.aload_n 0, 1) := dk_42 (dk_at dksJ10_init_2_0 0 rfl rfl)
theorem dJ10_init_2_1 : decode cJ10_init_2 1 = .ok (.aload_n 1, 1) := dk_43 (dk_at dksJ10_init_2_0 1 rfl rfl)
theorem dJ10_init_2_2 : decode cJ10_init_2 2 = .ok (.invokespecial 7, 3) := dk_183 0 7 (dk_at dksJ10_init_2_0 2 rfl rfl)
theorem dJ10_init_2_5 : decode cJ10_init_2 5 = .ok (.return_, 1) := dk_177 (dk_at dksJ10_init_2_0 5 rfl rfl)
abbrev cJ10_init_3 : ByteArray := prog_28_method_1_code
def yJ10_init_3 : MethodName := ⟨RJ10, "<init>", "()V"⟩
theorem dJ10_init_3_0 : decode cJ10_init_3 0 = .ok (.aload_n 0, 1) := by decide +kernel
theorem dJ10_init_3_1 : decode cJ10_init_3 1 = .ok (.invokespecial 1, 3) := by decide +kernel
theorem dJ10_init_3_4 : decode cJ10_init_3 4 = .ok (.return_, 1) := by decide +kernel
theorem q178 : (Jvm.Cond.initialized "java/lang/Exception") ∈ lw_all := lw_g (lw_at lw_m1 18 rfl) rfl
theorem q731 : (Jvm.Cond.declares ({ cls := "java/lang/Exception", name := "<init>", desc := "()V" } : Jvm.MethodName)) ∈ lw_tbl := lw_at lw_m3 91 rfl
theorem q732 : (Jvm.Cond.declares ({ cls := "java/lang/Exception", name := "<init>", desc := "(Ljava/lang/String;)V" } : Jvm.MethodName)) ∈ lw_tbl := lw_at lw_m3 92 rfl
theorem q772 : (Jvm.Cond.instanceMethod ({ cls := "java/lang/Exception", name := "<init>", desc := "(Ljava/lang/String;Ljava/lang/Throwable;ZZ)V" } : Jvm.MethodName)) ∈ lw_all := lw_g (lw_at lw_m3 132 rfl) rfl
theorem q773 : (Jvm.Cond.code ({ cls := "java/lang/Exception", name := "<init>", desc := "(Ljava/lang/String;Ljava/lang/Throwable;ZZ)V" } : Jvm.MethodName) prog_28_method_5_code (5 : Nat) (Option.none : Option Jvm.ClassFile.FieldType)) ∈ lw_all := lw_g (lw_at lw_m3 133 rfl) rfl
theorem q774 : (Jvm.Cond.methodLink "java/lang/Exception" (16 : Nat) ({ cls := "java/lang/Throwable", name := "<init>", desc := "(Ljava/lang/String;Ljava/lang/Throwable;ZZ)V" } : Jvm.MethodName)) ∈ lw_all := lw_g (lw_at lw_m3 134 rfl) rfl
theorem q1609 : (Jvm.Cond.instanceMethod ({ cls := "java/lang/Exception", name := "<init>", desc := "(Ljava/lang/String;)V" } : Jvm.MethodName)) ∈ lw_all := lw_g (lw_at lw_m7 9 rfl) rfl
theorem q1610 : (Jvm.Cond.code ({ cls := "java/lang/Exception", name := "<init>", desc := "(Ljava/lang/String;)V" } : Jvm.MethodName) prog_28_method_2_code (2 : Nat) (Option.none : Option Jvm.ClassFile.FieldType)) ∈ lw_all := lw_g (lw_at lw_m7 10 rfl) rfl
theorem q1611 : (Jvm.Cond.methodLink "java/lang/Exception" (7 : Nat) ({ cls := "java/lang/Throwable", name := "<init>", desc := "(Ljava/lang/String;)V" } : Jvm.MethodName)) ∈ lw_all := lw_g (lw_at lw_m7 11 rfl) rfl
theorem q1653 : (Jvm.Cond.instanceMethod ({ cls := "java/lang/Exception", name := "<init>", desc := "()V" } : Jvm.MethodName)) ∈ lw_all := lw_g (lw_at lw_m7 53 rfl) rfl
theorem q1654 : (Jvm.Cond.code ({ cls := "java/lang/Exception", name := "<init>", desc := "()V" } : Jvm.MethodName) prog_28_method_1_code (1 : Nat) (Option.none : Option Jvm.ClassFile.FieldType)) ∈ lw_all := lw_g (lw_at lw_m7 54 rfl) rfl
theorem q1655 : (Jvm.Cond.methodLink "java/lang/Exception" (1 : Nat) ({ cls := "java/lang/Throwable", name := "<init>", desc := "()V" } : Jvm.MethodName)) ∈ lw_all := lw_g (lw_at lw_m7 55 rfl) rfl

abbrev cJ11_checkIndex : ByteArray := prog_47_method_17_code
def yJ11_checkIndex : MethodName := ⟨RJ11, "checkIndex", "(II)I"⟩
def dkwJ11_checkIndex_0 : List UInt8 := [26, 27, 1, 184, 0, 105, 172]
abbrev dktJ11_checkIndex_0 : List UInt8 := dkwJ11_checkIndex_0 ++ []
theorem dksJ11_checkIndex_0 : cJ11_checkIndex.data.toList.drop 0 = dktJ11_checkIndex_0 := by decide +kernel
theorem dJ11_checkIndex_0 : decode cJ11_checkIndex 0 = .ok (.iload_n 0, 1) := dk_26 (dk_at dksJ11_checkIndex_0 0 rfl rfl)
theorem dJ11_checkIndex_1 : decode cJ11_checkIndex 1 = .ok (.iload_n 1, 1) := dk_27 (dk_at dksJ11_checkIndex_0 1 rfl rfl)
theorem dJ11_checkIndex_2 : decode cJ11_checkIndex 2 = .ok (.aconst_null, 1) := dk_1 (dk_at dksJ11_checkIndex_0 2 rfl rfl)
theorem dJ11_checkIndex_3 : decode cJ11_checkIndex 3 = .ok (.invokestatic 105, 3) := dk_184 0 105 (dk_at dksJ11_checkIndex_0 3 rfl rfl)
theorem dJ11_checkIndex_6 : decode cJ11_checkIndex 6 = .ok (.ireturn, 1) := dk_172 (dk_at dksJ11_checkIndex_0 6 rfl rfl)
theorem q180 : (Jvm.Cond.initialized "java/util/Objects") ∈ lw_all := lw_g (lw_at lw_m1 20 rfl) rfl
theorem q824 : (Jvm.Cond.static ({ cls := "java/util/Objects", name := "checkIndex", desc := "(II)I" } : Jvm.MethodName)) ∈ lw_all := lw_g (lw_at lw_m3 184 rfl) rfl
theorem q825 : (Jvm.Cond.code ({ cls := "java/util/Objects", name := "checkIndex", desc := "(II)I" } : Jvm.MethodName) prog_47_method_17_code (2 : Nat) (Option.some Jvm.ClassFile.FieldType.int)) ∈ lw_all := lw_g (lw_at lw_m3 185 rfl) rfl
theorem q826 : (Jvm.Cond.methodLink "java/util/Objects" (105 : Nat) ({ cls := "jdk/internal/util/Preconditions", name := "checkIndex", desc := "(IILjava/util/function/BiFunction;)I" } : Jvm.MethodName)) ∈ lw_all := lw_g (lw_at lw_m3 186 rfl) rfl

abbrev cJ12_newLength : ByteArray := prog_50_method_27_code
def yJ12_newLength : MethodName := ⟨RJ12, "newLength", "(III)I"⟩
def dkwJ12_newLength_1 : List UInt8 := [184, 0, 201, 172]
abbrev dktJ12_newLength_1 : List UInt8 := dkwJ12_newLength_1 ++ []
def dkwJ12_newLength_0 : List UInt8 := [26, 27, 28, 184, 0, 194, 96, 62, 3, 29, 162, 0, 11, 29, 18, 200, 163, 0, 5, 29, 172, 26, 27]
abbrev dktJ12_newLength_0 : List UInt8 := dkwJ12_newLength_0 ++ dktJ12_newLength_1
theorem dksJ12_newLength_0 : cJ12_newLength.data.toList.drop 0 = dktJ12_newLength_0 := by decide +kernel
theorem dksJ12_newLength_1 : cJ12_newLength.data.toList.drop 23 = dktJ12_newLength_1 := dk_seg dksJ12_newLength_0 23 rfl rfl
theorem dJ12_newLength_0 : decode cJ12_newLength 0 = .ok (.iload_n 0, 1) := dk_26 (dk_at dksJ12_newLength_0 0 rfl rfl)
theorem dJ12_newLength_1 : decode cJ12_newLength 1 = .ok (.iload_n 1, 1) := dk_27 (dk_at dksJ12_newLength_0 1 rfl rfl)
theorem dJ12_newLength_2 : decode cJ12_newLength 2 = .ok (.iload_n 2, 1) := dk_28 (dk_at dksJ12_newLength_0 2 rfl rfl)
theorem dJ12_newLength_3 : decode cJ12_newLength 3 = .ok (.invokestatic 194, 3) := dk_184 0 194 (dk_at dksJ12_newLength_0 3 rfl rfl)
theorem dJ12_newLength_6 : decode cJ12_newLength 6 = .ok (.iadd, 1) := dk_96 (dk_at dksJ12_newLength_0 6 rfl rfl)
theorem dJ12_newLength_7 : decode cJ12_newLength 7 = .ok (.istore_n 3, 1) := dk_62 (dk_at dksJ12_newLength_0 7 rfl rfl)
theorem dJ12_newLength_8 : decode cJ12_newLength 8 = .ok (.iconst 0, 1) := dk_3 (dk_at dksJ12_newLength_0 8 rfl rfl)
theorem dJ12_newLength_9 : decode cJ12_newLength 9 = .ok (.iload_n 3, 1) := dk_29 (dk_at dksJ12_newLength_0 9 rfl rfl)
theorem dJ12_newLength_10 : decode cJ12_newLength 10 = .ok (.if_icmp .ge 11, 3) := dk_162 0 11 (dk_at dksJ12_newLength_0 10 rfl rfl)
theorem dJ12_newLength_13 : decode cJ12_newLength 13 = .ok (.iload_n 3, 1) := dk_29 (dk_at dksJ12_newLength_0 13 rfl rfl)
theorem dJ12_newLength_14 : decode cJ12_newLength 14 = .ok (.ldc 200, 2) := dk_18 200 (dk_at dksJ12_newLength_0 14 rfl rfl)
theorem dJ12_newLength_16 : decode cJ12_newLength 16 = .ok (.if_icmp .gt 5, 3) := dk_163 0 5 (dk_at dksJ12_newLength_0 16 rfl rfl)
theorem dJ12_newLength_19 : decode cJ12_newLength 19 = .ok (.iload_n 3, 1) := dk_29 (dk_at dksJ12_newLength_0 19 rfl rfl)
theorem dJ12_newLength_20 : decode cJ12_newLength 20 = .ok (.ireturn, 1) := dk_172 (dk_at dksJ12_newLength_0 20 rfl rfl)
theorem dJ12_newLength_21 : decode cJ12_newLength 21 = .ok (.iload_n 0, 1) := dk_26 (dk_at dksJ12_newLength_0 21 rfl rfl)
theorem dJ12_newLength_22 : decode cJ12_newLength 22 = .ok (.iload_n 1, 1) := dk_27 (dk_at dksJ12_newLength_0 22 rfl rfl)
theorem dJ12_newLength_23 : decode cJ12_newLength 23 = .ok (.invokestatic 201, 3) := dk_184 0 201 (dk_at dksJ12_newLength_1 0 rfl rfl)
theorem dJ12_newLength_26 : decode cJ12_newLength 26 = .ok (.ireturn, 1) := dk_172 (dk_at dksJ12_newLength_1 3 rfl rfl)
abbrev cJ12_hugeLength : ByteArray := prog_50_method_28_code
def yJ12_hugeLength : MethodName := ⟨RJ12, "hugeLength", "(II)I"⟩
def dkwJ12_hugeLength_2 : List UInt8 := [191, 28, 18, 200, 163, 0, 6, 18, 200, 172, 28, 172]
abbrev dktJ12_hugeLength_2 : List UInt8 := dkwJ12_hugeLength_2 ++ []
def dkwJ12_hugeLength_1 : List UInt8 := [26, 182, 0, 98, 18, 208, 182, 0, 94, 27, 182, 0, 98, 18, 210, 182, 0, 94, 182, 0, 101, 183, 0, 212]
abbrev dktJ12_hugeLength_1 : List UInt8 := dkwJ12_hugeLength_1 ++ dktJ12_hugeLength_2
def dkwJ12_hugeLength_0 : List UInt8 := [26, 27, 96, 61, 28, 156, 0, 44, 187, 0, 204, 89, 187, 0, 89, 89, 183, 0, 91, 18, 206, 182, 0, 94]
abbrev dktJ12_hugeLength_0 : List UInt8 := dkwJ12_hugeLength_0 ++ dktJ12_hugeLength_1
theorem dksJ12_hugeLength_0 : cJ12_hugeLength.data.toList.drop 0 = dktJ12_hugeLength_0 := by decide +kernel
theorem dksJ12_hugeLength_1 : cJ12_hugeLength.data.toList.drop 24 = dktJ12_hugeLength_1 := dk_seg dksJ12_hugeLength_0 24 rfl rfl
theorem dksJ12_hugeLength_2 : cJ12_hugeLength.data.toList.drop 48 = dktJ12_hugeLength_2 := dk_seg dksJ12_hugeLength_1 24 rfl rfl
theorem dJ12_hugeLength_0 : decode cJ12_hugeLength 0 = .ok (.iload_n 0, 1) := dk_26 (dk_at dksJ12_hugeLength_0 0 rfl rfl)
theorem dJ12_hugeLength_1 : decode cJ12_hugeLength 1 = .ok (.iload_n 1, 1) := dk_27 (dk_at dksJ12_hugeLength_0 1 rfl rfl)
theorem dJ12_hugeLength_2 : decode cJ12_hugeLength 2 = .ok (.iadd, 1) := dk_96 (dk_at dksJ12_hugeLength_0 2 rfl rfl)
theorem dJ12_hugeLength_3 : decode cJ12_hugeLength 3 = .ok (.istore_n 2, 1) := dk_61 (dk_at dksJ12_hugeLength_0 3 rfl rfl)
theorem dJ12_hugeLength_4 : decode cJ12_hugeLength 4 = .ok (.iload_n 2, 1) := dk_28 (dk_at dksJ12_hugeLength_0 4 rfl rfl)
theorem dJ12_hugeLength_5 : decode cJ12_hugeLength 5 = .ok (.ifCond .ge 44, 3) := dk_156 0 44 (dk_at dksJ12_hugeLength_0 5 rfl rfl)
theorem dJ12_hugeLength_8 : decode cJ12_hugeLength 8 = .ok (.new 204, 3) := dk_187 0 204 (dk_at dksJ12_hugeLength_0 8 rfl rfl)
theorem dJ12_hugeLength_11 : decode cJ12_hugeLength 11 = .ok (.dup, 1) := dk_89 (dk_at dksJ12_hugeLength_0 11 rfl rfl)
theorem dJ12_hugeLength_12 : decode cJ12_hugeLength 12 = .ok (.new 89, 3) := dk_187 0 89 (dk_at dksJ12_hugeLength_0 12 rfl rfl)
theorem dJ12_hugeLength_15 : decode cJ12_hugeLength 15 = .ok (.dup, 1) := dk_89 (dk_at dksJ12_hugeLength_0 15 rfl rfl)
theorem dJ12_hugeLength_16 : decode cJ12_hugeLength 16 = .ok (.invokespecial 91, 3) := dk_183 0 91 (dk_at dksJ12_hugeLength_0 16 rfl rfl)
theorem dJ12_hugeLength_19 : decode cJ12_hugeLength 19 = .ok (.ldc 206, 2) := dk_18 206 (dk_at dksJ12_hugeLength_0 19 rfl rfl)
theorem dJ12_hugeLength_21 : decode cJ12_hugeLength 21 = .ok (.invokevirtual 94, 3) := dk_182 0 94 (dk_at dksJ12_hugeLength_0 21 rfl rfl)
theorem dJ12_hugeLength_24 : decode cJ12_hugeLength 24 = .ok (.iload_n 0, 1) := dk_26 (dk_at dksJ12_hugeLength_1 0 rfl rfl)
theorem dJ12_hugeLength_25 : decode cJ12_hugeLength 25 = .ok (.invokevirtual 98, 3) := dk_182 0 98 (dk_at dksJ12_hugeLength_1 1 rfl rfl)
theorem dJ12_hugeLength_28 : decode cJ12_hugeLength 28 = .ok (.ldc 208, 2) := dk_18 208 (dk_at dksJ12_hugeLength_1 4 rfl rfl)
theorem dJ12_hugeLength_30 : decode cJ12_hugeLength 30 = .ok (.invokevirtual 94, 3) := dk_182 0 94 (dk_at dksJ12_hugeLength_1 6 rfl rfl)
theorem dJ12_hugeLength_33 : decode cJ12_hugeLength 33 = .ok (.iload_n 1, 1) := dk_27 (dk_at dksJ12_hugeLength_1 9 rfl rfl)
theorem dJ12_hugeLength_34 : decode cJ12_hugeLength 34 = .ok (.invokevirtual 98, 3) := dk_182 0 98 (dk_at dksJ12_hugeLength_1 10 rfl rfl)
theorem dJ12_hugeLength_37 : decode cJ12_hugeLength 37 = .ok (.ldc 210, 2) := dk_18 210 (dk_at dksJ12_hugeLength_1 13 rfl rfl)
theorem dJ12_hugeLength_39 : decode cJ12_hugeLength 39 = .ok (.invokevirtual 94, 3) := dk_182 0 94 (dk_at dksJ12_hugeLength_1 15 rfl rfl)
theorem dJ12_hugeLength_42 : decode cJ12_hugeLength 42 = .ok (.invokevirtual 101, 3) := dk_182 0 101 (dk_at dksJ12_hugeLength_1 18 rfl rfl)
theorem dJ12_hugeLength_45 : decode cJ12_hugeLength 45 = .ok (.invokespecial 212, 3) := dk_183 0 212 (dk_at dksJ12_hugeLength_1 21 rfl rfl)
theorem dJ12_hugeLength_48 : decode cJ12_hugeLength 48 = .ok (.athrow, 1) := dk_191 (dk_at dksJ12_hugeLength_2 0 rfl rfl)
theorem dJ12_hugeLength_49 : decode cJ12_hugeLength 49 = .ok (.iload_n 2, 1) := dk_28 (dk_at dksJ12_hugeLength_2 1 rfl rfl)
theorem dJ12_hugeLength_50 : decode cJ12_hugeLength 50 = .ok (.ldc 200, 2) := dk_18 200 (dk_at dksJ12_hugeLength_2 2 rfl rfl)
theorem dJ12_hugeLength_52 : decode cJ12_hugeLength 52 = .ok (.if_icmp .gt 6, 3) := dk_163 0 6 (dk_at dksJ12_hugeLength_2 4 rfl rfl)
theorem dJ12_hugeLength_55 : decode cJ12_hugeLength 55 = .ok (.ldc 200, 2) := dk_18 200 (dk_at dksJ12_hugeLength_2 7 rfl rfl)
theorem dJ12_hugeLength_57 : decode cJ12_hugeLength 57 = .ok (.ireturn, 1) := dk_172 (dk_at dksJ12_hugeLength_2 9 rfl rfl)
theorem dJ12_hugeLength_58 : decode cJ12_hugeLength 58 = .ok (.iload_n 2, 1) := dk_28 (dk_at dksJ12_hugeLength_2 10 rfl rfl)
theorem dJ12_hugeLength_59 : decode cJ12_hugeLength 59 = .ok (.ireturn, 1) := dk_172 (dk_at dksJ12_hugeLength_2 11 rfl rfl)
theorem q182 : (Jvm.Cond.initialized "jdk/internal/util/ArraysSupport") ∈ lw_all := lw_g (lw_at lw_m1 22 rfl) rfl
theorem q883 : (Jvm.Cond.static ({ cls := "jdk/internal/util/ArraysSupport", name := "newLength", desc := "(III)I" } : Jvm.MethodName)) ∈ lw_all := lw_g (lw_at lw_m4 3 rfl) rfl
theorem q884 : (Jvm.Cond.code ({ cls := "jdk/internal/util/ArraysSupport", name := "newLength", desc := "(III)I" } : Jvm.MethodName) prog_50_method_27_code (4 : Nat) (Option.some Jvm.ClassFile.FieldType.int)) ∈ lw_all := lw_g (lw_at lw_m4 4 rfl) rfl
theorem q885 : (Jvm.Cond.methodLink "jdk/internal/util/ArraysSupport" (194 : Nat) ({ cls := "java/lang/Math", name := "max", desc := "(II)I" } : Jvm.MethodName)) ∈ lw_all := lw_g (lw_at lw_m4 5 rfl) rfl
theorem q886 : (Jvm.Cond.constant "jdk/internal/util/ArraysSupport" (200 : Nat) (2147483639 : Int32)) ∈ lw_all := lw_g (lw_at lw_m4 6 rfl) rfl
theorem q887 : (Jvm.Cond.methodLink "jdk/internal/util/ArraysSupport" (201 : Nat) ({ cls := "jdk/internal/util/ArraysSupport", name := "hugeLength", desc := "(II)I" } : Jvm.MethodName)) ∈ lw_all := lw_g (lw_at lw_m4 7 rfl) rfl
theorem q888 : (Jvm.Cond.static ({ cls := "jdk/internal/util/ArraysSupport", name := "hugeLength", desc := "(II)I" } : Jvm.MethodName)) ∈ lw_all := lw_g (lw_at lw_m4 8 rfl) rfl
theorem q889 : (Jvm.Cond.code ({ cls := "jdk/internal/util/ArraysSupport", name := "hugeLength", desc := "(II)I" } : Jvm.MethodName) prog_50_method_28_code (3 : Nat) (Option.some Jvm.ClassFile.FieldType.int)) ∈ lw_all := lw_g (lw_at lw_m4 9 rfl) rfl

abbrev cJ13_copyOf : ByteArray := prog_43_method_119_code
def yJ13_copyOf : MethodName := ⟨RJ13, "copyOf", "([Ljava/lang/Object;I)[Ljava/lang/Object;"⟩
def dkwJ13_copyOf_0 : List UInt8 := [42, 27, 42, 182, 0, 86, 184, 1, 44, 176]
abbrev dktJ13_copyOf_0 : List UInt8 := dkwJ13_copyOf_0 ++ []
theorem dksJ13_copyOf_0 : cJ13_copyOf.data.toList.drop 0 = dktJ13_copyOf_0 := by decide +kernel
theorem dJ13_copyOf_0 : decode cJ13_copyOf 0 = .ok (.aload_n 0, 1) := dk_42 (dk_at dksJ13_copyOf_0 0 rfl rfl)
theorem dJ13_copyOf_1 : decode cJ13_copyOf 1 = .ok (.iload_n 1, 1) := dk_27 (dk_at dksJ13_copyOf_0 1 rfl rfl)
theorem dJ13_copyOf_2 : decode cJ13_copyOf 2 = .ok (.aload_n 0, 1) := dk_42 (dk_at dksJ13_copyOf_0 2 rfl rfl)
theorem dJ13_copyOf_3 : decode cJ13_copyOf 3 = .ok (.invokevirtual 86, 3) := dk_182 0 86 (dk_at dksJ13_copyOf_0 3 rfl rfl)
theorem dJ13_copyOf_6 : decode cJ13_copyOf 6 = .ok (.invokestatic 300, 3) := dk_184 1 44 (dk_at dksJ13_copyOf_0 6 rfl rfl)
theorem dJ13_copyOf_9 : decode cJ13_copyOf 9 = .ok (.areturn, 1) := dk_176 (dk_at dksJ13_copyOf_0 9 rfl rfl)
abbrev cJ13_copyOf_2 : ByteArray := prog_43_method_120_code
def yJ13_copyOf_2 : MethodName := ⟨RJ13, "copyOf", "([Ljava/lang/Object;ILjava/lang/Class;)[Ljava/lang/Object;"⟩
def dkwJ13_copyOf_2_1 : List UInt8 := [78, 42, 3, 45, 3, 42, 190, 27, 184, 1, 48, 184, 0, 150, 45, 176]
abbrev dktJ13_copyOf_2_1 : List UInt8 := dkwJ13_copyOf_2_1 ++ []
def dkwJ13_copyOf_2_0 : List UInt8 := [44, 18, 110, 166, 0, 10, 27, 189, 0, 2, 167, 0, 14, 44, 182, 0, 90, 27, 184, 0, 95, 192, 0, 110]
abbrev dktJ13_copyOf_2_0 : List UInt8 := dkwJ13_copyOf_2_0 ++ dktJ13_copyOf_2_1
theorem dksJ13_copyOf_2_0 : cJ13_copyOf_2.data.toList.drop 0 = dktJ13_copyOf_2_0 := by decide +kernel
theorem dksJ13_copyOf_2_1 : cJ13_copyOf_2.data.toList.drop 24 = dktJ13_copyOf_2_1 := dk_seg dksJ13_copyOf_2_0 24 rfl rfl
theorem dJ13_copyOf_2_0 : decode cJ13_copyOf_2 0 = .ok (.aload_n 2, 1) := dk_44 (dk_at dksJ13_copyOf_2_0 0 rfl rfl)
theorem dJ13_copyOf_2_1 : decode cJ13_copyOf_2 1 = .ok (.ldc 110, 2) := dk_18 110 (dk_at dksJ13_copyOf_2_0 1 rfl rfl)
theorem dJ13_copyOf_2_3 : decode cJ13_copyOf_2 3 = .ok (.if_acmp .ne 10, 3) := dk_166 0 10 (dk_at dksJ13_copyOf_2_0 3 rfl rfl)
theorem dJ13_copyOf_2_6 : decode cJ13_copyOf_2 6 = .ok (.iload_n 1, 1) := dk_27 (dk_at dksJ13_copyOf_2_0 6 rfl rfl)
theorem dJ13_copyOf_2_7 : decode cJ13_copyOf_2 7 = .ok (.anewarray 2, 3) := dk_189 0 2 (dk_at dksJ13_copyOf_2_0 7 rfl rfl)
theorem dJ13_copyOf_2_10 : decode cJ13_copyOf_2 10 = .ok (.goto 14, 3) := dk_167 0 14 (dk_at dksJ13_copyOf_2_0 10 rfl rfl)
theorem dJ13_copyOf_2_13 : decode cJ13_copyOf_2 13 = .ok (.aload_n 2, 1) := dk_44 (dk_at dksJ13_copyOf_2_0 13 rfl rfl)
theorem dJ13_copyOf_2_14 : decode cJ13_copyOf_2 14 = .ok (.invokevirtual 90, 3) := dk_182 0 90 (dk_at dksJ13_copyOf_2_0 14 rfl rfl)
theorem dJ13_copyOf_2_17 : decode cJ13_copyOf_2 17 = .ok (.iload_n 1, 1) := dk_27 (dk_at dksJ13_copyOf_2_0 17 rfl rfl)
theorem dJ13_copyOf_2_18 : decode cJ13_copyOf_2 18 = .ok (.invokestatic 95, 3) := dk_184 0 95 (dk_at dksJ13_copyOf_2_0 18 rfl rfl)
theorem dJ13_copyOf_2_21 : decode cJ13_copyOf_2 21 = .ok (.checkcast 110, 3) := dk_192 0 110 (dk_at dksJ13_copyOf_2_0 21 rfl rfl)
theorem dJ13_copyOf_2_24 : decode cJ13_copyOf_2 24 = .ok (.astore_n 3, 1) := dk_78 (dk_at dksJ13_copyOf_2_1 0 rfl rfl)
theorem dJ13_copyOf_2_25 : decode cJ13_copyOf_2 25 = .ok (.aload_n 0, 1) := dk_42 (dk_at dksJ13_copyOf_2_1 1 rfl rfl)
theorem dJ13_copyOf_2_26 : decode cJ13_copyOf_2 26 = .ok (.iconst 0, 1) := dk_3 (dk_at dksJ13_copyOf_2_1 2 rfl rfl)
theorem dJ13_copyOf_2_27 : decode cJ13_copyOf_2 27 = .ok (.aload_n 3, 1) := dk_45 (dk_at dksJ13_copyOf_2_1 3 rfl rfl)
theorem dJ13_copyOf_2_28 : decode cJ13_copyOf_2 28 = .ok (.iconst 0, 1) := dk_3 (dk_at dksJ13_copyOf_2_1 4 rfl rfl)
theorem dJ13_copyOf_2_29 : decode cJ13_copyOf_2 29 = .ok (.aload_n 0, 1) := dk_42 (dk_at dksJ13_copyOf_2_1 5 rfl rfl)
theorem dJ13_copyOf_2_30 : decode cJ13_copyOf_2 30 = .ok (.arraylength, 1) := dk_190 (dk_at dksJ13_copyOf_2_1 6 rfl rfl)
theorem dJ13_copyOf_2_31 : decode cJ13_copyOf_2 31 = .ok (.iload_n 1, 1) := dk_27 (dk_at dksJ13_copyOf_2_1 7 rfl rfl)
theorem dJ13_copyOf_2_32 : decode cJ13_copyOf_2 32 = .ok (.invokestatic 304, 3) := dk_184 1 48 (dk_at dksJ13_copyOf_2_1 8 rfl rfl)
theorem dJ13_copyOf_2_35 : decode cJ13_copyOf_2 35 = .ok (.invokestatic 150, 3) := dk_184 0 150 (dk_at dksJ13_copyOf_2_1 11 rfl rfl)
theorem dJ13_copyOf_2_38 : decode cJ13_copyOf_2 38 = .ok (.aload_n 3, 1) := dk_45 (dk_at dksJ13_copyOf_2_1 14 rfl rfl)
theorem dJ13_copyOf_2_39 : decode cJ13_copyOf_2 39 = .ok (.areturn, 1) := dk_176 (dk_at dksJ13_copyOf_2_1 15 rfl rfl)
theorem q183 : (Jvm.Cond.initialized "java/util/Arrays") ∈ lw_all := lw_g (lw_at lw_m1 23 rfl) rfl
theorem q891 : (Jvm.Cond.static ({ cls := "java/util/Arrays", name := "copyOf", desc := "([Ljava/lang/Object;I)[Ljava/lang/Object;" } : Jvm.MethodName)) ∈ lw_all := lw_g (lw_at lw_m4 11 rfl) rfl
theorem q892 : (Jvm.Cond.code ({ cls := "java/util/Arrays", name := "copyOf", desc := "([Ljava/lang/Object;I)[Ljava/lang/Object;" } : Jvm.MethodName) prog_43_method_119_code (2 : Nat) (Option.some (Jvm.ClassFile.FieldType.array (Jvm.ClassFile.FieldType.object "java/lang/Object")))) ∈ lw_all := lw_g (lw_at lw_m4 12 rfl) rfl
theorem q893 : (Jvm.Cond.methodLink "java/util/Arrays" (86 : Nat) ({ cls := "java/lang/Object", name := "getClass", desc := "()Ljava/lang/Class;" } : Jvm.MethodName)) ∈ lw_all := lw_g (lw_at lw_m4 13 rfl) rfl
theorem q921 : (Jvm.Cond.methodLink "java/util/Arrays" (300 : Nat) ({ cls := "java/util/Arrays", name := "copyOf", desc := "([Ljava/lang/Object;ILjava/lang/Class;)[Ljava/lang/Object;" } : Jvm.MethodName)) ∈ lw_all := lw_g (lw_at lw_m4 41 rfl) rfl
theorem q922 : (Jvm.Cond.static ({ cls := "java/util/Arrays", name := "copyOf", desc := "([Ljava/lang/Object;ILjava/lang/Class;)[Ljava/lang/Object;" } : Jvm.MethodName)) ∈ lw_all := lw_g (lw_at lw_m4 42 rfl) rfl
theorem q923 : (Jvm.Cond.code ({ cls := "java/util/Arrays", name := "copyOf", desc := "([Ljava/lang/Object;ILjava/lang/Class;)[Ljava/lang/Object;" } : Jvm.MethodName) prog_43_method_120_code (4 : Nat) (Option.some (Jvm.ClassFile.FieldType.array (Jvm.ClassFile.FieldType.object "java/lang/Object")))) ∈ lw_all := lw_g (lw_at lw_m4 43 rfl) rfl
theorem q924 : (Jvm.Cond.classLink "java/util/Arrays" (110 : Nat) "[Ljava/lang/Object;") ∈ lw_all := lw_g (lw_at lw_m4 44 rfl) rfl
theorem q926 : (Jvm.Cond.classLink "java/util/Arrays" (2 : Nat) "java/lang/Object") ∈ lw_all := lw_g (lw_at lw_m4 46 rfl) rfl
theorem q927 : (Jvm.Cond.methodLink "java/util/Arrays" (304 : Nat) ({ cls := "java/lang/Math", name := "min", desc := "(II)I" } : Jvm.MethodName)) ∈ lw_all := lw_g (lw_at lw_m4 47 rfl) rfl
theorem q928 : (Jvm.Cond.methodLink "java/util/Arrays" (150 : Nat) ({ cls := "java/lang/System", name := "arraycopy", desc := "(Ljava/lang/Object;ILjava/lang/Object;II)V" } : Jvm.MethodName)) ∈ lw_all := lw_g (lw_at lw_m4 48 rfl) rfl

abbrev cJ14_init : ByteArray := prog_33_method_1_code
def yJ14_init : MethodName := ⟨RJ14, "<init>", "()V"⟩
theorem dJ14_init_0 : decode cJ14_init 0 = .ok (.aload_n 0, 1) := by decide +kernel
theorem dJ14_init_1 : decode cJ14_init 1 = .ok (.invokespecial 1, 3) := by decide +kernel
theorem dJ14_init_4 : decode cJ14_init 4 = .ok (.return_, 1) := by decide +kernel
theorem q185 : (Jvm.Cond.initialized "java/lang/Record") ∈ lw_all := lw_g (lw_at lw_m1 25 rfl) rfl
theorem q949 : (Jvm.Cond.instanceMethod ({ cls := "java/lang/Record", name := "<init>", desc := "()V" } : Jvm.MethodName)) ∈ lw_all := lw_g (lw_at lw_m4 69 rfl) rfl
theorem q950 : (Jvm.Cond.code ({ cls := "java/lang/Record", name := "<init>", desc := "()V" } : Jvm.MethodName) prog_33_method_1_code (1 : Nat) (Option.none : Option Jvm.ClassFile.FieldType)) ∈ lw_all := lw_g (lw_at lw_m4 70 rfl) rfl
theorem q951 : (Jvm.Cond.methodLink "java/lang/Record" (1 : Nat) ({ cls := "java/lang/Object", name := "<init>", desc := "()V" } : Jvm.MethodName)) ∈ lw_all := lw_g (lw_at lw_m4 71 rfl) rfl

abbrev cJ15_init : ByteArray := prog_34_method_2_code
def yJ15_init : MethodName := ⟨RJ15, "<init>", "(Ljava/lang/String;)V"⟩
def dkwJ15_init_0 : List UInt8 := [42, 43, 183, 0, 7, 177]
abbrev dktJ15_init_0 : List UInt8 := dkwJ15_init_0 ++ []
theorem dksJ15_init_0 : cJ15_init.data.toList.drop 0 = dktJ15_init_0 := by decide +kernel
theorem dJ15_init_0 : decode cJ15_init 0 = .ok (.aload_n 0, 1) := dk_42 (dk_at dksJ15_init_0 0 rfl rfl)
theorem dJ15_init_1 : decode cJ15_init 1 = .ok (.aload_n 1, 1) := dk_43 (dk_at dksJ15_init_0 1 rfl rfl)
theorem dJ15_init_2 : decode cJ15_init 2 = .ok (.invokespecial 7, 3) := dk_183 0 7 (dk_at dksJ15_init_0 2 rfl rfl)
theorem dJ15_init_5 : decode cJ15_init 5 = .ok (.return_, 1) := dk_177 (dk_at dksJ15_init_0 5 rfl rfl)
abbrev cJ15_init_2 : ByteArray := prog_34_method_1_code
def yJ15_init_2 : MethodName := ⟨RJ15, "<init>", "()V"⟩
theorem dJ15_init_2_0 : decode cJ15_init_2 0 = .ok (.aload_n 0, 1) := by decide +kernel
theorem dJ15_init_2_1 : decode cJ15_init_2 1 = .ok (.invokespecial 1, 3) := by decide +kernel
theorem dJ15_init_2_4 : decode cJ15_init_2 4 = .ok (.return_, 1) := by decide +kernel
theorem q198 : (Jvm.Cond.initialized "java/lang/RuntimeException") ∈ lw_all := lw_g (lw_at lw_m1 38 rfl) rfl
theorem q1606 : (Jvm.Cond.instanceMethod ({ cls := "java/lang/RuntimeException", name := "<init>", desc := "(Ljava/lang/String;)V" } : Jvm.MethodName)) ∈ lw_all := lw_g (lw_at lw_m7 6 rfl) rfl
theorem q1607 : (Jvm.Cond.code ({ cls := "java/lang/RuntimeException", name := "<init>", desc := "(Ljava/lang/String;)V" } : Jvm.MethodName) prog_34_method_2_code (2 : Nat) (Option.none : Option Jvm.ClassFile.FieldType)) ∈ lw_all := lw_g (lw_at lw_m7 7 rfl) rfl
theorem q1608 : (Jvm.Cond.methodLink "java/lang/RuntimeException" (7 : Nat) ({ cls := "java/lang/Exception", name := "<init>", desc := "(Ljava/lang/String;)V" } : Jvm.MethodName)) ∈ lw_all := lw_g (lw_at lw_m7 8 rfl) rfl
theorem q1624 : (Jvm.Cond.declares ({ cls := "java/lang/RuntimeException", name := "<init>", desc := "()V" } : Jvm.MethodName)) ∈ lw_tbl := lw_at lw_m7 24 rfl
theorem q1625 : (Jvm.Cond.declares ({ cls := "java/lang/RuntimeException", name := "<init>", desc := "(Ljava/lang/String;)V" } : Jvm.MethodName)) ∈ lw_tbl := lw_at lw_m7 25 rfl
theorem q1650 : (Jvm.Cond.instanceMethod ({ cls := "java/lang/RuntimeException", name := "<init>", desc := "()V" } : Jvm.MethodName)) ∈ lw_all := lw_g (lw_at lw_m7 50 rfl) rfl
theorem q1651 : (Jvm.Cond.code ({ cls := "java/lang/RuntimeException", name := "<init>", desc := "()V" } : Jvm.MethodName) prog_34_method_1_code (1 : Nat) (Option.none : Option Jvm.ClassFile.FieldType)) ∈ lw_all := lw_g (lw_at lw_m7 51 rfl) rfl
theorem q1652 : (Jvm.Cond.methodLink "java/lang/RuntimeException" (1 : Nat) ({ cls := "java/lang/Exception", name := "<init>", desc := "()V" } : Jvm.MethodName)) ∈ lw_all := lw_g (lw_at lw_m7 52 rfl) rfl

abbrev cJ16_init : ByteArray := prog_29_method_2_code
def yJ16_init : MethodName := ⟨RJ16, "<init>", "(Ljava/lang/String;)V"⟩
def dkwJ16_init_0 : List UInt8 := [42, 43, 183, 0, 7, 177]
abbrev dktJ16_init_0 : List UInt8 := dkwJ16_init_0 ++ []
theorem dksJ16_init_0 : cJ16_init.data.toList.drop 0 = dktJ16_init_0 := by decide +kernel
theorem dJ16_init_0 : decode cJ16_init 0 = .ok (.aload_n 0, 1) := dk_42 (dk_at dksJ16_init_0 0 rfl rfl)
theorem dJ16_init_1 : decode cJ16_init 1 = .ok (.aload_n 1, 1) := dk_43 (dk_at dksJ16_init_0 1 rfl rfl)
theorem dJ16_init_2 : decode cJ16_init 2 = .ok (.invokespecial 7, 3) := dk_183 0 7 (dk_at dksJ16_init_0 2 rfl rfl)
theorem dJ16_init_5 : decode cJ16_init 5 = .ok (.return_, 1) := dk_177 (dk_at dksJ16_init_0 5 rfl rfl)
abbrev cJ16_init_2 : ByteArray := prog_29_method_1_code
def yJ16_init_2 : MethodName := ⟨RJ16, "<init>", "()V"⟩
theorem dJ16_init_2_0 : decode cJ16_init_2 0 = .ok (.aload_n 0, 1) := by decide +kernel
theorem dJ16_init_2_1 : decode cJ16_init_2 1 = .ok (.invokespecial 1, 3) := by decide +kernel
theorem dJ16_init_2_4 : decode cJ16_init_2 4 = .ok (.return_, 1) := by decide +kernel
theorem q199 : (Jvm.Cond.initialized "java/lang/IndexOutOfBoundsException") ∈ lw_all := lw_g (lw_at lw_m1 39 rfl) rfl
theorem q760 : (Jvm.Cond.selects "java/lang/IndexOutOfBoundsException" ({ cls := "java/lang/Throwable", name := "fillInStackTrace", desc := "()Ljava/lang/Throwable;" } : Jvm.MethodName) ({ cls := "java/lang/Throwable", name := "fillInStackTrace", desc := "()Ljava/lang/Throwable;" } : Jvm.MethodName)) ∈ lw_all := lw_g (lw_at lw_m3 120 rfl) rfl
theorem q917 : (Jvm.Cond.selects "java/lang/IndexOutOfBoundsException" ({ cls := "java/lang/Object", name := "getClass", desc := "()Ljava/lang/Class;" } : Jvm.MethodName) ({ cls := "java/lang/Object", name := "getClass", desc := "()Ljava/lang/Class;" } : Jvm.MethodName)) ∈ lw_all := lw_g (lw_at lw_m4 37 rfl) rfl
theorem q1603 : (Jvm.Cond.instanceMethod ({ cls := "java/lang/IndexOutOfBoundsException", name := "<init>", desc := "(Ljava/lang/String;)V" } : Jvm.MethodName)) ∈ lw_all := lw_g (lw_at lw_m7 3 rfl) rfl
theorem q1604 : (Jvm.Cond.code ({ cls := "java/lang/IndexOutOfBoundsException", name := "<init>", desc := "(Ljava/lang/String;)V" } : Jvm.MethodName) prog_29_method_2_code (2 : Nat) (Option.none : Option Jvm.ClassFile.FieldType)) ∈ lw_all := lw_g (lw_at lw_m7 4 rfl) rfl
theorem q1605 : (Jvm.Cond.methodLink "java/lang/IndexOutOfBoundsException" (7 : Nat) ({ cls := "java/lang/RuntimeException", name := "<init>", desc := "(Ljava/lang/String;)V" } : Jvm.MethodName)) ∈ lw_all := lw_g (lw_at lw_m7 5 rfl) rfl
theorem q1622 : (Jvm.Cond.declares ({ cls := "java/lang/IndexOutOfBoundsException", name := "<init>", desc := "()V" } : Jvm.MethodName)) ∈ lw_tbl := lw_at lw_m7 22 rfl
theorem q1623 : (Jvm.Cond.declares ({ cls := "java/lang/IndexOutOfBoundsException", name := "<init>", desc := "(Ljava/lang/String;)V" } : Jvm.MethodName)) ∈ lw_tbl := lw_at lw_m7 23 rfl
theorem q1638 : (Jvm.Cond.instantiable "java/lang/IndexOutOfBoundsException" (6 : Nat)) ∈ lw_all := lw_g (lw_at lw_m7 38 rfl) rfl
theorem q1639 : (Jvm.Cond.castable "java/lang/IndexOutOfBoundsException" "java/lang/IndexOutOfBoundsException") ∈ lw_tbl := lw_at lw_m7 39 rfl
theorem q1640 : (Jvm.Cond.selects "java/lang/IndexOutOfBoundsException" ({ cls := "java/lang/Throwable", name := "fillInStackTrace", desc := "(I)Ljava/lang/Throwable;" } : Jvm.MethodName) ({ cls := "java/lang/Throwable", name := "fillInStackTrace", desc := "(I)Ljava/lang/Throwable;" } : Jvm.MethodName)) ∈ lw_all := lw_g (lw_at lw_m7 40 rfl) rfl
theorem q1641 : (Jvm.Cond.lays "java/lang/IndexOutOfBoundsException" "java/lang/Throwable" "cause" "Ljava/lang/Throwable;") ∈ lw_all := lw_g (lw_at lw_m7 41 rfl) rfl
theorem q1642 : (Jvm.Cond.lays "java/lang/IndexOutOfBoundsException" "java/lang/Throwable" "stackTrace" "[Ljava/lang/StackTraceElement;") ∈ lw_all := lw_g (lw_at lw_m7 42 rfl) rfl
theorem q1643 : (Jvm.Cond.lays "java/lang/IndexOutOfBoundsException" "java/lang/Throwable" "suppressedExceptions" "Ljava/util/List;") ∈ lw_all := lw_g (lw_at lw_m7 43 rfl) rfl
theorem q1644 : (Jvm.Cond.lays "java/lang/IndexOutOfBoundsException" "java/lang/Throwable" "detailMessage" "Ljava/lang/String;") ∈ lw_all := lw_g (lw_at lw_m7 44 rfl) rfl
theorem q1645 : (Jvm.Cond.lays "java/lang/IndexOutOfBoundsException" "java/lang/Throwable" "backtrace" "Ljava/lang/Object;") ∈ lw_all := lw_g (lw_at lw_m7 45 rfl) rfl
theorem q1647 : (Jvm.Cond.instanceMethod ({ cls := "java/lang/IndexOutOfBoundsException", name := "<init>", desc := "()V" } : Jvm.MethodName)) ∈ lw_all := lw_g (lw_at lw_m7 47 rfl) rfl
theorem q1648 : (Jvm.Cond.code ({ cls := "java/lang/IndexOutOfBoundsException", name := "<init>", desc := "()V" } : Jvm.MethodName) prog_29_method_1_code (1 : Nat) (Option.none : Option Jvm.ClassFile.FieldType)) ∈ lw_all := lw_g (lw_at lw_m7 48 rfl) rfl
theorem q1649 : (Jvm.Cond.methodLink "java/lang/IndexOutOfBoundsException" (1 : Nat) ({ cls := "java/lang/RuntimeException", name := "<init>", desc := "()V" } : Jvm.MethodName)) ∈ lw_all := lw_g (lw_at lw_m7 49 rfl) rfl
theorem q1656 : (Jvm.Cond.lays "java/lang/IndexOutOfBoundsException" "java/lang/Throwable" "depth" "I") ∈ lw_all := lw_g (lw_at lw_m7 56 rfl) rfl
theorem q1657 : (Jvm.Cond.superclass "java/lang/IndexOutOfBoundsException" "java/lang/RuntimeException") ∈ lw_all := lw_g (lw_at lw_m7 57 rfl) rfl
theorem q2425 : (Jvm.Cond.castable "java/lang/IndexOutOfBoundsException" "java/lang/Object") ∈ lw_tbl := lw_at lw_m10 105 rfl
theorem in_J16 : ∀ w ∈ wsJ160, w ∈ lw_all := lw_in wsJ160 [1641, 1642, 1643, 1644, 1645, 1656] (by decide +kernel) (by decide +kernel)

abbrev cJ17_init : ByteArray := prog_25_method_2_code
def yJ17_init : MethodName := ⟨RJ17, "<init>", "(Ljava/lang/String;)V"⟩
def dkwJ17_init_0 : List UInt8 := [42, 43, 183, 0, 7, 177]
abbrev dktJ17_init_0 : List UInt8 := dkwJ17_init_0 ++ []
theorem dksJ17_init_0 : cJ17_init.data.toList.drop 0 = dktJ17_init_0 := by decide +kernel
theorem dJ17_init_0 : decode cJ17_init 0 = .ok (.aload_n 0, 1) := dk_42 (dk_at dksJ17_init_0 0 rfl rfl)
theorem dJ17_init_1 : decode cJ17_init 1 = .ok (.aload_n 1, 1) := dk_43 (dk_at dksJ17_init_0 1 rfl rfl)
theorem dJ17_init_2 : decode cJ17_init 2 = .ok (.invokespecial 7, 3) := dk_183 0 7 (dk_at dksJ17_init_0 2 rfl rfl)
theorem dJ17_init_5 : decode cJ17_init 5 = .ok (.return_, 1) := dk_177 (dk_at dksJ17_init_0 5 rfl rfl)
theorem q200 : (Jvm.Cond.initialized "java/lang/ArrayIndexOutOfBoundsException") ∈ lw_all := lw_g (lw_at lw_m1 40 rfl) rfl
theorem q759 : (Jvm.Cond.selects "java/lang/ArrayIndexOutOfBoundsException" ({ cls := "java/lang/Throwable", name := "fillInStackTrace", desc := "()Ljava/lang/Throwable;" } : Jvm.MethodName) ({ cls := "java/lang/Throwable", name := "fillInStackTrace", desc := "()Ljava/lang/Throwable;" } : Jvm.MethodName)) ∈ lw_all := lw_g (lw_at lw_m3 119 rfl) rfl
theorem q916 : (Jvm.Cond.selects "java/lang/ArrayIndexOutOfBoundsException" ({ cls := "java/lang/Object", name := "getClass", desc := "()Ljava/lang/Class;" } : Jvm.MethodName) ({ cls := "java/lang/Object", name := "getClass", desc := "()Ljava/lang/Class;" } : Jvm.MethodName)) ∈ lw_all := lw_g (lw_at lw_m4 36 rfl) rfl
theorem q1599 : (Jvm.Cond.instantiable "java/lang/ArrayIndexOutOfBoundsException" (6 : Nat)) ∈ lw_all := lw_g (lw_at lw_m6 239 rfl) rfl
theorem q1600 : (Jvm.Cond.instanceMethod ({ cls := "java/lang/ArrayIndexOutOfBoundsException", name := "<init>", desc := "(Ljava/lang/String;)V" } : Jvm.MethodName)) ∈ lw_all := lw_g (lw_at lw_m7 0 rfl) rfl
theorem q1601 : (Jvm.Cond.code ({ cls := "java/lang/ArrayIndexOutOfBoundsException", name := "<init>", desc := "(Ljava/lang/String;)V" } : Jvm.MethodName) prog_25_method_2_code (2 : Nat) (Option.none : Option Jvm.ClassFile.FieldType)) ∈ lw_all := lw_g (lw_at lw_m7 1 rfl) rfl
theorem q1602 : (Jvm.Cond.methodLink "java/lang/ArrayIndexOutOfBoundsException" (7 : Nat) ({ cls := "java/lang/IndexOutOfBoundsException", name := "<init>", desc := "(Ljava/lang/String;)V" } : Jvm.MethodName)) ∈ lw_all := lw_g (lw_at lw_m7 2 rfl) rfl
theorem q1614 : (Jvm.Cond.lays "java/lang/ArrayIndexOutOfBoundsException" "java/lang/Throwable" "backtrace" "Ljava/lang/Object;") ∈ lw_all := lw_g (lw_at lw_m7 14 rfl) rfl
theorem q1615 : (Jvm.Cond.lays "java/lang/ArrayIndexOutOfBoundsException" "java/lang/Throwable" "detailMessage" "Ljava/lang/String;") ∈ lw_all := lw_g (lw_at lw_m7 15 rfl) rfl
theorem q1616 : (Jvm.Cond.lays "java/lang/ArrayIndexOutOfBoundsException" "java/lang/Throwable" "cause" "Ljava/lang/Throwable;") ∈ lw_all := lw_g (lw_at lw_m7 16 rfl) rfl
theorem q1617 : (Jvm.Cond.lays "java/lang/ArrayIndexOutOfBoundsException" "java/lang/Throwable" "stackTrace" "[Ljava/lang/StackTraceElement;") ∈ lw_all := lw_g (lw_at lw_m7 17 rfl) rfl
theorem q1618 : (Jvm.Cond.lays "java/lang/ArrayIndexOutOfBoundsException" "java/lang/Throwable" "depth" "I") ∈ lw_all := lw_g (lw_at lw_m7 18 rfl) rfl
theorem q1619 : (Jvm.Cond.lays "java/lang/ArrayIndexOutOfBoundsException" "java/lang/Throwable" "suppressedExceptions" "Ljava/util/List;") ∈ lw_all := lw_g (lw_at lw_m7 19 rfl) rfl
theorem q1620 : (Jvm.Cond.superclass "java/lang/ArrayIndexOutOfBoundsException" "java/lang/IndexOutOfBoundsException") ∈ lw_all := lw_g (lw_at lw_m7 20 rfl) rfl
theorem q1621 : (Jvm.Cond.castable "java/lang/ArrayIndexOutOfBoundsException" "java/lang/ArrayIndexOutOfBoundsException") ∈ lw_tbl := lw_at lw_m7 21 rfl
theorem q1626 : (Jvm.Cond.selects "java/lang/ArrayIndexOutOfBoundsException" ({ cls := "java/lang/Throwable", name := "fillInStackTrace", desc := "(I)Ljava/lang/Throwable;" } : Jvm.MethodName) ({ cls := "java/lang/Throwable", name := "fillInStackTrace", desc := "(I)Ljava/lang/Throwable;" } : Jvm.MethodName)) ∈ lw_all := lw_g (lw_at lw_m7 26 rfl) rfl
theorem q2402 : (Jvm.Cond.castable "java/lang/ArrayIndexOutOfBoundsException" "java/lang/IndexOutOfBoundsException") ∈ lw_tbl := lw_at lw_m10 82 rfl
theorem q2424 : (Jvm.Cond.castable "java/lang/ArrayIndexOutOfBoundsException" "java/lang/Object") ∈ lw_tbl := lw_at lw_m10 104 rfl
theorem in_J17 : ∀ w ∈ wsJ170, w ∈ lw_all := lw_in wsJ170 [1614, 1615, 1616, 1617, 1618, 1619] (by decide +kernel) (by decide +kernel)

abbrev cJ18_init : ByteArray := prog_46_method_1_code
def yJ18_init : MethodName := ⟨RJ18, "<init>", "()V"⟩
theorem dJ18_init_0 : decode cJ18_init 0 = .ok (.aload_n 0, 1) := by decide +kernel
theorem dJ18_init_1 : decode cJ18_init 1 = .ok (.invokespecial 1, 3) := by decide +kernel
theorem dJ18_init_4 : decode cJ18_init 4 = .ok (.return_, 1) := by decide +kernel
theorem q201 : (Jvm.Cond.initialized "java/util/NoSuchElementException") ∈ lw_all := lw_g (lw_at lw_m1 41 rfl) rfl
theorem q761 : (Jvm.Cond.selects "java/util/NoSuchElementException" ({ cls := "java/lang/Throwable", name := "fillInStackTrace", desc := "()Ljava/lang/Throwable;" } : Jvm.MethodName) ({ cls := "java/lang/Throwable", name := "fillInStackTrace", desc := "()Ljava/lang/Throwable;" } : Jvm.MethodName)) ∈ lw_all := lw_g (lw_at lw_m3 121 rfl) rfl
theorem q919 : (Jvm.Cond.selects "java/util/NoSuchElementException" ({ cls := "java/lang/Object", name := "getClass", desc := "()Ljava/lang/Class;" } : Jvm.MethodName) ({ cls := "java/lang/Object", name := "getClass", desc := "()Ljava/lang/Class;" } : Jvm.MethodName)) ∈ lw_all := lw_g (lw_at lw_m4 39 rfl) rfl
theorem q1660 : (Jvm.Cond.instantiable "java/util/NoSuchElementException" (6 : Nat)) ∈ lw_all := lw_g (lw_at lw_m7 60 rfl) rfl
theorem q1661 : (Jvm.Cond.castable "java/util/NoSuchElementException" "java/util/NoSuchElementException") ∈ lw_tbl := lw_at lw_m7 61 rfl
theorem q1662 : (Jvm.Cond.selects "java/util/NoSuchElementException" ({ cls := "java/lang/Throwable", name := "fillInStackTrace", desc := "(I)Ljava/lang/Throwable;" } : Jvm.MethodName) ({ cls := "java/lang/Throwable", name := "fillInStackTrace", desc := "(I)Ljava/lang/Throwable;" } : Jvm.MethodName)) ∈ lw_all := lw_g (lw_at lw_m7 62 rfl) rfl
theorem q1663 : (Jvm.Cond.lays "java/util/NoSuchElementException" "java/lang/Throwable" "cause" "Ljava/lang/Throwable;") ∈ lw_all := lw_g (lw_at lw_m7 63 rfl) rfl
theorem q1664 : (Jvm.Cond.lays "java/util/NoSuchElementException" "java/lang/Throwable" "stackTrace" "[Ljava/lang/StackTraceElement;") ∈ lw_all := lw_g (lw_at lw_m7 64 rfl) rfl
theorem q1665 : (Jvm.Cond.lays "java/util/NoSuchElementException" "java/lang/Throwable" "suppressedExceptions" "Ljava/util/List;") ∈ lw_all := lw_g (lw_at lw_m7 65 rfl) rfl
theorem q1666 : (Jvm.Cond.lays "java/util/NoSuchElementException" "java/lang/Throwable" "detailMessage" "Ljava/lang/String;") ∈ lw_all := lw_g (lw_at lw_m7 66 rfl) rfl
theorem q1667 : (Jvm.Cond.lays "java/util/NoSuchElementException" "java/lang/Throwable" "backtrace" "Ljava/lang/Object;") ∈ lw_all := lw_g (lw_at lw_m7 67 rfl) rfl
theorem q1669 : (Jvm.Cond.instanceMethod ({ cls := "java/util/NoSuchElementException", name := "<init>", desc := "()V" } : Jvm.MethodName)) ∈ lw_all := lw_g (lw_at lw_m7 69 rfl) rfl
theorem q1670 : (Jvm.Cond.code ({ cls := "java/util/NoSuchElementException", name := "<init>", desc := "()V" } : Jvm.MethodName) prog_46_method_1_code (1 : Nat) (Option.none : Option Jvm.ClassFile.FieldType)) ∈ lw_all := lw_g (lw_at lw_m7 70 rfl) rfl
theorem q1671 : (Jvm.Cond.methodLink "java/util/NoSuchElementException" (1 : Nat) ({ cls := "java/lang/RuntimeException", name := "<init>", desc := "()V" } : Jvm.MethodName)) ∈ lw_all := lw_g (lw_at lw_m7 71 rfl) rfl
theorem q1672 : (Jvm.Cond.lays "java/util/NoSuchElementException" "java/lang/Throwable" "depth" "I") ∈ lw_all := lw_g (lw_at lw_m7 72 rfl) rfl
theorem q1673 : (Jvm.Cond.superclass "java/util/NoSuchElementException" "java/lang/RuntimeException") ∈ lw_all := lw_g (lw_at lw_m7 73 rfl) rfl
theorem q2426 : (Jvm.Cond.castable "java/util/NoSuchElementException" "java/lang/Object") ∈ lw_tbl := lw_at lw_m10 106 rfl
theorem in_J18 : ∀ w ∈ wsJ180, w ∈ lw_all := lw_in wsJ180 [1663, 1664, 1665, 1666, 1667, 1672] (by decide +kernel) (by decide +kernel)

abbrev cJ19_bitCount : ByteArray := prog_30_method_49_code
def yJ19_bitCount : MethodName := ⟨RJ19, "bitCount", "(I)I"⟩
def dkwJ19_bitCount_2 : List UInt8 := [26, 16, 63, 126, 172]
abbrev dktJ19_bitCount_2 : List UInt8 := dkwJ19_bitCount_2 ++ []
def dkwJ19_bitCount_1 : List UInt8 := [26, 26, 7, 124, 96, 19, 1, 11, 126, 59, 26, 26, 16, 8, 124, 96, 59, 26, 26, 16, 16, 124, 96, 59]
abbrev dktJ19_bitCount_1 : List UInt8 := dkwJ19_bitCount_1 ++ dktJ19_bitCount_2
def dkwJ19_bitCount_0 : List UInt8 := [26, 26, 4, 124, 19, 1, 9, 126, 100, 59, 26, 19, 1, 10, 126, 26, 5, 124, 19, 1, 10, 126, 96, 59]
abbrev dktJ19_bitCount_0 : List UInt8 := dkwJ19_bitCount_0 ++ dktJ19_bitCount_1
theorem dksJ19_bitCount_0 : cJ19_bitCount.data.toList.drop 0 = dktJ19_bitCount_0 := by decide +kernel
theorem dksJ19_bitCount_1 : cJ19_bitCount.data.toList.drop 24 = dktJ19_bitCount_1 := dk_seg dksJ19_bitCount_0 24 rfl rfl
theorem dksJ19_bitCount_2 : cJ19_bitCount.data.toList.drop 48 = dktJ19_bitCount_2 := dk_seg dksJ19_bitCount_1 24 rfl rfl
theorem dJ19_bitCount_0 : decode cJ19_bitCount 0 = .ok (.iload_n 0, 1) := dk_26 (dk_at dksJ19_bitCount_0 0 rfl rfl)
theorem dJ19_bitCount_1 : decode cJ19_bitCount 1 = .ok (.iload_n 0, 1) := dk_26 (dk_at dksJ19_bitCount_0 1 rfl rfl)
theorem dJ19_bitCount_2 : decode cJ19_bitCount 2 = .ok (.iconst 1, 1) := dk_4 (dk_at dksJ19_bitCount_0 2 rfl rfl)
theorem dJ19_bitCount_3 : decode cJ19_bitCount 3 = .ok (.iushr, 1) := dk_124 (dk_at dksJ19_bitCount_0 3 rfl rfl)
theorem dJ19_bitCount_4 : decode cJ19_bitCount 4 = .ok (.ldc_w 265, 3) := dk_19 1 9 (dk_at dksJ19_bitCount_0 4 rfl rfl)
theorem dJ19_bitCount_7 : decode cJ19_bitCount 7 = .ok (.iand, 1) := dk_126 (dk_at dksJ19_bitCount_0 7 rfl rfl)
theorem dJ19_bitCount_8 : decode cJ19_bitCount 8 = .ok (.isub, 1) := dk_100 (dk_at dksJ19_bitCount_0 8 rfl rfl)
theorem dJ19_bitCount_9 : decode cJ19_bitCount 9 = .ok (.istore_n 0, 1) := dk_59 (dk_at dksJ19_bitCount_0 9 rfl rfl)
theorem dJ19_bitCount_10 : decode cJ19_bitCount 10 = .ok (.iload_n 0, 1) := dk_26 (dk_at dksJ19_bitCount_0 10 rfl rfl)
theorem dJ19_bitCount_11 : decode cJ19_bitCount 11 = .ok (.ldc_w 266, 3) := dk_19 1 10 (dk_at dksJ19_bitCount_0 11 rfl rfl)
theorem dJ19_bitCount_14 : decode cJ19_bitCount 14 = .ok (.iand, 1) := dk_126 (dk_at dksJ19_bitCount_0 14 rfl rfl)
theorem dJ19_bitCount_15 : decode cJ19_bitCount 15 = .ok (.iload_n 0, 1) := dk_26 (dk_at dksJ19_bitCount_0 15 rfl rfl)
theorem dJ19_bitCount_16 : decode cJ19_bitCount 16 = .ok (.iconst 2, 1) := dk_5 (dk_at dksJ19_bitCount_0 16 rfl rfl)
theorem dJ19_bitCount_17 : decode cJ19_bitCount 17 = .ok (.iushr, 1) := dk_124 (dk_at dksJ19_bitCount_0 17 rfl rfl)
theorem dJ19_bitCount_18 : decode cJ19_bitCount 18 = .ok (.ldc_w 266, 3) := dk_19 1 10 (dk_at dksJ19_bitCount_0 18 rfl rfl)
theorem dJ19_bitCount_21 : decode cJ19_bitCount 21 = .ok (.iand, 1) := dk_126 (dk_at dksJ19_bitCount_0 21 rfl rfl)
theorem dJ19_bitCount_22 : decode cJ19_bitCount 22 = .ok (.iadd, 1) := dk_96 (dk_at dksJ19_bitCount_0 22 rfl rfl)
theorem dJ19_bitCount_23 : decode cJ19_bitCount 23 = .ok (.istore_n 0, 1) := dk_59 (dk_at dksJ19_bitCount_0 23 rfl rfl)
theorem dJ19_bitCount_24 : decode cJ19_bitCount 24 = .ok (.iload_n 0, 1) := dk_26 (dk_at dksJ19_bitCount_1 0 rfl rfl)
theorem dJ19_bitCount_25 : decode cJ19_bitCount 25 = .ok (.iload_n 0, 1) := dk_26 (dk_at dksJ19_bitCount_1 1 rfl rfl)
theorem dJ19_bitCount_26 : decode cJ19_bitCount 26 = .ok (.iconst 4, 1) := dk_7 (dk_at dksJ19_bitCount_1 2 rfl rfl)
theorem dJ19_bitCount_27 : decode cJ19_bitCount 27 = .ok (.iushr, 1) := dk_124 (dk_at dksJ19_bitCount_1 3 rfl rfl)
theorem dJ19_bitCount_28 : decode cJ19_bitCount 28 = .ok (.iadd, 1) := dk_96 (dk_at dksJ19_bitCount_1 4 rfl rfl)
theorem dJ19_bitCount_29 : decode cJ19_bitCount 29 = .ok (.ldc_w 267, 3) := dk_19 1 11 (dk_at dksJ19_bitCount_1 5 rfl rfl)
theorem dJ19_bitCount_32 : decode cJ19_bitCount 32 = .ok (.iand, 1) := dk_126 (dk_at dksJ19_bitCount_1 8 rfl rfl)
theorem dJ19_bitCount_33 : decode cJ19_bitCount 33 = .ok (.istore_n 0, 1) := dk_59 (dk_at dksJ19_bitCount_1 9 rfl rfl)
theorem dJ19_bitCount_34 : decode cJ19_bitCount 34 = .ok (.iload_n 0, 1) := dk_26 (dk_at dksJ19_bitCount_1 10 rfl rfl)
theorem dJ19_bitCount_35 : decode cJ19_bitCount 35 = .ok (.iload_n 0, 1) := dk_26 (dk_at dksJ19_bitCount_1 11 rfl rfl)
theorem dJ19_bitCount_36 : decode cJ19_bitCount 36 = .ok (.bipush 8, 2) := dk_16 8 (dk_at dksJ19_bitCount_1 12 rfl rfl)
theorem dJ19_bitCount_38 : decode cJ19_bitCount 38 = .ok (.iushr, 1) := dk_124 (dk_at dksJ19_bitCount_1 14 rfl rfl)
theorem dJ19_bitCount_39 : decode cJ19_bitCount 39 = .ok (.iadd, 1) := dk_96 (dk_at dksJ19_bitCount_1 15 rfl rfl)
theorem dJ19_bitCount_40 : decode cJ19_bitCount 40 = .ok (.istore_n 0, 1) := dk_59 (dk_at dksJ19_bitCount_1 16 rfl rfl)
theorem dJ19_bitCount_41 : decode cJ19_bitCount 41 = .ok (.iload_n 0, 1) := dk_26 (dk_at dksJ19_bitCount_1 17 rfl rfl)
theorem dJ19_bitCount_42 : decode cJ19_bitCount 42 = .ok (.iload_n 0, 1) := dk_26 (dk_at dksJ19_bitCount_1 18 rfl rfl)
theorem dJ19_bitCount_43 : decode cJ19_bitCount 43 = .ok (.bipush 16, 2) := dk_16 16 (dk_at dksJ19_bitCount_1 19 rfl rfl)
theorem dJ19_bitCount_45 : decode cJ19_bitCount 45 = .ok (.iushr, 1) := dk_124 (dk_at dksJ19_bitCount_1 21 rfl rfl)
theorem dJ19_bitCount_46 : decode cJ19_bitCount 46 = .ok (.iadd, 1) := dk_96 (dk_at dksJ19_bitCount_1 22 rfl rfl)
theorem dJ19_bitCount_47 : decode cJ19_bitCount 47 = .ok (.istore_n 0, 1) := dk_59 (dk_at dksJ19_bitCount_1 23 rfl rfl)
theorem dJ19_bitCount_48 : decode cJ19_bitCount 48 = .ok (.iload_n 0, 1) := dk_26 (dk_at dksJ19_bitCount_2 0 rfl rfl)
theorem dJ19_bitCount_49 : decode cJ19_bitCount 49 = .ok (.bipush 63, 2) := dk_16 63 (dk_at dksJ19_bitCount_2 1 rfl rfl)
theorem dJ19_bitCount_51 : decode cJ19_bitCount 51 = .ok (.iand, 1) := dk_126 (dk_at dksJ19_bitCount_2 3 rfl rfl)
theorem dJ19_bitCount_52 : decode cJ19_bitCount 52 = .ok (.ireturn, 1) := dk_172 (dk_at dksJ19_bitCount_2 4 rfl rfl)
theorem q202 : (Jvm.Cond.initialized "java/lang/Integer") ∈ lw_all := lw_g (lw_at lw_m1 42 rfl) rfl
theorem q1417 : (Jvm.Cond.static ({ cls := "java/lang/Integer", name := "bitCount", desc := "(I)I" } : Jvm.MethodName)) ∈ lw_all := lw_g (lw_at lw_m6 57 rfl) rfl
theorem q1418 : (Jvm.Cond.code ({ cls := "java/lang/Integer", name := "bitCount", desc := "(I)I" } : Jvm.MethodName) prog_30_method_49_code (1 : Nat) (Option.some Jvm.ClassFile.FieldType.int)) ∈ lw_all := lw_g (lw_at lw_m6 58 rfl) rfl
theorem q1419 : (Jvm.Cond.constant "java/lang/Integer" (265 : Nat) (1431655765 : Int32)) ∈ lw_all := lw_g (lw_at lw_m6 59 rfl) rfl
theorem q1420 : (Jvm.Cond.constant "java/lang/Integer" (266 : Nat) (858993459 : Int32)) ∈ lw_all := lw_g (lw_at lw_m6 60 rfl) rfl
theorem q1421 : (Jvm.Cond.constant "java/lang/Integer" (267 : Nat) (252645135 : Int32)) ∈ lw_all := lw_g (lw_at lw_m6 61 rfl) rfl

abbrev cJ2_init : ByteArray := prog_42_method_2_code
def yJ2_init : MethodName := ⟨RJ2, "<init>", "()V"⟩
def dkwJ2_init_0 : List UInt8 := [42, 183, 0, 1, 42, 178, 0, 39, 181, 0, 9, 177]
abbrev dktJ2_init_0 : List UInt8 := dkwJ2_init_0 ++ []
theorem dksJ2_init_0 : cJ2_init.data.toList.drop 0 = dktJ2_init_0 := by decide +kernel
theorem dJ2_init_0 : decode cJ2_init 0 = .ok (.aload_n 0, 1) := dk_42 (dk_at dksJ2_init_0 0 rfl rfl)
theorem dJ2_init_1 : decode cJ2_init 1 = .ok (.invokespecial 1, 3) := dk_183 0 1 (dk_at dksJ2_init_0 1 rfl rfl)
theorem dJ2_init_4 : decode cJ2_init 4 = .ok (.aload_n 0, 1) := dk_42 (dk_at dksJ2_init_0 4 rfl rfl)
theorem dJ2_init_5 : decode cJ2_init 5 = .ok (.getstatic 39, 3) := dk_178 0 39 (dk_at dksJ2_init_0 5 rfl rfl)
theorem dJ2_init_8 : decode cJ2_init 8 = .ok (.putfield 9, 3) := dk_181 0 9 (dk_at dksJ2_init_0 8 rfl rfl)
theorem dJ2_init_11 : decode cJ2_init 11 = .ok (.return_, 1) := dk_177 (dk_at dksJ2_init_0 11 rfl rfl)
abbrev cJ2_size : ByteArray := prog_42_method_8_code
def yJ2_size : MethodName := ⟨RJ2, "size", "()I"⟩
theorem dJ2_size_0 : decode cJ2_size 0 = .ok (.aload_n 0, 1) := by decide +kernel
theorem dJ2_size_1 : decode cJ2_size 1 = .ok (.getfield 48, 3) := by decide +kernel
theorem dJ2_size_4 : decode cJ2_size 4 = .ok (.ireturn, 1) := by decide +kernel
abbrev cJ2_get : ByteArray := prog_42_method_20_code
def yJ2_get : MethodName := ⟨RJ2, "get", "(I)Ljava/lang/Object;"⟩
def dkwJ2_get_0 : List UInt8 := [27, 42, 180, 0, 48, 184, 0, 118, 87, 42, 27, 182, 0, 123, 176]
abbrev dktJ2_get_0 : List UInt8 := dkwJ2_get_0 ++ []
theorem dksJ2_get_0 : cJ2_get.data.toList.drop 0 = dktJ2_get_0 := by decide +kernel
theorem dJ2_get_0 : decode cJ2_get 0 = .ok (.iload_n 1, 1) := dk_27 (dk_at dksJ2_get_0 0 rfl rfl)
theorem dJ2_get_1 : decode cJ2_get 1 = .ok (.aload_n 0, 1) := dk_42 (dk_at dksJ2_get_0 1 rfl rfl)
theorem dJ2_get_2 : decode cJ2_get 2 = .ok (.getfield 48, 3) := dk_180 0 48 (dk_at dksJ2_get_0 2 rfl rfl)
theorem dJ2_get_5 : decode cJ2_get 5 = .ok (.invokestatic 118, 3) := dk_184 0 118 (dk_at dksJ2_get_0 5 rfl rfl)
theorem dJ2_get_8 : decode cJ2_get 8 = .ok (.pop, 1) := dk_87 (dk_at dksJ2_get_0 8 rfl rfl)
theorem dJ2_get_9 : decode cJ2_get 9 = .ok (.aload_n 0, 1) := dk_42 (dk_at dksJ2_get_0 9 rfl rfl)
theorem dJ2_get_10 : decode cJ2_get 10 = .ok (.iload_n 1, 1) := dk_27 (dk_at dksJ2_get_0 10 rfl rfl)
theorem dJ2_get_11 : decode cJ2_get 11 = .ok (.invokevirtual 123, 3) := dk_182 0 123 (dk_at dksJ2_get_0 11 rfl rfl)
theorem dJ2_get_14 : decode cJ2_get 14 = .ok (.areturn, 1) := dk_176 (dk_at dksJ2_get_0 14 rfl rfl)
abbrev cJ2_elementData : ByteArray := prog_42_method_18_code
def yJ2_elementData : MethodName := ⟨RJ2, "elementData", "(I)Ljava/lang/Object;"⟩
def dkwJ2_elementData_0 : List UInt8 := [42, 180, 0, 9, 27, 50, 176]
abbrev dktJ2_elementData_0 : List UInt8 := dkwJ2_elementData_0 ++ []
theorem dksJ2_elementData_0 : cJ2_elementData.data.toList.drop 0 = dktJ2_elementData_0 := by decide +kernel
theorem dJ2_elementData_0 : decode cJ2_elementData 0 = .ok (.aload_n 0, 1) := dk_42 (dk_at dksJ2_elementData_0 0 rfl rfl)
theorem dJ2_elementData_1 : decode cJ2_elementData 1 = .ok (.getfield 9, 3) := dk_180 0 9 (dk_at dksJ2_elementData_0 1 rfl rfl)
theorem dJ2_elementData_4 : decode cJ2_elementData 4 = .ok (.iload_n 1, 1) := dk_27 (dk_at dksJ2_elementData_0 4 rfl rfl)
theorem dJ2_elementData_5 : decode cJ2_elementData 5 = .ok (.aaload, 1) := dk_50 (dk_at dksJ2_elementData_0 5 rfl rfl)
theorem dJ2_elementData_6 : decode cJ2_elementData 6 = .ok (.areturn, 1) := dk_176 (dk_at dksJ2_elementData_0 6 rfl rfl)
abbrev cJ2_add : ByteArray := prog_42_method_25_code
def yJ2_add : MethodName := ⟨RJ2, "add", "(Ljava/lang/Object;)Z"⟩
def dkwJ2_add_1 : List UInt8 := [172]
abbrev dktJ2_add_1 : List UInt8 := dkwJ2_add_1 ++ []
def dkwJ2_add_0 : List UInt8 := [42, 89, 180, 0, 63, 4, 96, 181, 0, 63, 42, 43, 42, 180, 0, 9, 42, 180, 0, 48, 182, 0, 131, 4]
abbrev dktJ2_add_0 : List UInt8 := dkwJ2_add_0 ++ dktJ2_add_1
theorem dksJ2_add_0 : cJ2_add.data.toList.drop 0 = dktJ2_add_0 := by decide +kernel
theorem dksJ2_add_1 : cJ2_add.data.toList.drop 24 = dktJ2_add_1 := dk_seg dksJ2_add_0 24 rfl rfl
theorem dJ2_add_0 : decode cJ2_add 0 = .ok (.aload_n 0, 1) := dk_42 (dk_at dksJ2_add_0 0 rfl rfl)
theorem dJ2_add_1 : decode cJ2_add 1 = .ok (.dup, 1) := dk_89 (dk_at dksJ2_add_0 1 rfl rfl)
theorem dJ2_add_2 : decode cJ2_add 2 = .ok (.getfield 63, 3) := dk_180 0 63 (dk_at dksJ2_add_0 2 rfl rfl)
theorem dJ2_add_5 : decode cJ2_add 5 = .ok (.iconst 1, 1) := dk_4 (dk_at dksJ2_add_0 5 rfl rfl)
theorem dJ2_add_6 : decode cJ2_add 6 = .ok (.iadd, 1) := dk_96 (dk_at dksJ2_add_0 6 rfl rfl)
theorem dJ2_add_7 : decode cJ2_add 7 = .ok (.putfield 63, 3) := dk_181 0 63 (dk_at dksJ2_add_0 7 rfl rfl)
theorem dJ2_add_10 : decode cJ2_add 10 = .ok (.aload_n 0, 1) := dk_42 (dk_at dksJ2_add_0 10 rfl rfl)
theorem dJ2_add_11 : decode cJ2_add 11 = .ok (.aload_n 1, 1) := dk_43 (dk_at dksJ2_add_0 11 rfl rfl)
theorem dJ2_add_12 : decode cJ2_add 12 = .ok (.aload_n 0, 1) := dk_42 (dk_at dksJ2_add_0 12 rfl rfl)
theorem dJ2_add_13 : decode cJ2_add 13 = .ok (.getfield 9, 3) := dk_180 0 9 (dk_at dksJ2_add_0 13 rfl rfl)
theorem dJ2_add_16 : decode cJ2_add 16 = .ok (.aload_n 0, 1) := dk_42 (dk_at dksJ2_add_0 16 rfl rfl)
theorem dJ2_add_17 : decode cJ2_add 17 = .ok (.getfield 48, 3) := dk_180 0 48 (dk_at dksJ2_add_0 17 rfl rfl)
theorem dJ2_add_20 : decode cJ2_add 20 = .ok (.invokevirtual 131, 3) := dk_182 0 131 (dk_at dksJ2_add_0 20 rfl rfl)
theorem dJ2_add_23 : decode cJ2_add 23 = .ok (.iconst 1, 1) := dk_4 (dk_at dksJ2_add_0 23 rfl rfl)
theorem dJ2_add_24 : decode cJ2_add 24 = .ok (.ireturn, 1) := dk_172 (dk_at dksJ2_add_1 0 rfl rfl)
abbrev cJ2_add_2 : ByteArray := prog_42_method_24_code
def yJ2_add_2 : MethodName := ⟨RJ2, "add", "(Ljava/lang/Object;[Ljava/lang/Object;I)V"⟩
def dkwJ2_add_2_0 : List UInt8 := [29, 44, 190, 160, 0, 8, 42, 182, 0, 129, 77, 44, 29, 43, 83, 42, 29, 4, 96, 181, 0, 48, 177]
abbrev dktJ2_add_2_0 : List UInt8 := dkwJ2_add_2_0 ++ []
theorem dksJ2_add_2_0 : cJ2_add_2.data.toList.drop 0 = dktJ2_add_2_0 := by decide +kernel
theorem dJ2_add_2_0 : decode cJ2_add_2 0 = .ok (.iload_n 3, 1) := dk_29 (dk_at dksJ2_add_2_0 0 rfl rfl)
theorem dJ2_add_2_1 : decode cJ2_add_2 1 = .ok (.aload_n 2, 1) := dk_44 (dk_at dksJ2_add_2_0 1 rfl rfl)
theorem dJ2_add_2_2 : decode cJ2_add_2 2 = .ok (.arraylength, 1) := dk_190 (dk_at dksJ2_add_2_0 2 rfl rfl)
theorem dJ2_add_2_3 : decode cJ2_add_2 3 = .ok (.if_icmp .ne 8, 3) := dk_160 0 8 (dk_at dksJ2_add_2_0 3 rfl rfl)
theorem dJ2_add_2_6 : decode cJ2_add_2 6 = .ok (.aload_n 0, 1) := dk_42 (dk_at dksJ2_add_2_0 6 rfl rfl)
theorem dJ2_add_2_7 : decode cJ2_add_2 7 = .ok (.invokevirtual 129, 3) := dk_182 0 129 (dk_at dksJ2_add_2_0 7 rfl rfl)
theorem dJ2_add_2_10 : decode cJ2_add_2 10 = .ok (.astore_n 2, 1) := dk_77 (dk_at dksJ2_add_2_0 10 rfl rfl)
theorem dJ2_add_2_11 : decode cJ2_add_2 11 = .ok (.aload_n 2, 1) := dk_44 (dk_at dksJ2_add_2_0 11 rfl rfl)
theorem dJ2_add_2_12 : decode cJ2_add_2 12 = .ok (.iload_n 3, 1) := dk_29 (dk_at dksJ2_add_2_0 12 rfl rfl)
theorem dJ2_add_2_13 : decode cJ2_add_2 13 = .ok (.aload_n 1, 1) := dk_43 (dk_at dksJ2_add_2_0 13 rfl rfl)
theorem dJ2_add_2_14 : decode cJ2_add_2 14 = .ok (.aastore, 1) := dk_83 (dk_at dksJ2_add_2_0 14 rfl rfl)
theorem dJ2_add_2_15 : decode cJ2_add_2 15 = .ok (.aload_n 0, 1) := dk_42 (dk_at dksJ2_add_2_0 15 rfl rfl)
theorem dJ2_add_2_16 : decode cJ2_add_2 16 = .ok (.iload_n 3, 1) := dk_29 (dk_at dksJ2_add_2_0 16 rfl rfl)
theorem dJ2_add_2_17 : decode cJ2_add_2 17 = .ok (.iconst 1, 1) := dk_4 (dk_at dksJ2_add_2_0 17 rfl rfl)
theorem dJ2_add_2_18 : decode cJ2_add_2 18 = .ok (.iadd, 1) := dk_96 (dk_at dksJ2_add_2_0 18 rfl rfl)
theorem dJ2_add_2_19 : decode cJ2_add_2 19 = .ok (.putfield 48, 3) := dk_181 0 48 (dk_at dksJ2_add_2_0 19 rfl rfl)
theorem dJ2_add_2_22 : decode cJ2_add_2 22 = .ok (.return_, 1) := dk_177 (dk_at dksJ2_add_2_0 22 rfl rfl)
abbrev cJ2_grow : ByteArray := prog_42_method_7_code
def yJ2_grow : MethodName := ⟨RJ2, "grow", "()[Ljava/lang/Object;"⟩
def dkwJ2_grow_0 : List UInt8 := [42, 42, 180, 0, 48, 4, 96, 182, 0, 69, 176]
abbrev dktJ2_grow_0 : List UInt8 := dkwJ2_grow_0 ++ []
theorem dksJ2_grow_0 : cJ2_grow.data.toList.drop 0 = dktJ2_grow_0 := by decide +kernel
theorem dJ2_grow_0 : decode cJ2_grow 0 = .ok (.aload_n 0, 1) := dk_42 (dk_at dksJ2_grow_0 0 rfl rfl)
theorem dJ2_grow_1 : decode cJ2_grow 1 = .ok (.aload_n 0, 1) := dk_42 (dk_at dksJ2_grow_0 1 rfl rfl)
theorem dJ2_grow_2 : decode cJ2_grow 2 = .ok (.getfield 48, 3) := dk_180 0 48 (dk_at dksJ2_grow_0 2 rfl rfl)
theorem dJ2_grow_5 : decode cJ2_grow 5 = .ok (.iconst 1, 1) := dk_4 (dk_at dksJ2_grow_0 5 rfl rfl)
theorem dJ2_grow_6 : decode cJ2_grow 6 = .ok (.iadd, 1) := dk_96 (dk_at dksJ2_grow_0 6 rfl rfl)
theorem dJ2_grow_7 : decode cJ2_grow 7 = .ok (.invokevirtual 69, 3) := dk_182 0 69 (dk_at dksJ2_grow_0 7 rfl rfl)
theorem dJ2_grow_10 : decode cJ2_grow 10 = .ok (.areturn, 1) := dk_176 (dk_at dksJ2_grow_0 10 rfl rfl)
abbrev cJ2_grow_2 : ByteArray := prog_42_method_6_code
def yJ2_grow_2 : MethodName := ⟨RJ2, "grow", "(I)[Ljava/lang/Object;"⟩
def dkwJ2_grow_2_2 : List UInt8 := [27, 184, 0, 79, 189, 0, 7, 90, 181, 0, 9, 176]
abbrev dktJ2_grow_2_2 : List UInt8 := dkwJ2_grow_2_2 ++ []
def dkwJ2_grow_2_1 : List UInt8 := [28, 4, 122, 184, 0, 73, 62, 42, 42, 180, 0, 9, 29, 184, 0, 66, 90, 181, 0, 9, 176, 42, 16, 10]
abbrev dktJ2_grow_2_1 : List UInt8 := dkwJ2_grow_2_1 ++ dktJ2_grow_2_2
def dkwJ2_grow_2_0 : List UInt8 := [42, 180, 0, 9, 190, 61, 28, 157, 0, 13, 42, 180, 0, 9, 178, 0, 39, 165, 0, 28, 28, 27, 28, 100]
abbrev dktJ2_grow_2_0 : List UInt8 := dkwJ2_grow_2_0 ++ dktJ2_grow_2_1
theorem dksJ2_grow_2_0 : cJ2_grow_2.data.toList.drop 0 = dktJ2_grow_2_0 := by decide +kernel
theorem dksJ2_grow_2_1 : cJ2_grow_2.data.toList.drop 24 = dktJ2_grow_2_1 := dk_seg dksJ2_grow_2_0 24 rfl rfl
theorem dksJ2_grow_2_2 : cJ2_grow_2.data.toList.drop 48 = dktJ2_grow_2_2 := dk_seg dksJ2_grow_2_1 24 rfl rfl
theorem dJ2_grow_2_0 : decode cJ2_grow_2 0 = .ok (.aload_n 0, 1) := dk_42 (dk_at dksJ2_grow_2_0 0 rfl rfl)
theorem dJ2_grow_2_1 : decode cJ2_grow_2 1 = .ok (.getfield 9, 3) := dk_180 0 9 (dk_at dksJ2_grow_2_0 1 rfl rfl)
theorem dJ2_grow_2_4 : decode cJ2_grow_2 4 = .ok (.arraylength, 1) := dk_190 (dk_at dksJ2_grow_2_0 4 rfl rfl)
theorem dJ2_grow_2_5 : decode cJ2_grow_2 5 = .ok (.istore_n 2, 1) := dk_61 (dk_at dksJ2_grow_2_0 5 rfl rfl)
theorem dJ2_grow_2_6 : decode cJ2_grow_2 6 = .ok (.iload_n 2, 1) := dk_28 (dk_at dksJ2_grow_2_0 6 rfl rfl)
theorem dJ2_grow_2_7 : decode cJ2_grow_2 7 = .ok (.ifCond .gt 13, 3) := dk_157 0 13 (dk_at dksJ2_grow_2_0 7 rfl rfl)
theorem dJ2_grow_2_10 : decode cJ2_grow_2 10 = .ok (.aload_n 0, 1) := dk_42 (dk_at dksJ2_grow_2_0 10 rfl rfl)
theorem dJ2_grow_2_11 : decode cJ2_grow_2 11 = .ok (.getfield 9, 3) := dk_180 0 9 (dk_at dksJ2_grow_2_0 11 rfl rfl)
theorem dJ2_grow_2_14 : decode cJ2_grow_2 14 = .ok (.getstatic 39, 3) := dk_178 0 39 (dk_at dksJ2_grow_2_0 14 rfl rfl)
theorem dJ2_grow_2_17 : decode cJ2_grow_2 17 = .ok (.if_acmp .eq 28, 3) := dk_165 0 28 (dk_at dksJ2_grow_2_0 17 rfl rfl)
theorem dJ2_grow_2_20 : decode cJ2_grow_2 20 = .ok (.iload_n 2, 1) := dk_28 (dk_at dksJ2_grow_2_0 20 rfl rfl)
theorem dJ2_grow_2_21 : decode cJ2_grow_2 21 = .ok (.iload_n 1, 1) := dk_27 (dk_at dksJ2_grow_2_0 21 rfl rfl)
theorem dJ2_grow_2_22 : decode cJ2_grow_2 22 = .ok (.iload_n 2, 1) := dk_28 (dk_at dksJ2_grow_2_0 22 rfl rfl)
theorem dJ2_grow_2_23 : decode cJ2_grow_2 23 = .ok (.isub, 1) := dk_100 (dk_at dksJ2_grow_2_0 23 rfl rfl)
theorem dJ2_grow_2_24 : decode cJ2_grow_2 24 = .ok (.iload_n 2, 1) := dk_28 (dk_at dksJ2_grow_2_1 0 rfl rfl)
theorem dJ2_grow_2_25 : decode cJ2_grow_2 25 = .ok (.iconst 1, 1) := dk_4 (dk_at dksJ2_grow_2_1 1 rfl rfl)
theorem dJ2_grow_2_26 : decode cJ2_grow_2 26 = .ok (.ishr, 1) := dk_122 (dk_at dksJ2_grow_2_1 2 rfl rfl)
theorem dJ2_grow_2_27 : decode cJ2_grow_2 27 = .ok (.invokestatic 73, 3) := dk_184 0 73 (dk_at dksJ2_grow_2_1 3 rfl rfl)
theorem dJ2_grow_2_30 : decode cJ2_grow_2 30 = .ok (.istore_n 3, 1) := dk_62 (dk_at dksJ2_grow_2_1 6 rfl rfl)
theorem dJ2_grow_2_31 : decode cJ2_grow_2 31 = .ok (.aload_n 0, 1) := dk_42 (dk_at dksJ2_grow_2_1 7 rfl rfl)
theorem dJ2_grow_2_32 : decode cJ2_grow_2 32 = .ok (.aload_n 0, 1) := dk_42 (dk_at dksJ2_grow_2_1 8 rfl rfl)
theorem dJ2_grow_2_33 : decode cJ2_grow_2 33 = .ok (.getfield 9, 3) := dk_180 0 9 (dk_at dksJ2_grow_2_1 9 rfl rfl)
theorem dJ2_grow_2_36 : decode cJ2_grow_2 36 = .ok (.iload_n 3, 1) := dk_29 (dk_at dksJ2_grow_2_1 12 rfl rfl)
theorem dJ2_grow_2_37 : decode cJ2_grow_2 37 = .ok (.invokestatic 66, 3) := dk_184 0 66 (dk_at dksJ2_grow_2_1 13 rfl rfl)
theorem dJ2_grow_2_40 : decode cJ2_grow_2 40 = .ok (.dup_x1, 1) := dk_90 (dk_at dksJ2_grow_2_1 16 rfl rfl)
theorem dJ2_grow_2_41 : decode cJ2_grow_2 41 = .ok (.putfield 9, 3) := dk_181 0 9 (dk_at dksJ2_grow_2_1 17 rfl rfl)
theorem dJ2_grow_2_44 : decode cJ2_grow_2 44 = .ok (.areturn, 1) := dk_176 (dk_at dksJ2_grow_2_1 20 rfl rfl)
theorem dJ2_grow_2_45 : decode cJ2_grow_2 45 = .ok (.aload_n 0, 1) := dk_42 (dk_at dksJ2_grow_2_1 21 rfl rfl)
theorem dJ2_grow_2_46 : decode cJ2_grow_2 46 = .ok (.bipush 10, 2) := dk_16 10 (dk_at dksJ2_grow_2_1 22 rfl rfl)
theorem dJ2_grow_2_48 : decode cJ2_grow_2 48 = .ok (.iload_n 1, 1) := dk_27 (dk_at dksJ2_grow_2_2 0 rfl rfl)
theorem dJ2_grow_2_49 : decode cJ2_grow_2 49 = .ok (.invokestatic 79, 3) := dk_184 0 79 (dk_at dksJ2_grow_2_2 1 rfl rfl)
theorem dJ2_grow_2_52 : decode cJ2_grow_2 52 = .ok (.anewarray 7, 3) := dk_189 0 7 (dk_at dksJ2_grow_2_2 4 rfl rfl)
theorem dJ2_grow_2_55 : decode cJ2_grow_2 55 = .ok (.dup_x1, 1) := dk_90 (dk_at dksJ2_grow_2_2 7 rfl rfl)
theorem dJ2_grow_2_56 : decode cJ2_grow_2 56 = .ok (.putfield 9, 3) := dk_181 0 9 (dk_at dksJ2_grow_2_2 8 rfl rfl)
theorem dJ2_grow_2_59 : decode cJ2_grow_2 59 = .ok (.areturn, 1) := dk_176 (dk_at dksJ2_grow_2_2 11 rfl rfl)
theorem q165 : (Jvm.Cond.initialized "java/util/ArrayList") ∈ lw_all := lw_g (lw_at lw_m1 5 rfl) rfl
theorem q218 : (Jvm.Cond.instantiable "java/util/ArrayList" (3 : Nat)) ∈ lw_all := lw_g (lw_at lw_m1 58 rfl) rfl
theorem q220 : (Jvm.Cond.instanceMethod ({ cls := "java/util/ArrayList", name := "<init>", desc := "()V" } : Jvm.MethodName)) ∈ lw_all := lw_g (lw_at lw_m1 60 rfl) rfl
theorem q221 : (Jvm.Cond.code ({ cls := "java/util/ArrayList", name := "<init>", desc := "()V" } : Jvm.MethodName) prog_42_method_2_code (1 : Nat) (Option.none : Option Jvm.ClassFile.FieldType)) ∈ lw_all := lw_g (lw_at lw_m1 61 rfl) rfl
theorem q222 : (Jvm.Cond.methodLink "java/util/ArrayList" (1 : Nat) ({ cls := "java/util/AbstractList", name := "<init>", desc := "()V" } : Jvm.MethodName)) ∈ lw_all := lw_g (lw_at lw_m1 62 rfl) rfl
theorem q229 : (Jvm.Cond.fieldLink "java/util/ArrayList" (39 : Nat) "java/util/ArrayList" "DEFAULTCAPACITY_EMPTY_ELEMENTDATA" "[Ljava/lang/Object;") ∈ lw_all := lw_g (lw_at lw_m1 69 rfl) rfl
theorem q230 : (Jvm.Cond.laysStatic "java/util/ArrayList" "DEFAULTCAPACITY_EMPTY_ELEMENTDATA" "[Ljava/lang/Object;") ∈ lw_tbl := lw_at lw_m1 70 rfl
theorem q231 : (Jvm.Cond.fieldLink "java/util/ArrayList" (9 : Nat) "java/util/ArrayList" "elementData" "[Ljava/lang/Object;") ∈ lw_all := lw_g (lw_at lw_m1 71 rfl) rfl
theorem q232 : (Jvm.Cond.fieldLink "java/util/ArrayList" (48 : Nat) "java/util/ArrayList" "size" "I") ∈ lw_all := lw_g (lw_at lw_m1 72 rfl) rfl
theorem q234 : (Jvm.Cond.fieldLink "java/util/ArrayList" (63 : Nat) "java/util/ArrayList" "modCount" "I") ∈ lw_all := lw_g (lw_at lw_m1 74 rfl) rfl
theorem q235 : (Jvm.Cond.sameField "java/util/ArrayList" "java/util/AbstractList" "modCount" "I") ∈ lw_all := lw_g (lw_at lw_m1 75 rfl) rfl
theorem q236 : (Jvm.Cond.lays "java/util/ArrayList" "java/util/ArrayList" "elementData" "[Ljava/lang/Object;") ∈ lw_all := lw_g (lw_at lw_m1 76 rfl) rfl
theorem q237 : (Jvm.Cond.soleField "java/util/ArrayList" "elementData") ∈ lw_all := lw_g (lw_at lw_m1 77 rfl) rfl
theorem q238 : (Jvm.Cond.lays "java/util/ArrayList" "java/util/ArrayList" "size" "I") ∈ lw_all := lw_g (lw_at lw_m1 78 rfl) rfl
theorem q239 : (Jvm.Cond.soleField "java/util/ArrayList" "size") ∈ lw_all := lw_g (lw_at lw_m1 79 rfl) rfl
theorem q240 : (Jvm.Cond.lays "java/util/ArrayList" "java/util/AbstractList" "modCount" "I") ∈ lw_all := lw_g (lw_at lw_m1 80 rfl) rfl
theorem q242 : (Jvm.Cond.superclass "java/util/ArrayList" "java/util/AbstractList") ∈ lw_all := lw_g (lw_at lw_m1 82 rfl) rfl
theorem q803 : (Jvm.Cond.instanceMethod ({ cls := "java/util/ArrayList", name := "size", desc := "()I" } : Jvm.MethodName)) ∈ lw_all := lw_g (lw_at lw_m3 163 rfl) rfl
theorem q804 : (Jvm.Cond.selects "java/util/ArrayList" ({ cls := "java/util/ArrayList", name := "size", desc := "()I" } : Jvm.MethodName) ({ cls := "java/util/ArrayList", name := "size", desc := "()I" } : Jvm.MethodName)) ∈ lw_all := lw_g (lw_at lw_m3 164 rfl) rfl
theorem q805 : (Jvm.Cond.code ({ cls := "java/util/ArrayList", name := "size", desc := "()I" } : Jvm.MethodName) prog_42_method_8_code (1 : Nat) (Option.some Jvm.ClassFile.FieldType.int)) ∈ lw_all := lw_g (lw_at lw_m3 165 rfl) rfl
theorem q820 : (Jvm.Cond.instanceMethod ({ cls := "java/util/ArrayList", name := "get", desc := "(I)Ljava/lang/Object;" } : Jvm.MethodName)) ∈ lw_all := lw_g (lw_at lw_m3 180 rfl) rfl
theorem q821 : (Jvm.Cond.selects "java/util/ArrayList" ({ cls := "java/util/ArrayList", name := "get", desc := "(I)Ljava/lang/Object;" } : Jvm.MethodName) ({ cls := "java/util/ArrayList", name := "get", desc := "(I)Ljava/lang/Object;" } : Jvm.MethodName)) ∈ lw_all := lw_g (lw_at lw_m3 181 rfl) rfl
theorem q822 : (Jvm.Cond.code ({ cls := "java/util/ArrayList", name := "get", desc := "(I)Ljava/lang/Object;" } : Jvm.MethodName) prog_42_method_20_code (2 : Nat) (Option.some (Jvm.ClassFile.FieldType.object "java/lang/Object"))) ∈ lw_all := lw_g (lw_at lw_m3 182 rfl) rfl
theorem q823 : (Jvm.Cond.methodLink "java/util/ArrayList" (118 : Nat) ({ cls := "java/util/Objects", name := "checkIndex", desc := "(II)I" } : Jvm.MethodName)) ∈ lw_all := lw_g (lw_at lw_m3 183 rfl) rfl
theorem q827 : (Jvm.Cond.methodLink "java/util/ArrayList" (123 : Nat) ({ cls := "java/util/ArrayList", name := "elementData", desc := "(I)Ljava/lang/Object;" } : Jvm.MethodName)) ∈ lw_all := lw_g (lw_at lw_m3 187 rfl) rfl
theorem q828 : (Jvm.Cond.instanceMethod ({ cls := "java/util/ArrayList", name := "elementData", desc := "(I)Ljava/lang/Object;" } : Jvm.MethodName)) ∈ lw_all := lw_g (lw_at lw_m3 188 rfl) rfl
theorem q829 : (Jvm.Cond.selects "java/util/ArrayList" ({ cls := "java/util/ArrayList", name := "elementData", desc := "(I)Ljava/lang/Object;" } : Jvm.MethodName) ({ cls := "java/util/ArrayList", name := "elementData", desc := "(I)Ljava/lang/Object;" } : Jvm.MethodName)) ∈ lw_all := lw_g (lw_at lw_m3 189 rfl) rfl
theorem q830 : (Jvm.Cond.code ({ cls := "java/util/ArrayList", name := "elementData", desc := "(I)Ljava/lang/Object;" } : Jvm.MethodName) prog_42_method_18_code (2 : Nat) (Option.some (Jvm.ClassFile.FieldType.object "java/lang/Object"))) ∈ lw_all := lw_g (lw_at lw_m3 190 rfl) rfl
theorem q867 : (Jvm.Cond.instanceMethod ({ cls := "java/util/ArrayList", name := "add", desc := "(Ljava/lang/Object;)Z" } : Jvm.MethodName)) ∈ lw_all := lw_g (lw_at lw_m3 227 rfl) rfl
theorem q868 : (Jvm.Cond.selects "java/util/ArrayList" ({ cls := "java/util/ArrayList", name := "add", desc := "(Ljava/lang/Object;)Z" } : Jvm.MethodName) ({ cls := "java/util/ArrayList", name := "add", desc := "(Ljava/lang/Object;)Z" } : Jvm.MethodName)) ∈ lw_all := lw_g (lw_at lw_m3 228 rfl) rfl
theorem q869 : (Jvm.Cond.code ({ cls := "java/util/ArrayList", name := "add", desc := "(Ljava/lang/Object;)Z" } : Jvm.MethodName) prog_42_method_25_code (2 : Nat) (Option.some Jvm.ClassFile.FieldType.boolean)) ∈ lw_all := lw_g (lw_at lw_m3 229 rfl) rfl
theorem q870 : (Jvm.Cond.methodLink "java/util/ArrayList" (131 : Nat) ({ cls := "java/util/ArrayList", name := "add", desc := "(Ljava/lang/Object;[Ljava/lang/Object;I)V" } : Jvm.MethodName)) ∈ lw_all := lw_g (lw_at lw_m3 230 rfl) rfl
theorem q871 : (Jvm.Cond.privateMethod ({ cls := "java/util/ArrayList", name := "add", desc := "(Ljava/lang/Object;[Ljava/lang/Object;I)V" } : Jvm.MethodName)) ∈ lw_tbl := lw_at lw_m3 231 rfl
theorem q872 : (Jvm.Cond.instanceMethod ({ cls := "java/util/ArrayList", name := "add", desc := "(Ljava/lang/Object;[Ljava/lang/Object;I)V" } : Jvm.MethodName)) ∈ lw_all := lw_g (lw_at lw_m3 232 rfl) rfl
theorem q873 : (Jvm.Cond.code ({ cls := "java/util/ArrayList", name := "add", desc := "(Ljava/lang/Object;[Ljava/lang/Object;I)V" } : Jvm.MethodName) prog_42_method_24_code (4 : Nat) (Option.none : Option Jvm.ClassFile.FieldType)) ∈ lw_all := lw_g (lw_at lw_m3 233 rfl) rfl
theorem q874 : (Jvm.Cond.methodLink "java/util/ArrayList" (129 : Nat) ({ cls := "java/util/ArrayList", name := "grow", desc := "()[Ljava/lang/Object;" } : Jvm.MethodName)) ∈ lw_all := lw_g (lw_at lw_m3 234 rfl) rfl
theorem q875 : (Jvm.Cond.privateMethod ({ cls := "java/util/ArrayList", name := "grow", desc := "()[Ljava/lang/Object;" } : Jvm.MethodName)) ∈ lw_tbl := lw_at lw_m3 235 rfl
theorem q876 : (Jvm.Cond.instanceMethod ({ cls := "java/util/ArrayList", name := "grow", desc := "()[Ljava/lang/Object;" } : Jvm.MethodName)) ∈ lw_all := lw_g (lw_at lw_m3 236 rfl) rfl
theorem q877 : (Jvm.Cond.code ({ cls := "java/util/ArrayList", name := "grow", desc := "()[Ljava/lang/Object;" } : Jvm.MethodName) prog_42_method_7_code (1 : Nat) (Option.some (Jvm.ClassFile.FieldType.array (Jvm.ClassFile.FieldType.object "java/lang/Object")))) ∈ lw_all := lw_g (lw_at lw_m3 237 rfl) rfl
theorem q878 : (Jvm.Cond.methodLink "java/util/ArrayList" (69 : Nat) ({ cls := "java/util/ArrayList", name := "grow", desc := "(I)[Ljava/lang/Object;" } : Jvm.MethodName)) ∈ lw_all := lw_g (lw_at lw_m3 238 rfl) rfl
theorem q879 : (Jvm.Cond.privateMethod ({ cls := "java/util/ArrayList", name := "grow", desc := "(I)[Ljava/lang/Object;" } : Jvm.MethodName)) ∈ lw_tbl := lw_at lw_m3 239 rfl
theorem q880 : (Jvm.Cond.instanceMethod ({ cls := "java/util/ArrayList", name := "grow", desc := "(I)[Ljava/lang/Object;" } : Jvm.MethodName)) ∈ lw_all := lw_g (lw_at lw_m4 0 rfl) rfl
theorem q881 : (Jvm.Cond.code ({ cls := "java/util/ArrayList", name := "grow", desc := "(I)[Ljava/lang/Object;" } : Jvm.MethodName) prog_42_method_6_code (4 : Nat) (Option.some (Jvm.ClassFile.FieldType.array (Jvm.ClassFile.FieldType.object "java/lang/Object")))) ∈ lw_all := lw_g (lw_at lw_m4 1 rfl) rfl
theorem q882 : (Jvm.Cond.methodLink "java/util/ArrayList" (73 : Nat) ({ cls := "jdk/internal/util/ArraysSupport", name := "newLength", desc := "(III)I" } : Jvm.MethodName)) ∈ lw_all := lw_g (lw_at lw_m4 2 rfl) rfl
theorem q890 : (Jvm.Cond.methodLink "java/util/ArrayList" (66 : Nat) ({ cls := "java/util/Arrays", name := "copyOf", desc := "([Ljava/lang/Object;I)[Ljava/lang/Object;" } : Jvm.MethodName)) ∈ lw_all := lw_g (lw_at lw_m4 10 rfl) rfl
theorem q918 : (Jvm.Cond.selects "java/util/ArrayList" ({ cls := "java/lang/Object", name := "getClass", desc := "()Ljava/lang/Class;" } : Jvm.MethodName) ({ cls := "java/lang/Object", name := "getClass", desc := "()Ljava/lang/Class;" } : Jvm.MethodName)) ∈ lw_all := lw_g (lw_at lw_m4 38 rfl) rfl
theorem q931 : (Jvm.Cond.methodLink "java/util/ArrayList" (79 : Nat) ({ cls := "java/lang/Math", name := "max", desc := "(II)I" } : Jvm.MethodName)) ∈ lw_all := lw_g (lw_at lw_m4 51 rfl) rfl
theorem q932 : (Jvm.Cond.classLink "java/util/ArrayList" (7 : Nat) "java/lang/Object") ∈ lw_all := lw_g (lw_at lw_m4 52 rfl) rfl
theorem q2405 : (Jvm.Cond.castable "java/util/ArrayList" "java/lang/Object") ∈ lw_tbl := lw_at lw_m10 85 rfl
theorem in_J2 : ∀ w ∈ wsJ20, w ∈ lw_all := lw_in wsJ20 [240, 236, 238] (by decide +kernel) (by decide +kernel)

abbrev cJ20_init : ByteArray := object_method_1_code
def yJ20_init : MethodName := ⟨RJ20, "<init>", "()V"⟩
theorem dJ20_init_0 : decode cJ20_init 0 = .ok (.return_, 1) := by decide +kernel
theorem q209 : (Jvm.Cond.instanceMethod ({ cls := "java/lang/Object", name := "<init>", desc := "()V" } : Jvm.MethodName)) ∈ lw_all := lw_g (lw_at lw_m1 49 rfl) rfl
theorem q210 : (Jvm.Cond.code ({ cls := "java/lang/Object", name := "<init>", desc := "()V" } : Jvm.MethodName) object_method_1_code (1 : Nat) (Option.none : Option Jvm.ClassFile.FieldType)) ∈ lw_all := lw_g (lw_at lw_m1 50 rfl) rfl
theorem q894 : (Jvm.Cond.instanceMethod ({ cls := "java/lang/Object", name := "getClass", desc := "()Ljava/lang/Class;" } : Jvm.MethodName)) ∈ lw_all := lw_g (lw_at lw_m4 14 rfl) rfl
theorem q895 : (Jvm.Cond.sameMethod "java/lang/Object" "java/lang/Object" "getClass" "()Ljava/lang/Class;") ∈ lw_all := lw_g (lw_at lw_m4 15 rfl) rfl
theorem q920 : (Jvm.Cond.native ({ cls := "java/lang/Object", name := "getClass", desc := "()Ljava/lang/Class;" } : Jvm.MethodName)) ∈ lw_all := lw_g (lw_at lw_m4 40 rfl) rfl
theorem q2401 : (Jvm.Cond.initialized "java/lang/Object") ∈ lw_all := lw_g (lw_at lw_m10 81 rfl) rfl
theorem q2431 : (Jvm.Cond.declares ({ cls := "java/lang/Object", name := "getClass", desc := "()Ljava/lang/Class;" } : Jvm.MethodName)) ∈ lw_tbl := lw_at lw_m10 111 rfl

abbrev cJ3_length : ByteArray := prog_35_method_54_code
def yJ3_length : MethodName := ⟨RJ3, "length", "()I"⟩
def dkwJ3_length_0 : List UInt8 := [42, 180, 0, 9, 190, 42, 182, 1, 79, 122, 172]
abbrev dktJ3_length_0 : List UInt8 := dkwJ3_length_0 ++ []
theorem dksJ3_length_0 : cJ3_length.data.toList.drop 0 = dktJ3_length_0 := by decide +kernel
theorem dJ3_length_0 : decode cJ3_length 0 = .ok (.aload_n 0, 1) := dk_42 (dk_at dksJ3_length_0 0 rfl rfl)
theorem dJ3_length_1 : decode cJ3_length 1 = .ok (.getfield 9, 3) := dk_180 0 9 (dk_at dksJ3_length_0 1 rfl rfl)
theorem dJ3_length_4 : decode cJ3_length 4 = .ok (.arraylength, 1) := dk_190 (dk_at dksJ3_length_0 4 rfl rfl)
theorem dJ3_length_5 : decode cJ3_length 5 = .ok (.aload_n 0, 1) := dk_42 (dk_at dksJ3_length_0 5 rfl rfl)
theorem dJ3_length_6 : decode cJ3_length 6 = .ok (.invokevirtual 335, 3) := dk_182 1 79 (dk_at dksJ3_length_0 6 rfl rfl)
theorem dJ3_length_9 : decode cJ3_length 9 = .ok (.ishr, 1) := dk_122 (dk_at dksJ3_length_0 9 rfl rfl)
theorem dJ3_length_10 : decode cJ3_length 10 = .ok (.ireturn, 1) := dk_172 (dk_at dksJ3_length_0 10 rfl rfl)
abbrev cJ3_coder : ByteArray := prog_35_method_152_code
def yJ3_coder : MethodName := ⟨RJ3, "coder", "()B"⟩
def dkwJ3_coder_0 : List UInt8 := [178, 0, 38, 153, 0, 10, 42, 180, 0, 15, 167, 0, 4, 4, 172]
abbrev dktJ3_coder_0 : List UInt8 := dkwJ3_coder_0 ++ []
theorem dksJ3_coder_0 : cJ3_coder.data.toList.drop 0 = dktJ3_coder_0 := by decide +kernel
theorem dJ3_coder_0 : decode cJ3_coder 0 = .ok (.getstatic 38, 3) := dk_178 0 38 (dk_at dksJ3_coder_0 0 rfl rfl)
theorem dJ3_coder_3 : decode cJ3_coder 3 = .ok (.ifCond .eq 10, 3) := dk_153 0 10 (dk_at dksJ3_coder_0 3 rfl rfl)
theorem dJ3_coder_6 : decode cJ3_coder 6 = .ok (.aload_n 0, 1) := dk_42 (dk_at dksJ3_coder_0 6 rfl rfl)
theorem dJ3_coder_7 : decode cJ3_coder 7 = .ok (.getfield 15, 3) := dk_180 0 15 (dk_at dksJ3_coder_0 7 rfl rfl)
theorem dJ3_coder_10 : decode cJ3_coder 10 = .ok (.goto 4, 3) := dk_167 0 4 (dk_at dksJ3_coder_0 10 rfl rfl)
theorem dJ3_coder_13 : decode cJ3_coder 13 = .ok (.iconst 1, 1) := dk_4 (dk_at dksJ3_coder_0 13 rfl rfl)
theorem dJ3_coder_14 : decode cJ3_coder 14 = .ok (.ireturn, 1) := dk_172 (dk_at dksJ3_coder_0 14 rfl rfl)
abbrev cJ3_indexOf : ByteArray := prog_35_method_80_code
def yJ3_indexOf : MethodName := ⟨RJ3, "indexOf", "(II)I"⟩
def dkwJ3_indexOf_1 : List UInt8 := [180, 0, 9, 27, 28, 42, 182, 1, 249, 184, 2, 128, 172]
abbrev dktJ3_indexOf_1 : List UInt8 := dkwJ3_indexOf_1 ++ []
def dkwJ3_indexOf_0 : List UInt8 := [42, 182, 1, 236, 153, 0, 19, 42, 180, 0, 9, 27, 28, 42, 182, 1, 249, 184, 2, 125, 167, 0, 16, 42]
abbrev dktJ3_indexOf_0 : List UInt8 := dkwJ3_indexOf_0 ++ dktJ3_indexOf_1
theorem dksJ3_indexOf_0 : cJ3_indexOf.data.toList.drop 0 = dktJ3_indexOf_0 := by decide +kernel
theorem dksJ3_indexOf_1 : cJ3_indexOf.data.toList.drop 24 = dktJ3_indexOf_1 := dk_seg dksJ3_indexOf_0 24 rfl rfl
theorem dJ3_indexOf_0 : decode cJ3_indexOf 0 = .ok (.aload_n 0, 1) := dk_42 (dk_at dksJ3_indexOf_0 0 rfl rfl)
theorem dJ3_indexOf_1 : decode cJ3_indexOf 1 = .ok (.invokevirtual 492, 3) := dk_182 1 236 (dk_at dksJ3_indexOf_0 1 rfl rfl)
theorem dJ3_indexOf_4 : decode cJ3_indexOf 4 = .ok (.ifCond .eq 19, 3) := dk_153 0 19 (dk_at dksJ3_indexOf_0 4 rfl rfl)
theorem dJ3_indexOf_7 : decode cJ3_indexOf 7 = .ok (.aload_n 0, 1) := dk_42 (dk_at dksJ3_indexOf_0 7 rfl rfl)
theorem dJ3_indexOf_8 : decode cJ3_indexOf 8 = .ok (.getfield 9, 3) := dk_180 0 9 (dk_at dksJ3_indexOf_0 8 rfl rfl)
theorem dJ3_indexOf_11 : decode cJ3_indexOf 11 = .ok (.iload_n 1, 1) := dk_27 (dk_at dksJ3_indexOf_0 11 rfl rfl)
theorem dJ3_indexOf_12 : decode cJ3_indexOf 12 = .ok (.iload_n 2, 1) := dk_28 (dk_at dksJ3_indexOf_0 12 rfl rfl)
theorem dJ3_indexOf_13 : decode cJ3_indexOf 13 = .ok (.aload_n 0, 1) := dk_42 (dk_at dksJ3_indexOf_0 13 rfl rfl)
theorem dJ3_indexOf_14 : decode cJ3_indexOf 14 = .ok (.invokevirtual 505, 3) := dk_182 1 249 (dk_at dksJ3_indexOf_0 14 rfl rfl)
theorem dJ3_indexOf_17 : decode cJ3_indexOf 17 = .ok (.invokestatic 637, 3) := dk_184 2 125 (dk_at dksJ3_indexOf_0 17 rfl rfl)
theorem dJ3_indexOf_20 : decode cJ3_indexOf 20 = .ok (.goto 16, 3) := dk_167 0 16 (dk_at dksJ3_indexOf_0 20 rfl rfl)
theorem dJ3_indexOf_23 : decode cJ3_indexOf 23 = .ok (.aload_n 0, 1) := dk_42 (dk_at dksJ3_indexOf_0 23 rfl rfl)
theorem dJ3_indexOf_24 : decode cJ3_indexOf 24 = .ok (.getfield 9, 3) := dk_180 0 9 (dk_at dksJ3_indexOf_1 0 rfl rfl)
theorem dJ3_indexOf_27 : decode cJ3_indexOf 27 = .ok (.iload_n 1, 1) := dk_27 (dk_at dksJ3_indexOf_1 3 rfl rfl)
theorem dJ3_indexOf_28 : decode cJ3_indexOf 28 = .ok (.iload_n 2, 1) := dk_28 (dk_at dksJ3_indexOf_1 4 rfl rfl)
theorem dJ3_indexOf_29 : decode cJ3_indexOf 29 = .ok (.aload_n 0, 1) := dk_42 (dk_at dksJ3_indexOf_1 5 rfl rfl)
theorem dJ3_indexOf_30 : decode cJ3_indexOf 30 = .ok (.invokevirtual 505, 3) := dk_182 1 249 (dk_at dksJ3_indexOf_1 6 rfl rfl)
theorem dJ3_indexOf_33 : decode cJ3_indexOf 33 = .ok (.invokestatic 640, 3) := dk_184 2 128 (dk_at dksJ3_indexOf_1 9 rfl rfl)
theorem dJ3_indexOf_36 : decode cJ3_indexOf 36 = .ok (.ireturn, 1) := dk_172 (dk_at dksJ3_indexOf_1 12 rfl rfl)
abbrev cJ3_isLatin1 : ByteArray := prog_35_method_154_code
def yJ3_isLatin1 : MethodName := ⟨RJ3, "isLatin1", "()Z"⟩
def dkwJ3_isLatin1_0 : List UInt8 := [178, 0, 38, 153, 0, 14, 42, 180, 0, 15, 154, 0, 7, 4, 167, 0, 4, 3, 172]
abbrev dktJ3_isLatin1_0 : List UInt8 := dkwJ3_isLatin1_0 ++ []
theorem dksJ3_isLatin1_0 : cJ3_isLatin1.data.toList.drop 0 = dktJ3_isLatin1_0 := by decide +kernel
theorem dJ3_isLatin1_0 : decode cJ3_isLatin1 0 = .ok (.getstatic 38, 3) := dk_178 0 38 (dk_at dksJ3_isLatin1_0 0 rfl rfl)
theorem dJ3_isLatin1_3 : decode cJ3_isLatin1 3 = .ok (.ifCond .eq 14, 3) := dk_153 0 14 (dk_at dksJ3_isLatin1_0 3 rfl rfl)
theorem dJ3_isLatin1_6 : decode cJ3_isLatin1 6 = .ok (.aload_n 0, 1) := dk_42 (dk_at dksJ3_isLatin1_0 6 rfl rfl)
theorem dJ3_isLatin1_7 : decode cJ3_isLatin1 7 = .ok (.getfield 15, 3) := dk_180 0 15 (dk_at dksJ3_isLatin1_0 7 rfl rfl)
theorem dJ3_isLatin1_10 : decode cJ3_isLatin1 10 = .ok (.ifCond .ne 7, 3) := dk_154 0 7 (dk_at dksJ3_isLatin1_0 10 rfl rfl)
theorem dJ3_isLatin1_13 : decode cJ3_isLatin1 13 = .ok (.iconst 1, 1) := dk_4 (dk_at dksJ3_isLatin1_0 13 rfl rfl)
theorem dJ3_isLatin1_14 : decode cJ3_isLatin1 14 = .ok (.goto 4, 3) := dk_167 0 4 (dk_at dksJ3_isLatin1_0 14 rfl rfl)
theorem dJ3_isLatin1_17 : decode cJ3_isLatin1 17 = .ok (.iconst 0, 1) := dk_3 (dk_at dksJ3_isLatin1_0 17 rfl rfl)
theorem dJ3_isLatin1_18 : decode cJ3_isLatin1 18 = .ok (.ireturn, 1) := dk_172 (dk_at dksJ3_isLatin1_0 18 rfl rfl)
abbrev cJ3_checkBoundsBeginEnd : ByteArray := prog_35_method_158_code
def yJ3_checkBoundsBeginEnd : MethodName := ⟨RJ3, "checkBoundsBeginEnd", "(III)V"⟩
def dkwJ3_checkBoundsBeginEnd_0 : List UInt8 := [26, 27, 28, 178, 4, 29, 184, 4, 38, 87, 177]
abbrev dktJ3_checkBoundsBeginEnd_0 : List UInt8 := dkwJ3_checkBoundsBeginEnd_0 ++ []
theorem dksJ3_checkBoundsBeginEnd_0 : cJ3_checkBoundsBeginEnd.data.toList.drop 0 = dktJ3_checkBoundsBeginEnd_0 := by decide +kernel
theorem dJ3_checkBoundsBeginEnd_0 : decode cJ3_checkBoundsBeginEnd 0 = .ok (.iload_n 0, 1) := dk_26 (dk_at dksJ3_checkBoundsBeginEnd_0 0 rfl rfl)
theorem dJ3_checkBoundsBeginEnd_1 : decode cJ3_checkBoundsBeginEnd 1 = .ok (.iload_n 1, 1) := dk_27 (dk_at dksJ3_checkBoundsBeginEnd_0 1 rfl rfl)
theorem dJ3_checkBoundsBeginEnd_2 : decode cJ3_checkBoundsBeginEnd 2 = .ok (.iload_n 2, 1) := dk_28 (dk_at dksJ3_checkBoundsBeginEnd_0 2 rfl rfl)
theorem dJ3_checkBoundsBeginEnd_3 : decode cJ3_checkBoundsBeginEnd 3 = .ok (.getstatic 1053, 3) := dk_178 4 29 (dk_at dksJ3_checkBoundsBeginEnd_0 3 rfl rfl)
theorem dJ3_checkBoundsBeginEnd_6 : decode cJ3_checkBoundsBeginEnd 6 = .ok (.invokestatic 1062, 3) := dk_184 4 38 (dk_at dksJ3_checkBoundsBeginEnd_0 6 rfl rfl)
theorem dJ3_checkBoundsBeginEnd_9 : decode cJ3_checkBoundsBeginEnd 9 = .ok (.pop, 1) := dk_87 (dk_at dksJ3_checkBoundsBeginEnd_0 9 rfl rfl)
theorem dJ3_checkBoundsBeginEnd_10 : decode cJ3_checkBoundsBeginEnd 10 = .ok (.return_, 1) := dk_177 (dk_at dksJ3_checkBoundsBeginEnd_0 10 rfl rfl)
abbrev cJ3_charAt : ByteArray := prog_35_method_56_code
def yJ3_charAt : MethodName := ⟨RJ3, "charAt", "(I)C"⟩
def dkwJ3_charAt_1 : List UInt8 := [172]
abbrev dktJ3_charAt_1 : List UInt8 := dkwJ3_charAt_1 ++ []
def dkwJ3_charAt_0 : List UInt8 := [42, 182, 1, 236, 153, 0, 12, 42, 180, 0, 9, 27, 184, 1, 239, 172, 42, 180, 0, 9, 27, 184, 1, 242]
abbrev dktJ3_charAt_0 : List UInt8 := dkwJ3_charAt_0 ++ dktJ3_charAt_1
theorem dksJ3_charAt_0 : cJ3_charAt.data.toList.drop 0 = dktJ3_charAt_0 := by decide +kernel
theorem dksJ3_charAt_1 : cJ3_charAt.data.toList.drop 24 = dktJ3_charAt_1 := dk_seg dksJ3_charAt_0 24 rfl rfl
theorem dJ3_charAt_0 : decode cJ3_charAt 0 = .ok (.aload_n 0, 1) := dk_42 (dk_at dksJ3_charAt_0 0 rfl rfl)
theorem dJ3_charAt_1 : decode cJ3_charAt 1 = .ok (.invokevirtual 492, 3) := dk_182 1 236 (dk_at dksJ3_charAt_0 1 rfl rfl)
theorem dJ3_charAt_4 : decode cJ3_charAt 4 = .ok (.ifCond .eq 12, 3) := dk_153 0 12 (dk_at dksJ3_charAt_0 4 rfl rfl)
theorem dJ3_charAt_7 : decode cJ3_charAt 7 = .ok (.aload_n 0, 1) := dk_42 (dk_at dksJ3_charAt_0 7 rfl rfl)
theorem dJ3_charAt_8 : decode cJ3_charAt 8 = .ok (.getfield 9, 3) := dk_180 0 9 (dk_at dksJ3_charAt_0 8 rfl rfl)
theorem dJ3_charAt_11 : decode cJ3_charAt 11 = .ok (.iload_n 1, 1) := dk_27 (dk_at dksJ3_charAt_0 11 rfl rfl)
theorem dJ3_charAt_12 : decode cJ3_charAt 12 = .ok (.invokestatic 495, 3) := dk_184 1 239 (dk_at dksJ3_charAt_0 12 rfl rfl)
theorem dJ3_charAt_15 : decode cJ3_charAt 15 = .ok (.ireturn, 1) := dk_172 (dk_at dksJ3_charAt_0 15 rfl rfl)
theorem dJ3_charAt_16 : decode cJ3_charAt 16 = .ok (.aload_n 0, 1) := dk_42 (dk_at dksJ3_charAt_0 16 rfl rfl)
theorem dJ3_charAt_17 : decode cJ3_charAt 17 = .ok (.getfield 9, 3) := dk_180 0 9 (dk_at dksJ3_charAt_0 17 rfl rfl)
theorem dJ3_charAt_20 : decode cJ3_charAt 20 = .ok (.iload_n 1, 1) := dk_27 (dk_at dksJ3_charAt_0 20 rfl rfl)
theorem dJ3_charAt_21 : decode cJ3_charAt 21 = .ok (.invokestatic 498, 3) := dk_184 1 242 (dk_at dksJ3_charAt_0 21 rfl rfl)
theorem dJ3_charAt_24 : decode cJ3_charAt 24 = .ok (.ireturn, 1) := dk_172 (dk_at dksJ3_charAt_1 0 rfl rfl)
abbrev cJ3_checkIndex : ByteArray := prog_35_method_155_code
def yJ3_checkIndex : MethodName := ⟨RJ3, "checkIndex", "(II)V"⟩
def dkwJ3_checkIndex_0 : List UInt8 := [26, 27, 178, 4, 29, 184, 4, 35, 87, 177]
abbrev dktJ3_checkIndex_0 : List UInt8 := dkwJ3_checkIndex_0 ++ []
theorem dksJ3_checkIndex_0 : cJ3_checkIndex.data.toList.drop 0 = dktJ3_checkIndex_0 := by decide +kernel
theorem dJ3_checkIndex_0 : decode cJ3_checkIndex 0 = .ok (.iload_n 0, 1) := dk_26 (dk_at dksJ3_checkIndex_0 0 rfl rfl)
theorem dJ3_checkIndex_1 : decode cJ3_checkIndex 1 = .ok (.iload_n 1, 1) := dk_27 (dk_at dksJ3_checkIndex_0 1 rfl rfl)
theorem dJ3_checkIndex_2 : decode cJ3_checkIndex 2 = .ok (.getstatic 1053, 3) := dk_178 4 29 (dk_at dksJ3_checkIndex_0 2 rfl rfl)
theorem dJ3_checkIndex_5 : decode cJ3_checkIndex 5 = .ok (.invokestatic 1059, 3) := dk_184 4 35 (dk_at dksJ3_checkIndex_0 5 rfl rfl)
theorem dJ3_checkIndex_8 : decode cJ3_checkIndex 8 = .ok (.pop, 1) := dk_87 (dk_at dksJ3_checkIndex_0 8 rfl rfl)
theorem dJ3_checkIndex_9 : decode cJ3_checkIndex 9 = .ok (.return_, 1) := dk_177 (dk_at dksJ3_checkIndex_0 9 rfl rfl)
abbrev cJ3_indexOf_2 : ByteArray := prog_35_method_79_code
def yJ3_indexOf_2 : MethodName := ⟨RJ3, "indexOf", "(I)I"⟩
def dkwJ3_indexOf_2_0 : List UInt8 := [42, 27, 3, 182, 2, 121, 172]
abbrev dktJ3_indexOf_2_0 : List UInt8 := dkwJ3_indexOf_2_0 ++ []
theorem dksJ3_indexOf_2_0 : cJ3_indexOf_2.data.toList.drop 0 = dktJ3_indexOf_2_0 := by decide +kernel
theorem dJ3_indexOf_2_0 : decode cJ3_indexOf_2 0 = .ok (.aload_n 0, 1) := dk_42 (dk_at dksJ3_indexOf_2_0 0 rfl rfl)
theorem dJ3_indexOf_2_1 : decode cJ3_indexOf_2 1 = .ok (.iload_n 1, 1) := dk_27 (dk_at dksJ3_indexOf_2_0 1 rfl rfl)
theorem dJ3_indexOf_2_2 : decode cJ3_indexOf_2 2 = .ok (.iconst 0, 1) := dk_3 (dk_at dksJ3_indexOf_2_0 2 rfl rfl)
theorem dJ3_indexOf_2_3 : decode cJ3_indexOf_2 3 = .ok (.invokevirtual 633, 3) := dk_182 2 121 (dk_at dksJ3_indexOf_2_0 3 rfl rfl)
theorem dJ3_indexOf_2_6 : decode cJ3_indexOf_2 6 = .ok (.ireturn, 1) := dk_172 (dk_at dksJ3_indexOf_2_0 6 rfl rfl)
theorem q171 : (Jvm.Cond.initialized "java/lang/String") ∈ lw_all := lw_g (lw_at lw_m1 11 rfl) rfl
theorem q603 : (Jvm.Cond.instanceMethod ({ cls := "java/lang/String", name := "length", desc := "()I" } : Jvm.MethodName)) ∈ lw_all := lw_g (lw_at lw_m2 203 rfl) rfl
theorem q604 : (Jvm.Cond.selects "java/lang/String" ({ cls := "java/lang/String", name := "length", desc := "()I" } : Jvm.MethodName) ({ cls := "java/lang/String", name := "length", desc := "()I" } : Jvm.MethodName)) ∈ lw_all := lw_g (lw_at lw_m2 204 rfl) rfl
theorem q605 : (Jvm.Cond.code ({ cls := "java/lang/String", name := "length", desc := "()I" } : Jvm.MethodName) prog_35_method_54_code (1 : Nat) (Option.some Jvm.ClassFile.FieldType.int)) ∈ lw_all := lw_g (lw_at lw_m2 205 rfl) rfl
theorem q606 : (Jvm.Cond.methodLink "java/lang/String" (335 : Nat) ({ cls := "java/lang/String", name := "coder", desc := "()B" } : Jvm.MethodName)) ∈ lw_all := lw_g (lw_at lw_m2 206 rfl) rfl
theorem q607 : (Jvm.Cond.instanceMethod ({ cls := "java/lang/String", name := "coder", desc := "()B" } : Jvm.MethodName)) ∈ lw_all := lw_g (lw_at lw_m2 207 rfl) rfl
theorem q608 : (Jvm.Cond.selects "java/lang/String" ({ cls := "java/lang/String", name := "coder", desc := "()B" } : Jvm.MethodName) ({ cls := "java/lang/String", name := "coder", desc := "()B" } : Jvm.MethodName)) ∈ lw_all := lw_g (lw_at lw_m2 208 rfl) rfl
theorem q609 : (Jvm.Cond.code ({ cls := "java/lang/String", name := "coder", desc := "()B" } : Jvm.MethodName) prog_35_method_152_code (1 : Nat) (Option.some Jvm.ClassFile.FieldType.byte)) ∈ lw_all := lw_g (lw_at lw_m2 209 rfl) rfl
theorem q610 : (Jvm.Cond.fieldLink "java/lang/String" (38 : Nat) "java/lang/String" "COMPACT_STRINGS" "Z") ∈ lw_all := lw_g (lw_at lw_m2 210 rfl) rfl
theorem q611 : (Jvm.Cond.laysStatic "java/lang/String" "COMPACT_STRINGS" "Z") ∈ lw_tbl := lw_at lw_m2 211 rfl
theorem q613 : (Jvm.Cond.instanceMethod ({ cls := "java/lang/String", name := "indexOf", desc := "(II)I" } : Jvm.MethodName)) ∈ lw_all := lw_g (lw_at lw_m2 213 rfl) rfl
theorem q614 : (Jvm.Cond.selects "java/lang/String" ({ cls := "java/lang/String", name := "indexOf", desc := "(II)I" } : Jvm.MethodName) ({ cls := "java/lang/String", name := "indexOf", desc := "(II)I" } : Jvm.MethodName)) ∈ lw_all := lw_g (lw_at lw_m2 214 rfl) rfl
theorem q615 : (Jvm.Cond.code ({ cls := "java/lang/String", name := "indexOf", desc := "(II)I" } : Jvm.MethodName) prog_35_method_80_code (3 : Nat) (Option.some Jvm.ClassFile.FieldType.int)) ∈ lw_all := lw_g (lw_at lw_m2 215 rfl) rfl
theorem q616 : (Jvm.Cond.methodLink "java/lang/String" (492 : Nat) ({ cls := "java/lang/String", name := "isLatin1", desc := "()Z" } : Jvm.MethodName)) ∈ lw_all := lw_g (lw_at lw_m2 216 rfl) rfl
theorem q617 : (Jvm.Cond.instanceMethod ({ cls := "java/lang/String", name := "isLatin1", desc := "()Z" } : Jvm.MethodName)) ∈ lw_all := lw_g (lw_at lw_m2 217 rfl) rfl
theorem q618 : (Jvm.Cond.selects "java/lang/String" ({ cls := "java/lang/String", name := "isLatin1", desc := "()Z" } : Jvm.MethodName) ({ cls := "java/lang/String", name := "isLatin1", desc := "()Z" } : Jvm.MethodName)) ∈ lw_all := lw_g (lw_at lw_m2 218 rfl) rfl
theorem q619 : (Jvm.Cond.code ({ cls := "java/lang/String", name := "isLatin1", desc := "()Z" } : Jvm.MethodName) prog_35_method_154_code (1 : Nat) (Option.some Jvm.ClassFile.FieldType.boolean)) ∈ lw_all := lw_g (lw_at lw_m2 219 rfl) rfl
theorem q620 : (Jvm.Cond.methodLink "java/lang/String" (505 : Nat) ({ cls := "java/lang/String", name := "length", desc := "()I" } : Jvm.MethodName)) ∈ lw_all := lw_g (lw_at lw_m2 220 rfl) rfl
theorem q621 : (Jvm.Cond.methodLink "java/lang/String" (637 : Nat) ({ cls := "java/lang/StringLatin1", name := "indexOf", desc := "([BIII)I" } : Jvm.MethodName)) ∈ lw_all := lw_g (lw_at lw_m2 221 rfl) rfl
theorem q636 : (Jvm.Cond.methodLink "java/lang/String" (640 : Nat) ({ cls := "java/lang/StringUTF16", name := "indexOf", desc := "([BIII)I" } : Jvm.MethodName)) ∈ lw_all := lw_g (lw_at lw_m2 236 rfl) rfl
theorem q652 : (Jvm.Cond.static ({ cls := "java/lang/String", name := "checkBoundsBeginEnd", desc := "(III)V" } : Jvm.MethodName)) ∈ lw_all := lw_g (lw_at lw_m3 12 rfl) rfl
theorem q653 : (Jvm.Cond.code ({ cls := "java/lang/String", name := "checkBoundsBeginEnd", desc := "(III)V" } : Jvm.MethodName) prog_35_method_158_code (3 : Nat) (Option.none : Option Jvm.ClassFile.FieldType)) ∈ lw_all := lw_g (lw_at lw_m3 13 rfl) rfl
theorem q654 : (Jvm.Cond.fieldLink "java/lang/String" (1053 : Nat) "jdk/internal/util/Preconditions" "SIOOBE_FORMATTER" "Ljava/util/function/BiFunction;") ∈ lw_all := lw_g (lw_at lw_m3 14 rfl) rfl
theorem q656 : (Jvm.Cond.methodLink "java/lang/String" (1062 : Nat) ({ cls := "jdk/internal/util/Preconditions", name := "checkFromToIndex", desc := "(IIILjava/util/function/BiFunction;)I" } : Jvm.MethodName)) ∈ lw_all := lw_g (lw_at lw_m3 16 rfl) rfl
theorem q686 : (Jvm.Cond.instanceMethod ({ cls := "java/lang/String", name := "charAt", desc := "(I)C" } : Jvm.MethodName)) ∈ lw_all := lw_g (lw_at lw_m3 46 rfl) rfl
theorem q687 : (Jvm.Cond.selects "java/lang/String" ({ cls := "java/lang/String", name := "charAt", desc := "(I)C" } : Jvm.MethodName) ({ cls := "java/lang/String", name := "charAt", desc := "(I)C" } : Jvm.MethodName)) ∈ lw_all := lw_g (lw_at lw_m3 47 rfl) rfl
theorem q688 : (Jvm.Cond.code ({ cls := "java/lang/String", name := "charAt", desc := "(I)C" } : Jvm.MethodName) prog_35_method_56_code (2 : Nat) (Option.some Jvm.ClassFile.FieldType.char)) ∈ lw_all := lw_g (lw_at lw_m3 48 rfl) rfl
theorem q689 : (Jvm.Cond.methodLink "java/lang/String" (495 : Nat) ({ cls := "java/lang/StringLatin1", name := "charAt", desc := "([BI)C" } : Jvm.MethodName)) ∈ lw_all := lw_g (lw_at lw_m3 49 rfl) rfl
theorem q693 : (Jvm.Cond.static ({ cls := "java/lang/String", name := "checkIndex", desc := "(II)V" } : Jvm.MethodName)) ∈ lw_all := lw_g (lw_at lw_m3 53 rfl) rfl
theorem q694 : (Jvm.Cond.code ({ cls := "java/lang/String", name := "checkIndex", desc := "(II)V" } : Jvm.MethodName) prog_35_method_155_code (2 : Nat) (Option.none : Option Jvm.ClassFile.FieldType)) ∈ lw_all := lw_g (lw_at lw_m3 54 rfl) rfl
theorem q695 : (Jvm.Cond.methodLink "java/lang/String" (1059 : Nat) ({ cls := "jdk/internal/util/Preconditions", name := "checkIndex", desc := "(IILjava/util/function/BiFunction;)I" } : Jvm.MethodName)) ∈ lw_all := lw_g (lw_at lw_m3 55 rfl) rfl
theorem q698 : (Jvm.Cond.methodLink "java/lang/String" (498 : Nat) ({ cls := "java/lang/StringUTF16", name := "charAt", desc := "([BI)C" } : Jvm.MethodName)) ∈ lw_all := lw_g (lw_at lw_m3 58 rfl) rfl
theorem q720 : (Jvm.Cond.instanceMethod ({ cls := "java/lang/String", name := "indexOf", desc := "(I)I" } : Jvm.MethodName)) ∈ lw_all := lw_g (lw_at lw_m3 80 rfl) rfl
theorem q721 : (Jvm.Cond.selects "java/lang/String" ({ cls := "java/lang/String", name := "indexOf", desc := "(I)I" } : Jvm.MethodName) ({ cls := "java/lang/String", name := "indexOf", desc := "(I)I" } : Jvm.MethodName)) ∈ lw_all := lw_g (lw_at lw_m3 81 rfl) rfl
theorem q722 : (Jvm.Cond.code ({ cls := "java/lang/String", name := "indexOf", desc := "(I)I" } : Jvm.MethodName) prog_35_method_79_code (2 : Nat) (Option.some Jvm.ClassFile.FieldType.int)) ∈ lw_all := lw_g (lw_at lw_m3 82 rfl) rfl
theorem q723 : (Jvm.Cond.methodLink "java/lang/String" (633 : Nat) ({ cls := "java/lang/String", name := "indexOf", desc := "(II)I" } : Jvm.MethodName)) ∈ lw_all := lw_g (lw_at lw_m3 83 rfl) rfl
theorem q1627 : (Jvm.Cond.instantiable "java/lang/String" (4 : Nat)) ∈ lw_all := lw_g (lw_at lw_m7 27 rfl) rfl
theorem q1628 : (Jvm.Cond.laysFinal "java/lang/String" "java/lang/String" "value" "[B") ∈ lw_all := lw_g (lw_at lw_m7 28 rfl) rfl
theorem q1629 : (Jvm.Cond.soleField "java/lang/String" "value") ∈ lw_all := lw_g (lw_at lw_m7 29 rfl) rfl
theorem q1630 : (Jvm.Cond.laysFinal "java/lang/String" "java/lang/String" "coder" "B") ∈ lw_all := lw_g (lw_at lw_m7 30 rfl) rfl
theorem q1631 : (Jvm.Cond.soleField "java/lang/String" "coder") ∈ lw_all := lw_g (lw_at lw_m7 31 rfl) rfl
theorem q2428 : (Jvm.Cond.castable "java/lang/String" "java/lang/Object") ∈ lw_tbl := lw_at lw_m10 108 rfl
theorem q2437 : (Jvm.Cond.fieldLink "java/lang/String" (9 : Nat) "java/lang/String" "value" "[B") ∈ lw_all := lw_g (lw_at lw_m10 117 rfl) rfl
theorem q2438 : (Jvm.Cond.fieldLink "java/lang/String" (15 : Nat) "java/lang/String" "coder" "B") ∈ lw_all := lw_g (lw_at lw_m10 118 rfl) rfl
theorem in_J3 : ∀ w ∈ wsJ30, w ∈ lw_all := lw_in wsJ30 [1628, 1630] (by decide +kernel) (by decide +kernel)

abbrev cJ4_indexOf : ByteArray := prog_36_method_22_code
def yJ4_indexOf : MethodName := ⟨RJ4, "indexOf", "([BIII)I"⟩
def dkwJ4_indexOf_1 : List UInt8 := [161, 0, 5, 2, 172, 42, 27, 28, 29, 184, 0, 95, 172]
abbrev dktJ4_indexOf_1 : List UInt8 := dkwJ4_indexOf_1 ++ []
def dkwJ4_indexOf_0 : List UInt8 := [27, 184, 0, 88, 154, 0, 5, 2, 172, 28, 3, 184, 0, 92, 61, 29, 42, 190, 184, 0, 38, 62, 28, 29]
abbrev dktJ4_indexOf_0 : List UInt8 := dkwJ4_indexOf_0 ++ dktJ4_indexOf_1
theorem dksJ4_indexOf_0 : cJ4_indexOf.data.toList.drop 0 = dktJ4_indexOf_0 := by decide +kernel
theorem dksJ4_indexOf_1 : cJ4_indexOf.data.toList.drop 24 = dktJ4_indexOf_1 := dk_seg dksJ4_indexOf_0 24 rfl rfl
theorem dJ4_indexOf_0 : decode cJ4_indexOf 0 = .ok (.iload_n 1, 1) := dk_27 (dk_at dksJ4_indexOf_0 0 rfl rfl)
theorem dJ4_indexOf_1 : decode cJ4_indexOf 1 = .ok (.invokestatic 88, 3) := dk_184 0 88 (dk_at dksJ4_indexOf_0 1 rfl rfl)
theorem dJ4_indexOf_4 : decode cJ4_indexOf 4 = .ok (.ifCond .ne 5, 3) := dk_154 0 5 (dk_at dksJ4_indexOf_0 4 rfl rfl)
theorem dJ4_indexOf_7 : decode cJ4_indexOf 7 = .ok (.iconst (-1), 1) := dk_2 (dk_at dksJ4_indexOf_0 7 rfl rfl)
theorem dJ4_indexOf_8 : decode cJ4_indexOf 8 = .ok (.ireturn, 1) := dk_172 (dk_at dksJ4_indexOf_0 8 rfl rfl)
theorem dJ4_indexOf_9 : decode cJ4_indexOf 9 = .ok (.iload_n 2, 1) := dk_28 (dk_at dksJ4_indexOf_0 9 rfl rfl)
theorem dJ4_indexOf_10 : decode cJ4_indexOf 10 = .ok (.iconst 0, 1) := dk_3 (dk_at dksJ4_indexOf_0 10 rfl rfl)
theorem dJ4_indexOf_11 : decode cJ4_indexOf 11 = .ok (.invokestatic 92, 3) := dk_184 0 92 (dk_at dksJ4_indexOf_0 11 rfl rfl)
theorem dJ4_indexOf_14 : decode cJ4_indexOf 14 = .ok (.istore_n 2, 1) := dk_61 (dk_at dksJ4_indexOf_0 14 rfl rfl)
theorem dJ4_indexOf_15 : decode cJ4_indexOf 15 = .ok (.iload_n 3, 1) := dk_29 (dk_at dksJ4_indexOf_0 15 rfl rfl)
theorem dJ4_indexOf_16 : decode cJ4_indexOf 16 = .ok (.aload_n 0, 1) := dk_42 (dk_at dksJ4_indexOf_0 16 rfl rfl)
theorem dJ4_indexOf_17 : decode cJ4_indexOf 17 = .ok (.arraylength, 1) := dk_190 (dk_at dksJ4_indexOf_0 17 rfl rfl)
theorem dJ4_indexOf_18 : decode cJ4_indexOf 18 = .ok (.invokestatic 38, 3) := dk_184 0 38 (dk_at dksJ4_indexOf_0 18 rfl rfl)
theorem dJ4_indexOf_21 : decode cJ4_indexOf 21 = .ok (.istore_n 3, 1) := dk_62 (dk_at dksJ4_indexOf_0 21 rfl rfl)
theorem dJ4_indexOf_22 : decode cJ4_indexOf 22 = .ok (.iload_n 2, 1) := dk_28 (dk_at dksJ4_indexOf_0 22 rfl rfl)
theorem dJ4_indexOf_23 : decode cJ4_indexOf 23 = .ok (.iload_n 3, 1) := dk_29 (dk_at dksJ4_indexOf_0 23 rfl rfl)
theorem dJ4_indexOf_24 : decode cJ4_indexOf 24 = .ok (.if_icmp .lt 5, 3) := dk_161 0 5 (dk_at dksJ4_indexOf_1 0 rfl rfl)
theorem dJ4_indexOf_27 : decode cJ4_indexOf 27 = .ok (.iconst (-1), 1) := dk_2 (dk_at dksJ4_indexOf_1 3 rfl rfl)
theorem dJ4_indexOf_28 : decode cJ4_indexOf 28 = .ok (.ireturn, 1) := dk_172 (dk_at dksJ4_indexOf_1 4 rfl rfl)
theorem dJ4_indexOf_29 : decode cJ4_indexOf 29 = .ok (.aload_n 0, 1) := dk_42 (dk_at dksJ4_indexOf_1 5 rfl rfl)
theorem dJ4_indexOf_30 : decode cJ4_indexOf 30 = .ok (.iload_n 1, 1) := dk_27 (dk_at dksJ4_indexOf_1 6 rfl rfl)
theorem dJ4_indexOf_31 : decode cJ4_indexOf 31 = .ok (.iload_n 2, 1) := dk_28 (dk_at dksJ4_indexOf_1 7 rfl rfl)
theorem dJ4_indexOf_32 : decode cJ4_indexOf 32 = .ok (.iload_n 3, 1) := dk_29 (dk_at dksJ4_indexOf_1 8 rfl rfl)
theorem dJ4_indexOf_33 : decode cJ4_indexOf 33 = .ok (.invokestatic 95, 3) := dk_184 0 95 (dk_at dksJ4_indexOf_1 9 rfl rfl)
theorem dJ4_indexOf_36 : decode cJ4_indexOf 36 = .ok (.ireturn, 1) := dk_172 (dk_at dksJ4_indexOf_1 12 rfl rfl)
abbrev cJ4_canEncode : ByteArray := prog_36_method_4_code
def yJ4_canEncode : MethodName := ⟨RJ4, "canEncode", "(I)Z"⟩
def dkwJ4_canEncode_0 : List UInt8 := [26, 155, 0, 14, 26, 17, 0, 255, 163, 0, 7, 4, 167, 0, 4, 3, 172]
abbrev dktJ4_canEncode_0 : List UInt8 := dkwJ4_canEncode_0 ++ []
theorem dksJ4_canEncode_0 : cJ4_canEncode.data.toList.drop 0 = dktJ4_canEncode_0 := by decide +kernel
theorem dJ4_canEncode_0 : decode cJ4_canEncode 0 = .ok (.iload_n 0, 1) := dk_26 (dk_at dksJ4_canEncode_0 0 rfl rfl)
theorem dJ4_canEncode_1 : decode cJ4_canEncode 1 = .ok (.ifCond .lt 14, 3) := dk_155 0 14 (dk_at dksJ4_canEncode_0 1 rfl rfl)
theorem dJ4_canEncode_4 : decode cJ4_canEncode 4 = .ok (.iload_n 0, 1) := dk_26 (dk_at dksJ4_canEncode_0 4 rfl rfl)
theorem dJ4_canEncode_5 : decode cJ4_canEncode 5 = .ok (.sipush 255, 3) := dk_17 0 255 (dk_at dksJ4_canEncode_0 5 rfl rfl)
theorem dJ4_canEncode_8 : decode cJ4_canEncode 8 = .ok (.if_icmp .gt 7, 3) := dk_163 0 7 (dk_at dksJ4_canEncode_0 8 rfl rfl)
theorem dJ4_canEncode_11 : decode cJ4_canEncode 11 = .ok (.iconst 1, 1) := dk_4 (dk_at dksJ4_canEncode_0 11 rfl rfl)
theorem dJ4_canEncode_12 : decode cJ4_canEncode 12 = .ok (.goto 4, 3) := dk_167 0 4 (dk_at dksJ4_canEncode_0 12 rfl rfl)
theorem dJ4_canEncode_15 : decode cJ4_canEncode 15 = .ok (.iconst 0, 1) := dk_3 (dk_at dksJ4_canEncode_0 15 rfl rfl)
theorem dJ4_canEncode_16 : decode cJ4_canEncode 16 = .ok (.ireturn, 1) := dk_172 (dk_at dksJ4_canEncode_0 16 rfl rfl)
abbrev cJ4_indexOfChar : ByteArray := prog_36_method_23_code
def yJ4_indexOfChar : MethodName := ⟨RJ4, "indexOfChar", "([BIII)I"⟩
def dkwJ4_indexOfChar_1 : List UInt8 := [172, 132, 5, 1, 167, 255, 235, 2, 172]
abbrev dktJ4_indexOfChar_1 : List UInt8 := dkwJ4_indexOfChar_1 ++ []
def dkwJ4_indexOfChar_0 : List UInt8 := [27, 145, 54, 4, 28, 54, 5, 21, 5, 29, 162, 0, 21, 42, 21, 5, 51, 21, 4, 160, 0, 6, 21, 5]
abbrev dktJ4_indexOfChar_0 : List UInt8 := dkwJ4_indexOfChar_0 ++ dktJ4_indexOfChar_1
theorem dksJ4_indexOfChar_0 : cJ4_indexOfChar.data.toList.drop 0 = dktJ4_indexOfChar_0 := by decide +kernel
theorem dksJ4_indexOfChar_1 : cJ4_indexOfChar.data.toList.drop 24 = dktJ4_indexOfChar_1 := dk_seg dksJ4_indexOfChar_0 24 rfl rfl
theorem dJ4_indexOfChar_0 : decode cJ4_indexOfChar 0 = .ok (.iload_n 1, 1) := dk_27 (dk_at dksJ4_indexOfChar_0 0 rfl rfl)
theorem dJ4_indexOfChar_1 : decode cJ4_indexOfChar 1 = .ok (.i2b, 1) := dk_145 (dk_at dksJ4_indexOfChar_0 1 rfl rfl)
theorem dJ4_indexOfChar_2 : decode cJ4_indexOfChar 2 = .ok (.istore 4, 2) := dk_54 4 (dk_at dksJ4_indexOfChar_0 2 rfl rfl)
theorem dJ4_indexOfChar_4 : decode cJ4_indexOfChar 4 = .ok (.iload_n 2, 1) := dk_28 (dk_at dksJ4_indexOfChar_0 4 rfl rfl)
theorem dJ4_indexOfChar_5 : decode cJ4_indexOfChar 5 = .ok (.istore 5, 2) := dk_54 5 (dk_at dksJ4_indexOfChar_0 5 rfl rfl)
theorem dJ4_indexOfChar_7 : decode cJ4_indexOfChar 7 = .ok (.iload 5, 2) := dk_21 5 (dk_at dksJ4_indexOfChar_0 7 rfl rfl)
theorem dJ4_indexOfChar_9 : decode cJ4_indexOfChar 9 = .ok (.iload_n 3, 1) := dk_29 (dk_at dksJ4_indexOfChar_0 9 rfl rfl)
theorem dJ4_indexOfChar_10 : decode cJ4_indexOfChar 10 = .ok (.if_icmp .ge 21, 3) := dk_162 0 21 (dk_at dksJ4_indexOfChar_0 10 rfl rfl)
theorem dJ4_indexOfChar_13 : decode cJ4_indexOfChar 13 = .ok (.aload_n 0, 1) := dk_42 (dk_at dksJ4_indexOfChar_0 13 rfl rfl)
theorem dJ4_indexOfChar_14 : decode cJ4_indexOfChar 14 = .ok (.iload 5, 2) := dk_21 5 (dk_at dksJ4_indexOfChar_0 14 rfl rfl)
theorem dJ4_indexOfChar_16 : decode cJ4_indexOfChar 16 = .ok (.baload, 1) := dk_51 (dk_at dksJ4_indexOfChar_0 16 rfl rfl)
theorem dJ4_indexOfChar_17 : decode cJ4_indexOfChar 17 = .ok (.iload 4, 2) := dk_21 4 (dk_at dksJ4_indexOfChar_0 17 rfl rfl)
theorem dJ4_indexOfChar_19 : decode cJ4_indexOfChar 19 = .ok (.if_icmp .ne 6, 3) := dk_160 0 6 (dk_at dksJ4_indexOfChar_0 19 rfl rfl)
theorem dJ4_indexOfChar_22 : decode cJ4_indexOfChar 22 = .ok (.iload 5, 2) := dk_21 5 (dk_at dksJ4_indexOfChar_0 22 rfl rfl)
theorem dJ4_indexOfChar_24 : decode cJ4_indexOfChar 24 = .ok (.ireturn, 1) := dk_172 (dk_at dksJ4_indexOfChar_1 0 rfl rfl)
theorem dJ4_indexOfChar_25 : decode cJ4_indexOfChar 25 = .ok (.iinc 5 1, 3) := dk_132 5 1 (dk_at dksJ4_indexOfChar_1 1 rfl rfl)
theorem dJ4_indexOfChar_28 : decode cJ4_indexOfChar 28 = .ok (.goto (-21), 3) := dk_167 255 235 (dk_at dksJ4_indexOfChar_1 4 rfl rfl)
theorem dJ4_indexOfChar_31 : decode cJ4_indexOfChar 31 = .ok (.iconst (-1), 1) := dk_2 (dk_at dksJ4_indexOfChar_1 7 rfl rfl)
theorem dJ4_indexOfChar_32 : decode cJ4_indexOfChar 32 = .ok (.ireturn, 1) := dk_172 (dk_at dksJ4_indexOfChar_1 8 rfl rfl)
abbrev cJ4_charAt : ByteArray := prog_36_method_2_code
def yJ4_charAt : MethodName := ⟨RJ4, "charAt", "([BI)C"⟩
def dkwJ4_charAt_0 : List UInt8 := [27, 42, 190, 184, 0, 9, 42, 27, 51, 17, 0, 255, 126, 146, 172]
abbrev dktJ4_charAt_0 : List UInt8 := dkwJ4_charAt_0 ++ []
theorem dksJ4_charAt_0 : cJ4_charAt.data.toList.drop 0 = dktJ4_charAt_0 := by decide +kernel
theorem dJ4_charAt_0 : decode cJ4_charAt 0 = .ok (.iload_n 1, 1) := dk_27 (dk_at dksJ4_charAt_0 0 rfl rfl)
theorem dJ4_charAt_1 : decode cJ4_charAt 1 = .ok (.aload_n 0, 1) := dk_42 (dk_at dksJ4_charAt_0 1 rfl rfl)
theorem dJ4_charAt_2 : decode cJ4_charAt 2 = .ok (.arraylength, 1) := dk_190 (dk_at dksJ4_charAt_0 2 rfl rfl)
theorem dJ4_charAt_3 : decode cJ4_charAt 3 = .ok (.invokestatic 9, 3) := dk_184 0 9 (dk_at dksJ4_charAt_0 3 rfl rfl)
theorem dJ4_charAt_6 : decode cJ4_charAt 6 = .ok (.aload_n 0, 1) := dk_42 (dk_at dksJ4_charAt_0 6 rfl rfl)
theorem dJ4_charAt_7 : decode cJ4_charAt 7 = .ok (.iload_n 1, 1) := dk_27 (dk_at dksJ4_charAt_0 7 rfl rfl)
theorem dJ4_charAt_8 : decode cJ4_charAt 8 = .ok (.baload, 1) := dk_51 (dk_at dksJ4_charAt_0 8 rfl rfl)
theorem dJ4_charAt_9 : decode cJ4_charAt 9 = .ok (.sipush 255, 3) := dk_17 0 255 (dk_at dksJ4_charAt_0 9 rfl rfl)
theorem dJ4_charAt_12 : decode cJ4_charAt 12 = .ok (.iand, 1) := dk_126 (dk_at dksJ4_charAt_0 12 rfl rfl)
theorem dJ4_charAt_13 : decode cJ4_charAt 13 = .ok (.i2c, 1) := dk_146 (dk_at dksJ4_charAt_0 13 rfl rfl)
theorem dJ4_charAt_14 : decode cJ4_charAt 14 = .ok (.ireturn, 1) := dk_172 (dk_at dksJ4_charAt_0 14 rfl rfl)
theorem q172 : (Jvm.Cond.initialized "java/lang/StringLatin1") ∈ lw_all := lw_g (lw_at lw_m1 12 rfl) rfl
theorem q622 : (Jvm.Cond.static ({ cls := "java/lang/StringLatin1", name := "indexOf", desc := "([BIII)I" } : Jvm.MethodName)) ∈ lw_all := lw_g (lw_at lw_m2 222 rfl) rfl
theorem q623 : (Jvm.Cond.code ({ cls := "java/lang/StringLatin1", name := "indexOf", desc := "([BIII)I" } : Jvm.MethodName) prog_36_method_22_code (4 : Nat) (Option.some Jvm.ClassFile.FieldType.int)) ∈ lw_all := lw_g (lw_at lw_m2 223 rfl) rfl
theorem q624 : (Jvm.Cond.methodLink "java/lang/StringLatin1" (88 : Nat) ({ cls := "java/lang/StringLatin1", name := "canEncode", desc := "(I)Z" } : Jvm.MethodName)) ∈ lw_all := lw_g (lw_at lw_m2 224 rfl) rfl
theorem q625 : (Jvm.Cond.static ({ cls := "java/lang/StringLatin1", name := "canEncode", desc := "(I)Z" } : Jvm.MethodName)) ∈ lw_all := lw_g (lw_at lw_m2 225 rfl) rfl
theorem q626 : (Jvm.Cond.code ({ cls := "java/lang/StringLatin1", name := "canEncode", desc := "(I)Z" } : Jvm.MethodName) prog_36_method_4_code (1 : Nat) (Option.some Jvm.ClassFile.FieldType.boolean)) ∈ lw_all := lw_g (lw_at lw_m2 226 rfl) rfl
theorem q627 : (Jvm.Cond.methodLink "java/lang/StringLatin1" (92 : Nat) ({ cls := "java/lang/Math", name := "max", desc := "(II)I" } : Jvm.MethodName)) ∈ lw_all := lw_g (lw_at lw_m2 227 rfl) rfl
theorem q630 : (Jvm.Cond.methodLink "java/lang/StringLatin1" (38 : Nat) ({ cls := "java/lang/Math", name := "min", desc := "(II)I" } : Jvm.MethodName)) ∈ lw_all := lw_g (lw_at lw_m2 230 rfl) rfl
theorem q633 : (Jvm.Cond.methodLink "java/lang/StringLatin1" (95 : Nat) ({ cls := "java/lang/StringLatin1", name := "indexOfChar", desc := "([BIII)I" } : Jvm.MethodName)) ∈ lw_all := lw_g (lw_at lw_m2 233 rfl) rfl
theorem q634 : (Jvm.Cond.static ({ cls := "java/lang/StringLatin1", name := "indexOfChar", desc := "([BIII)I" } : Jvm.MethodName)) ∈ lw_all := lw_g (lw_at lw_m2 234 rfl) rfl
theorem q635 : (Jvm.Cond.code ({ cls := "java/lang/StringLatin1", name := "indexOfChar", desc := "([BIII)I" } : Jvm.MethodName) prog_36_method_23_code (6 : Nat) (Option.some Jvm.ClassFile.FieldType.int)) ∈ lw_all := lw_g (lw_at lw_m2 235 rfl) rfl
theorem q690 : (Jvm.Cond.static ({ cls := "java/lang/StringLatin1", name := "charAt", desc := "([BI)C" } : Jvm.MethodName)) ∈ lw_all := lw_g (lw_at lw_m3 50 rfl) rfl
theorem q691 : (Jvm.Cond.code ({ cls := "java/lang/StringLatin1", name := "charAt", desc := "([BI)C" } : Jvm.MethodName) prog_36_method_2_code (2 : Nat) (Option.some Jvm.ClassFile.FieldType.char)) ∈ lw_all := lw_g (lw_at lw_m3 51 rfl) rfl
theorem q692 : (Jvm.Cond.methodLink "java/lang/StringLatin1" (9 : Nat) ({ cls := "java/lang/String", name := "checkIndex", desc := "(II)V" } : Jvm.MethodName)) ∈ lw_all := lw_g (lw_at lw_m3 52 rfl) rfl

abbrev cJ5_max : ByteArray := prog_32_method_65_code
def yJ5_max : MethodName := ⟨RJ5, "max", "(II)I"⟩
def dkwJ5_max_0 : List UInt8 := [26, 27, 161, 0, 7, 26, 167, 0, 4, 27, 172]
abbrev dktJ5_max_0 : List UInt8 := dkwJ5_max_0 ++ []
theorem dksJ5_max_0 : cJ5_max.data.toList.drop 0 = dktJ5_max_0 := by decide +kernel
theorem dJ5_max_0 : decode cJ5_max 0 = .ok (.iload_n 0, 1) := dk_26 (dk_at dksJ5_max_0 0 rfl rfl)
theorem dJ5_max_1 : decode cJ5_max 1 = .ok (.iload_n 1, 1) := dk_27 (dk_at dksJ5_max_0 1 rfl rfl)
theorem dJ5_max_2 : decode cJ5_max 2 = .ok (.if_icmp .lt 7, 3) := dk_161 0 7 (dk_at dksJ5_max_0 2 rfl rfl)
theorem dJ5_max_5 : decode cJ5_max 5 = .ok (.iload_n 0, 1) := dk_26 (dk_at dksJ5_max_0 5 rfl rfl)
theorem dJ5_max_6 : decode cJ5_max 6 = .ok (.goto 4, 3) := dk_167 0 4 (dk_at dksJ5_max_0 6 rfl rfl)
theorem dJ5_max_9 : decode cJ5_max 9 = .ok (.iload_n 1, 1) := dk_27 (dk_at dksJ5_max_0 9 rfl rfl)
theorem dJ5_max_10 : decode cJ5_max 10 = .ok (.ireturn, 1) := dk_172 (dk_at dksJ5_max_0 10 rfl rfl)
abbrev cJ5_min : ByteArray := prog_32_method_69_code
def yJ5_min : MethodName := ⟨RJ5, "min", "(II)I"⟩
def dkwJ5_min_0 : List UInt8 := [26, 27, 163, 0, 7, 26, 167, 0, 4, 27, 172]
abbrev dktJ5_min_0 : List UInt8 := dkwJ5_min_0 ++ []
theorem dksJ5_min_0 : cJ5_min.data.toList.drop 0 = dktJ5_min_0 := by decide +kernel
theorem dJ5_min_0 : decode cJ5_min 0 = .ok (.iload_n 0, 1) := dk_26 (dk_at dksJ5_min_0 0 rfl rfl)
theorem dJ5_min_1 : decode cJ5_min 1 = .ok (.iload_n 1, 1) := dk_27 (dk_at dksJ5_min_0 1 rfl rfl)
theorem dJ5_min_2 : decode cJ5_min 2 = .ok (.if_icmp .gt 7, 3) := dk_163 0 7 (dk_at dksJ5_min_0 2 rfl rfl)
theorem dJ5_min_5 : decode cJ5_min 5 = .ok (.iload_n 0, 1) := dk_26 (dk_at dksJ5_min_0 5 rfl rfl)
theorem dJ5_min_6 : decode cJ5_min 6 = .ok (.goto 4, 3) := dk_167 0 4 (dk_at dksJ5_min_0 6 rfl rfl)
theorem dJ5_min_9 : decode cJ5_min 9 = .ok (.iload_n 1, 1) := dk_27 (dk_at dksJ5_min_0 9 rfl rfl)
theorem dJ5_min_10 : decode cJ5_min 10 = .ok (.ireturn, 1) := dk_172 (dk_at dksJ5_min_0 10 rfl rfl)
abbrev cJ5_abs : ByteArray := prog_32_method_61_code
def yJ5_abs : MethodName := ⟨RJ5, "abs", "(J)J"⟩
def dkwJ5_abs_0 : List UInt8 := [30, 9, 148, 156, 0, 8, 30, 117, 167, 0, 4, 30, 173]
abbrev dktJ5_abs_0 : List UInt8 := dkwJ5_abs_0 ++ []
theorem dksJ5_abs_0 : cJ5_abs.data.toList.drop 0 = dktJ5_abs_0 := by decide +kernel
theorem dJ5_abs_0 : decode cJ5_abs 0 = .ok (.lload_n 0, 1) := dk_30 (dk_at dksJ5_abs_0 0 rfl rfl)
theorem dJ5_abs_1 : decode cJ5_abs 1 = .ok (.lconst 0, 1) := dk_9 (dk_at dksJ5_abs_0 1 rfl rfl)
theorem dJ5_abs_2 : decode cJ5_abs 2 = .ok (.lcmp, 1) := dk_148 (dk_at dksJ5_abs_0 2 rfl rfl)
theorem dJ5_abs_3 : decode cJ5_abs 3 = .ok (.ifCond .ge 8, 3) := dk_156 0 8 (dk_at dksJ5_abs_0 3 rfl rfl)
theorem dJ5_abs_6 : decode cJ5_abs 6 = .ok (.lload_n 0, 1) := dk_30 (dk_at dksJ5_abs_0 6 rfl rfl)
theorem dJ5_abs_7 : decode cJ5_abs 7 = .ok (.lneg, 1) := dk_117 (dk_at dksJ5_abs_0 7 rfl rfl)
theorem dJ5_abs_8 : decode cJ5_abs 8 = .ok (.goto 4, 3) := dk_167 0 4 (dk_at dksJ5_abs_0 8 rfl rfl)
theorem dJ5_abs_11 : decode cJ5_abs 11 = .ok (.lload_n 0, 1) := dk_30 (dk_at dksJ5_abs_0 11 rfl rfl)
theorem dJ5_abs_12 : decode cJ5_abs 12 = .ok (.lreturn, 1) := dk_173 (dk_at dksJ5_abs_0 12 rfl rfl)
abbrev cJ5_max_2 : ByteArray := prog_32_method_66_code
def yJ5_max_2 : MethodName := ⟨RJ5, "max", "(JJ)J"⟩
def dkwJ5_max_2_0 : List UInt8 := [30, 32, 148, 155, 0, 7, 30, 167, 0, 4, 32, 173]
abbrev dktJ5_max_2_0 : List UInt8 := dkwJ5_max_2_0 ++ []
theorem dksJ5_max_2_0 : cJ5_max_2.data.toList.drop 0 = dktJ5_max_2_0 := by decide +kernel
theorem dJ5_max_2_0 : decode cJ5_max_2 0 = .ok (.lload_n 0, 1) := dk_30 (dk_at dksJ5_max_2_0 0 rfl rfl)
theorem dJ5_max_2_1 : decode cJ5_max_2 1 = .ok (.lload_n 2, 1) := dk_32 (dk_at dksJ5_max_2_0 1 rfl rfl)
theorem dJ5_max_2_2 : decode cJ5_max_2 2 = .ok (.lcmp, 1) := dk_148 (dk_at dksJ5_max_2_0 2 rfl rfl)
theorem dJ5_max_2_3 : decode cJ5_max_2 3 = .ok (.ifCond .lt 7, 3) := dk_155 0 7 (dk_at dksJ5_max_2_0 3 rfl rfl)
theorem dJ5_max_2_6 : decode cJ5_max_2 6 = .ok (.lload_n 0, 1) := dk_30 (dk_at dksJ5_max_2_0 6 rfl rfl)
theorem dJ5_max_2_7 : decode cJ5_max_2 7 = .ok (.goto 4, 3) := dk_167 0 4 (dk_at dksJ5_max_2_0 7 rfl rfl)
theorem dJ5_max_2_10 : decode cJ5_max_2 10 = .ok (.lload_n 2, 1) := dk_32 (dk_at dksJ5_max_2_0 10 rfl rfl)
theorem dJ5_max_2_11 : decode cJ5_max_2 11 = .ok (.lreturn, 1) := dk_173 (dk_at dksJ5_max_2_0 11 rfl rfl)
theorem q173 : (Jvm.Cond.initialized "java/lang/Math") ∈ lw_all := lw_g (lw_at lw_m1 13 rfl) rfl
theorem q628 : (Jvm.Cond.static ({ cls := "java/lang/Math", name := "max", desc := "(II)I" } : Jvm.MethodName)) ∈ lw_all := lw_g (lw_at lw_m2 228 rfl) rfl
theorem q629 : (Jvm.Cond.code ({ cls := "java/lang/Math", name := "max", desc := "(II)I" } : Jvm.MethodName) prog_32_method_65_code (2 : Nat) (Option.some Jvm.ClassFile.FieldType.int)) ∈ lw_all := lw_g (lw_at lw_m2 229 rfl) rfl
theorem q631 : (Jvm.Cond.static ({ cls := "java/lang/Math", name := "min", desc := "(II)I" } : Jvm.MethodName)) ∈ lw_all := lw_g (lw_at lw_m2 231 rfl) rfl
theorem q632 : (Jvm.Cond.code ({ cls := "java/lang/Math", name := "min", desc := "(II)I" } : Jvm.MethodName) prog_32_method_69_code (2 : Nat) (Option.some Jvm.ClassFile.FieldType.int)) ∈ lw_all := lw_g (lw_at lw_m2 232 rfl) rfl
theorem q1237 : (Jvm.Cond.static ({ cls := "java/lang/Math", name := "abs", desc := "(J)J" } : Jvm.MethodName)) ∈ lw_all := lw_g (lw_at lw_m5 117 rfl) rfl
theorem q1238 : (Jvm.Cond.code ({ cls := "java/lang/Math", name := "abs", desc := "(J)J" } : Jvm.MethodName) prog_32_method_61_code (2 : Nat) (Option.some Jvm.ClassFile.FieldType.long)) ∈ lw_all := lw_g (lw_at lw_m5 118 rfl) rfl
theorem q2252 : (Jvm.Cond.static ({ cls := "java/lang/Math", name := "max", desc := "(JJ)J" } : Jvm.MethodName)) ∈ lw_all := lw_g (lw_at lw_m9 172 rfl) rfl
theorem q2253 : (Jvm.Cond.code ({ cls := "java/lang/Math", name := "max", desc := "(JJ)J" } : Jvm.MethodName) prog_32_method_66_code (4 : Nat) (Option.some Jvm.ClassFile.FieldType.long)) ∈ lw_all := lw_g (lw_at lw_m9 173 rfl) rfl

abbrev cJ6_indexOf : ByteArray := prog_37_method_40_code
def yJ6_indexOf : MethodName := ⟨RJ6, "indexOf", "([BIII)I"⟩
def dkwJ6_indexOf_1 : List UInt8 := [18, 227, 162, 0, 11, 42, 27, 28, 29, 184, 0, 228, 172, 42, 27, 28, 29, 184, 0, 232, 172]
abbrev dktJ6_indexOf_1 : List UInt8 := dkwJ6_indexOf_1 ++ []
def dkwJ6_indexOf_0 : List UInt8 := [28, 3, 184, 0, 224, 61, 29, 42, 190, 4, 122, 184, 0, 183, 62, 28, 29, 161, 0, 5, 2, 172, 27]
abbrev dktJ6_indexOf_0 : List UInt8 := dkwJ6_indexOf_0 ++ dktJ6_indexOf_1
theorem dksJ6_indexOf_0 : cJ6_indexOf.data.toList.drop 0 = dktJ6_indexOf_0 := by decide +kernel
theorem dksJ6_indexOf_1 : cJ6_indexOf.data.toList.drop 23 = dktJ6_indexOf_1 := dk_seg dksJ6_indexOf_0 23 rfl rfl
theorem dJ6_indexOf_0 : decode cJ6_indexOf 0 = .ok (.iload_n 2, 1) := dk_28 (dk_at dksJ6_indexOf_0 0 rfl rfl)
theorem dJ6_indexOf_1 : decode cJ6_indexOf 1 = .ok (.iconst 0, 1) := dk_3 (dk_at dksJ6_indexOf_0 1 rfl rfl)
theorem dJ6_indexOf_2 : decode cJ6_indexOf 2 = .ok (.invokestatic 224, 3) := dk_184 0 224 (dk_at dksJ6_indexOf_0 2 rfl rfl)
theorem dJ6_indexOf_5 : decode cJ6_indexOf 5 = .ok (.istore_n 2, 1) := dk_61 (dk_at dksJ6_indexOf_0 5 rfl rfl)
theorem dJ6_indexOf_6 : decode cJ6_indexOf 6 = .ok (.iload_n 3, 1) := dk_29 (dk_at dksJ6_indexOf_0 6 rfl rfl)
theorem dJ6_indexOf_7 : decode cJ6_indexOf 7 = .ok (.aload_n 0, 1) := dk_42 (dk_at dksJ6_indexOf_0 7 rfl rfl)
theorem dJ6_indexOf_8 : decode cJ6_indexOf 8 = .ok (.arraylength, 1) := dk_190 (dk_at dksJ6_indexOf_0 8 rfl rfl)
theorem dJ6_indexOf_9 : decode cJ6_indexOf 9 = .ok (.iconst 1, 1) := dk_4 (dk_at dksJ6_indexOf_0 9 rfl rfl)
theorem dJ6_indexOf_10 : decode cJ6_indexOf 10 = .ok (.ishr, 1) := dk_122 (dk_at dksJ6_indexOf_0 10 rfl rfl)
theorem dJ6_indexOf_11 : decode cJ6_indexOf 11 = .ok (.invokestatic 183, 3) := dk_184 0 183 (dk_at dksJ6_indexOf_0 11 rfl rfl)
theorem dJ6_indexOf_14 : decode cJ6_indexOf 14 = .ok (.istore_n 3, 1) := dk_62 (dk_at dksJ6_indexOf_0 14 rfl rfl)
theorem dJ6_indexOf_15 : decode cJ6_indexOf 15 = .ok (.iload_n 2, 1) := dk_28 (dk_at dksJ6_indexOf_0 15 rfl rfl)
theorem dJ6_indexOf_16 : decode cJ6_indexOf 16 = .ok (.iload_n 3, 1) := dk_29 (dk_at dksJ6_indexOf_0 16 rfl rfl)
theorem dJ6_indexOf_17 : decode cJ6_indexOf 17 = .ok (.if_icmp .lt 5, 3) := dk_161 0 5 (dk_at dksJ6_indexOf_0 17 rfl rfl)
theorem dJ6_indexOf_20 : decode cJ6_indexOf 20 = .ok (.iconst (-1), 1) := dk_2 (dk_at dksJ6_indexOf_0 20 rfl rfl)
theorem dJ6_indexOf_21 : decode cJ6_indexOf 21 = .ok (.ireturn, 1) := dk_172 (dk_at dksJ6_indexOf_0 21 rfl rfl)
theorem dJ6_indexOf_22 : decode cJ6_indexOf 22 = .ok (.iload_n 1, 1) := dk_27 (dk_at dksJ6_indexOf_0 22 rfl rfl)
theorem dJ6_indexOf_23 : decode cJ6_indexOf 23 = .ok (.ldc 227, 2) := dk_18 227 (dk_at dksJ6_indexOf_1 0 rfl rfl)
theorem dJ6_indexOf_25 : decode cJ6_indexOf 25 = .ok (.if_icmp .ge 11, 3) := dk_162 0 11 (dk_at dksJ6_indexOf_1 2 rfl rfl)
theorem dJ6_indexOf_28 : decode cJ6_indexOf 28 = .ok (.aload_n 0, 1) := dk_42 (dk_at dksJ6_indexOf_1 5 rfl rfl)
theorem dJ6_indexOf_29 : decode cJ6_indexOf 29 = .ok (.iload_n 1, 1) := dk_27 (dk_at dksJ6_indexOf_1 6 rfl rfl)
theorem dJ6_indexOf_30 : decode cJ6_indexOf 30 = .ok (.iload_n 2, 1) := dk_28 (dk_at dksJ6_indexOf_1 7 rfl rfl)
theorem dJ6_indexOf_31 : decode cJ6_indexOf 31 = .ok (.iload_n 3, 1) := dk_29 (dk_at dksJ6_indexOf_1 8 rfl rfl)
theorem dJ6_indexOf_32 : decode cJ6_indexOf 32 = .ok (.invokestatic 228, 3) := dk_184 0 228 (dk_at dksJ6_indexOf_1 9 rfl rfl)
theorem dJ6_indexOf_35 : decode cJ6_indexOf 35 = .ok (.ireturn, 1) := dk_172 (dk_at dksJ6_indexOf_1 12 rfl rfl)
theorem dJ6_indexOf_36 : decode cJ6_indexOf 36 = .ok (.aload_n 0, 1) := dk_42 (dk_at dksJ6_indexOf_1 13 rfl rfl)
theorem dJ6_indexOf_37 : decode cJ6_indexOf 37 = .ok (.iload_n 1, 1) := dk_27 (dk_at dksJ6_indexOf_1 14 rfl rfl)
theorem dJ6_indexOf_38 : decode cJ6_indexOf 38 = .ok (.iload_n 2, 1) := dk_28 (dk_at dksJ6_indexOf_1 15 rfl rfl)
theorem dJ6_indexOf_39 : decode cJ6_indexOf 39 = .ok (.iload_n 3, 1) := dk_29 (dk_at dksJ6_indexOf_1 16 rfl rfl)
theorem dJ6_indexOf_40 : decode cJ6_indexOf 40 = .ok (.invokestatic 232, 3) := dk_184 0 232 (dk_at dksJ6_indexOf_1 17 rfl rfl)
theorem dJ6_indexOf_43 : decode cJ6_indexOf 43 = .ok (.ireturn, 1) := dk_172 (dk_at dksJ6_indexOf_1 20 rfl rfl)
abbrev cJ6_indexOfChar : ByteArray := prog_37_method_47_code
def yJ6_indexOfChar : MethodName := ⟨RJ6, "indexOfChar", "([BIII)I"⟩
def dkwJ6_indexOfChar_0 : List UInt8 := [28, 29, 42, 184, 0, 96, 42, 27, 28, 29, 184, 0, 244, 172]
abbrev dktJ6_indexOfChar_0 : List UInt8 := dkwJ6_indexOfChar_0 ++ []
theorem dksJ6_indexOfChar_0 : cJ6_indexOfChar.data.toList.drop 0 = dktJ6_indexOfChar_0 := by decide +kernel
theorem dJ6_indexOfChar_0 : decode cJ6_indexOfChar 0 = .ok (.iload_n 2, 1) := dk_28 (dk_at dksJ6_indexOfChar_0 0 rfl rfl)
theorem dJ6_indexOfChar_1 : decode cJ6_indexOfChar 1 = .ok (.iload_n 3, 1) := dk_29 (dk_at dksJ6_indexOfChar_0 1 rfl rfl)
theorem dJ6_indexOfChar_2 : decode cJ6_indexOfChar 2 = .ok (.aload_n 0, 1) := dk_42 (dk_at dksJ6_indexOfChar_0 2 rfl rfl)
theorem dJ6_indexOfChar_3 : decode cJ6_indexOfChar 3 = .ok (.invokestatic 96, 3) := dk_184 0 96 (dk_at dksJ6_indexOfChar_0 3 rfl rfl)
theorem dJ6_indexOfChar_6 : decode cJ6_indexOfChar 6 = .ok (.aload_n 0, 1) := dk_42 (dk_at dksJ6_indexOfChar_0 6 rfl rfl)
theorem dJ6_indexOfChar_7 : decode cJ6_indexOfChar 7 = .ok (.iload_n 1, 1) := dk_27 (dk_at dksJ6_indexOfChar_0 7 rfl rfl)
theorem dJ6_indexOfChar_8 : decode cJ6_indexOfChar 8 = .ok (.iload_n 2, 1) := dk_28 (dk_at dksJ6_indexOfChar_0 8 rfl rfl)
theorem dJ6_indexOfChar_9 : decode cJ6_indexOfChar 9 = .ok (.iload_n 3, 1) := dk_29 (dk_at dksJ6_indexOfChar_0 9 rfl rfl)
theorem dJ6_indexOfChar_10 : decode cJ6_indexOfChar 10 = .ok (.invokestatic 244, 3) := dk_184 0 244 (dk_at dksJ6_indexOfChar_0 10 rfl rfl)
theorem dJ6_indexOfChar_13 : decode cJ6_indexOfChar 13 = .ok (.ireturn, 1) := dk_172 (dk_at dksJ6_indexOfChar_0 13 rfl rfl)
abbrev cJ6_checkBoundsBeginEnd : ByteArray := prog_37_method_93_code
def yJ6_checkBoundsBeginEnd : MethodName := ⟨RJ6, "checkBoundsBeginEnd", "(II[B)V"⟩
def dkwJ6_checkBoundsBeginEnd_0 : List UInt8 := [26, 27, 44, 184, 0, 48, 184, 0, 241, 177]
abbrev dktJ6_checkBoundsBeginEnd_0 : List UInt8 := dkwJ6_checkBoundsBeginEnd_0 ++ []
theorem dksJ6_checkBoundsBeginEnd_0 : cJ6_checkBoundsBeginEnd.data.toList.drop 0 = dktJ6_checkBoundsBeginEnd_0 := by decide +kernel
theorem dJ6_checkBoundsBeginEnd_0 : decode cJ6_checkBoundsBeginEnd 0 = .ok (.iload_n 0, 1) := dk_26 (dk_at dksJ6_checkBoundsBeginEnd_0 0 rfl rfl)
theorem dJ6_checkBoundsBeginEnd_1 : decode cJ6_checkBoundsBeginEnd 1 = .ok (.iload_n 1, 1) := dk_27 (dk_at dksJ6_checkBoundsBeginEnd_0 1 rfl rfl)
theorem dJ6_checkBoundsBeginEnd_2 : decode cJ6_checkBoundsBeginEnd 2 = .ok (.aload_n 2, 1) := dk_44 (dk_at dksJ6_checkBoundsBeginEnd_0 2 rfl rfl)
theorem dJ6_checkBoundsBeginEnd_3 : decode cJ6_checkBoundsBeginEnd 3 = .ok (.invokestatic 48, 3) := dk_184 0 48 (dk_at dksJ6_checkBoundsBeginEnd_0 3 rfl rfl)
theorem dJ6_checkBoundsBeginEnd_6 : decode cJ6_checkBoundsBeginEnd 6 = .ok (.invokestatic 241, 3) := dk_184 0 241 (dk_at dksJ6_checkBoundsBeginEnd_0 6 rfl rfl)
theorem dJ6_checkBoundsBeginEnd_9 : decode cJ6_checkBoundsBeginEnd 9 = .ok (.return_, 1) := dk_177 (dk_at dksJ6_checkBoundsBeginEnd_0 9 rfl rfl)
abbrev cJ6_length : ByteArray := prog_37_method_6_code
def yJ6_length : MethodName := ⟨RJ6, "length", "([B)I"⟩
def dkwJ6_length_0 : List UInt8 := [42, 190, 4, 122, 172]
abbrev dktJ6_length_0 : List UInt8 := dkwJ6_length_0 ++ []
theorem dksJ6_length_0 : cJ6_length.data.toList.drop 0 = dktJ6_length_0 := by decide +kernel
theorem dJ6_length_0 : decode cJ6_length 0 = .ok (.aload_n 0, 1) := dk_42 (dk_at dksJ6_length_0 0 rfl rfl)
theorem dJ6_length_1 : decode cJ6_length 1 = .ok (.arraylength, 1) := dk_190 (dk_at dksJ6_length_0 1 rfl rfl)
theorem dJ6_length_2 : decode cJ6_length 2 = .ok (.iconst 1, 1) := dk_4 (dk_at dksJ6_length_0 2 rfl rfl)
theorem dJ6_length_3 : decode cJ6_length 3 = .ok (.ishr, 1) := dk_122 (dk_at dksJ6_length_0 3 rfl rfl)
theorem dJ6_length_4 : decode cJ6_length 4 = .ok (.ireturn, 1) := dk_172 (dk_at dksJ6_length_0 4 rfl rfl)
abbrev cJ6_indexOfCharUnsafe : ByteArray := prog_37_method_48_code
def yJ6_indexOfCharUnsafe : MethodName := ⟨RJ6, "indexOfCharUnsafe", "([BIII)I"⟩
def dkwJ6_indexOfCharUnsafe_1 : List UInt8 := [132, 4, 1, 167, 255, 234, 2, 172]
abbrev dktJ6_indexOfCharUnsafe_1 : List UInt8 := dkwJ6_indexOfCharUnsafe_1 ++ []
def dkwJ6_indexOfCharUnsafe_0 : List UInt8 := [28, 54, 4, 21, 4, 29, 162, 0, 22, 42, 21, 4, 184, 0, 71, 27, 160, 0, 6, 21, 4, 172]
abbrev dktJ6_indexOfCharUnsafe_0 : List UInt8 := dkwJ6_indexOfCharUnsafe_0 ++ dktJ6_indexOfCharUnsafe_1
theorem dksJ6_indexOfCharUnsafe_0 : cJ6_indexOfCharUnsafe.data.toList.drop 0 = dktJ6_indexOfCharUnsafe_0 := by decide +kernel
theorem dksJ6_indexOfCharUnsafe_1 : cJ6_indexOfCharUnsafe.data.toList.drop 22 = dktJ6_indexOfCharUnsafe_1 := dk_seg dksJ6_indexOfCharUnsafe_0 22 rfl rfl
theorem dJ6_indexOfCharUnsafe_0 : decode cJ6_indexOfCharUnsafe 0 = .ok (.iload_n 2, 1) := dk_28 (dk_at dksJ6_indexOfCharUnsafe_0 0 rfl rfl)
theorem dJ6_indexOfCharUnsafe_1 : decode cJ6_indexOfCharUnsafe 1 = .ok (.istore 4, 2) := dk_54 4 (dk_at dksJ6_indexOfCharUnsafe_0 1 rfl rfl)
theorem dJ6_indexOfCharUnsafe_3 : decode cJ6_indexOfCharUnsafe 3 = .ok (.iload 4, 2) := dk_21 4 (dk_at dksJ6_indexOfCharUnsafe_0 3 rfl rfl)
theorem dJ6_indexOfCharUnsafe_5 : decode cJ6_indexOfCharUnsafe 5 = .ok (.iload_n 3, 1) := dk_29 (dk_at dksJ6_indexOfCharUnsafe_0 5 rfl rfl)
theorem dJ6_indexOfCharUnsafe_6 : decode cJ6_indexOfCharUnsafe 6 = .ok (.if_icmp .ge 22, 3) := dk_162 0 22 (dk_at dksJ6_indexOfCharUnsafe_0 6 rfl rfl)
theorem dJ6_indexOfCharUnsafe_9 : decode cJ6_indexOfCharUnsafe 9 = .ok (.aload_n 0, 1) := dk_42 (dk_at dksJ6_indexOfCharUnsafe_0 9 rfl rfl)
theorem dJ6_indexOfCharUnsafe_10 : decode cJ6_indexOfCharUnsafe 10 = .ok (.iload 4, 2) := dk_21 4 (dk_at dksJ6_indexOfCharUnsafe_0 10 rfl rfl)
theorem dJ6_indexOfCharUnsafe_12 : decode cJ6_indexOfCharUnsafe 12 = .ok (.invokestatic 71, 3) := dk_184 0 71 (dk_at dksJ6_indexOfCharUnsafe_0 12 rfl rfl)
theorem dJ6_indexOfCharUnsafe_15 : decode cJ6_indexOfCharUnsafe 15 = .ok (.iload_n 1, 1) := dk_27 (dk_at dksJ6_indexOfCharUnsafe_0 15 rfl rfl)
theorem dJ6_indexOfCharUnsafe_16 : decode cJ6_indexOfCharUnsafe 16 = .ok (.if_icmp .ne 6, 3) := dk_160 0 6 (dk_at dksJ6_indexOfCharUnsafe_0 16 rfl rfl)
theorem dJ6_indexOfCharUnsafe_19 : decode cJ6_indexOfCharUnsafe 19 = .ok (.iload 4, 2) := dk_21 4 (dk_at dksJ6_indexOfCharUnsafe_0 19 rfl rfl)
theorem dJ6_indexOfCharUnsafe_21 : decode cJ6_indexOfCharUnsafe 21 = .ok (.ireturn, 1) := dk_172 (dk_at dksJ6_indexOfCharUnsafe_0 21 rfl rfl)
theorem dJ6_indexOfCharUnsafe_22 : decode cJ6_indexOfCharUnsafe 22 = .ok (.iinc 4 1, 3) := dk_132 4 1 (dk_at dksJ6_indexOfCharUnsafe_1 0 rfl rfl)
theorem dJ6_indexOfCharUnsafe_25 : decode cJ6_indexOfCharUnsafe 25 = .ok (.goto (-22), 3) := dk_167 255 234 (dk_at dksJ6_indexOfCharUnsafe_1 3 rfl rfl)
theorem dJ6_indexOfCharUnsafe_28 : decode cJ6_indexOfCharUnsafe 28 = .ok (.iconst (-1), 1) := dk_2 (dk_at dksJ6_indexOfCharUnsafe_1 6 rfl rfl)
theorem dJ6_indexOfCharUnsafe_29 : decode cJ6_indexOfCharUnsafe 29 = .ok (.ireturn, 1) := dk_172 (dk_at dksJ6_indexOfCharUnsafe_1 7 rfl rfl)
abbrev cJ6_getChar : ByteArray := prog_37_method_5_code
def yJ6_getChar : MethodName := ⟨RJ6, "getChar", "([BI)C"⟩
def dkwJ6_getChar_2 : List UInt8 := [51, 17, 0, 255, 126, 178, 0, 63, 120, 128, 146, 172]
abbrev dktJ6_getChar_2 : List UInt8 := dkwJ6_getChar_2 ++ []
def dkwJ6_getChar_1 : List UInt8 := [183, 0, 56, 191, 27, 4, 120, 60, 42, 27, 132, 1, 1, 51, 17, 0, 255, 126, 178, 0, 59, 120, 42, 27]
abbrev dktJ6_getChar_1 : List UInt8 := dkwJ6_getChar_1 ++ dktJ6_getChar_2
def dkwJ6_getChar_0 : List UInt8 := [178, 0, 44, 154, 0, 25, 27, 155, 0, 11, 27, 42, 184, 0, 48, 161, 0, 13, 187, 0, 52, 89, 18, 54]
abbrev dktJ6_getChar_0 : List UInt8 := dkwJ6_getChar_0 ++ dktJ6_getChar_1
theorem dksJ6_getChar_0 : cJ6_getChar.data.toList.drop 0 = dktJ6_getChar_0 := by decide +kernel
theorem dksJ6_getChar_1 : cJ6_getChar.data.toList.drop 24 = dktJ6_getChar_1 := dk_seg dksJ6_getChar_0 24 rfl rfl
theorem dksJ6_getChar_2 : cJ6_getChar.data.toList.drop 48 = dktJ6_getChar_2 := dk_seg dksJ6_getChar_1 24 rfl rfl
theorem dJ6_getChar_0 : decode cJ6_getChar 0 = .ok (.getstatic 44, 3) := dk_178 0 44 (dk_at dksJ6_getChar_0 0 rfl rfl)
theorem dJ6_getChar_3 : decode cJ6_getChar 3 = .ok (.ifCond .ne 25, 3) := dk_154 0 25 (dk_at dksJ6_getChar_0 3 rfl rfl)
theorem dJ6_getChar_6 : decode cJ6_getChar 6 = .ok (.iload_n 1, 1) := dk_27 (dk_at dksJ6_getChar_0 6 rfl rfl)
theorem dJ6_getChar_7 : decode cJ6_getChar 7 = .ok (.ifCond .lt 11, 3) := dk_155 0 11 (dk_at dksJ6_getChar_0 7 rfl rfl)
theorem dJ6_getChar_10 : decode cJ6_getChar 10 = .ok (.iload_n 1, 1) := dk_27 (dk_at dksJ6_getChar_0 10 rfl rfl)
theorem dJ6_getChar_11 : decode cJ6_getChar 11 = .ok (.aload_n 0, 1) := dk_42 (dk_at dksJ6_getChar_0 11 rfl rfl)
theorem dJ6_getChar_12 : decode cJ6_getChar 12 = .ok (.invokestatic 48, 3) := dk_184 0 48 (dk_at dksJ6_getChar_0 12 rfl rfl)
theorem dJ6_getChar_15 : decode cJ6_getChar 15 = .ok (.if_icmp .lt 13, 3) := dk_161 0 13 (dk_at dksJ6_getChar_0 15 rfl rfl)
theorem dJ6_getChar_18 : decode cJ6_getChar 18 = .ok (.new 52, 3) := dk_187 0 52 (dk_at dksJ6_getChar_0 18 rfl rfl)
theorem dJ6_getChar_21 : decode cJ6_getChar 21 = .ok (.dup, 1) := dk_89 (dk_at dksJ6_getChar_0 21 rfl rfl)
theorem dJ6_getChar_22 : decode cJ6_getChar 22 = .ok (.ldc 54, 2) := dk_18 54 (dk_at dksJ6_getChar_0 22 rfl rfl)
theorem dJ6_getChar_24 : decode cJ6_getChar 24 = .ok (.invokespecial 56, 3) := dk_183 0 56 (dk_at dksJ6_getChar_1 0 rfl rfl)
theorem dJ6_getChar_27 : decode cJ6_getChar 27 = .ok (.athrow, 1) := dk_191 (dk_at dksJ6_getChar_1 3 rfl rfl)
theorem dJ6_getChar_28 : decode cJ6_getChar 28 = .ok (.iload_n 1, 1) := dk_27 (dk_at dksJ6_getChar_1 4 rfl rfl)
theorem dJ6_getChar_29 : decode cJ6_getChar 29 = .ok (.iconst 1, 1) := dk_4 (dk_at dksJ6_getChar_1 5 rfl rfl)
theorem dJ6_getChar_30 : decode cJ6_getChar 30 = .ok (.ishl, 1) := dk_120 (dk_at dksJ6_getChar_1 6 rfl rfl)
theorem dJ6_getChar_31 : decode cJ6_getChar 31 = .ok (.istore_n 1, 1) := dk_60 (dk_at dksJ6_getChar_1 7 rfl rfl)
theorem dJ6_getChar_32 : decode cJ6_getChar 32 = .ok (.aload_n 0, 1) := dk_42 (dk_at dksJ6_getChar_1 8 rfl rfl)
theorem dJ6_getChar_33 : decode cJ6_getChar 33 = .ok (.iload_n 1, 1) := dk_27 (dk_at dksJ6_getChar_1 9 rfl rfl)
theorem dJ6_getChar_34 : decode cJ6_getChar 34 = .ok (.iinc 1 1, 3) := dk_132 1 1 (dk_at dksJ6_getChar_1 10 rfl rfl)
theorem dJ6_getChar_37 : decode cJ6_getChar 37 = .ok (.baload, 1) := dk_51 (dk_at dksJ6_getChar_1 13 rfl rfl)
theorem dJ6_getChar_38 : decode cJ6_getChar 38 = .ok (.sipush 255, 3) := dk_17 0 255 (dk_at dksJ6_getChar_1 14 rfl rfl)
theorem dJ6_getChar_41 : decode cJ6_getChar 41 = .ok (.iand, 1) := dk_126 (dk_at dksJ6_getChar_1 17 rfl rfl)
theorem dJ6_getChar_42 : decode cJ6_getChar 42 = .ok (.getstatic 59, 3) := dk_178 0 59 (dk_at dksJ6_getChar_1 18 rfl rfl)
theorem dJ6_getChar_45 : decode cJ6_getChar 45 = .ok (.ishl, 1) := dk_120 (dk_at dksJ6_getChar_1 21 rfl rfl)
theorem dJ6_getChar_46 : decode cJ6_getChar 46 = .ok (.aload_n 0, 1) := dk_42 (dk_at dksJ6_getChar_1 22 rfl rfl)
theorem dJ6_getChar_47 : decode cJ6_getChar 47 = .ok (.iload_n 1, 1) := dk_27 (dk_at dksJ6_getChar_1 23 rfl rfl)
theorem dJ6_getChar_48 : decode cJ6_getChar 48 = .ok (.baload, 1) := dk_51 (dk_at dksJ6_getChar_2 0 rfl rfl)
theorem dJ6_getChar_49 : decode cJ6_getChar 49 = .ok (.sipush 255, 3) := dk_17 0 255 (dk_at dksJ6_getChar_2 1 rfl rfl)
theorem dJ6_getChar_52 : decode cJ6_getChar 52 = .ok (.iand, 1) := dk_126 (dk_at dksJ6_getChar_2 4 rfl rfl)
theorem dJ6_getChar_53 : decode cJ6_getChar 53 = .ok (.getstatic 63, 3) := dk_178 0 63 (dk_at dksJ6_getChar_2 5 rfl rfl)
theorem dJ6_getChar_56 : decode cJ6_getChar 56 = .ok (.ishl, 1) := dk_120 (dk_at dksJ6_getChar_2 8 rfl rfl)
theorem dJ6_getChar_57 : decode cJ6_getChar 57 = .ok (.ior, 1) := dk_128 (dk_at dksJ6_getChar_2 9 rfl rfl)
theorem dJ6_getChar_58 : decode cJ6_getChar 58 = .ok (.i2c, 1) := dk_146 (dk_at dksJ6_getChar_2 10 rfl rfl)
theorem dJ6_getChar_59 : decode cJ6_getChar 59 = .ok (.ireturn, 1) := dk_172 (dk_at dksJ6_getChar_2 11 rfl rfl)
abbrev cJ6_indexOfSupplementary : ByteArray := prog_37_method_49_code
def yJ6_indexOfSupplementary : MethodName := ⟨RJ6, "indexOfSupplementary", "([BIII)I"⟩
def dkwJ6_indexOfSupplementary_3 : List UInt8 := [167, 255, 218, 2, 172]
abbrev dktJ6_indexOfSupplementary_3 : List UInt8 := dkwJ6_indexOfSupplementary_3 ++ []
def dkwJ6_indexOfSupplementary_2 : List UInt8 := [160, 0, 19, 42, 21, 6, 4, 96, 184, 0, 71, 21, 5, 160, 0, 6, 21, 6, 172, 132, 6, 1]
abbrev dktJ6_indexOfSupplementary_2 : List UInt8 := dkwJ6_indexOfSupplementary_2 ++ dktJ6_indexOfSupplementary_3
def dkwJ6_indexOfSupplementary_1 : List UInt8 := [184, 0, 96, 28, 54, 6, 21, 6, 29, 4, 100, 162, 0, 36, 42, 21, 6, 184, 0, 71, 21, 4]
abbrev dktJ6_indexOfSupplementary_1 : List UInt8 := dkwJ6_indexOfSupplementary_1 ++ dktJ6_indexOfSupplementary_2
def dkwJ6_indexOfSupplementary_0 : List UInt8 := [27, 184, 0, 164, 153, 0, 65, 27, 184, 0, 157, 54, 4, 27, 184, 0, 161, 54, 5, 28, 29, 42]
abbrev dktJ6_indexOfSupplementary_0 : List UInt8 := dkwJ6_indexOfSupplementary_0 ++ dktJ6_indexOfSupplementary_1
theorem dksJ6_indexOfSupplementary_0 : cJ6_indexOfSupplementary.data.toList.drop 0 = dktJ6_indexOfSupplementary_0 := by decide +kernel
theorem dksJ6_indexOfSupplementary_1 : cJ6_indexOfSupplementary.data.toList.drop 22 = dktJ6_indexOfSupplementary_1 := dk_seg dksJ6_indexOfSupplementary_0 22 rfl rfl
theorem dksJ6_indexOfSupplementary_2 : cJ6_indexOfSupplementary.data.toList.drop 44 = dktJ6_indexOfSupplementary_2 := dk_seg dksJ6_indexOfSupplementary_1 22 rfl rfl
theorem dksJ6_indexOfSupplementary_3 : cJ6_indexOfSupplementary.data.toList.drop 66 = dktJ6_indexOfSupplementary_3 := dk_seg dksJ6_indexOfSupplementary_2 22 rfl rfl
theorem dJ6_indexOfSupplementary_0 : decode cJ6_indexOfSupplementary 0 = .ok (.iload_n 1, 1) := dk_27 (dk_at dksJ6_indexOfSupplementary_0 0 rfl rfl)
theorem dJ6_indexOfSupplementary_1 : decode cJ6_indexOfSupplementary 1 = .ok (.invokestatic 164, 3) := dk_184 0 164 (dk_at dksJ6_indexOfSupplementary_0 1 rfl rfl)
theorem dJ6_indexOfSupplementary_4 : decode cJ6_indexOfSupplementary 4 = .ok (.ifCond .eq 65, 3) := dk_153 0 65 (dk_at dksJ6_indexOfSupplementary_0 4 rfl rfl)
theorem dJ6_indexOfSupplementary_7 : decode cJ6_indexOfSupplementary 7 = .ok (.iload_n 1, 1) := dk_27 (dk_at dksJ6_indexOfSupplementary_0 7 rfl rfl)
theorem dJ6_indexOfSupplementary_8 : decode cJ6_indexOfSupplementary 8 = .ok (.invokestatic 157, 3) := dk_184 0 157 (dk_at dksJ6_indexOfSupplementary_0 8 rfl rfl)
theorem dJ6_indexOfSupplementary_11 : decode cJ6_indexOfSupplementary 11 = .ok (.istore 4, 2) := dk_54 4 (dk_at dksJ6_indexOfSupplementary_0 11 rfl rfl)
theorem dJ6_indexOfSupplementary_13 : decode cJ6_indexOfSupplementary 13 = .ok (.iload_n 1, 1) := dk_27 (dk_at dksJ6_indexOfSupplementary_0 13 rfl rfl)
theorem dJ6_indexOfSupplementary_14 : decode cJ6_indexOfSupplementary 14 = .ok (.invokestatic 161, 3) := dk_184 0 161 (dk_at dksJ6_indexOfSupplementary_0 14 rfl rfl)
theorem dJ6_indexOfSupplementary_17 : decode cJ6_indexOfSupplementary 17 = .ok (.istore 5, 2) := dk_54 5 (dk_at dksJ6_indexOfSupplementary_0 17 rfl rfl)
theorem dJ6_indexOfSupplementary_19 : decode cJ6_indexOfSupplementary 19 = .ok (.iload_n 2, 1) := dk_28 (dk_at dksJ6_indexOfSupplementary_0 19 rfl rfl)
theorem dJ6_indexOfSupplementary_20 : decode cJ6_indexOfSupplementary 20 = .ok (.iload_n 3, 1) := dk_29 (dk_at dksJ6_indexOfSupplementary_0 20 rfl rfl)
theorem dJ6_indexOfSupplementary_21 : decode cJ6_indexOfSupplementary 21 = .ok (.aload_n 0, 1) := dk_42 (dk_at dksJ6_indexOfSupplementary_0 21 rfl rfl)
theorem dJ6_indexOfSupplementary_22 : decode cJ6_indexOfSupplementary 22 = .ok (.invokestatic 96, 3) := dk_184 0 96 (dk_at dksJ6_indexOfSupplementary_1 0 rfl rfl)
theorem dJ6_indexOfSupplementary_25 : decode cJ6_indexOfSupplementary 25 = .ok (.iload_n 2, 1) := dk_28 (dk_at dksJ6_indexOfSupplementary_1 3 rfl rfl)
theorem dJ6_indexOfSupplementary_26 : decode cJ6_indexOfSupplementary 26 = .ok (.istore 6, 2) := dk_54 6 (dk_at dksJ6_indexOfSupplementary_1 4 rfl rfl)
theorem dJ6_indexOfSupplementary_28 : decode cJ6_indexOfSupplementary 28 = .ok (.iload 6, 2) := dk_21 6 (dk_at dksJ6_indexOfSupplementary_1 6 rfl rfl)
theorem dJ6_indexOfSupplementary_30 : decode cJ6_indexOfSupplementary 30 = .ok (.iload_n 3, 1) := dk_29 (dk_at dksJ6_indexOfSupplementary_1 8 rfl rfl)
theorem dJ6_indexOfSupplementary_31 : decode cJ6_indexOfSupplementary 31 = .ok (.iconst 1, 1) := dk_4 (dk_at dksJ6_indexOfSupplementary_1 9 rfl rfl)
theorem dJ6_indexOfSupplementary_32 : decode cJ6_indexOfSupplementary 32 = .ok (.isub, 1) := dk_100 (dk_at dksJ6_indexOfSupplementary_1 10 rfl rfl)
theorem dJ6_indexOfSupplementary_33 : decode cJ6_indexOfSupplementary 33 = .ok (.if_icmp .ge 36, 3) := dk_162 0 36 (dk_at dksJ6_indexOfSupplementary_1 11 rfl rfl)
theorem dJ6_indexOfSupplementary_36 : decode cJ6_indexOfSupplementary 36 = .ok (.aload_n 0, 1) := dk_42 (dk_at dksJ6_indexOfSupplementary_1 14 rfl rfl)
theorem dJ6_indexOfSupplementary_37 : decode cJ6_indexOfSupplementary 37 = .ok (.iload 6, 2) := dk_21 6 (dk_at dksJ6_indexOfSupplementary_1 15 rfl rfl)
theorem dJ6_indexOfSupplementary_39 : decode cJ6_indexOfSupplementary 39 = .ok (.invokestatic 71, 3) := dk_184 0 71 (dk_at dksJ6_indexOfSupplementary_1 17 rfl rfl)
theorem dJ6_indexOfSupplementary_42 : decode cJ6_indexOfSupplementary 42 = .ok (.iload 4, 2) := dk_21 4 (dk_at dksJ6_indexOfSupplementary_1 20 rfl rfl)
theorem dJ6_indexOfSupplementary_44 : decode cJ6_indexOfSupplementary 44 = .ok (.if_icmp .ne 19, 3) := dk_160 0 19 (dk_at dksJ6_indexOfSupplementary_2 0 rfl rfl)
theorem dJ6_indexOfSupplementary_47 : decode cJ6_indexOfSupplementary 47 = .ok (.aload_n 0, 1) := dk_42 (dk_at dksJ6_indexOfSupplementary_2 3 rfl rfl)
theorem dJ6_indexOfSupplementary_48 : decode cJ6_indexOfSupplementary 48 = .ok (.iload 6, 2) := dk_21 6 (dk_at dksJ6_indexOfSupplementary_2 4 rfl rfl)
theorem dJ6_indexOfSupplementary_50 : decode cJ6_indexOfSupplementary 50 = .ok (.iconst 1, 1) := dk_4 (dk_at dksJ6_indexOfSupplementary_2 6 rfl rfl)
theorem dJ6_indexOfSupplementary_51 : decode cJ6_indexOfSupplementary 51 = .ok (.iadd, 1) := dk_96 (dk_at dksJ6_indexOfSupplementary_2 7 rfl rfl)
theorem dJ6_indexOfSupplementary_52 : decode cJ6_indexOfSupplementary 52 = .ok (.invokestatic 71, 3) := dk_184 0 71 (dk_at dksJ6_indexOfSupplementary_2 8 rfl rfl)
theorem dJ6_indexOfSupplementary_55 : decode cJ6_indexOfSupplementary 55 = .ok (.iload 5, 2) := dk_21 5 (dk_at dksJ6_indexOfSupplementary_2 11 rfl rfl)
theorem dJ6_indexOfSupplementary_57 : decode cJ6_indexOfSupplementary 57 = .ok (.if_icmp .ne 6, 3) := dk_160 0 6 (dk_at dksJ6_indexOfSupplementary_2 13 rfl rfl)
theorem dJ6_indexOfSupplementary_60 : decode cJ6_indexOfSupplementary 60 = .ok (.iload 6, 2) := dk_21 6 (dk_at dksJ6_indexOfSupplementary_2 16 rfl rfl)
theorem dJ6_indexOfSupplementary_62 : decode cJ6_indexOfSupplementary 62 = .ok (.ireturn, 1) := dk_172 (dk_at dksJ6_indexOfSupplementary_2 18 rfl rfl)
theorem dJ6_indexOfSupplementary_63 : decode cJ6_indexOfSupplementary 63 = .ok (.iinc 6 1, 3) := dk_132 6 1 (dk_at dksJ6_indexOfSupplementary_2 19 rfl rfl)
theorem dJ6_indexOfSupplementary_66 : decode cJ6_indexOfSupplementary 66 = .ok (.goto (-38), 3) := dk_167 255 218 (dk_at dksJ6_indexOfSupplementary_3 0 rfl rfl)
theorem dJ6_indexOfSupplementary_69 : decode cJ6_indexOfSupplementary 69 = .ok (.iconst (-1), 1) := dk_2 (dk_at dksJ6_indexOfSupplementary_3 3 rfl rfl)
theorem dJ6_indexOfSupplementary_70 : decode cJ6_indexOfSupplementary 70 = .ok (.ireturn, 1) := dk_172 (dk_at dksJ6_indexOfSupplementary_3 4 rfl rfl)
abbrev cJ6_charAt : ByteArray := prog_37_method_83_code
def yJ6_charAt : MethodName := ⟨RJ6, "charAt", "([BI)C"⟩
def dkwJ6_charAt_0 : List UInt8 := [27, 42, 184, 0, 67, 42, 27, 184, 0, 71, 172]
abbrev dktJ6_charAt_0 : List UInt8 := dkwJ6_charAt_0 ++ []
theorem dksJ6_charAt_0 : cJ6_charAt.data.toList.drop 0 = dktJ6_charAt_0 := by decide +kernel
theorem dJ6_charAt_0 : decode cJ6_charAt 0 = .ok (.iload_n 1, 1) := dk_27 (dk_at dksJ6_charAt_0 0 rfl rfl)
theorem dJ6_charAt_1 : decode cJ6_charAt 1 = .ok (.aload_n 0, 1) := dk_42 (dk_at dksJ6_charAt_0 1 rfl rfl)
theorem dJ6_charAt_2 : decode cJ6_charAt 2 = .ok (.invokestatic 67, 3) := dk_184 0 67 (dk_at dksJ6_charAt_0 2 rfl rfl)
theorem dJ6_charAt_5 : decode cJ6_charAt 5 = .ok (.aload_n 0, 1) := dk_42 (dk_at dksJ6_charAt_0 5 rfl rfl)
theorem dJ6_charAt_6 : decode cJ6_charAt 6 = .ok (.iload_n 1, 1) := dk_27 (dk_at dksJ6_charAt_0 6 rfl rfl)
theorem dJ6_charAt_7 : decode cJ6_charAt 7 = .ok (.invokestatic 71, 3) := dk_184 0 71 (dk_at dksJ6_charAt_0 7 rfl rfl)
theorem dJ6_charAt_10 : decode cJ6_charAt 10 = .ok (.ireturn, 1) := dk_172 (dk_at dksJ6_charAt_0 10 rfl rfl)
abbrev cJ6_checkIndex : ByteArray := prog_37_method_91_code
def yJ6_checkIndex : MethodName := ⟨RJ6, "checkIndex", "(I[B)V"⟩
def dkwJ6_checkIndex_0 : List UInt8 := [26, 43, 184, 0, 48, 184, 1, 158, 177]
abbrev dktJ6_checkIndex_0 : List UInt8 := dkwJ6_checkIndex_0 ++ []
theorem dksJ6_checkIndex_0 : cJ6_checkIndex.data.toList.drop 0 = dktJ6_checkIndex_0 := by decide +kernel
theorem dJ6_checkIndex_0 : decode cJ6_checkIndex 0 = .ok (.iload_n 0, 1) := dk_26 (dk_at dksJ6_checkIndex_0 0 rfl rfl)
theorem dJ6_checkIndex_1 : decode cJ6_checkIndex 1 = .ok (.aload_n 1, 1) := dk_43 (dk_at dksJ6_checkIndex_0 1 rfl rfl)
theorem dJ6_checkIndex_2 : decode cJ6_checkIndex 2 = .ok (.invokestatic 48, 3) := dk_184 0 48 (dk_at dksJ6_checkIndex_0 2 rfl rfl)
theorem dJ6_checkIndex_5 : decode cJ6_checkIndex 5 = .ok (.invokestatic 414, 3) := dk_184 1 158 (dk_at dksJ6_checkIndex_0 5 rfl rfl)
theorem dJ6_checkIndex_8 : decode cJ6_checkIndex 8 = .ok (.return_, 1) := dk_177 (dk_at dksJ6_checkIndex_0 8 rfl rfl)
theorem q174 : (Jvm.Cond.initialized "java/lang/StringUTF16") ∈ lw_all := lw_g (lw_at lw_m1 14 rfl) rfl
theorem q637 : (Jvm.Cond.static ({ cls := "java/lang/StringUTF16", name := "indexOf", desc := "([BIII)I" } : Jvm.MethodName)) ∈ lw_all := lw_g (lw_at lw_m2 237 rfl) rfl
theorem q638 : (Jvm.Cond.code ({ cls := "java/lang/StringUTF16", name := "indexOf", desc := "([BIII)I" } : Jvm.MethodName) prog_37_method_40_code (4 : Nat) (Option.some Jvm.ClassFile.FieldType.int)) ∈ lw_all := lw_g (lw_at lw_m2 238 rfl) rfl
theorem q639 : (Jvm.Cond.methodLink "java/lang/StringUTF16" (224 : Nat) ({ cls := "java/lang/Math", name := "max", desc := "(II)I" } : Jvm.MethodName)) ∈ lw_all := lw_g (lw_at lw_m2 239 rfl) rfl
theorem q640 : (Jvm.Cond.methodLink "java/lang/StringUTF16" (183 : Nat) ({ cls := "java/lang/Math", name := "min", desc := "(II)I" } : Jvm.MethodName)) ∈ lw_all := lw_g (lw_at lw_m3 0 rfl) rfl
theorem q641 : (Jvm.Cond.constant "java/lang/StringUTF16" (227 : Nat) (65536 : Int32)) ∈ lw_all := lw_g (lw_at lw_m3 1 rfl) rfl
theorem q642 : (Jvm.Cond.methodLink "java/lang/StringUTF16" (228 : Nat) ({ cls := "java/lang/StringUTF16", name := "indexOfChar", desc := "([BIII)I" } : Jvm.MethodName)) ∈ lw_all := lw_g (lw_at lw_m3 2 rfl) rfl
theorem q643 : (Jvm.Cond.static ({ cls := "java/lang/StringUTF16", name := "indexOfChar", desc := "([BIII)I" } : Jvm.MethodName)) ∈ lw_all := lw_g (lw_at lw_m3 3 rfl) rfl
theorem q644 : (Jvm.Cond.code ({ cls := "java/lang/StringUTF16", name := "indexOfChar", desc := "([BIII)I" } : Jvm.MethodName) prog_37_method_47_code (4 : Nat) (Option.some Jvm.ClassFile.FieldType.int)) ∈ lw_all := lw_g (lw_at lw_m3 4 rfl) rfl
theorem q645 : (Jvm.Cond.methodLink "java/lang/StringUTF16" (96 : Nat) ({ cls := "java/lang/StringUTF16", name := "checkBoundsBeginEnd", desc := "(II[B)V" } : Jvm.MethodName)) ∈ lw_all := lw_g (lw_at lw_m3 5 rfl) rfl
theorem q646 : (Jvm.Cond.static ({ cls := "java/lang/StringUTF16", name := "checkBoundsBeginEnd", desc := "(II[B)V" } : Jvm.MethodName)) ∈ lw_all := lw_g (lw_at lw_m3 6 rfl) rfl
theorem q647 : (Jvm.Cond.code ({ cls := "java/lang/StringUTF16", name := "checkBoundsBeginEnd", desc := "(II[B)V" } : Jvm.MethodName) prog_37_method_93_code (3 : Nat) (Option.none : Option Jvm.ClassFile.FieldType)) ∈ lw_all := lw_g (lw_at lw_m3 7 rfl) rfl
theorem q648 : (Jvm.Cond.methodLink "java/lang/StringUTF16" (48 : Nat) ({ cls := "java/lang/StringUTF16", name := "length", desc := "([B)I" } : Jvm.MethodName)) ∈ lw_all := lw_g (lw_at lw_m3 8 rfl) rfl
theorem q649 : (Jvm.Cond.static ({ cls := "java/lang/StringUTF16", name := "length", desc := "([B)I" } : Jvm.MethodName)) ∈ lw_all := lw_g (lw_at lw_m3 9 rfl) rfl
theorem q650 : (Jvm.Cond.code ({ cls := "java/lang/StringUTF16", name := "length", desc := "([B)I" } : Jvm.MethodName) prog_37_method_6_code (1 : Nat) (Option.some Jvm.ClassFile.FieldType.int)) ∈ lw_all := lw_g (lw_at lw_m3 10 rfl) rfl
theorem q651 : (Jvm.Cond.methodLink "java/lang/StringUTF16" (241 : Nat) ({ cls := "java/lang/String", name := "checkBoundsBeginEnd", desc := "(III)V" } : Jvm.MethodName)) ∈ lw_all := lw_g (lw_at lw_m3 11 rfl) rfl
theorem q659 : (Jvm.Cond.methodLink "java/lang/StringUTF16" (244 : Nat) ({ cls := "java/lang/StringUTF16", name := "indexOfCharUnsafe", desc := "([BIII)I" } : Jvm.MethodName)) ∈ lw_all := lw_g (lw_at lw_m3 19 rfl) rfl
theorem q660 : (Jvm.Cond.static ({ cls := "java/lang/StringUTF16", name := "indexOfCharUnsafe", desc := "([BIII)I" } : Jvm.MethodName)) ∈ lw_all := lw_g (lw_at lw_m3 20 rfl) rfl
theorem q661 : (Jvm.Cond.code ({ cls := "java/lang/StringUTF16", name := "indexOfCharUnsafe", desc := "([BIII)I" } : Jvm.MethodName) prog_37_method_48_code (5 : Nat) (Option.some Jvm.ClassFile.FieldType.int)) ∈ lw_all := lw_g (lw_at lw_m3 21 rfl) rfl
theorem q662 : (Jvm.Cond.methodLink "java/lang/StringUTF16" (71 : Nat) ({ cls := "java/lang/StringUTF16", name := "getChar", desc := "([BI)C" } : Jvm.MethodName)) ∈ lw_all := lw_g (lw_at lw_m3 22 rfl) rfl
theorem q663 : (Jvm.Cond.static ({ cls := "java/lang/StringUTF16", name := "getChar", desc := "([BI)C" } : Jvm.MethodName)) ∈ lw_all := lw_g (lw_at lw_m3 23 rfl) rfl
theorem q664 : (Jvm.Cond.code ({ cls := "java/lang/StringUTF16", name := "getChar", desc := "([BI)C" } : Jvm.MethodName) prog_37_method_5_code (2 : Nat) (Option.some Jvm.ClassFile.FieldType.char)) ∈ lw_all := lw_g (lw_at lw_m3 24 rfl) rfl
theorem q665 : (Jvm.Cond.fieldLink "java/lang/StringUTF16" (44 : Nat) "java/lang/StringUTF16" "$assertionsDisabled" "Z") ∈ lw_all := lw_g (lw_at lw_m3 25 rfl) rfl
theorem q666 : (Jvm.Cond.laysStatic "java/lang/StringUTF16" "$assertionsDisabled" "Z") ∈ lw_tbl := lw_at lw_m3 26 rfl
theorem q667 : (Jvm.Cond.fieldLink "java/lang/StringUTF16" (59 : Nat) "java/lang/StringUTF16" "HI_BYTE_SHIFT" "I") ∈ lw_all := lw_g (lw_at lw_m3 27 rfl) rfl
theorem q668 : (Jvm.Cond.laysStatic "java/lang/StringUTF16" "HI_BYTE_SHIFT" "I") ∈ lw_tbl := lw_at lw_m3 28 rfl
theorem q669 : (Jvm.Cond.fieldLink "java/lang/StringUTF16" (63 : Nat) "java/lang/StringUTF16" "LO_BYTE_SHIFT" "I") ∈ lw_all := lw_g (lw_at lw_m3 29 rfl) rfl
theorem q670 : (Jvm.Cond.laysStatic "java/lang/StringUTF16" "LO_BYTE_SHIFT" "I") ∈ lw_tbl := lw_at lw_m3 30 rfl
theorem q671 : (Jvm.Cond.methodLink "java/lang/StringUTF16" (232 : Nat) ({ cls := "java/lang/StringUTF16", name := "indexOfSupplementary", desc := "([BIII)I" } : Jvm.MethodName)) ∈ lw_all := lw_g (lw_at lw_m3 31 rfl) rfl
theorem q672 : (Jvm.Cond.static ({ cls := "java/lang/StringUTF16", name := "indexOfSupplementary", desc := "([BIII)I" } : Jvm.MethodName)) ∈ lw_all := lw_g (lw_at lw_m3 32 rfl) rfl
theorem q673 : (Jvm.Cond.code ({ cls := "java/lang/StringUTF16", name := "indexOfSupplementary", desc := "([BIII)I" } : Jvm.MethodName) prog_37_method_49_code (7 : Nat) (Option.some Jvm.ClassFile.FieldType.int)) ∈ lw_all := lw_g (lw_at lw_m3 33 rfl) rfl
theorem q674 : (Jvm.Cond.methodLink "java/lang/StringUTF16" (164 : Nat) ({ cls := "java/lang/Character", name := "isValidCodePoint", desc := "(I)Z" } : Jvm.MethodName)) ∈ lw_all := lw_g (lw_at lw_m3 34 rfl) rfl
theorem q677 : (Jvm.Cond.methodLink "java/lang/StringUTF16" (157 : Nat) ({ cls := "java/lang/Character", name := "highSurrogate", desc := "(I)C" } : Jvm.MethodName)) ∈ lw_all := lw_g (lw_at lw_m3 37 rfl) rfl
theorem q681 : (Jvm.Cond.methodLink "java/lang/StringUTF16" (161 : Nat) ({ cls := "java/lang/Character", name := "lowSurrogate", desc := "(I)C" } : Jvm.MethodName)) ∈ lw_all := lw_g (lw_at lw_m3 41 rfl) rfl
theorem q699 : (Jvm.Cond.static ({ cls := "java/lang/StringUTF16", name := "charAt", desc := "([BI)C" } : Jvm.MethodName)) ∈ lw_all := lw_g (lw_at lw_m3 59 rfl) rfl
theorem q700 : (Jvm.Cond.code ({ cls := "java/lang/StringUTF16", name := "charAt", desc := "([BI)C" } : Jvm.MethodName) prog_37_method_83_code (2 : Nat) (Option.some Jvm.ClassFile.FieldType.char)) ∈ lw_all := lw_g (lw_at lw_m3 60 rfl) rfl
theorem q701 : (Jvm.Cond.methodLink "java/lang/StringUTF16" (67 : Nat) ({ cls := "java/lang/StringUTF16", name := "checkIndex", desc := "(I[B)V" } : Jvm.MethodName)) ∈ lw_all := lw_g (lw_at lw_m3 61 rfl) rfl
theorem q702 : (Jvm.Cond.static ({ cls := "java/lang/StringUTF16", name := "checkIndex", desc := "(I[B)V" } : Jvm.MethodName)) ∈ lw_all := lw_g (lw_at lw_m3 62 rfl) rfl
theorem q703 : (Jvm.Cond.code ({ cls := "java/lang/StringUTF16", name := "checkIndex", desc := "(I[B)V" } : Jvm.MethodName) prog_37_method_91_code (2 : Nat) (Option.none : Option Jvm.ClassFile.FieldType)) ∈ lw_all := lw_g (lw_at lw_m3 63 rfl) rfl
theorem q704 : (Jvm.Cond.methodLink "java/lang/StringUTF16" (414 : Nat) ({ cls := "java/lang/String", name := "checkIndex", desc := "(II)V" } : Jvm.MethodName)) ∈ lw_all := lw_g (lw_at lw_m3 64 rfl) rfl

abbrev cJ7_checkFromToIndex : ByteArray := prog_51_method_12_code
def yJ7_checkFromToIndex : MethodName := ⟨RJ7, "checkFromToIndex", "(IIILjava/util/function/BiFunction;)I"⟩
def dkwJ7_checkFromToIndex_0 : List UInt8 := [26, 155, 0, 13, 26, 27, 163, 0, 8, 27, 28, 164, 0, 11, 45, 26, 27, 28, 184, 0, 99, 191, 26, 172]
abbrev dktJ7_checkFromToIndex_0 : List UInt8 := dkwJ7_checkFromToIndex_0 ++ []
theorem dksJ7_checkFromToIndex_0 : cJ7_checkFromToIndex.data.toList.drop 0 = dktJ7_checkFromToIndex_0 := by decide +kernel
theorem dJ7_checkFromToIndex_0 : decode cJ7_checkFromToIndex 0 = .ok (.iload_n 0, 1) := dk_26 (dk_at dksJ7_checkFromToIndex_0 0 rfl rfl)
theorem dJ7_checkFromToIndex_1 : decode cJ7_checkFromToIndex 1 = .ok (.ifCond .lt 13, 3) := dk_155 0 13 (dk_at dksJ7_checkFromToIndex_0 1 rfl rfl)
theorem dJ7_checkFromToIndex_4 : decode cJ7_checkFromToIndex 4 = .ok (.iload_n 0, 1) := dk_26 (dk_at dksJ7_checkFromToIndex_0 4 rfl rfl)
theorem dJ7_checkFromToIndex_5 : decode cJ7_checkFromToIndex 5 = .ok (.iload_n 1, 1) := dk_27 (dk_at dksJ7_checkFromToIndex_0 5 rfl rfl)
theorem dJ7_checkFromToIndex_6 : decode cJ7_checkFromToIndex 6 = .ok (.if_icmp .gt 8, 3) := dk_163 0 8 (dk_at dksJ7_checkFromToIndex_0 6 rfl rfl)
theorem dJ7_checkFromToIndex_9 : decode cJ7_checkFromToIndex 9 = .ok (.iload_n 1, 1) := dk_27 (dk_at dksJ7_checkFromToIndex_0 9 rfl rfl)
theorem dJ7_checkFromToIndex_10 : decode cJ7_checkFromToIndex 10 = .ok (.iload_n 2, 1) := dk_28 (dk_at dksJ7_checkFromToIndex_0 10 rfl rfl)
theorem dJ7_checkFromToIndex_11 : decode cJ7_checkFromToIndex 11 = .ok (.if_icmp .le 11, 3) := dk_164 0 11 (dk_at dksJ7_checkFromToIndex_0 11 rfl rfl)
theorem dJ7_checkFromToIndex_14 : decode cJ7_checkFromToIndex 14 = .ok (.aload_n 3, 1) := dk_45 (dk_at dksJ7_checkFromToIndex_0 14 rfl rfl)
theorem dJ7_checkFromToIndex_15 : decode cJ7_checkFromToIndex 15 = .ok (.iload_n 0, 1) := dk_26 (dk_at dksJ7_checkFromToIndex_0 15 rfl rfl)
theorem dJ7_checkFromToIndex_16 : decode cJ7_checkFromToIndex 16 = .ok (.iload_n 1, 1) := dk_27 (dk_at dksJ7_checkFromToIndex_0 16 rfl rfl)
theorem dJ7_checkFromToIndex_17 : decode cJ7_checkFromToIndex 17 = .ok (.iload_n 2, 1) := dk_28 (dk_at dksJ7_checkFromToIndex_0 17 rfl rfl)
theorem dJ7_checkFromToIndex_18 : decode cJ7_checkFromToIndex 18 = .ok (.invokestatic 99, 3) := dk_184 0 99 (dk_at dksJ7_checkFromToIndex_0 18 rfl rfl)
theorem dJ7_checkFromToIndex_21 : decode cJ7_checkFromToIndex 21 = .ok (.athrow, 1) := dk_191 (dk_at dksJ7_checkFromToIndex_0 21 rfl rfl)
theorem dJ7_checkFromToIndex_22 : decode cJ7_checkFromToIndex 22 = .ok (.iload_n 0, 1) := dk_26 (dk_at dksJ7_checkFromToIndex_0 22 rfl rfl)
theorem dJ7_checkFromToIndex_23 : decode cJ7_checkFromToIndex 23 = .ok (.ireturn, 1) := dk_172 (dk_at dksJ7_checkFromToIndex_0 23 rfl rfl)
abbrev cJ7_checkIndex : ByteArray := prog_51_method_11_code
def yJ7_checkIndex : MethodName := ⟨RJ7, "checkIndex", "(IILjava/util/function/BiFunction;)I"⟩
def dkwJ7_checkIndex_0 : List UInt8 := [26, 155, 0, 8, 26, 27, 161, 0, 10, 44, 26, 27, 184, 0, 95, 191, 26, 172]
abbrev dktJ7_checkIndex_0 : List UInt8 := dkwJ7_checkIndex_0 ++ []
theorem dksJ7_checkIndex_0 : cJ7_checkIndex.data.toList.drop 0 = dktJ7_checkIndex_0 := by decide +kernel
theorem dJ7_checkIndex_0 : decode cJ7_checkIndex 0 = .ok (.iload_n 0, 1) := dk_26 (dk_at dksJ7_checkIndex_0 0 rfl rfl)
theorem dJ7_checkIndex_1 : decode cJ7_checkIndex 1 = .ok (.ifCond .lt 8, 3) := dk_155 0 8 (dk_at dksJ7_checkIndex_0 1 rfl rfl)
theorem dJ7_checkIndex_4 : decode cJ7_checkIndex 4 = .ok (.iload_n 0, 1) := dk_26 (dk_at dksJ7_checkIndex_0 4 rfl rfl)
theorem dJ7_checkIndex_5 : decode cJ7_checkIndex 5 = .ok (.iload_n 1, 1) := dk_27 (dk_at dksJ7_checkIndex_0 5 rfl rfl)
theorem dJ7_checkIndex_6 : decode cJ7_checkIndex 6 = .ok (.if_icmp .lt 10, 3) := dk_161 0 10 (dk_at dksJ7_checkIndex_0 6 rfl rfl)
theorem dJ7_checkIndex_9 : decode cJ7_checkIndex 9 = .ok (.aload_n 2, 1) := dk_44 (dk_at dksJ7_checkIndex_0 9 rfl rfl)
theorem dJ7_checkIndex_10 : decode cJ7_checkIndex 10 = .ok (.iload_n 0, 1) := dk_26 (dk_at dksJ7_checkIndex_0 10 rfl rfl)
theorem dJ7_checkIndex_11 : decode cJ7_checkIndex 11 = .ok (.iload_n 1, 1) := dk_27 (dk_at dksJ7_checkIndex_0 11 rfl rfl)
theorem dJ7_checkIndex_12 : decode cJ7_checkIndex 12 = .ok (.invokestatic 95, 3) := dk_184 0 95 (dk_at dksJ7_checkIndex_0 12 rfl rfl)
theorem dJ7_checkIndex_15 : decode cJ7_checkIndex 15 = .ok (.athrow, 1) := dk_191 (dk_at dksJ7_checkIndex_0 15 rfl rfl)
theorem dJ7_checkIndex_16 : decode cJ7_checkIndex 16 = .ok (.iload_n 0, 1) := dk_26 (dk_at dksJ7_checkIndex_0 16 rfl rfl)
theorem dJ7_checkIndex_17 : decode cJ7_checkIndex 17 = .ok (.ireturn, 1) := dk_172 (dk_at dksJ7_checkIndex_0 17 rfl rfl)
theorem q175 : (Jvm.Cond.initialized "jdk/internal/util/Preconditions") ∈ lw_all := lw_g (lw_at lw_m1 15 rfl) rfl
theorem q655 : (Jvm.Cond.laysStatic "jdk/internal/util/Preconditions" "SIOOBE_FORMATTER" "Ljava/util/function/BiFunction;") ∈ lw_tbl := lw_at lw_m3 15 rfl
theorem q657 : (Jvm.Cond.static ({ cls := "jdk/internal/util/Preconditions", name := "checkFromToIndex", desc := "(IIILjava/util/function/BiFunction;)I" } : Jvm.MethodName)) ∈ lw_all := lw_g (lw_at lw_m3 17 rfl) rfl
theorem q658 : (Jvm.Cond.code ({ cls := "jdk/internal/util/Preconditions", name := "checkFromToIndex", desc := "(IIILjava/util/function/BiFunction;)I" } : Jvm.MethodName) prog_51_method_12_code (4 : Nat) (Option.some Jvm.ClassFile.FieldType.int)) ∈ lw_all := lw_g (lw_at lw_m3 18 rfl) rfl
theorem q696 : (Jvm.Cond.static ({ cls := "jdk/internal/util/Preconditions", name := "checkIndex", desc := "(IILjava/util/function/BiFunction;)I" } : Jvm.MethodName)) ∈ lw_all := lw_g (lw_at lw_m3 56 rfl) rfl
theorem q697 : (Jvm.Cond.code ({ cls := "jdk/internal/util/Preconditions", name := "checkIndex", desc := "(IILjava/util/function/BiFunction;)I" } : Jvm.MethodName) prog_51_method_11_code (3 : Nat) (Option.some Jvm.ClassFile.FieldType.int)) ∈ lw_all := lw_g (lw_at lw_m3 57 rfl) rfl

abbrev cJ8_isValidCodePoint : ByteArray := prog_26_method_11_code
def yJ8_isValidCodePoint : MethodName := ⟨RJ8, "isValidCodePoint", "(I)Z"⟩
def dkwJ8_isValidCodePoint_0 : List UInt8 := [26, 16, 16, 124, 60, 27, 16, 17, 162, 0, 7, 4, 167, 0, 4, 3, 172]
abbrev dktJ8_isValidCodePoint_0 : List UInt8 := dkwJ8_isValidCodePoint_0 ++ []
theorem dksJ8_isValidCodePoint_0 : cJ8_isValidCodePoint.data.toList.drop 0 = dktJ8_isValidCodePoint_0 := by decide +kernel
theorem dJ8_isValidCodePoint_0 : decode cJ8_isValidCodePoint 0 = .ok (.iload_n 0, 1) := dk_26 (dk_at dksJ8_isValidCodePoint_0 0 rfl rfl)
theorem dJ8_isValidCodePoint_1 : decode cJ8_isValidCodePoint 1 = .ok (.bipush 16, 2) := dk_16 16 (dk_at dksJ8_isValidCodePoint_0 1 rfl rfl)
theorem dJ8_isValidCodePoint_3 : decode cJ8_isValidCodePoint 3 = .ok (.iushr, 1) := dk_124 (dk_at dksJ8_isValidCodePoint_0 3 rfl rfl)
theorem dJ8_isValidCodePoint_4 : decode cJ8_isValidCodePoint 4 = .ok (.istore_n 1, 1) := dk_60 (dk_at dksJ8_isValidCodePoint_0 4 rfl rfl)
theorem dJ8_isValidCodePoint_5 : decode cJ8_isValidCodePoint 5 = .ok (.iload_n 1, 1) := dk_27 (dk_at dksJ8_isValidCodePoint_0 5 rfl rfl)
theorem dJ8_isValidCodePoint_6 : decode cJ8_isValidCodePoint 6 = .ok (.bipush 17, 2) := dk_16 17 (dk_at dksJ8_isValidCodePoint_0 6 rfl rfl)
theorem dJ8_isValidCodePoint_8 : decode cJ8_isValidCodePoint 8 = .ok (.if_icmp .ge 7, 3) := dk_162 0 7 (dk_at dksJ8_isValidCodePoint_0 8 rfl rfl)
theorem dJ8_isValidCodePoint_11 : decode cJ8_isValidCodePoint 11 = .ok (.iconst 1, 1) := dk_4 (dk_at dksJ8_isValidCodePoint_0 11 rfl rfl)
theorem dJ8_isValidCodePoint_12 : decode cJ8_isValidCodePoint 12 = .ok (.goto 4, 3) := dk_167 0 4 (dk_at dksJ8_isValidCodePoint_0 12 rfl rfl)
theorem dJ8_isValidCodePoint_15 : decode cJ8_isValidCodePoint 15 = .ok (.iconst 0, 1) := dk_3 (dk_at dksJ8_isValidCodePoint_0 15 rfl rfl)
theorem dJ8_isValidCodePoint_16 : decode cJ8_isValidCodePoint 16 = .ok (.ireturn, 1) := dk_172 (dk_at dksJ8_isValidCodePoint_0 16 rfl rfl)
abbrev cJ8_highSurrogate : ByteArray := prog_26_method_28_code
def yJ8_highSurrogate : MethodName := ⟨RJ8, "highSurrogate", "(I)C"⟩
def dkwJ8_highSurrogate_0 : List UInt8 := [26, 16, 10, 124, 18, 110, 96, 146, 172]
abbrev dktJ8_highSurrogate_0 : List UInt8 := dkwJ8_highSurrogate_0 ++ []
theorem dksJ8_highSurrogate_0 : cJ8_highSurrogate.data.toList.drop 0 = dktJ8_highSurrogate_0 := by decide +kernel
theorem dJ8_highSurrogate_0 : decode cJ8_highSurrogate 0 = .ok (.iload_n 0, 1) := dk_26 (dk_at dksJ8_highSurrogate_0 0 rfl rfl)
theorem dJ8_highSurrogate_1 : decode cJ8_highSurrogate 1 = .ok (.bipush 10, 2) := dk_16 10 (dk_at dksJ8_highSurrogate_0 1 rfl rfl)
theorem dJ8_highSurrogate_3 : decode cJ8_highSurrogate 3 = .ok (.iushr, 1) := dk_124 (dk_at dksJ8_highSurrogate_0 3 rfl rfl)
theorem dJ8_highSurrogate_4 : decode cJ8_highSurrogate 4 = .ok (.ldc 110, 2) := dk_18 110 (dk_at dksJ8_highSurrogate_0 4 rfl rfl)
theorem dJ8_highSurrogate_6 : decode cJ8_highSurrogate 6 = .ok (.iadd, 1) := dk_96 (dk_at dksJ8_highSurrogate_0 6 rfl rfl)
theorem dJ8_highSurrogate_7 : decode cJ8_highSurrogate 7 = .ok (.i2c, 1) := dk_146 (dk_at dksJ8_highSurrogate_0 7 rfl rfl)
theorem dJ8_highSurrogate_8 : decode cJ8_highSurrogate 8 = .ok (.ireturn, 1) := dk_172 (dk_at dksJ8_highSurrogate_0 8 rfl rfl)
abbrev cJ8_lowSurrogate : ByteArray := prog_26_method_29_code
def yJ8_lowSurrogate : MethodName := ⟨RJ8, "lowSurrogate", "(I)C"⟩
def dkwJ8_lowSurrogate_0 : List UInt8 := [26, 17, 3, 255, 126, 18, 76, 96, 146, 172]
abbrev dktJ8_lowSurrogate_0 : List UInt8 := dkwJ8_lowSurrogate_0 ++ []
theorem dksJ8_lowSurrogate_0 : cJ8_lowSurrogate.data.toList.drop 0 = dktJ8_lowSurrogate_0 := by decide +kernel
theorem dJ8_lowSurrogate_0 : decode cJ8_lowSurrogate 0 = .ok (.iload_n 0, 1) := dk_26 (dk_at dksJ8_lowSurrogate_0 0 rfl rfl)
theorem dJ8_lowSurrogate_1 : decode cJ8_lowSurrogate 1 = .ok (.sipush 1023, 3) := dk_17 3 255 (dk_at dksJ8_lowSurrogate_0 1 rfl rfl)
theorem dJ8_lowSurrogate_4 : decode cJ8_lowSurrogate 4 = .ok (.iand, 1) := dk_126 (dk_at dksJ8_lowSurrogate_0 4 rfl rfl)
theorem dJ8_lowSurrogate_5 : decode cJ8_lowSurrogate 5 = .ok (.ldc 76, 2) := dk_18 76 (dk_at dksJ8_lowSurrogate_0 5 rfl rfl)
theorem dJ8_lowSurrogate_7 : decode cJ8_lowSurrogate 7 = .ok (.iadd, 1) := dk_96 (dk_at dksJ8_lowSurrogate_0 7 rfl rfl)
theorem dJ8_lowSurrogate_8 : decode cJ8_lowSurrogate 8 = .ok (.i2c, 1) := dk_146 (dk_at dksJ8_lowSurrogate_0 8 rfl rfl)
theorem dJ8_lowSurrogate_9 : decode cJ8_lowSurrogate 9 = .ok (.ireturn, 1) := dk_172 (dk_at dksJ8_lowSurrogate_0 9 rfl rfl)
theorem q176 : (Jvm.Cond.initialized "java/lang/Character") ∈ lw_all := lw_g (lw_at lw_m1 16 rfl) rfl
theorem q675 : (Jvm.Cond.static ({ cls := "java/lang/Character", name := "isValidCodePoint", desc := "(I)Z" } : Jvm.MethodName)) ∈ lw_all := lw_g (lw_at lw_m3 35 rfl) rfl
theorem q676 : (Jvm.Cond.code ({ cls := "java/lang/Character", name := "isValidCodePoint", desc := "(I)Z" } : Jvm.MethodName) prog_26_method_11_code (2 : Nat) (Option.some Jvm.ClassFile.FieldType.boolean)) ∈ lw_all := lw_g (lw_at lw_m3 36 rfl) rfl
theorem q678 : (Jvm.Cond.static ({ cls := "java/lang/Character", name := "highSurrogate", desc := "(I)C" } : Jvm.MethodName)) ∈ lw_all := lw_g (lw_at lw_m3 38 rfl) rfl
theorem q679 : (Jvm.Cond.code ({ cls := "java/lang/Character", name := "highSurrogate", desc := "(I)C" } : Jvm.MethodName) prog_26_method_28_code (1 : Nat) (Option.some Jvm.ClassFile.FieldType.char)) ∈ lw_all := lw_g (lw_at lw_m3 39 rfl) rfl
theorem q680 : (Jvm.Cond.constant "java/lang/Character" (110 : Nat) (55232 : Int32)) ∈ lw_all := lw_g (lw_at lw_m3 40 rfl) rfl
theorem q682 : (Jvm.Cond.static ({ cls := "java/lang/Character", name := "lowSurrogate", desc := "(I)C" } : Jvm.MethodName)) ∈ lw_all := lw_g (lw_at lw_m3 42 rfl) rfl
theorem q683 : (Jvm.Cond.code ({ cls := "java/lang/Character", name := "lowSurrogate", desc := "(I)C" } : Jvm.MethodName) prog_26_method_29_code (1 : Nat) (Option.some Jvm.ClassFile.FieldType.char)) ∈ lw_all := lw_g (lw_at lw_m3 43 rfl) rfl
theorem q684 : (Jvm.Cond.constant "java/lang/Character" (76 : Nat) (56320 : Int32)) ∈ lw_all := lw_g (lw_at lw_m3 44 rfl) rfl

abbrev cJ9_init : ByteArray := prog_39_method_1_code
def yJ9_init : MethodName := ⟨RJ9, "<init>", "()V"⟩
def dkwJ9_init_1 : List UInt8 := [182, 0, 27, 87, 177]
abbrev dktJ9_init_1 : List UInt8 := dkwJ9_init_1 ++ []
def dkwJ9_init_0 : List UInt8 := [42, 183, 0, 1, 42, 42, 181, 0, 7, 42, 178, 0, 13, 181, 0, 17, 42, 178, 0, 20, 181, 0, 24, 42]
abbrev dktJ9_init_0 : List UInt8 := dkwJ9_init_0 ++ dktJ9_init_1
theorem dksJ9_init_0 : cJ9_init.data.toList.drop 0 = dktJ9_init_0 := by decide +kernel
theorem dksJ9_init_1 : cJ9_init.data.toList.drop 24 = dktJ9_init_1 := dk_seg dksJ9_init_0 24 rfl rfl
theorem dJ9_init_0 : decode cJ9_init 0 = .ok (.aload_n 0, 1) := dk_42 (dk_at dksJ9_init_0 0 rfl rfl)
theorem dJ9_init_1 : decode cJ9_init 1 = .ok (.invokespecial 1, 3) := dk_183 0 1 (dk_at dksJ9_init_0 1 rfl rfl)
theorem dJ9_init_4 : decode cJ9_init 4 = .ok (.aload_n 0, 1) := dk_42 (dk_at dksJ9_init_0 4 rfl rfl)
theorem dJ9_init_5 : decode cJ9_init 5 = .ok (.aload_n 0, 1) := dk_42 (dk_at dksJ9_init_0 5 rfl rfl)
theorem dJ9_init_6 : decode cJ9_init 6 = .ok (.putfield 7, 3) := dk_181 0 7 (dk_at dksJ9_init_0 6 rfl rfl)
theorem dJ9_init_9 : decode cJ9_init 9 = .ok (.aload_n 0, 1) := dk_42 (dk_at dksJ9_init_0 9 rfl rfl)
theorem dJ9_init_10 : decode cJ9_init 10 = .ok (.getstatic 13, 3) := dk_178 0 13 (dk_at dksJ9_init_0 10 rfl rfl)
theorem dJ9_init_13 : decode cJ9_init 13 = .ok (.putfield 17, 3) := dk_181 0 17 (dk_at dksJ9_init_0 13 rfl rfl)
theorem dJ9_init_16 : decode cJ9_init 16 = .ok (.aload_n 0, 1) := dk_42 (dk_at dksJ9_init_0 16 rfl rfl)
theorem dJ9_init_17 : decode cJ9_init 17 = .ok (.getstatic 20, 3) := dk_178 0 20 (dk_at dksJ9_init_0 17 rfl rfl)
theorem dJ9_init_20 : decode cJ9_init 20 = .ok (.putfield 24, 3) := dk_181 0 24 (dk_at dksJ9_init_0 20 rfl rfl)
theorem dJ9_init_23 : decode cJ9_init 23 = .ok (.aload_n 0, 1) := dk_42 (dk_at dksJ9_init_0 23 rfl rfl)
theorem dJ9_init_24 : decode cJ9_init 24 = .ok (.invokevirtual 27, 3) := dk_182 0 27 (dk_at dksJ9_init_1 0 rfl rfl)
theorem dJ9_init_27 : decode cJ9_init 27 = .ok (.pop, 1) := dk_87 (dk_at dksJ9_init_1 3 rfl rfl)
theorem dJ9_init_28 : decode cJ9_init 28 = .ok (.return_, 1) := dk_177 (dk_at dksJ9_init_1 4 rfl rfl)
abbrev cJ9_init_2 : ByteArray := prog_39_method_5_code
def yJ9_init_2 : MethodName := ⟨RJ9, "<init>", "(Ljava/lang/String;Ljava/lang/Throwable;ZZ)V"⟩
def dkwJ9_init_2_2 : List UInt8 := [44, 181, 0, 7, 29, 154, 0, 8, 42, 1, 181, 0, 24, 177]
abbrev dktJ9_init_2_2 : List UInt8 := dkwJ9_init_2_2 ++ []
def dkwJ9_init_2_1 : List UInt8 := [21, 4, 153, 0, 11, 42, 182, 0, 27, 87, 167, 0, 8, 42, 1, 181, 0, 17, 42, 43, 181, 0, 31, 42]
abbrev dktJ9_init_2_1 : List UInt8 := dkwJ9_init_2_1 ++ dktJ9_init_2_2
def dkwJ9_init_2_0 : List UInt8 := [42, 183, 0, 1, 42, 42, 181, 0, 7, 42, 178, 0, 13, 181, 0, 17, 42, 178, 0, 20, 181, 0, 24]
abbrev dktJ9_init_2_0 : List UInt8 := dkwJ9_init_2_0 ++ dktJ9_init_2_1
theorem dksJ9_init_2_0 : cJ9_init_2.data.toList.drop 0 = dktJ9_init_2_0 := by decide +kernel
theorem dksJ9_init_2_1 : cJ9_init_2.data.toList.drop 23 = dktJ9_init_2_1 := dk_seg dksJ9_init_2_0 23 rfl rfl
theorem dksJ9_init_2_2 : cJ9_init_2.data.toList.drop 47 = dktJ9_init_2_2 := dk_seg dksJ9_init_2_1 24 rfl rfl
theorem dJ9_init_2_0 : decode cJ9_init_2 0 = .ok (.aload_n 0, 1) := dk_42 (dk_at dksJ9_init_2_0 0 rfl rfl)
theorem dJ9_init_2_1 : decode cJ9_init_2 1 = .ok (.invokespecial 1, 3) := dk_183 0 1 (dk_at dksJ9_init_2_0 1 rfl rfl)
theorem dJ9_init_2_4 : decode cJ9_init_2 4 = .ok (.aload_n 0, 1) := dk_42 (dk_at dksJ9_init_2_0 4 rfl rfl)
theorem dJ9_init_2_5 : decode cJ9_init_2 5 = .ok (.aload_n 0, 1) := dk_42 (dk_at dksJ9_init_2_0 5 rfl rfl)
theorem dJ9_init_2_6 : decode cJ9_init_2 6 = .ok (.putfield 7, 3) := dk_181 0 7 (dk_at dksJ9_init_2_0 6 rfl rfl)
theorem dJ9_init_2_9 : decode cJ9_init_2 9 = .ok (.aload_n 0, 1) := dk_42 (dk_at dksJ9_init_2_0 9 rfl rfl)
theorem dJ9_init_2_10 : decode cJ9_init_2 10 = .ok (.getstatic 13, 3) := dk_178 0 13 (dk_at dksJ9_init_2_0 10 rfl rfl)
theorem dJ9_init_2_13 : decode cJ9_init_2 13 = .ok (.putfield 17, 3) := dk_181 0 17 (dk_at dksJ9_init_2_0 13 rfl rfl)
theorem dJ9_init_2_16 : decode cJ9_init_2 16 = .ok (.aload_n 0, 1) := dk_42 (dk_at dksJ9_init_2_0 16 rfl rfl)
theorem dJ9_init_2_17 : decode cJ9_init_2 17 = .ok (.getstatic 20, 3) := dk_178 0 20 (dk_at dksJ9_init_2_0 17 rfl rfl)
theorem dJ9_init_2_20 : decode cJ9_init_2 20 = .ok (.putfield 24, 3) := dk_181 0 24 (dk_at dksJ9_init_2_0 20 rfl rfl)
theorem dJ9_init_2_23 : decode cJ9_init_2 23 = .ok (.iload 4, 2) := dk_21 4 (dk_at dksJ9_init_2_1 0 rfl rfl)
theorem dJ9_init_2_25 : decode cJ9_init_2 25 = .ok (.ifCond .eq 11, 3) := dk_153 0 11 (dk_at dksJ9_init_2_1 2 rfl rfl)
theorem dJ9_init_2_28 : decode cJ9_init_2 28 = .ok (.aload_n 0, 1) := dk_42 (dk_at dksJ9_init_2_1 5 rfl rfl)
theorem dJ9_init_2_29 : decode cJ9_init_2 29 = .ok (.invokevirtual 27, 3) := dk_182 0 27 (dk_at dksJ9_init_2_1 6 rfl rfl)
theorem dJ9_init_2_32 : decode cJ9_init_2 32 = .ok (.pop, 1) := dk_87 (dk_at dksJ9_init_2_1 9 rfl rfl)
theorem dJ9_init_2_33 : decode cJ9_init_2 33 = .ok (.goto 8, 3) := dk_167 0 8 (dk_at dksJ9_init_2_1 10 rfl rfl)
theorem dJ9_init_2_36 : decode cJ9_init_2 36 = .ok (.aload_n 0, 1) := dk_42 (dk_at dksJ9_init_2_1 13 rfl rfl)
theorem dJ9_init_2_37 : decode cJ9_init_2 37 = .ok (.aconst_null, 1) := dk_1 (dk_at dksJ9_init_2_1 14 rfl rfl)
theorem dJ9_init_2_38 : decode cJ9_init_2 38 = .ok (.putfield 17, 3) := dk_181 0 17 (dk_at dksJ9_init_2_1 15 rfl rfl)
theorem dJ9_init_2_41 : decode cJ9_init_2 41 = .ok (.aload_n 0, 1) := dk_42 (dk_at dksJ9_init_2_1 18 rfl rfl)
theorem dJ9_init_2_42 : decode cJ9_init_2 42 = .ok (.aload_n 1, 1) := dk_43 (dk_at dksJ9_init_2_1 19 rfl rfl)
theorem dJ9_init_2_43 : decode cJ9_init_2 43 = .ok (.putfield 31, 3) := dk_181 0 31 (dk_at dksJ9_init_2_1 20 rfl rfl)
theorem dJ9_init_2_46 : decode cJ9_init_2 46 = .ok (.aload_n 0, 1) := dk_42 (dk_at dksJ9_init_2_1 23 rfl rfl)
theorem dJ9_init_2_47 : decode cJ9_init_2 47 = .ok (.aload_n 2, 1) := dk_44 (dk_at dksJ9_init_2_2 0 rfl rfl)
theorem dJ9_init_2_48 : decode cJ9_init_2 48 = .ok (.putfield 7, 3) := dk_181 0 7 (dk_at dksJ9_init_2_2 1 rfl rfl)
theorem dJ9_init_2_51 : decode cJ9_init_2 51 = .ok (.iload_n 3, 1) := dk_29 (dk_at dksJ9_init_2_2 4 rfl rfl)
theorem dJ9_init_2_52 : decode cJ9_init_2 52 = .ok (.ifCond .ne 8, 3) := dk_154 0 8 (dk_at dksJ9_init_2_2 5 rfl rfl)
theorem dJ9_init_2_55 : decode cJ9_init_2 55 = .ok (.aload_n 0, 1) := dk_42 (dk_at dksJ9_init_2_2 8 rfl rfl)
theorem dJ9_init_2_56 : decode cJ9_init_2 56 = .ok (.aconst_null, 1) := dk_1 (dk_at dksJ9_init_2_2 9 rfl rfl)
theorem dJ9_init_2_57 : decode cJ9_init_2 57 = .ok (.putfield 24, 3) := dk_181 0 24 (dk_at dksJ9_init_2_2 10 rfl rfl)
theorem dJ9_init_2_60 : decode cJ9_init_2 60 = .ok (.return_, 1) := dk_177 (dk_at dksJ9_init_2_2 13 rfl rfl)
abbrev cJ9_init_3 : ByteArray := prog_39_method_2_code
def yJ9_init_3 : MethodName := ⟨RJ9, "<init>", "(Ljava/lang/String;)V"⟩
def dkwJ9_init_3_1 : List UInt8 := [182, 0, 27, 87, 42, 43, 181, 0, 31, 177]
abbrev dktJ9_init_3_1 : List UInt8 := dkwJ9_init_3_1 ++ []
def dkwJ9_init_3_0 : List UInt8 := [42, 183, 0, 1, 42, 42, 181, 0, 7, 42, 178, 0, 13, 181, 0, 17, 42, 178, 0, 20, 181, 0, 24, 42]
abbrev dktJ9_init_3_0 : List UInt8 := dkwJ9_init_3_0 ++ dktJ9_init_3_1
theorem dksJ9_init_3_0 : cJ9_init_3.data.toList.drop 0 = dktJ9_init_3_0 := by decide +kernel
theorem dksJ9_init_3_1 : cJ9_init_3.data.toList.drop 24 = dktJ9_init_3_1 := dk_seg dksJ9_init_3_0 24 rfl rfl
theorem dJ9_init_3_0 : decode cJ9_init_3 0 = .ok (.aload_n 0, 1) := dk_42 (dk_at dksJ9_init_3_0 0 rfl rfl)
theorem dJ9_init_3_1 : decode cJ9_init_3 1 = .ok (.invokespecial 1, 3) := dk_183 0 1 (dk_at dksJ9_init_3_0 1 rfl rfl)
theorem dJ9_init_3_4 : decode cJ9_init_3 4 = .ok (.aload_n 0, 1) := dk_42 (dk_at dksJ9_init_3_0 4 rfl rfl)
theorem dJ9_init_3_5 : decode cJ9_init_3 5 = .ok (.aload_n 0, 1) := dk_42 (dk_at dksJ9_init_3_0 5 rfl rfl)
theorem dJ9_init_3_6 : decode cJ9_init_3 6 = .ok (.putfield 7, 3) := dk_181 0 7 (dk_at dksJ9_init_3_0 6 rfl rfl)
theorem dJ9_init_3_9 : decode cJ9_init_3 9 = .ok (.aload_n 0, 1) := dk_42 (dk_at dksJ9_init_3_0 9 rfl rfl)
theorem dJ9_init_3_10 : decode cJ9_init_3 10 = .ok (.getstatic 13, 3) := dk_178 0 13 (dk_at dksJ9_init_3_0 10 rfl rfl)
theorem dJ9_init_3_13 : decode cJ9_init_3 13 = .ok (.putfield 17, 3) := dk_181 0 17 (dk_at dksJ9_init_3_0 13 rfl rfl)
theorem dJ9_init_3_16 : decode cJ9_init_3 16 = .ok (.aload_n 0, 1) := dk_42 (dk_at dksJ9_init_3_0 16 rfl rfl)
theorem dJ9_init_3_17 : decode cJ9_init_3 17 = .ok (.getstatic 20, 3) := dk_178 0 20 (dk_at dksJ9_init_3_0 17 rfl rfl)
theorem dJ9_init_3_20 : decode cJ9_init_3 20 = .ok (.putfield 24, 3) := dk_181 0 24 (dk_at dksJ9_init_3_0 20 rfl rfl)
theorem dJ9_init_3_23 : decode cJ9_init_3 23 = .ok (.aload_n 0, 1) := dk_42 (dk_at dksJ9_init_3_0 23 rfl rfl)
theorem dJ9_init_3_24 : decode cJ9_init_3 24 = .ok (.invokevirtual 27, 3) := dk_182 0 27 (dk_at dksJ9_init_3_1 0 rfl rfl)
theorem dJ9_init_3_27 : decode cJ9_init_3 27 = .ok (.pop, 1) := dk_87 (dk_at dksJ9_init_3_1 3 rfl rfl)
theorem dJ9_init_3_28 : decode cJ9_init_3 28 = .ok (.aload_n 0, 1) := dk_42 (dk_at dksJ9_init_3_1 4 rfl rfl)
theorem dJ9_init_3_29 : decode cJ9_init_3 29 = .ok (.aload_n 1, 1) := dk_43 (dk_at dksJ9_init_3_1 5 rfl rfl)
theorem dJ9_init_3_30 : decode cJ9_init_3 30 = .ok (.putfield 31, 3) := dk_181 0 31 (dk_at dksJ9_init_3_1 6 rfl rfl)
theorem dJ9_init_3_33 : decode cJ9_init_3 33 = .ok (.return_, 1) := dk_177 (dk_at dksJ9_init_3_1 9 rfl rfl)
theorem q177 : (Jvm.Cond.initialized "java/lang/Throwable") ∈ lw_all := lw_g (lw_at lw_m1 17 rfl) rfl
theorem q733 : (Jvm.Cond.declares ({ cls := "java/lang/Throwable", name := "<init>", desc := "()V" } : Jvm.MethodName)) ∈ lw_tbl := lw_at lw_m3 93 rfl
theorem q734 : (Jvm.Cond.declares ({ cls := "java/lang/Throwable", name := "<init>", desc := "(Ljava/lang/String;)V" } : Jvm.MethodName)) ∈ lw_tbl := lw_at lw_m3 94 rfl
theorem q738 : (Jvm.Cond.lays "java/lang/Throwable" "java/lang/Throwable" "cause" "Ljava/lang/Throwable;") ∈ lw_all := lw_g (lw_at lw_m3 98 rfl) rfl
theorem q740 : (Jvm.Cond.lays "java/lang/Throwable" "java/lang/Throwable" "stackTrace" "[Ljava/lang/StackTraceElement;") ∈ lw_all := lw_g (lw_at lw_m3 100 rfl) rfl
theorem q742 : (Jvm.Cond.lays "java/lang/Throwable" "java/lang/Throwable" "suppressedExceptions" "Ljava/util/List;") ∈ lw_all := lw_g (lw_at lw_m3 102 rfl) rfl
theorem q744 : (Jvm.Cond.lays "java/lang/Throwable" "java/lang/Throwable" "detailMessage" "Ljava/lang/String;") ∈ lw_all := lw_g (lw_at lw_m3 104 rfl) rfl
theorem q746 : (Jvm.Cond.lays "java/lang/Throwable" "java/lang/Throwable" "backtrace" "Ljava/lang/Object;") ∈ lw_all := lw_g (lw_at lw_m3 106 rfl) rfl
theorem q747 : (Jvm.Cond.fieldLink "java/lang/Throwable" (198 : Nat) "java/lang/Throwable" "backtrace" "Ljava/lang/Object;") ∈ lw_all := lw_g (lw_at lw_m3 107 rfl) rfl
theorem q748 : (Jvm.Cond.superclass "java/lang/Throwable" "java/lang/Object") ∈ lw_all := lw_g (lw_at lw_m3 108 rfl) rfl
theorem q749 : (Jvm.Cond.instanceMethod ({ cls := "java/lang/Throwable", name := "<init>", desc := "()V" } : Jvm.MethodName)) ∈ lw_all := lw_g (lw_at lw_m3 109 rfl) rfl
theorem q750 : (Jvm.Cond.code ({ cls := "java/lang/Throwable", name := "<init>", desc := "()V" } : Jvm.MethodName) prog_39_method_1_code (1 : Nat) (Option.none : Option Jvm.ClassFile.FieldType)) ∈ lw_all := lw_g (lw_at lw_m3 110 rfl) rfl
theorem q751 : (Jvm.Cond.methodLink "java/lang/Throwable" (1 : Nat) ({ cls := "java/lang/Object", name := "<init>", desc := "()V" } : Jvm.MethodName)) ∈ lw_all := lw_g (lw_at lw_m3 111 rfl) rfl
theorem q752 : (Jvm.Cond.fieldLink "java/lang/Throwable" (13 : Nat) "java/lang/Throwable" "UNASSIGNED_STACK" "[Ljava/lang/StackTraceElement;") ∈ lw_all := lw_g (lw_at lw_m3 112 rfl) rfl
theorem q753 : (Jvm.Cond.laysStatic "java/lang/Throwable" "UNASSIGNED_STACK" "[Ljava/lang/StackTraceElement;") ∈ lw_tbl := lw_at lw_m3 113 rfl
theorem q754 : (Jvm.Cond.fieldLink "java/lang/Throwable" (20 : Nat) "java/lang/Throwable" "SUPPRESSED_SENTINEL" "Ljava/util/List;") ∈ lw_all := lw_g (lw_at lw_m3 114 rfl) rfl
theorem q755 : (Jvm.Cond.laysStatic "java/lang/Throwable" "SUPPRESSED_SENTINEL" "Ljava/util/List;") ∈ lw_tbl := lw_at lw_m3 115 rfl
theorem q756 : (Jvm.Cond.methodLink "java/lang/Throwable" (27 : Nat) ({ cls := "java/lang/Throwable", name := "fillInStackTrace", desc := "()Ljava/lang/Throwable;" } : Jvm.MethodName)) ∈ lw_all := lw_g (lw_at lw_m3 116 rfl) rfl
theorem q757 : (Jvm.Cond.instanceMethod ({ cls := "java/lang/Throwable", name := "fillInStackTrace", desc := "()Ljava/lang/Throwable;" } : Jvm.MethodName)) ∈ lw_all := lw_g (lw_at lw_m3 117 rfl) rfl
theorem q758 : (Jvm.Cond.sameMethod "java/lang/Throwable" "java/lang/Throwable" "fillInStackTrace" "()Ljava/lang/Throwable;") ∈ lw_all := lw_g (lw_at lw_m3 118 rfl) rfl
theorem q762 : (Jvm.Cond.codeSync ({ cls := "java/lang/Throwable", name := "fillInStackTrace", desc := "()Ljava/lang/Throwable;" } : Jvm.MethodName) prog_39_method_18_code (1 : Nat) (Option.some (Jvm.ClassFile.FieldType.object "java/lang/Throwable"))) ∈ lw_all := lw_g (lw_at lw_m3 122 rfl) rfl
theorem q763 : (Jvm.Cond.methodLink "java/lang/Throwable" (202 : Nat) ({ cls := "java/lang/Throwable", name := "fillInStackTrace", desc := "(I)Ljava/lang/Throwable;" } : Jvm.MethodName)) ∈ lw_all := lw_g (lw_at lw_m3 123 rfl) rfl
theorem q764 : (Jvm.Cond.privateMethod ({ cls := "java/lang/Throwable", name := "fillInStackTrace", desc := "(I)Ljava/lang/Throwable;" } : Jvm.MethodName)) ∈ lw_tbl := lw_at lw_m3 124 rfl
theorem q765 : (Jvm.Cond.instanceMethod ({ cls := "java/lang/Throwable", name := "fillInStackTrace", desc := "(I)Ljava/lang/Throwable;" } : Jvm.MethodName)) ∈ lw_all := lw_g (lw_at lw_m3 125 rfl) rfl
theorem q766 : (Jvm.Cond.instantiable "java/lang/Throwable" (6 : Nat)) ∈ lw_all := lw_g (lw_at lw_m3 126 rfl) rfl
theorem q767 : (Jvm.Cond.native ({ cls := "java/lang/Throwable", name := "fillInStackTrace", desc := "(I)Ljava/lang/Throwable;" } : Jvm.MethodName)) ∈ lw_all := lw_g (lw_at lw_m3 127 rfl) rfl
theorem q775 : (Jvm.Cond.instanceMethod ({ cls := "java/lang/Throwable", name := "<init>", desc := "(Ljava/lang/String;Ljava/lang/Throwable;ZZ)V" } : Jvm.MethodName)) ∈ lw_all := lw_g (lw_at lw_m3 135 rfl) rfl
theorem q776 : (Jvm.Cond.code ({ cls := "java/lang/Throwable", name := "<init>", desc := "(Ljava/lang/String;Ljava/lang/Throwable;ZZ)V" } : Jvm.MethodName) prog_39_method_5_code (5 : Nat) (Option.none : Option Jvm.ClassFile.FieldType)) ∈ lw_all := lw_g (lw_at lw_m3 136 rfl) rfl
theorem q781 : (Jvm.Cond.fieldLink "java/lang/Throwable" (198 : Nat) "java/lang/Throwable" "backtrace" "Ljava/lang/Object;") ∈ lw_all := lw_g (lw_at lw_m3 141 rfl) rfl
theorem q782 : (Jvm.Cond.fieldLink "java/lang/Throwable" (31 : Nat) "java/lang/Throwable" "detailMessage" "Ljava/lang/String;") ∈ lw_all := lw_g (lw_at lw_m3 142 rfl) rfl
theorem q783 : (Jvm.Cond.fieldLink "java/lang/Throwable" (7 : Nat) "java/lang/Throwable" "cause" "Ljava/lang/Throwable;") ∈ lw_all := lw_g (lw_at lw_m3 143 rfl) rfl
theorem q784 : (Jvm.Cond.fieldLink "java/lang/Throwable" (17 : Nat) "java/lang/Throwable" "stackTrace" "[Ljava/lang/StackTraceElement;") ∈ lw_all := lw_g (lw_at lw_m3 144 rfl) rfl
theorem q785 : (Jvm.Cond.fieldLink "java/lang/Throwable" (24 : Nat) "java/lang/Throwable" "suppressedExceptions" "Ljava/util/List;") ∈ lw_all := lw_g (lw_at lw_m3 145 rfl) rfl
theorem q790 : (Jvm.Cond.soleField "java/lang/Throwable" "backtrace") ∈ lw_all := lw_g (lw_at lw_m3 150 rfl) rfl
theorem q791 : (Jvm.Cond.soleField "java/lang/Throwable" "detailMessage") ∈ lw_all := lw_g (lw_at lw_m3 151 rfl) rfl
theorem q792 : (Jvm.Cond.soleField "java/lang/Throwable" "cause") ∈ lw_all := lw_g (lw_at lw_m3 152 rfl) rfl
theorem q793 : (Jvm.Cond.soleField "java/lang/Throwable" "stackTrace") ∈ lw_all := lw_g (lw_at lw_m3 153 rfl) rfl
theorem q795 : (Jvm.Cond.soleField "java/lang/Throwable" "depth") ∈ lw_all := lw_g (lw_at lw_m3 155 rfl) rfl
theorem q796 : (Jvm.Cond.soleField "java/lang/Throwable" "suppressedExceptions") ∈ lw_all := lw_g (lw_at lw_m3 156 rfl) rfl
theorem q1612 : (Jvm.Cond.instanceMethod ({ cls := "java/lang/Throwable", name := "<init>", desc := "(Ljava/lang/String;)V" } : Jvm.MethodName)) ∈ lw_all := lw_g (lw_at lw_m7 12 rfl) rfl
theorem q1613 : (Jvm.Cond.code ({ cls := "java/lang/Throwable", name := "<init>", desc := "(Ljava/lang/String;)V" } : Jvm.MethodName) prog_39_method_2_code (2 : Nat) (Option.none : Option Jvm.ClassFile.FieldType)) ∈ lw_all := lw_g (lw_at lw_m7 13 rfl) rfl
theorem q2400 : (Jvm.Cond.sameMethod "java/lang/Throwable" "java/lang/Throwable" "fillInStackTrace" "(I)Ljava/lang/Throwable;") ∈ lw_all := lw_g (lw_at lw_m10 80 rfl) rfl
theorem q2427 : (Jvm.Cond.castable "java/lang/Throwable" "java/lang/Object") ∈ lw_tbl := lw_at lw_m10 107 rfl
theorem in_J9 : ∀ w ∈ wsJ90, w ∈ lw_all := lw_in wsJ90 [738, 740, 742, 744, 746] (by decide +kernel) (by decide +kernel)

abbrev cX10_init : ByteArray := prog_8_method_1_code
def yX10_init : MethodName := ⟨RX10, "<init>", "(II)V"⟩
def dkwX10_init_0 : List UInt8 := [42, 183, 0, 1, 42, 27, 181, 0, 7, 42, 28, 181, 0, 13, 177]
abbrev dktX10_init_0 : List UInt8 := dkwX10_init_0 ++ []
theorem dksX10_init_0 : cX10_init.data.toList.drop 0 = dktX10_init_0 := by decide +kernel
theorem dX10_init_0 : decode cX10_init 0 = .ok (.aload_n 0, 1) := dk_42 (dk_at dksX10_init_0 0 rfl rfl)
theorem dX10_init_1 : decode cX10_init 1 = .ok (.invokespecial 1, 3) := dk_183 0 1 (dk_at dksX10_init_0 1 rfl rfl)
theorem dX10_init_4 : decode cX10_init 4 = .ok (.aload_n 0, 1) := dk_42 (dk_at dksX10_init_0 4 rfl rfl)
theorem dX10_init_5 : decode cX10_init 5 = .ok (.iload_n 1, 1) := dk_27 (dk_at dksX10_init_0 5 rfl rfl)
theorem dX10_init_6 : decode cX10_init 6 = .ok (.putfield 7, 3) := dk_181 0 7 (dk_at dksX10_init_0 6 rfl rfl)
theorem dX10_init_9 : decode cX10_init 9 = .ok (.aload_n 0, 1) := dk_42 (dk_at dksX10_init_0 9 rfl rfl)
theorem dX10_init_10 : decode cX10_init 10 = .ok (.iload_n 2, 1) := dk_28 (dk_at dksX10_init_0 10 rfl rfl)
theorem dX10_init_11 : decode cX10_init 11 = .ok (.putfield 13, 3) := dk_181 0 13 (dk_at dksX10_init_0 11 rfl rfl)
theorem dX10_init_14 : decode cX10_init 14 = .ok (.return_, 1) := dk_177 (dk_at dksX10_init_0 14 rfl rfl)
theorem q186 : (Jvm.Cond.initialized "MinistryDesks$Fact") ∈ lw_all := lw_g (lw_at lw_m1 26 rfl) rfl
theorem q903 : (Jvm.Cond.selects "MinistryDesks$Fact" ({ cls := "java/lang/Object", name := "getClass", desc := "()Ljava/lang/Class;" } : Jvm.MethodName) ({ cls := "java/lang/Object", name := "getClass", desc := "()Ljava/lang/Class;" } : Jvm.MethodName)) ∈ lw_all := lw_g (lw_at lw_m4 23 rfl) rfl
theorem q944 : (Jvm.Cond.instantiable "MinistryDesks$Fact" (2 : Nat)) ∈ lw_all := lw_g (lw_at lw_m4 64 rfl) rfl
theorem q946 : (Jvm.Cond.instanceMethod ({ cls := "MinistryDesks$Fact", name := "<init>", desc := "(II)V" } : Jvm.MethodName)) ∈ lw_all := lw_g (lw_at lw_m4 66 rfl) rfl
theorem q947 : (Jvm.Cond.code ({ cls := "MinistryDesks$Fact", name := "<init>", desc := "(II)V" } : Jvm.MethodName) prog_8_method_1_code (3 : Nat) (Option.none : Option Jvm.ClassFile.FieldType)) ∈ lw_all := lw_g (lw_at lw_m4 67 rfl) rfl
theorem q948 : (Jvm.Cond.methodLink "MinistryDesks$Fact" (1 : Nat) ({ cls := "java/lang/Record", name := "<init>", desc := "()V" } : Jvm.MethodName)) ∈ lw_all := lw_g (lw_at lw_m4 68 rfl) rfl
theorem q952 : (Jvm.Cond.fieldLink "MinistryDesks$Fact" (7 : Nat) "MinistryDesks$Fact" "name" "I") ∈ lw_all := lw_g (lw_at lw_m4 72 rfl) rfl
theorem q954 : (Jvm.Cond.fieldLink "MinistryDesks$Fact" (13 : Nat) "MinistryDesks$Fact" "worth" "I") ∈ lw_all := lw_g (lw_at lw_m4 74 rfl) rfl
theorem q956 : (Jvm.Cond.laysFinal "MinistryDesks$Fact" "MinistryDesks$Fact" "name" "I") ∈ lw_all := lw_g (lw_at lw_m4 76 rfl) rfl
theorem q957 : (Jvm.Cond.soleField "MinistryDesks$Fact" "name") ∈ lw_all := lw_g (lw_at lw_m4 77 rfl) rfl
theorem q958 : (Jvm.Cond.laysFinal "MinistryDesks$Fact" "MinistryDesks$Fact" "worth" "I") ∈ lw_all := lw_g (lw_at lw_m4 78 rfl) rfl
theorem q959 : (Jvm.Cond.soleField "MinistryDesks$Fact" "worth") ∈ lw_all := lw_g (lw_at lw_m4 79 rfl) rfl
theorem q960 : (Jvm.Cond.superclass "MinistryDesks$Fact" "java/lang/Record") ∈ lw_all := lw_g (lw_at lw_m4 80 rfl) rfl
theorem q2413 : (Jvm.Cond.castable "MinistryDesks$Fact" "java/lang/Object") ∈ lw_tbl := lw_at lw_m10 93 rfl
theorem in_X10 : ∀ w ∈ wsX100, w ∈ lw_all := lw_in wsX100 [956, 958] (by decide +kernel) (by decide +kernel)

abbrev cX11_init : ByteArray := prog_4_method_1_code
def yX11_init : MethodName := ⟨RX11, "<init>", "(IIII)V"⟩
def dkwX11_init_1 : List UInt8 := [181, 0, 19, 177]
abbrev dktX11_init_1 : List UInt8 := dkwX11_init_1 ++ []
def dkwX11_init_0 : List UInt8 := [42, 183, 0, 1, 42, 27, 181, 0, 7, 42, 28, 181, 0, 13, 42, 29, 181, 0, 16, 42, 21, 4]
abbrev dktX11_init_0 : List UInt8 := dkwX11_init_0 ++ dktX11_init_1
theorem dksX11_init_0 : cX11_init.data.toList.drop 0 = dktX11_init_0 := by decide +kernel
theorem dksX11_init_1 : cX11_init.data.toList.drop 22 = dktX11_init_1 := dk_seg dksX11_init_0 22 rfl rfl
theorem dX11_init_0 : decode cX11_init 0 = .ok (.aload_n 0, 1) := dk_42 (dk_at dksX11_init_0 0 rfl rfl)
theorem dX11_init_1 : decode cX11_init 1 = .ok (.invokespecial 1, 3) := dk_183 0 1 (dk_at dksX11_init_0 1 rfl rfl)
theorem dX11_init_4 : decode cX11_init 4 = .ok (.aload_n 0, 1) := dk_42 (dk_at dksX11_init_0 4 rfl rfl)
theorem dX11_init_5 : decode cX11_init 5 = .ok (.iload_n 1, 1) := dk_27 (dk_at dksX11_init_0 5 rfl rfl)
theorem dX11_init_6 : decode cX11_init 6 = .ok (.putfield 7, 3) := dk_181 0 7 (dk_at dksX11_init_0 6 rfl rfl)
theorem dX11_init_9 : decode cX11_init 9 = .ok (.aload_n 0, 1) := dk_42 (dk_at dksX11_init_0 9 rfl rfl)
theorem dX11_init_10 : decode cX11_init 10 = .ok (.iload_n 2, 1) := dk_28 (dk_at dksX11_init_0 10 rfl rfl)
theorem dX11_init_11 : decode cX11_init 11 = .ok (.putfield 13, 3) := dk_181 0 13 (dk_at dksX11_init_0 11 rfl rfl)
theorem dX11_init_14 : decode cX11_init 14 = .ok (.aload_n 0, 1) := dk_42 (dk_at dksX11_init_0 14 rfl rfl)
theorem dX11_init_15 : decode cX11_init 15 = .ok (.iload_n 3, 1) := dk_29 (dk_at dksX11_init_0 15 rfl rfl)
theorem dX11_init_16 : decode cX11_init 16 = .ok (.putfield 16, 3) := dk_181 0 16 (dk_at dksX11_init_0 16 rfl rfl)
theorem dX11_init_19 : decode cX11_init 19 = .ok (.aload_n 0, 1) := dk_42 (dk_at dksX11_init_0 19 rfl rfl)
theorem dX11_init_20 : decode cX11_init 20 = .ok (.iload 4, 2) := dk_21 4 (dk_at dksX11_init_0 20 rfl rfl)
theorem dX11_init_22 : decode cX11_init 22 = .ok (.putfield 19, 3) := dk_181 0 19 (dk_at dksX11_init_1 0 rfl rfl)
theorem dX11_init_25 : decode cX11_init 25 = .ok (.return_, 1) := dk_177 (dk_at dksX11_init_1 3 rfl rfl)
theorem q187 : (Jvm.Cond.initialized "MinistryDesks$Coming") ∈ lw_all := lw_g (lw_at lw_m1 27 rfl) rfl
theorem q899 : (Jvm.Cond.selects "MinistryDesks$Coming" ({ cls := "java/lang/Object", name := "getClass", desc := "()Ljava/lang/Class;" } : Jvm.MethodName) ({ cls := "java/lang/Object", name := "getClass", desc := "()Ljava/lang/Class;" } : Jvm.MethodName)) ∈ lw_all := lw_g (lw_at lw_m4 19 rfl) rfl
theorem q962 : (Jvm.Cond.instantiable "MinistryDesks$Coming" (4 : Nat)) ∈ lw_all := lw_g (lw_at lw_m4 82 rfl) rfl
theorem q964 : (Jvm.Cond.instanceMethod ({ cls := "MinistryDesks$Coming", name := "<init>", desc := "(IIII)V" } : Jvm.MethodName)) ∈ lw_all := lw_g (lw_at lw_m4 84 rfl) rfl
theorem q965 : (Jvm.Cond.code ({ cls := "MinistryDesks$Coming", name := "<init>", desc := "(IIII)V" } : Jvm.MethodName) prog_4_method_1_code (5 : Nat) (Option.none : Option Jvm.ClassFile.FieldType)) ∈ lw_all := lw_g (lw_at lw_m4 85 rfl) rfl
theorem q966 : (Jvm.Cond.methodLink "MinistryDesks$Coming" (1 : Nat) ({ cls := "java/lang/Record", name := "<init>", desc := "()V" } : Jvm.MethodName)) ∈ lw_all := lw_g (lw_at lw_m4 86 rfl) rfl
theorem q967 : (Jvm.Cond.fieldLink "MinistryDesks$Coming" (7 : Nat) "MinistryDesks$Coming" "day" "I") ∈ lw_all := lw_g (lw_at lw_m4 87 rfl) rfl
theorem q970 : (Jvm.Cond.fieldLink "MinistryDesks$Coming" (13 : Nat) "MinistryDesks$Coming" "desk" "I") ∈ lw_all := lw_g (lw_at lw_m4 90 rfl) rfl
theorem q973 : (Jvm.Cond.fieldLink "MinistryDesks$Coming" (16 : Nat) "MinistryDesks$Coming" "fact" "I") ∈ lw_all := lw_g (lw_at lw_m4 93 rfl) rfl
theorem q976 : (Jvm.Cond.fieldLink "MinistryDesks$Coming" (19 : Nat) "MinistryDesks$Coming" "till" "I") ∈ lw_all := lw_g (lw_at lw_m4 96 rfl) rfl
theorem q979 : (Jvm.Cond.laysFinal "MinistryDesks$Coming" "MinistryDesks$Coming" "day" "I") ∈ lw_all := lw_g (lw_at lw_m4 99 rfl) rfl
theorem q980 : (Jvm.Cond.soleField "MinistryDesks$Coming" "day") ∈ lw_all := lw_g (lw_at lw_m4 100 rfl) rfl
theorem q981 : (Jvm.Cond.laysFinal "MinistryDesks$Coming" "MinistryDesks$Coming" "desk" "I") ∈ lw_all := lw_g (lw_at lw_m4 101 rfl) rfl
theorem q982 : (Jvm.Cond.soleField "MinistryDesks$Coming" "desk") ∈ lw_all := lw_g (lw_at lw_m4 102 rfl) rfl
theorem q983 : (Jvm.Cond.laysFinal "MinistryDesks$Coming" "MinistryDesks$Coming" "fact" "I") ∈ lw_all := lw_g (lw_at lw_m4 103 rfl) rfl
theorem q984 : (Jvm.Cond.soleField "MinistryDesks$Coming" "fact") ∈ lw_all := lw_g (lw_at lw_m4 104 rfl) rfl
theorem q985 : (Jvm.Cond.laysFinal "MinistryDesks$Coming" "MinistryDesks$Coming" "till" "I") ∈ lw_all := lw_g (lw_at lw_m4 105 rfl) rfl
theorem q986 : (Jvm.Cond.soleField "MinistryDesks$Coming" "till") ∈ lw_all := lw_g (lw_at lw_m4 106 rfl) rfl
theorem q987 : (Jvm.Cond.superclass "MinistryDesks$Coming" "java/lang/Record") ∈ lw_all := lw_g (lw_at lw_m4 107 rfl) rfl
theorem q2414 : (Jvm.Cond.castable "MinistryDesks$Coming" "java/lang/Object") ∈ lw_tbl := lw_at lw_m10 94 rfl
theorem in_X11 : ∀ w ∈ wsX110, w ∈ lw_all := lw_in wsX110 [979, 981, 983, 985] (by decide +kernel) (by decide +kernel)

abbrev cX12_init : ByteArray := prog_16_method_1_code
def yX12_init : MethodName := ⟨RX12, "<init>", "(IIII)V"⟩
def dkwX12_init_1 : List UInt8 := [181, 0, 19, 177]
abbrev dktX12_init_1 : List UInt8 := dkwX12_init_1 ++ []
def dkwX12_init_0 : List UInt8 := [42, 183, 0, 1, 42, 27, 181, 0, 7, 42, 28, 181, 0, 13, 42, 29, 181, 0, 16, 42, 21, 4]
abbrev dktX12_init_0 : List UInt8 := dkwX12_init_0 ++ dktX12_init_1
theorem dksX12_init_0 : cX12_init.data.toList.drop 0 = dktX12_init_0 := by decide +kernel
theorem dksX12_init_1 : cX12_init.data.toList.drop 22 = dktX12_init_1 := dk_seg dksX12_init_0 22 rfl rfl
theorem dX12_init_0 : decode cX12_init 0 = .ok (.aload_n 0, 1) := dk_42 (dk_at dksX12_init_0 0 rfl rfl)
theorem dX12_init_1 : decode cX12_init 1 = .ok (.invokespecial 1, 3) := dk_183 0 1 (dk_at dksX12_init_0 1 rfl rfl)
theorem dX12_init_4 : decode cX12_init 4 = .ok (.aload_n 0, 1) := dk_42 (dk_at dksX12_init_0 4 rfl rfl)
theorem dX12_init_5 : decode cX12_init 5 = .ok (.iload_n 1, 1) := dk_27 (dk_at dksX12_init_0 5 rfl rfl)
theorem dX12_init_6 : decode cX12_init 6 = .ok (.putfield 7, 3) := dk_181 0 7 (dk_at dksX12_init_0 6 rfl rfl)
theorem dX12_init_9 : decode cX12_init 9 = .ok (.aload_n 0, 1) := dk_42 (dk_at dksX12_init_0 9 rfl rfl)
theorem dX12_init_10 : decode cX12_init 10 = .ok (.iload_n 2, 1) := dk_28 (dk_at dksX12_init_0 10 rfl rfl)
theorem dX12_init_11 : decode cX12_init 11 = .ok (.putfield 13, 3) := dk_181 0 13 (dk_at dksX12_init_0 11 rfl rfl)
theorem dX12_init_14 : decode cX12_init 14 = .ok (.aload_n 0, 1) := dk_42 (dk_at dksX12_init_0 14 rfl rfl)
theorem dX12_init_15 : decode cX12_init 15 = .ok (.iload_n 3, 1) := dk_29 (dk_at dksX12_init_0 15 rfl rfl)
theorem dX12_init_16 : decode cX12_init 16 = .ok (.putfield 16, 3) := dk_181 0 16 (dk_at dksX12_init_0 16 rfl rfl)
theorem dX12_init_19 : decode cX12_init 19 = .ok (.aload_n 0, 1) := dk_42 (dk_at dksX12_init_0 19 rfl rfl)
theorem dX12_init_20 : decode cX12_init 20 = .ok (.iload 4, 2) := dk_21 4 (dk_at dksX12_init_0 20 rfl rfl)
theorem dX12_init_22 : decode cX12_init 22 = .ok (.putfield 19, 3) := dk_181 0 19 (dk_at dksX12_init_1 0 rfl rfl)
theorem dX12_init_25 : decode cX12_init 25 = .ok (.return_, 1) := dk_177 (dk_at dksX12_init_1 3 rfl rfl)
theorem q188 : (Jvm.Cond.initialized "MinistryDesks$Question") ∈ lw_all := lw_g (lw_at lw_m1 28 rfl) rfl
theorem q910 : (Jvm.Cond.selects "MinistryDesks$Question" ({ cls := "java/lang/Object", name := "getClass", desc := "()Ljava/lang/Class;" } : Jvm.MethodName) ({ cls := "java/lang/Object", name := "getClass", desc := "()Ljava/lang/Class;" } : Jvm.MethodName)) ∈ lw_all := lw_g (lw_at lw_m4 30 rfl) rfl
theorem q989 : (Jvm.Cond.instantiable "MinistryDesks$Question" (4 : Nat)) ∈ lw_all := lw_g (lw_at lw_m4 109 rfl) rfl
theorem q991 : (Jvm.Cond.instanceMethod ({ cls := "MinistryDesks$Question", name := "<init>", desc := "(IIII)V" } : Jvm.MethodName)) ∈ lw_all := lw_g (lw_at lw_m4 111 rfl) rfl
theorem q992 : (Jvm.Cond.code ({ cls := "MinistryDesks$Question", name := "<init>", desc := "(IIII)V" } : Jvm.MethodName) prog_16_method_1_code (5 : Nat) (Option.none : Option Jvm.ClassFile.FieldType)) ∈ lw_all := lw_g (lw_at lw_m4 112 rfl) rfl
theorem q993 : (Jvm.Cond.methodLink "MinistryDesks$Question" (1 : Nat) ({ cls := "java/lang/Record", name := "<init>", desc := "()V" } : Jvm.MethodName)) ∈ lw_all := lw_g (lw_at lw_m4 113 rfl) rfl
theorem q994 : (Jvm.Cond.fieldLink "MinistryDesks$Question" (7 : Nat) "MinistryDesks$Question" "day" "I") ∈ lw_all := lw_g (lw_at lw_m4 114 rfl) rfl
theorem q997 : (Jvm.Cond.fieldLink "MinistryDesks$Question" (13 : Nat) "MinistryDesks$Question" "desk" "I") ∈ lw_all := lw_g (lw_at lw_m4 117 rfl) rfl
theorem q1000 : (Jvm.Cond.fieldLink "MinistryDesks$Question" (16 : Nat) "MinistryDesks$Question" "fact" "I") ∈ lw_all := lw_g (lw_at lw_m4 120 rfl) rfl
theorem q1003 : (Jvm.Cond.fieldLink "MinistryDesks$Question" (19 : Nat) "MinistryDesks$Question" "odds" "I") ∈ lw_all := lw_g (lw_at lw_m4 123 rfl) rfl
theorem q1005 : (Jvm.Cond.laysFinal "MinistryDesks$Question" "MinistryDesks$Question" "day" "I") ∈ lw_all := lw_g (lw_at lw_m4 125 rfl) rfl
theorem q1006 : (Jvm.Cond.soleField "MinistryDesks$Question" "day") ∈ lw_all := lw_g (lw_at lw_m4 126 rfl) rfl
theorem q1007 : (Jvm.Cond.laysFinal "MinistryDesks$Question" "MinistryDesks$Question" "desk" "I") ∈ lw_all := lw_g (lw_at lw_m4 127 rfl) rfl
theorem q1008 : (Jvm.Cond.soleField "MinistryDesks$Question" "desk") ∈ lw_all := lw_g (lw_at lw_m4 128 rfl) rfl
theorem q1009 : (Jvm.Cond.laysFinal "MinistryDesks$Question" "MinistryDesks$Question" "fact" "I") ∈ lw_all := lw_g (lw_at lw_m4 129 rfl) rfl
theorem q1010 : (Jvm.Cond.soleField "MinistryDesks$Question" "fact") ∈ lw_all := lw_g (lw_at lw_m4 130 rfl) rfl
theorem q1011 : (Jvm.Cond.laysFinal "MinistryDesks$Question" "MinistryDesks$Question" "odds" "I") ∈ lw_all := lw_g (lw_at lw_m4 131 rfl) rfl
theorem q1012 : (Jvm.Cond.soleField "MinistryDesks$Question" "odds") ∈ lw_all := lw_g (lw_at lw_m4 132 rfl) rfl
theorem q1013 : (Jvm.Cond.superclass "MinistryDesks$Question" "java/lang/Record") ∈ lw_all := lw_g (lw_at lw_m4 133 rfl) rfl
theorem q2415 : (Jvm.Cond.castable "MinistryDesks$Question" "java/lang/Object") ∈ lw_tbl := lw_at lw_m10 95 rfl
theorem in_X12 : ∀ w ∈ wsX120, w ∈ lw_all := lw_in wsX120 [1005, 1007, 1009, 1011] (by decide +kernel) (by decide +kernel)

abbrev cX13_init : ByteArray := prog_10_method_1_code
def yX13_init : MethodName := ⟨RX13, "<init>", "(II)V"⟩
def dkwX13_init_0 : List UInt8 := [42, 183, 0, 1, 42, 27, 181, 0, 7, 42, 28, 181, 0, 13, 177]
abbrev dktX13_init_0 : List UInt8 := dkwX13_init_0 ++ []
theorem dksX13_init_0 : cX13_init.data.toList.drop 0 = dktX13_init_0 := by decide +kernel
theorem dX13_init_0 : decode cX13_init 0 = .ok (.aload_n 0, 1) := dk_42 (dk_at dksX13_init_0 0 rfl rfl)
theorem dX13_init_1 : decode cX13_init 1 = .ok (.invokespecial 1, 3) := dk_183 0 1 (dk_at dksX13_init_0 1 rfl rfl)
theorem dX13_init_4 : decode cX13_init 4 = .ok (.aload_n 0, 1) := dk_42 (dk_at dksX13_init_0 4 rfl rfl)
theorem dX13_init_5 : decode cX13_init 5 = .ok (.iload_n 1, 1) := dk_27 (dk_at dksX13_init_0 5 rfl rfl)
theorem dX13_init_6 : decode cX13_init 6 = .ok (.putfield 7, 3) := dk_181 0 7 (dk_at dksX13_init_0 6 rfl rfl)
theorem dX13_init_9 : decode cX13_init 9 = .ok (.aload_n 0, 1) := dk_42 (dk_at dksX13_init_0 9 rfl rfl)
theorem dX13_init_10 : decode cX13_init 10 = .ok (.iload_n 2, 1) := dk_28 (dk_at dksX13_init_0 10 rfl rfl)
theorem dX13_init_11 : decode cX13_init 11 = .ok (.putfield 13, 3) := dk_181 0 13 (dk_at dksX13_init_0 11 rfl rfl)
theorem dX13_init_14 : decode cX13_init 14 = .ok (.return_, 1) := dk_177 (dk_at dksX13_init_0 14 rfl rfl)
theorem q189 : (Jvm.Cond.initialized "MinistryDesks$Fire") ∈ lw_all := lw_g (lw_at lw_m1 29 rfl) rfl
theorem q905 : (Jvm.Cond.selects "MinistryDesks$Fire" ({ cls := "java/lang/Object", name := "getClass", desc := "()Ljava/lang/Class;" } : Jvm.MethodName) ({ cls := "java/lang/Object", name := "getClass", desc := "()Ljava/lang/Class;" } : Jvm.MethodName)) ∈ lw_all := lw_g (lw_at lw_m4 25 rfl) rfl
theorem q1015 : (Jvm.Cond.instantiable "MinistryDesks$Fire" (2 : Nat)) ∈ lw_all := lw_g (lw_at lw_m4 135 rfl) rfl
theorem q1017 : (Jvm.Cond.instanceMethod ({ cls := "MinistryDesks$Fire", name := "<init>", desc := "(II)V" } : Jvm.MethodName)) ∈ lw_all := lw_g (lw_at lw_m4 137 rfl) rfl
theorem q1018 : (Jvm.Cond.code ({ cls := "MinistryDesks$Fire", name := "<init>", desc := "(II)V" } : Jvm.MethodName) prog_10_method_1_code (3 : Nat) (Option.none : Option Jvm.ClassFile.FieldType)) ∈ lw_all := lw_g (lw_at lw_m4 138 rfl) rfl
theorem q1019 : (Jvm.Cond.methodLink "MinistryDesks$Fire" (1 : Nat) ({ cls := "java/lang/Record", name := "<init>", desc := "()V" } : Jvm.MethodName)) ∈ lw_all := lw_g (lw_at lw_m4 139 rfl) rfl
theorem q1020 : (Jvm.Cond.fieldLink "MinistryDesks$Fire" (7 : Nat) "MinistryDesks$Fire" "day" "I") ∈ lw_all := lw_g (lw_at lw_m4 140 rfl) rfl
theorem q1022 : (Jvm.Cond.fieldLink "MinistryDesks$Fire" (13 : Nat) "MinistryDesks$Fire" "desk" "I") ∈ lw_all := lw_g (lw_at lw_m4 142 rfl) rfl
theorem q1024 : (Jvm.Cond.laysFinal "MinistryDesks$Fire" "MinistryDesks$Fire" "day" "I") ∈ lw_all := lw_g (lw_at lw_m4 144 rfl) rfl
theorem q1025 : (Jvm.Cond.soleField "MinistryDesks$Fire" "day") ∈ lw_all := lw_g (lw_at lw_m4 145 rfl) rfl
theorem q1026 : (Jvm.Cond.laysFinal "MinistryDesks$Fire" "MinistryDesks$Fire" "desk" "I") ∈ lw_all := lw_g (lw_at lw_m4 146 rfl) rfl
theorem q1027 : (Jvm.Cond.soleField "MinistryDesks$Fire" "desk") ∈ lw_all := lw_g (lw_at lw_m4 147 rfl) rfl
theorem q1028 : (Jvm.Cond.superclass "MinistryDesks$Fire" "java/lang/Record") ∈ lw_all := lw_g (lw_at lw_m4 148 rfl) rfl
theorem q2416 : (Jvm.Cond.castable "MinistryDesks$Fire" "java/lang/Object") ∈ lw_tbl := lw_at lw_m10 96 rfl
theorem in_X13 : ∀ w ∈ wsX130, w ∈ lw_all := lw_in wsX130 [1024, 1026] (by decide +kernel) (by decide +kernel)

abbrev cX14_init : ByteArray := prog_13_method_1_code
def yX14_init : MethodName := ⟨RX14, "<init>", "(I)V"⟩
def dkwX14_init_0 : List UInt8 := [42, 183, 0, 1, 42, 27, 181, 0, 7, 177]
abbrev dktX14_init_0 : List UInt8 := dkwX14_init_0 ++ []
theorem dksX14_init_0 : cX14_init.data.toList.drop 0 = dktX14_init_0 := by decide +kernel
theorem dX14_init_0 : decode cX14_init 0 = .ok (.aload_n 0, 1) := dk_42 (dk_at dksX14_init_0 0 rfl rfl)
theorem dX14_init_1 : decode cX14_init 1 = .ok (.invokespecial 1, 3) := dk_183 0 1 (dk_at dksX14_init_0 1 rfl rfl)
theorem dX14_init_4 : decode cX14_init 4 = .ok (.aload_n 0, 1) := dk_42 (dk_at dksX14_init_0 4 rfl rfl)
theorem dX14_init_5 : decode cX14_init 5 = .ok (.iload_n 1, 1) := dk_27 (dk_at dksX14_init_0 5 rfl rfl)
theorem dX14_init_6 : decode cX14_init 6 = .ok (.putfield 7, 3) := dk_181 0 7 (dk_at dksX14_init_0 6 rfl rfl)
theorem dX14_init_9 : decode cX14_init 9 = .ok (.return_, 1) := dk_177 (dk_at dksX14_init_0 9 rfl rfl)
abbrev cX14_value : ByteArray := prog_13_method_2_code
def yX14_value : MethodName := ⟨RX14, "value", "(LMinistryDesks$Scene;)J"⟩
def dkwX14_value_0 : List UInt8 := [43, 180, 0, 13, 42, 180, 0, 7, 47, 173]
abbrev dktX14_value_0 : List UInt8 := dkwX14_value_0 ++ []
theorem dksX14_value_0 : cX14_value.data.toList.drop 0 = dktX14_value_0 := by decide +kernel
theorem dX14_value_0 : decode cX14_value 0 = .ok (.aload_n 1, 1) := dk_43 (dk_at dksX14_value_0 0 rfl rfl)
theorem dX14_value_1 : decode cX14_value 1 = .ok (.getfield 13, 3) := dk_180 0 13 (dk_at dksX14_value_0 1 rfl rfl)
theorem dX14_value_4 : decode cX14_value 4 = .ok (.aload_n 0, 1) := dk_42 (dk_at dksX14_value_0 4 rfl rfl)
theorem dX14_value_5 : decode cX14_value 5 = .ok (.getfield 7, 3) := dk_180 0 7 (dk_at dksX14_value_0 5 rfl rfl)
theorem dX14_value_8 : decode cX14_value 8 = .ok (.laload, 1) := dk_47 (dk_at dksX14_value_0 8 rfl rfl)
theorem dX14_value_9 : decode cX14_value 9 = .ok (.lreturn, 1) := dk_173 (dk_at dksX14_value_0 9 rfl rfl)
theorem q190 : (Jvm.Cond.initialized "MinistryDesks$Name") ∈ lw_all := lw_g (lw_at lw_m1 30 rfl) rfl
theorem q310 : (Jvm.Cond.fieldLinkNest "MinistryDesks$Name" (13 : Nat) "MinistryDesks$Scene" "names" "[J" "MinistryDesks") ∈ lw_tbl := lw_at lw_m1 150 rfl
theorem q908 : (Jvm.Cond.selects "MinistryDesks$Name" ({ cls := "java/lang/Object", name := "getClass", desc := "()Ljava/lang/Class;" } : Jvm.MethodName) ({ cls := "java/lang/Object", name := "getClass", desc := "()Ljava/lang/Class;" } : Jvm.MethodName)) ∈ lw_all := lw_g (lw_at lw_m4 28 rfl) rfl
theorem q1070 : (Jvm.Cond.instantiable "MinistryDesks$Name" (1 : Nat)) ∈ lw_all := lw_g (lw_at lw_m4 190 rfl) rfl
theorem q1072 : (Jvm.Cond.instanceMethod ({ cls := "MinistryDesks$Name", name := "<init>", desc := "(I)V" } : Jvm.MethodName)) ∈ lw_all := lw_g (lw_at lw_m4 192 rfl) rfl
theorem q1073 : (Jvm.Cond.code ({ cls := "MinistryDesks$Name", name := "<init>", desc := "(I)V" } : Jvm.MethodName) prog_13_method_1_code (2 : Nat) (Option.none : Option Jvm.ClassFile.FieldType)) ∈ lw_all := lw_g (lw_at lw_m4 193 rfl) rfl
theorem q1074 : (Jvm.Cond.methodLink "MinistryDesks$Name" (1 : Nat) ({ cls := "java/lang/Record", name := "<init>", desc := "()V" } : Jvm.MethodName)) ∈ lw_all := lw_g (lw_at lw_m4 194 rfl) rfl
theorem q1075 : (Jvm.Cond.fieldLink "MinistryDesks$Name" (7 : Nat) "MinistryDesks$Name" "which" "I") ∈ lw_all := lw_g (lw_at lw_m4 195 rfl) rfl
theorem q1076 : (Jvm.Cond.laysFinal "MinistryDesks$Name" "MinistryDesks$Name" "which" "I") ∈ lw_all := lw_g (lw_at lw_m4 196 rfl) rfl
theorem q1077 : (Jvm.Cond.soleField "MinistryDesks$Name" "which") ∈ lw_all := lw_g (lw_at lw_m4 197 rfl) rfl
theorem q1078 : (Jvm.Cond.superclass "MinistryDesks$Name" "java/lang/Record") ∈ lw_all := lw_g (lw_at lw_m4 198 rfl) rfl
theorem q1203 : (Jvm.Cond.castable "MinistryDesks$Name" "MinistryDesks$Node") ∈ lw_tbl := lw_at lw_m5 83 rfl
theorem q1204 : (Jvm.Cond.selects "MinistryDesks$Name" ({ cls := "MinistryDesks$Node", name := "value", desc := "(LMinistryDesks$Scene;)J" } : Jvm.MethodName) ({ cls := "MinistryDesks$Name", name := "value", desc := "(LMinistryDesks$Scene;)J" } : Jvm.MethodName)) ∈ lw_all := lw_g (lw_at lw_m5 84 rfl) rfl
theorem q1205 : (Jvm.Cond.unhidden "MinistryDesks$Name" "value" "(LMinistryDesks$Scene;)J") ∈ lw_tbl := lw_at lw_m5 85 rfl
theorem q1206 : (Jvm.Cond.instanceMethod ({ cls := "MinistryDesks$Name", name := "value", desc := "(LMinistryDesks$Scene;)J" } : Jvm.MethodName)) ∈ lw_all := lw_g (lw_at lw_m5 86 rfl) rfl
theorem q1207 : (Jvm.Cond.publicMethod ({ cls := "MinistryDesks$Name", name := "value", desc := "(LMinistryDesks$Scene;)J" } : Jvm.MethodName)) ∈ lw_tbl := lw_at lw_m5 87 rfl
theorem q1208 : (Jvm.Cond.code ({ cls := "MinistryDesks$Name", name := "value", desc := "(LMinistryDesks$Scene;)J" } : Jvm.MethodName) prog_13_method_2_code (2 : Nat) (Option.some Jvm.ClassFile.FieldType.long)) ∈ lw_all := lw_g (lw_at lw_m5 88 rfl) rfl
theorem q2417 : (Jvm.Cond.castable "MinistryDesks$Name" "java/lang/Object") ∈ lw_tbl := lw_at lw_m10 97 rfl
theorem in_X14 : ∀ w ∈ wsX140, w ∈ lw_all := lw_in wsX140 [1076] (by decide +kernel) (by decide +kernel)

abbrev cX15_init : ByteArray := prog_6_method_1_code
def yX15_init : MethodName := ⟨RX15, "<init>", "(J)V"⟩
def dkwX15_init_0 : List UInt8 := [42, 183, 0, 1, 42, 31, 181, 0, 7, 177]
abbrev dktX15_init_0 : List UInt8 := dkwX15_init_0 ++ []
theorem dksX15_init_0 : cX15_init.data.toList.drop 0 = dktX15_init_0 := by decide +kernel
theorem dX15_init_0 : decode cX15_init 0 = .ok (.aload_n 0, 1) := dk_42 (dk_at dksX15_init_0 0 rfl rfl)
theorem dX15_init_1 : decode cX15_init 1 = .ok (.invokespecial 1, 3) := dk_183 0 1 (dk_at dksX15_init_0 1 rfl rfl)
theorem dX15_init_4 : decode cX15_init 4 = .ok (.aload_n 0, 1) := dk_42 (dk_at dksX15_init_0 4 rfl rfl)
theorem dX15_init_5 : decode cX15_init 5 = .ok (.lload_n 1, 1) := dk_31 (dk_at dksX15_init_0 5 rfl rfl)
theorem dX15_init_6 : decode cX15_init 6 = .ok (.putfield 7, 3) := dk_181 0 7 (dk_at dksX15_init_0 6 rfl rfl)
theorem dX15_init_9 : decode cX15_init 9 = .ok (.return_, 1) := dk_177 (dk_at dksX15_init_0 9 rfl rfl)
abbrev cX15_value : ByteArray := prog_6_method_2_code
def yX15_value : MethodName := ⟨RX15, "value", "(LMinistryDesks$Scene;)J"⟩
theorem dX15_value_0 : decode cX15_value 0 = .ok (.aload_n 0, 1) := by decide +kernel
theorem dX15_value_1 : decode cX15_value 1 = .ok (.getfield 7, 3) := by decide +kernel
theorem dX15_value_4 : decode cX15_value 4 = .ok (.lreturn, 1) := by decide +kernel
theorem q191 : (Jvm.Cond.initialized "MinistryDesks$Constant") ∈ lw_all := lw_g (lw_at lw_m1 31 rfl) rfl
theorem q901 : (Jvm.Cond.selects "MinistryDesks$Constant" ({ cls := "java/lang/Object", name := "getClass", desc := "()Ljava/lang/Class;" } : Jvm.MethodName) ({ cls := "java/lang/Object", name := "getClass", desc := "()Ljava/lang/Class;" } : Jvm.MethodName)) ∈ lw_all := lw_g (lw_at lw_m4 21 rfl) rfl
theorem q1080 : (Jvm.Cond.instantiable "MinistryDesks$Constant" (1 : Nat)) ∈ lw_all := lw_g (lw_at lw_m4 200 rfl) rfl
theorem q1082 : (Jvm.Cond.instanceMethod ({ cls := "MinistryDesks$Constant", name := "<init>", desc := "(J)V" } : Jvm.MethodName)) ∈ lw_all := lw_g (lw_at lw_m4 202 rfl) rfl
theorem q1083 : (Jvm.Cond.code ({ cls := "MinistryDesks$Constant", name := "<init>", desc := "(J)V" } : Jvm.MethodName) prog_6_method_1_code (3 : Nat) (Option.none : Option Jvm.ClassFile.FieldType)) ∈ lw_all := lw_g (lw_at lw_m4 203 rfl) rfl
theorem q1084 : (Jvm.Cond.methodLink "MinistryDesks$Constant" (1 : Nat) ({ cls := "java/lang/Record", name := "<init>", desc := "()V" } : Jvm.MethodName)) ∈ lw_all := lw_g (lw_at lw_m4 204 rfl) rfl
theorem q1085 : (Jvm.Cond.fieldLink "MinistryDesks$Constant" (7 : Nat) "MinistryDesks$Constant" "number" "J") ∈ lw_all := lw_g (lw_at lw_m4 205 rfl) rfl
theorem q1086 : (Jvm.Cond.laysFinal "MinistryDesks$Constant" "MinistryDesks$Constant" "number" "J") ∈ lw_all := lw_g (lw_at lw_m4 206 rfl) rfl
theorem q1087 : (Jvm.Cond.soleField "MinistryDesks$Constant" "number") ∈ lw_all := lw_g (lw_at lw_m4 207 rfl) rfl
theorem q1088 : (Jvm.Cond.superclass "MinistryDesks$Constant" "java/lang/Record") ∈ lw_all := lw_g (lw_at lw_m4 208 rfl) rfl
theorem q1197 : (Jvm.Cond.castable "MinistryDesks$Constant" "MinistryDesks$Node") ∈ lw_tbl := lw_at lw_m5 77 rfl
theorem q1198 : (Jvm.Cond.selects "MinistryDesks$Constant" ({ cls := "MinistryDesks$Node", name := "value", desc := "(LMinistryDesks$Scene;)J" } : Jvm.MethodName) ({ cls := "MinistryDesks$Constant", name := "value", desc := "(LMinistryDesks$Scene;)J" } : Jvm.MethodName)) ∈ lw_all := lw_g (lw_at lw_m5 78 rfl) rfl
theorem q1199 : (Jvm.Cond.unhidden "MinistryDesks$Constant" "value" "(LMinistryDesks$Scene;)J") ∈ lw_tbl := lw_at lw_m5 79 rfl
theorem q1200 : (Jvm.Cond.instanceMethod ({ cls := "MinistryDesks$Constant", name := "value", desc := "(LMinistryDesks$Scene;)J" } : Jvm.MethodName)) ∈ lw_all := lw_g (lw_at lw_m5 80 rfl) rfl
theorem q1201 : (Jvm.Cond.publicMethod ({ cls := "MinistryDesks$Constant", name := "value", desc := "(LMinistryDesks$Scene;)J" } : Jvm.MethodName)) ∈ lw_tbl := lw_at lw_m5 81 rfl
theorem q1202 : (Jvm.Cond.code ({ cls := "MinistryDesks$Constant", name := "value", desc := "(LMinistryDesks$Scene;)J" } : Jvm.MethodName) prog_6_method_2_code (2 : Nat) (Option.some Jvm.ClassFile.FieldType.long)) ∈ lw_all := lw_g (lw_at lw_m5 82 rfl) rfl
theorem q2418 : (Jvm.Cond.castable "MinistryDesks$Constant" "java/lang/Object") ∈ lw_tbl := lw_at lw_m10 98 rfl
theorem in_X15 : ∀ w ∈ wsX150, w ∈ lw_all := lw_in wsX150 [1086] (by decide +kernel) (by decide +kernel)

abbrev cX16_init : ByteArray := prog_20_method_1_code
def yX16_init : MethodName := ⟨RX16, "<init>", "(LMinistryDesks$Node;LMinistryDesks$Node;)V"⟩
def dkwX16_init_0 : List UInt8 := [42, 183, 0, 1, 42, 43, 181, 0, 7, 42, 44, 181, 0, 13, 177]
abbrev dktX16_init_0 : List UInt8 := dkwX16_init_0 ++ []
theorem dksX16_init_0 : cX16_init.data.toList.drop 0 = dktX16_init_0 := by decide +kernel
theorem dX16_init_0 : decode cX16_init 0 = .ok (.aload_n 0, 1) := dk_42 (dk_at dksX16_init_0 0 rfl rfl)
theorem dX16_init_1 : decode cX16_init 1 = .ok (.invokespecial 1, 3) := dk_183 0 1 (dk_at dksX16_init_0 1 rfl rfl)
theorem dX16_init_4 : decode cX16_init 4 = .ok (.aload_n 0, 1) := dk_42 (dk_at dksX16_init_0 4 rfl rfl)
theorem dX16_init_5 : decode cX16_init 5 = .ok (.aload_n 1, 1) := dk_43 (dk_at dksX16_init_0 5 rfl rfl)
theorem dX16_init_6 : decode cX16_init 6 = .ok (.putfield 7, 3) := dk_181 0 7 (dk_at dksX16_init_0 6 rfl rfl)
theorem dX16_init_9 : decode cX16_init 9 = .ok (.aload_n 0, 1) := dk_42 (dk_at dksX16_init_0 9 rfl rfl)
theorem dX16_init_10 : decode cX16_init 10 = .ok (.aload_n 2, 1) := dk_44 (dk_at dksX16_init_0 10 rfl rfl)
theorem dX16_init_11 : decode cX16_init 11 = .ok (.putfield 13, 3) := dk_181 0 13 (dk_at dksX16_init_0 11 rfl rfl)
theorem dX16_init_14 : decode cX16_init 14 = .ok (.return_, 1) := dk_177 (dk_at dksX16_init_0 14 rfl rfl)
abbrev cX16_value : ByteArray := prog_20_method_2_code
def yX16_value : MethodName := ⟨RX16, "value", "(LMinistryDesks$Scene;)J"⟩
def dkwX16_value_1 : List UInt8 := [182, 0, 22, 173]
abbrev dktX16_value_1 : List UInt8 := dkwX16_value_1 ++ []
def dkwX16_value_0 : List UInt8 := [42, 180, 0, 7, 43, 185, 0, 16, 2, 0, 65, 42, 43, 32, 42, 180, 0, 13, 43, 185, 0, 16, 2, 0]
abbrev dktX16_value_0 : List UInt8 := dkwX16_value_0 ++ dktX16_value_1
theorem dksX16_value_0 : cX16_value.data.toList.drop 0 = dktX16_value_0 := by decide +kernel
theorem dksX16_value_1 : cX16_value.data.toList.drop 24 = dktX16_value_1 := dk_seg dksX16_value_0 24 rfl rfl
theorem dX16_value_0 : decode cX16_value 0 = .ok (.aload_n 0, 1) := dk_42 (dk_at dksX16_value_0 0 rfl rfl)
theorem dX16_value_1 : decode cX16_value 1 = .ok (.getfield 7, 3) := dk_180 0 7 (dk_at dksX16_value_0 1 rfl rfl)
theorem dX16_value_4 : decode cX16_value 4 = .ok (.aload_n 1, 1) := dk_43 (dk_at dksX16_value_0 4 rfl rfl)
theorem dX16_value_5 : decode cX16_value 5 = .ok (.invokeinterface 16 2, 5) := by decide +kernel
theorem dX16_value_10 : decode cX16_value 10 = .ok (.lstore_n 2, 1) := dk_65 (dk_at dksX16_value_0 10 rfl rfl)
theorem dX16_value_11 : decode cX16_value 11 = .ok (.aload_n 0, 1) := dk_42 (dk_at dksX16_value_0 11 rfl rfl)
theorem dX16_value_12 : decode cX16_value 12 = .ok (.aload_n 1, 1) := dk_43 (dk_at dksX16_value_0 12 rfl rfl)
theorem dX16_value_13 : decode cX16_value 13 = .ok (.lload_n 2, 1) := dk_32 (dk_at dksX16_value_0 13 rfl rfl)
theorem dX16_value_14 : decode cX16_value 14 = .ok (.aload_n 0, 1) := dk_42 (dk_at dksX16_value_0 14 rfl rfl)
theorem dX16_value_15 : decode cX16_value 15 = .ok (.getfield 13, 3) := dk_180 0 13 (dk_at dksX16_value_0 15 rfl rfl)
theorem dX16_value_18 : decode cX16_value 18 = .ok (.aload_n 1, 1) := dk_43 (dk_at dksX16_value_0 18 rfl rfl)
theorem dX16_value_19 : decode cX16_value 19 = .ok (.invokeinterface 16 2, 5) := by decide +kernel
theorem dX16_value_24 : decode cX16_value 24 = .ok (.invokevirtual 22, 3) := dk_182 0 22 (dk_at dksX16_value_1 0 rfl rfl)
theorem dX16_value_27 : decode cX16_value 27 = .ok (.lreturn, 1) := dk_173 (dk_at dksX16_value_1 3 rfl rfl)
theorem q192 : (Jvm.Cond.initialized "MinistryDesks$Two") ∈ lw_all := lw_g (lw_at lw_m1 32 rfl) rfl
theorem q1095 : (Jvm.Cond.instanceMethod ({ cls := "MinistryDesks$Two", name := "<init>", desc := "(LMinistryDesks$Node;LMinistryDesks$Node;)V" } : Jvm.MethodName)) ∈ lw_all := lw_g (lw_at lw_m4 215 rfl) rfl
theorem q1096 : (Jvm.Cond.code ({ cls := "MinistryDesks$Two", name := "<init>", desc := "(LMinistryDesks$Node;LMinistryDesks$Node;)V" } : Jvm.MethodName) prog_20_method_1_code (3 : Nat) (Option.none : Option Jvm.ClassFile.FieldType)) ∈ lw_all := lw_g (lw_at lw_m4 216 rfl) rfl
theorem q1097 : (Jvm.Cond.methodLink "MinistryDesks$Two" (1 : Nat) ({ cls := "java/lang/Object", name := "<init>", desc := "()V" } : Jvm.MethodName)) ∈ lw_all := lw_g (lw_at lw_m4 217 rfl) rfl
theorem q1099 : (Jvm.Cond.fieldLink "MinistryDesks$Two" (7 : Nat) "MinistryDesks$Two" "one" "LMinistryDesks$Node;") ∈ lw_all := lw_g (lw_at lw_m4 219 rfl) rfl
theorem q1100 : (Jvm.Cond.fieldLink "MinistryDesks$Two" (13 : Nat) "MinistryDesks$Two" "other" "LMinistryDesks$Node;") ∈ lw_all := lw_g (lw_at lw_m4 220 rfl) rfl
theorem q1104 : (Jvm.Cond.soleField "MinistryDesks$Two" "one") ∈ lw_all := lw_g (lw_at lw_m4 224 rfl) rfl
theorem q1106 : (Jvm.Cond.soleField "MinistryDesks$Two" "other") ∈ lw_all := lw_g (lw_at lw_m4 226 rfl) rfl
theorem q1189 : (Jvm.Cond.instanceMethod ({ cls := "MinistryDesks$Two", name := "value", desc := "(LMinistryDesks$Scene;)J" } : Jvm.MethodName)) ∈ lw_all := lw_g (lw_at lw_m5 69 rfl) rfl
theorem q1190 : (Jvm.Cond.publicMethod ({ cls := "MinistryDesks$Two", name := "value", desc := "(LMinistryDesks$Scene;)J" } : Jvm.MethodName)) ∈ lw_tbl := lw_at lw_m5 70 rfl
theorem q1191 : (Jvm.Cond.code ({ cls := "MinistryDesks$Two", name := "value", desc := "(LMinistryDesks$Scene;)J" } : Jvm.MethodName) prog_20_method_2_code (4 : Nat) (Option.some Jvm.ClassFile.FieldType.long)) ∈ lw_all := lw_g (lw_at lw_m5 71 rfl) rfl
theorem q1192 : (Jvm.Cond.interfaceEntry "MinistryDesks$Two" (16 : Nat)) ∈ lw_tbl := lw_at lw_m5 72 rfl
theorem q1193 : (Jvm.Cond.methodLink "MinistryDesks$Two" (16 : Nat) ({ cls := "MinistryDesks$Node", name := "value", desc := "(LMinistryDesks$Scene;)J" } : Jvm.MethodName)) ∈ lw_all := lw_g (lw_at lw_m5 73 rfl) rfl
theorem q1220 : (Jvm.Cond.methodLink "MinistryDesks$Two" (22 : Nat) ({ cls := "MinistryDesks$Two", name := "of", desc := "(LMinistryDesks$Scene;JJ)J" } : Jvm.MethodName)) ∈ lw_all := lw_g (lw_at lw_m5 100 rfl) rfl
theorem q1221 : (Jvm.Cond.declares ({ cls := "MinistryDesks$Two", name := "of", desc := "(LMinistryDesks$Scene;JJ)J" } : Jvm.MethodName)) ∈ lw_tbl := lw_at lw_m5 101 rfl
theorem q1222 : (Jvm.Cond.sameMethod "MinistryDesks$Two" "MinistryDesks$Two" "of" "(LMinistryDesks$Scene;JJ)J") ∈ lw_all := lw_g (lw_at lw_m5 102 rfl) rfl

abbrev cX17_init : ByteArray := prog_21_method_1_code
def yX17_init : MethodName := ⟨RX17, "<init>", "(ILMinistryDesks$Node;LMinistryDesks$Node;)V"⟩
def dkwX17_init_0 : List UInt8 := [42, 44, 45, 183, 0, 3, 42, 27, 181, 0, 9, 177]
abbrev dktX17_init_0 : List UInt8 := dkwX17_init_0 ++ []
theorem dksX17_init_0 : cX17_init.data.toList.drop 0 = dktX17_init_0 := by decide +kernel
theorem dX17_init_0 : decode cX17_init 0 = .ok (.aload_n 0, 1) := dk_42 (dk_at dksX17_init_0 0 rfl rfl)
theorem dX17_init_1 : decode cX17_init 1 = .ok (.aload_n 2, 1) := dk_44 (dk_at dksX17_init_0 1 rfl rfl)
theorem dX17_init_2 : decode cX17_init 2 = .ok (.aload_n 3, 1) := dk_45 (dk_at dksX17_init_0 2 rfl rfl)
theorem dX17_init_3 : decode cX17_init 3 = .ok (.invokespecial 3, 3) := dk_183 0 3 (dk_at dksX17_init_0 3 rfl rfl)
theorem dX17_init_6 : decode cX17_init 6 = .ok (.aload_n 0, 1) := dk_42 (dk_at dksX17_init_0 6 rfl rfl)
theorem dX17_init_7 : decode cX17_init 7 = .ok (.iload_n 1, 1) := dk_27 (dk_at dksX17_init_0 7 rfl rfl)
theorem dX17_init_8 : decode cX17_init 8 = .ok (.putfield 9, 3) := dk_181 0 9 (dk_at dksX17_init_0 8 rfl rfl)
theorem dX17_init_11 : decode cX17_init 11 = .ok (.return_, 1) := dk_177 (dk_at dksX17_init_0 11 rfl rfl)
abbrev cX17_of : ByteArray := prog_21_method_2_code
def yX17_of : MethodName := ⟨RX17, "of", "(LMinistryDesks$Scene;JJ)J"⟩
def dkwX17_of_6 : List UInt8 := [181, 0, 21, 43, 180, 0, 21, 153, 0, 7, 9, 167, 0, 7, 32, 22, 4, 109, 173]
abbrev dktX17_of_6 : List UInt8 := dkwX17_of_6 ++ []
def dkwX17_of_5 : List UInt8 := [22, 4, 105, 173, 43, 43, 180, 0, 21, 154, 0, 10, 22, 4, 9, 148, 154, 0, 7, 4, 167, 0, 4, 3]
abbrev dktX17_of_5 : List UInt8 := dkwX17_of_5 ++ dktX17_of_6
def dkwX17_of_4 : List UInt8 := [158, 0, 7, 4, 167, 0, 4, 3, 181, 0, 21, 43, 180, 0, 21, 153, 0, 7, 9, 167, 0, 7, 32]
abbrev dktX17_of_4 : List UInt8 := dkwX17_of_4 ++ dktX17_of_5
def dkwX17_of_3 : List UInt8 := [154, 0, 26, 32, 9, 148, 153, 0, 24, 22, 4, 184, 0, 25, 20, 0, 30, 32, 184, 0, 25, 109, 148]
abbrev dktX17_of_3 : List UInt8 := dkwX17_of_3 ++ dktX17_of_4
def dkwX17_of_2 : List UInt8 := [43, 32, 22, 4, 97, 182, 0, 15, 173, 43, 32, 22, 4, 101, 182, 0, 15, 173, 43, 43, 180, 0, 21]
abbrev dktX17_of_2 : List UInt8 := dkwX17_of_2 ++ dktX17_of_3
def dkwX17_of_1 : List UInt8 := [170, 0, 0, 0, 0, 0, 0, 105, 0, 0, 0, 42, 0, 0, 0, 45, 0, 0, 0, 50, 0, 0, 0, 32, 0, 0, 0, 105, 0, 0, 0, 41]
abbrev dktX17_of_1 : List UInt8 := dkwX17_of_1 ++ dktX17_of_2
def dkwX17_of_0 : List UInt8 := [42, 180, 0, 9]
abbrev dktX17_of_0 : List UInt8 := dkwX17_of_0 ++ dktX17_of_1
theorem dksX17_of_0 : cX17_of.data.toList.drop 0 = dktX17_of_0 := by decide +kernel
theorem dksX17_of_1 : cX17_of.data.toList.drop 4 = dktX17_of_1 := dk_seg dksX17_of_0 4 rfl rfl
theorem dksX17_of_2 : cX17_of.data.toList.drop 36 = dktX17_of_2 := dk_seg dksX17_of_1 32 rfl rfl
theorem dksX17_of_3 : cX17_of.data.toList.drop 59 = dktX17_of_3 := dk_seg dksX17_of_2 23 rfl rfl
theorem dksX17_of_4 : cX17_of.data.toList.drop 82 = dktX17_of_4 := dk_seg dksX17_of_3 23 rfl rfl
theorem dksX17_of_5 : cX17_of.data.toList.drop 105 = dktX17_of_5 := dk_seg dksX17_of_4 23 rfl rfl
theorem dksX17_of_6 : cX17_of.data.toList.drop 129 = dktX17_of_6 := dk_seg dksX17_of_5 24 rfl rfl
theorem dX17_of_0 : decode cX17_of 0 = .ok (.aload_n 0, 1) := dk_42 (dk_at dksX17_of_0 0 rfl rfl)
theorem dX17_of_1 : decode cX17_of 1 = .ok (.getfield 9, 3) := dk_180 0 9 (dk_at dksX17_of_0 1 rfl rfl)
theorem dX17_of_4 : decode cX17_of 4 = .ok (.tableswitch 105 42 45 #[50, 32, 105, 41], 32) := by decide +kernel
theorem dX17_of_36 : decode cX17_of 36 = .ok (.aload_n 1, 1) := dk_43 (dk_at dksX17_of_2 0 rfl rfl)
theorem dX17_of_37 : decode cX17_of 37 = .ok (.lload_n 2, 1) := dk_32 (dk_at dksX17_of_2 1 rfl rfl)
theorem dX17_of_38 : decode cX17_of 38 = .ok (.lload 4, 2) := dk_22 4 (dk_at dksX17_of_2 2 rfl rfl)
theorem dX17_of_40 : decode cX17_of 40 = .ok (.ladd, 1) := dk_97 (dk_at dksX17_of_2 4 rfl rfl)
theorem dX17_of_41 : decode cX17_of 41 = .ok (.invokevirtual 15, 3) := dk_182 0 15 (dk_at dksX17_of_2 5 rfl rfl)
theorem dX17_of_44 : decode cX17_of 44 = .ok (.lreturn, 1) := dk_173 (dk_at dksX17_of_2 8 rfl rfl)
theorem dX17_of_45 : decode cX17_of 45 = .ok (.aload_n 1, 1) := dk_43 (dk_at dksX17_of_2 9 rfl rfl)
theorem dX17_of_46 : decode cX17_of 46 = .ok (.lload_n 2, 1) := dk_32 (dk_at dksX17_of_2 10 rfl rfl)
theorem dX17_of_47 : decode cX17_of 47 = .ok (.lload 4, 2) := dk_22 4 (dk_at dksX17_of_2 11 rfl rfl)
theorem dX17_of_49 : decode cX17_of 49 = .ok (.lsub, 1) := dk_101 (dk_at dksX17_of_2 13 rfl rfl)
theorem dX17_of_50 : decode cX17_of 50 = .ok (.invokevirtual 15, 3) := dk_182 0 15 (dk_at dksX17_of_2 14 rfl rfl)
theorem dX17_of_53 : decode cX17_of 53 = .ok (.lreturn, 1) := dk_173 (dk_at dksX17_of_2 17 rfl rfl)
theorem dX17_of_54 : decode cX17_of 54 = .ok (.aload_n 1, 1) := dk_43 (dk_at dksX17_of_2 18 rfl rfl)
theorem dX17_of_55 : decode cX17_of 55 = .ok (.aload_n 1, 1) := dk_43 (dk_at dksX17_of_2 19 rfl rfl)
theorem dX17_of_56 : decode cX17_of 56 = .ok (.getfield 21, 3) := dk_180 0 21 (dk_at dksX17_of_2 20 rfl rfl)
theorem dX17_of_59 : decode cX17_of 59 = .ok (.ifCond .ne 26, 3) := dk_154 0 26 (dk_at dksX17_of_3 0 rfl rfl)
theorem dX17_of_62 : decode cX17_of 62 = .ok (.lload_n 2, 1) := dk_32 (dk_at dksX17_of_3 3 rfl rfl)
theorem dX17_of_63 : decode cX17_of 63 = .ok (.lconst 0, 1) := dk_9 (dk_at dksX17_of_3 4 rfl rfl)
theorem dX17_of_64 : decode cX17_of 64 = .ok (.lcmp, 1) := dk_148 (dk_at dksX17_of_3 5 rfl rfl)
theorem dX17_of_65 : decode cX17_of 65 = .ok (.ifCond .eq 24, 3) := dk_153 0 24 (dk_at dksX17_of_3 6 rfl rfl)
theorem dX17_of_68 : decode cX17_of 68 = .ok (.lload 4, 2) := dk_22 4 (dk_at dksX17_of_3 9 rfl rfl)
theorem dX17_of_70 : decode cX17_of 70 = .ok (.invokestatic 25, 3) := dk_184 0 25 (dk_at dksX17_of_3 11 rfl rfl)
theorem dX17_of_73 : decode cX17_of 73 = .ok (.ldc2_w 30, 3) := dk_20 0 30 (dk_at dksX17_of_3 14 rfl rfl)
theorem dX17_of_76 : decode cX17_of 76 = .ok (.lload_n 2, 1) := dk_32 (dk_at dksX17_of_3 17 rfl rfl)
theorem dX17_of_77 : decode cX17_of 77 = .ok (.invokestatic 25, 3) := dk_184 0 25 (dk_at dksX17_of_3 18 rfl rfl)
theorem dX17_of_80 : decode cX17_of 80 = .ok (.ldiv, 1) := dk_109 (dk_at dksX17_of_3 21 rfl rfl)
theorem dX17_of_81 : decode cX17_of 81 = .ok (.lcmp, 1) := dk_148 (dk_at dksX17_of_3 22 rfl rfl)
theorem dX17_of_82 : decode cX17_of 82 = .ok (.ifCond .le 7, 3) := dk_158 0 7 (dk_at dksX17_of_4 0 rfl rfl)
theorem dX17_of_85 : decode cX17_of 85 = .ok (.iconst 1, 1) := dk_4 (dk_at dksX17_of_4 3 rfl rfl)
theorem dX17_of_86 : decode cX17_of 86 = .ok (.goto 4, 3) := dk_167 0 4 (dk_at dksX17_of_4 4 rfl rfl)
theorem dX17_of_89 : decode cX17_of 89 = .ok (.iconst 0, 1) := dk_3 (dk_at dksX17_of_4 7 rfl rfl)
theorem dX17_of_90 : decode cX17_of 90 = .ok (.putfield 21, 3) := dk_181 0 21 (dk_at dksX17_of_4 8 rfl rfl)
theorem dX17_of_93 : decode cX17_of 93 = .ok (.aload_n 1, 1) := dk_43 (dk_at dksX17_of_4 11 rfl rfl)
theorem dX17_of_94 : decode cX17_of 94 = .ok (.getfield 21, 3) := dk_180 0 21 (dk_at dksX17_of_4 12 rfl rfl)
theorem dX17_of_97 : decode cX17_of 97 = .ok (.ifCond .eq 7, 3) := dk_153 0 7 (dk_at dksX17_of_4 15 rfl rfl)
theorem dX17_of_100 : decode cX17_of 100 = .ok (.lconst 0, 1) := dk_9 (dk_at dksX17_of_4 18 rfl rfl)
theorem dX17_of_101 : decode cX17_of 101 = .ok (.goto 7, 3) := dk_167 0 7 (dk_at dksX17_of_4 19 rfl rfl)
theorem dX17_of_104 : decode cX17_of 104 = .ok (.lload_n 2, 1) := dk_32 (dk_at dksX17_of_4 22 rfl rfl)
theorem dX17_of_105 : decode cX17_of 105 = .ok (.lload 4, 2) := dk_22 4 (dk_at dksX17_of_5 0 rfl rfl)
theorem dX17_of_107 : decode cX17_of 107 = .ok (.lmul, 1) := dk_105 (dk_at dksX17_of_5 2 rfl rfl)
theorem dX17_of_108 : decode cX17_of 108 = .ok (.lreturn, 1) := dk_173 (dk_at dksX17_of_5 3 rfl rfl)
theorem dX17_of_109 : decode cX17_of 109 = .ok (.aload_n 1, 1) := dk_43 (dk_at dksX17_of_5 4 rfl rfl)
theorem dX17_of_110 : decode cX17_of 110 = .ok (.aload_n 1, 1) := dk_43 (dk_at dksX17_of_5 5 rfl rfl)
theorem dX17_of_111 : decode cX17_of 111 = .ok (.getfield 21, 3) := dk_180 0 21 (dk_at dksX17_of_5 6 rfl rfl)
theorem dX17_of_114 : decode cX17_of 114 = .ok (.ifCond .ne 10, 3) := dk_154 0 10 (dk_at dksX17_of_5 9 rfl rfl)
theorem dX17_of_117 : decode cX17_of 117 = .ok (.lload 4, 2) := dk_22 4 (dk_at dksX17_of_5 12 rfl rfl)
theorem dX17_of_119 : decode cX17_of 119 = .ok (.lconst 0, 1) := dk_9 (dk_at dksX17_of_5 14 rfl rfl)
theorem dX17_of_120 : decode cX17_of 120 = .ok (.lcmp, 1) := dk_148 (dk_at dksX17_of_5 15 rfl rfl)
theorem dX17_of_121 : decode cX17_of 121 = .ok (.ifCond .ne 7, 3) := dk_154 0 7 (dk_at dksX17_of_5 16 rfl rfl)
theorem dX17_of_124 : decode cX17_of 124 = .ok (.iconst 1, 1) := dk_4 (dk_at dksX17_of_5 19 rfl rfl)
theorem dX17_of_125 : decode cX17_of 125 = .ok (.goto 4, 3) := dk_167 0 4 (dk_at dksX17_of_5 20 rfl rfl)
theorem dX17_of_128 : decode cX17_of 128 = .ok (.iconst 0, 1) := dk_3 (dk_at dksX17_of_5 23 rfl rfl)
theorem dX17_of_129 : decode cX17_of 129 = .ok (.putfield 21, 3) := dk_181 0 21 (dk_at dksX17_of_6 0 rfl rfl)
theorem dX17_of_132 : decode cX17_of 132 = .ok (.aload_n 1, 1) := dk_43 (dk_at dksX17_of_6 3 rfl rfl)
theorem dX17_of_133 : decode cX17_of 133 = .ok (.getfield 21, 3) := dk_180 0 21 (dk_at dksX17_of_6 4 rfl rfl)
theorem dX17_of_136 : decode cX17_of 136 = .ok (.ifCond .eq 7, 3) := dk_153 0 7 (dk_at dksX17_of_6 7 rfl rfl)
theorem dX17_of_139 : decode cX17_of 139 = .ok (.lconst 0, 1) := dk_9 (dk_at dksX17_of_6 10 rfl rfl)
theorem dX17_of_140 : decode cX17_of 140 = .ok (.goto 7, 3) := dk_167 0 7 (dk_at dksX17_of_6 11 rfl rfl)
theorem dX17_of_143 : decode cX17_of 143 = .ok (.lload_n 2, 1) := dk_32 (dk_at dksX17_of_6 14 rfl rfl)
theorem dX17_of_144 : decode cX17_of 144 = .ok (.lload 4, 2) := dk_22 4 (dk_at dksX17_of_6 15 rfl rfl)
theorem dX17_of_146 : decode cX17_of 146 = .ok (.ldiv, 1) := dk_109 (dk_at dksX17_of_6 17 rfl rfl)
theorem dX17_of_147 : decode cX17_of 147 = .ok (.lreturn, 1) := dk_173 (dk_at dksX17_of_6 18 rfl rfl)
theorem q193 : (Jvm.Cond.initialized "MinistryDesks$Worked") ∈ lw_all := lw_g (lw_at lw_m1 33 rfl) rfl
theorem q312 : (Jvm.Cond.fieldLinkNest "MinistryDesks$Worked" (21 : Nat) "MinistryDesks$Scene" "error" "Z" "MinistryDesks") ∈ lw_tbl := lw_at lw_m1 152 rfl
theorem q914 : (Jvm.Cond.selects "MinistryDesks$Worked" ({ cls := "java/lang/Object", name := "getClass", desc := "()Ljava/lang/Class;" } : Jvm.MethodName) ({ cls := "java/lang/Object", name := "getClass", desc := "()Ljava/lang/Class;" } : Jvm.MethodName)) ∈ lw_all := lw_g (lw_at lw_m4 34 rfl) rfl
theorem q1090 : (Jvm.Cond.instantiable "MinistryDesks$Worked" (3 : Nat)) ∈ lw_all := lw_g (lw_at lw_m4 210 rfl) rfl
theorem q1092 : (Jvm.Cond.instanceMethod ({ cls := "MinistryDesks$Worked", name := "<init>", desc := "(ILMinistryDesks$Node;LMinistryDesks$Node;)V" } : Jvm.MethodName)) ∈ lw_all := lw_g (lw_at lw_m4 212 rfl) rfl
theorem q1093 : (Jvm.Cond.code ({ cls := "MinistryDesks$Worked", name := "<init>", desc := "(ILMinistryDesks$Node;LMinistryDesks$Node;)V" } : Jvm.MethodName) prog_21_method_1_code (4 : Nat) (Option.none : Option Jvm.ClassFile.FieldType)) ∈ lw_all := lw_g (lw_at lw_m4 213 rfl) rfl
theorem q1094 : (Jvm.Cond.methodLink "MinistryDesks$Worked" (3 : Nat) ({ cls := "MinistryDesks$Two", name := "<init>", desc := "(LMinistryDesks$Node;LMinistryDesks$Node;)V" } : Jvm.MethodName)) ∈ lw_all := lw_g (lw_at lw_m4 214 rfl) rfl
theorem q1098 : (Jvm.Cond.fieldLink "MinistryDesks$Worked" (9 : Nat) "MinistryDesks$Worked" "sign" "I") ∈ lw_all := lw_g (lw_at lw_m4 218 rfl) rfl
theorem q1101 : (Jvm.Cond.laysFinal "MinistryDesks$Worked" "MinistryDesks$Worked" "sign" "I") ∈ lw_all := lw_g (lw_at lw_m4 221 rfl) rfl
theorem q1102 : (Jvm.Cond.soleField "MinistryDesks$Worked" "sign") ∈ lw_all := lw_g (lw_at lw_m4 222 rfl) rfl
theorem q1103 : (Jvm.Cond.laysFinal "MinistryDesks$Worked" "MinistryDesks$Two" "one" "LMinistryDesks$Node;") ∈ lw_all := lw_g (lw_at lw_m4 223 rfl) rfl
theorem q1105 : (Jvm.Cond.laysFinal "MinistryDesks$Worked" "MinistryDesks$Two" "other" "LMinistryDesks$Node;") ∈ lw_all := lw_g (lw_at lw_m4 225 rfl) rfl
theorem q1107 : (Jvm.Cond.superclass "MinistryDesks$Worked" "MinistryDesks$Two") ∈ lw_all := lw_g (lw_at lw_m4 227 rfl) rfl
theorem q1217 : (Jvm.Cond.castable "MinistryDesks$Worked" "MinistryDesks$Node") ∈ lw_tbl := lw_at lw_m5 97 rfl
theorem q1218 : (Jvm.Cond.selects "MinistryDesks$Worked" ({ cls := "MinistryDesks$Node", name := "value", desc := "(LMinistryDesks$Scene;)J" } : Jvm.MethodName) ({ cls := "MinistryDesks$Two", name := "value", desc := "(LMinistryDesks$Scene;)J" } : Jvm.MethodName)) ∈ lw_all := lw_g (lw_at lw_m5 98 rfl) rfl
theorem q1219 : (Jvm.Cond.unhidden "MinistryDesks$Worked" "value" "(LMinistryDesks$Scene;)J") ∈ lw_tbl := lw_at lw_m5 99 rfl
theorem q1229 : (Jvm.Cond.selects "MinistryDesks$Worked" ({ cls := "MinistryDesks$Two", name := "of", desc := "(LMinistryDesks$Scene;JJ)J" } : Jvm.MethodName) ({ cls := "MinistryDesks$Worked", name := "of", desc := "(LMinistryDesks$Scene;JJ)J" } : Jvm.MethodName)) ∈ lw_all := lw_g (lw_at lw_m5 109 rfl) rfl
theorem q1230 : (Jvm.Cond.instanceMethod ({ cls := "MinistryDesks$Worked", name := "of", desc := "(LMinistryDesks$Scene;JJ)J" } : Jvm.MethodName)) ∈ lw_all := lw_g (lw_at lw_m5 110 rfl) rfl
theorem q1231 : (Jvm.Cond.code ({ cls := "MinistryDesks$Worked", name := "of", desc := "(LMinistryDesks$Scene;JJ)J" } : Jvm.MethodName) prog_21_method_2_code (6 : Nat) (Option.some Jvm.ClassFile.FieldType.long)) ∈ lw_all := lw_g (lw_at lw_m5 111 rfl) rfl
theorem q1232 : (Jvm.Cond.methodLink "MinistryDesks$Worked" (15 : Nat) ({ cls := "MinistryDesks$Scene", name := "inBound", desc := "(J)J" } : Jvm.MethodName)) ∈ lw_all := lw_g (lw_at lw_m5 112 rfl) rfl
theorem q1240 : (Jvm.Cond.methodLink "MinistryDesks$Worked" (25 : Nat) ({ cls := "java/lang/Math", name := "abs", desc := "(J)J" } : Jvm.MethodName)) ∈ lw_all := lw_g (lw_at lw_m5 120 rfl) rfl
theorem q1241 : (Jvm.Cond.constantLong "MinistryDesks$Worked" (30 : Nat) (1000000000000 : Int64)) ∈ lw_all := lw_g (lw_at lw_m5 121 rfl) rfl
theorem q2419 : (Jvm.Cond.castable "MinistryDesks$Worked" "java/lang/Object") ∈ lw_tbl := lw_at lw_m10 99 rfl
theorem in_X17 : ∀ w ∈ wsX170, w ∈ lw_all := lw_in wsX170 [1103, 1105, 1101] (by decide +kernel) (by decide +kernel)

abbrev cX18_init : ByteArray := prog_5_method_1_code
def yX18_init : MethodName := ⟨RX18, "<init>", "(ILMinistryDesks$Node;LMinistryDesks$Node;)V"⟩
def dkwX18_init_0 : List UInt8 := [42, 44, 45, 183, 0, 1, 42, 27, 181, 0, 7, 177]
abbrev dktX18_init_0 : List UInt8 := dkwX18_init_0 ++ []
theorem dksX18_init_0 : cX18_init.data.toList.drop 0 = dktX18_init_0 := by decide +kernel
theorem dX18_init_0 : decode cX18_init 0 = .ok (.aload_n 0, 1) := dk_42 (dk_at dksX18_init_0 0 rfl rfl)
theorem dX18_init_1 : decode cX18_init 1 = .ok (.aload_n 2, 1) := dk_44 (dk_at dksX18_init_0 1 rfl rfl)
theorem dX18_init_2 : decode cX18_init 2 = .ok (.aload_n 3, 1) := dk_45 (dk_at dksX18_init_0 2 rfl rfl)
theorem dX18_init_3 : decode cX18_init 3 = .ok (.invokespecial 1, 3) := dk_183 0 1 (dk_at dksX18_init_0 3 rfl rfl)
theorem dX18_init_6 : decode cX18_init 6 = .ok (.aload_n 0, 1) := dk_42 (dk_at dksX18_init_0 6 rfl rfl)
theorem dX18_init_7 : decode cX18_init 7 = .ok (.iload_n 1, 1) := dk_27 (dk_at dksX18_init_0 7 rfl rfl)
theorem dX18_init_8 : decode cX18_init 8 = .ok (.putfield 7, 3) := dk_181 0 7 (dk_at dksX18_init_0 8 rfl rfl)
theorem dX18_init_11 : decode cX18_init 11 = .ok (.return_, 1) := dk_177 (dk_at dksX18_init_0 11 rfl rfl)
abbrev cX18_of : ByteArray := prog_5_method_2_code
def yX18_of : MethodName := ⟨RX18, "of", "(LMinistryDesks$Scene;JJ)J"⟩
def dkwX18_of_5 : List UInt8 := [22, 4, 148, 158, 0, 7, 4, 167, 0, 4, 3, 54, 6, 21, 6, 153, 0, 7, 10, 167, 0, 4, 9, 173]
abbrev dktX18_of_5 : List UInt8 := dkwX18_of_5 ++ []
def dkwX18_of_4 : List UInt8 := [180, 0, 7, 7, 160, 0, 18, 32, 22, 4, 148, 155, 0, 7, 4, 167, 0, 19, 3, 167, 0, 15, 32]
abbrev dktX18_of_4 : List UInt8 := dkwX18_of_4 ++ dktX18_of_5
def dkwX18_of_3 : List UInt8 := [180, 0, 7, 6, 160, 0, 18, 32, 22, 4, 148, 153, 0, 7, 4, 167, 0, 42, 3, 167, 0, 38, 42]
abbrev dktX18_of_3 : List UInt8 := dkwX18_of_3 ++ dktX18_of_4
def dkwX18_of_2 : List UInt8 := [180, 0, 7, 5, 160, 0, 18, 32, 22, 4, 148, 154, 0, 7, 4, 167, 0, 65, 3, 167, 0, 61, 42]
abbrev dktX18_of_2 : List UInt8 := dkwX18_of_2 ++ dktX18_of_3
def dkwX18_of_1 : List UInt8 := [180, 0, 7, 4, 160, 0, 18, 32, 22, 4, 148, 157, 0, 7, 4, 167, 0, 88, 3, 167, 0, 84, 42]
abbrev dktX18_of_1 : List UInt8 := dkwX18_of_1 ++ dktX18_of_2
def dkwX18_of_0 : List UInt8 := [42, 180, 0, 7, 154, 0, 18, 32, 22, 4, 148, 156, 0, 7, 4, 167, 0, 111, 3, 167, 0, 107, 42]
abbrev dktX18_of_0 : List UInt8 := dkwX18_of_0 ++ dktX18_of_1
theorem dksX18_of_0 : cX18_of.data.toList.drop 0 = dktX18_of_0 := by decide +kernel
theorem dksX18_of_1 : cX18_of.data.toList.drop 23 = dktX18_of_1 := dk_seg dksX18_of_0 23 rfl rfl
theorem dksX18_of_2 : cX18_of.data.toList.drop 46 = dktX18_of_2 := dk_seg dksX18_of_1 23 rfl rfl
theorem dksX18_of_3 : cX18_of.data.toList.drop 69 = dktX18_of_3 := dk_seg dksX18_of_2 23 rfl rfl
theorem dksX18_of_4 : cX18_of.data.toList.drop 92 = dktX18_of_4 := dk_seg dksX18_of_3 23 rfl rfl
theorem dksX18_of_5 : cX18_of.data.toList.drop 115 = dktX18_of_5 := dk_seg dksX18_of_4 23 rfl rfl
theorem dX18_of_0 : decode cX18_of 0 = .ok (.aload_n 0, 1) := dk_42 (dk_at dksX18_of_0 0 rfl rfl)
theorem dX18_of_1 : decode cX18_of 1 = .ok (.getfield 7, 3) := dk_180 0 7 (dk_at dksX18_of_0 1 rfl rfl)
theorem dX18_of_4 : decode cX18_of 4 = .ok (.ifCond .ne 18, 3) := dk_154 0 18 (dk_at dksX18_of_0 4 rfl rfl)
theorem dX18_of_7 : decode cX18_of 7 = .ok (.lload_n 2, 1) := dk_32 (dk_at dksX18_of_0 7 rfl rfl)
theorem dX18_of_8 : decode cX18_of 8 = .ok (.lload 4, 2) := dk_22 4 (dk_at dksX18_of_0 8 rfl rfl)
theorem dX18_of_10 : decode cX18_of 10 = .ok (.lcmp, 1) := dk_148 (dk_at dksX18_of_0 10 rfl rfl)
theorem dX18_of_11 : decode cX18_of 11 = .ok (.ifCond .ge 7, 3) := dk_156 0 7 (dk_at dksX18_of_0 11 rfl rfl)
theorem dX18_of_14 : decode cX18_of 14 = .ok (.iconst 1, 1) := dk_4 (dk_at dksX18_of_0 14 rfl rfl)
theorem dX18_of_15 : decode cX18_of 15 = .ok (.goto 111, 3) := dk_167 0 111 (dk_at dksX18_of_0 15 rfl rfl)
theorem dX18_of_18 : decode cX18_of 18 = .ok (.iconst 0, 1) := dk_3 (dk_at dksX18_of_0 18 rfl rfl)
theorem dX18_of_19 : decode cX18_of 19 = .ok (.goto 107, 3) := dk_167 0 107 (dk_at dksX18_of_0 19 rfl rfl)
theorem dX18_of_22 : decode cX18_of 22 = .ok (.aload_n 0, 1) := dk_42 (dk_at dksX18_of_0 22 rfl rfl)
theorem dX18_of_23 : decode cX18_of 23 = .ok (.getfield 7, 3) := dk_180 0 7 (dk_at dksX18_of_1 0 rfl rfl)
theorem dX18_of_26 : decode cX18_of 26 = .ok (.iconst 1, 1) := dk_4 (dk_at dksX18_of_1 3 rfl rfl)
theorem dX18_of_27 : decode cX18_of 27 = .ok (.if_icmp .ne 18, 3) := dk_160 0 18 (dk_at dksX18_of_1 4 rfl rfl)
theorem dX18_of_30 : decode cX18_of 30 = .ok (.lload_n 2, 1) := dk_32 (dk_at dksX18_of_1 7 rfl rfl)
theorem dX18_of_31 : decode cX18_of 31 = .ok (.lload 4, 2) := dk_22 4 (dk_at dksX18_of_1 8 rfl rfl)
theorem dX18_of_33 : decode cX18_of 33 = .ok (.lcmp, 1) := dk_148 (dk_at dksX18_of_1 10 rfl rfl)
theorem dX18_of_34 : decode cX18_of 34 = .ok (.ifCond .gt 7, 3) := dk_157 0 7 (dk_at dksX18_of_1 11 rfl rfl)
theorem dX18_of_37 : decode cX18_of 37 = .ok (.iconst 1, 1) := dk_4 (dk_at dksX18_of_1 14 rfl rfl)
theorem dX18_of_38 : decode cX18_of 38 = .ok (.goto 88, 3) := dk_167 0 88 (dk_at dksX18_of_1 15 rfl rfl)
theorem dX18_of_41 : decode cX18_of 41 = .ok (.iconst 0, 1) := dk_3 (dk_at dksX18_of_1 18 rfl rfl)
theorem dX18_of_42 : decode cX18_of 42 = .ok (.goto 84, 3) := dk_167 0 84 (dk_at dksX18_of_1 19 rfl rfl)
theorem dX18_of_45 : decode cX18_of 45 = .ok (.aload_n 0, 1) := dk_42 (dk_at dksX18_of_1 22 rfl rfl)
theorem dX18_of_46 : decode cX18_of 46 = .ok (.getfield 7, 3) := dk_180 0 7 (dk_at dksX18_of_2 0 rfl rfl)
theorem dX18_of_49 : decode cX18_of 49 = .ok (.iconst 2, 1) := dk_5 (dk_at dksX18_of_2 3 rfl rfl)
theorem dX18_of_50 : decode cX18_of 50 = .ok (.if_icmp .ne 18, 3) := dk_160 0 18 (dk_at dksX18_of_2 4 rfl rfl)
theorem dX18_of_53 : decode cX18_of 53 = .ok (.lload_n 2, 1) := dk_32 (dk_at dksX18_of_2 7 rfl rfl)
theorem dX18_of_54 : decode cX18_of 54 = .ok (.lload 4, 2) := dk_22 4 (dk_at dksX18_of_2 8 rfl rfl)
theorem dX18_of_56 : decode cX18_of 56 = .ok (.lcmp, 1) := dk_148 (dk_at dksX18_of_2 10 rfl rfl)
theorem dX18_of_57 : decode cX18_of 57 = .ok (.ifCond .ne 7, 3) := dk_154 0 7 (dk_at dksX18_of_2 11 rfl rfl)
theorem dX18_of_60 : decode cX18_of 60 = .ok (.iconst 1, 1) := dk_4 (dk_at dksX18_of_2 14 rfl rfl)
theorem dX18_of_61 : decode cX18_of 61 = .ok (.goto 65, 3) := dk_167 0 65 (dk_at dksX18_of_2 15 rfl rfl)
theorem dX18_of_64 : decode cX18_of 64 = .ok (.iconst 0, 1) := dk_3 (dk_at dksX18_of_2 18 rfl rfl)
theorem dX18_of_65 : decode cX18_of 65 = .ok (.goto 61, 3) := dk_167 0 61 (dk_at dksX18_of_2 19 rfl rfl)
theorem dX18_of_68 : decode cX18_of 68 = .ok (.aload_n 0, 1) := dk_42 (dk_at dksX18_of_2 22 rfl rfl)
theorem dX18_of_69 : decode cX18_of 69 = .ok (.getfield 7, 3) := dk_180 0 7 (dk_at dksX18_of_3 0 rfl rfl)
theorem dX18_of_72 : decode cX18_of 72 = .ok (.iconst 3, 1) := dk_6 (dk_at dksX18_of_3 3 rfl rfl)
theorem dX18_of_73 : decode cX18_of 73 = .ok (.if_icmp .ne 18, 3) := dk_160 0 18 (dk_at dksX18_of_3 4 rfl rfl)
theorem dX18_of_76 : decode cX18_of 76 = .ok (.lload_n 2, 1) := dk_32 (dk_at dksX18_of_3 7 rfl rfl)
theorem dX18_of_77 : decode cX18_of 77 = .ok (.lload 4, 2) := dk_22 4 (dk_at dksX18_of_3 8 rfl rfl)
theorem dX18_of_79 : decode cX18_of 79 = .ok (.lcmp, 1) := dk_148 (dk_at dksX18_of_3 10 rfl rfl)
theorem dX18_of_80 : decode cX18_of 80 = .ok (.ifCond .eq 7, 3) := dk_153 0 7 (dk_at dksX18_of_3 11 rfl rfl)
theorem dX18_of_83 : decode cX18_of 83 = .ok (.iconst 1, 1) := dk_4 (dk_at dksX18_of_3 14 rfl rfl)
theorem dX18_of_84 : decode cX18_of 84 = .ok (.goto 42, 3) := dk_167 0 42 (dk_at dksX18_of_3 15 rfl rfl)
theorem dX18_of_87 : decode cX18_of 87 = .ok (.iconst 0, 1) := dk_3 (dk_at dksX18_of_3 18 rfl rfl)
theorem dX18_of_88 : decode cX18_of 88 = .ok (.goto 38, 3) := dk_167 0 38 (dk_at dksX18_of_3 19 rfl rfl)
theorem dX18_of_91 : decode cX18_of 91 = .ok (.aload_n 0, 1) := dk_42 (dk_at dksX18_of_3 22 rfl rfl)
theorem dX18_of_92 : decode cX18_of 92 = .ok (.getfield 7, 3) := dk_180 0 7 (dk_at dksX18_of_4 0 rfl rfl)
theorem dX18_of_95 : decode cX18_of 95 = .ok (.iconst 4, 1) := dk_7 (dk_at dksX18_of_4 3 rfl rfl)
theorem dX18_of_96 : decode cX18_of 96 = .ok (.if_icmp .ne 18, 3) := dk_160 0 18 (dk_at dksX18_of_4 4 rfl rfl)
theorem dX18_of_99 : decode cX18_of 99 = .ok (.lload_n 2, 1) := dk_32 (dk_at dksX18_of_4 7 rfl rfl)
theorem dX18_of_100 : decode cX18_of 100 = .ok (.lload 4, 2) := dk_22 4 (dk_at dksX18_of_4 8 rfl rfl)
theorem dX18_of_102 : decode cX18_of 102 = .ok (.lcmp, 1) := dk_148 (dk_at dksX18_of_4 10 rfl rfl)
theorem dX18_of_103 : decode cX18_of 103 = .ok (.ifCond .lt 7, 3) := dk_155 0 7 (dk_at dksX18_of_4 11 rfl rfl)
theorem dX18_of_106 : decode cX18_of 106 = .ok (.iconst 1, 1) := dk_4 (dk_at dksX18_of_4 14 rfl rfl)
theorem dX18_of_107 : decode cX18_of 107 = .ok (.goto 19, 3) := dk_167 0 19 (dk_at dksX18_of_4 15 rfl rfl)
theorem dX18_of_110 : decode cX18_of 110 = .ok (.iconst 0, 1) := dk_3 (dk_at dksX18_of_4 18 rfl rfl)
theorem dX18_of_111 : decode cX18_of 111 = .ok (.goto 15, 3) := dk_167 0 15 (dk_at dksX18_of_4 19 rfl rfl)
theorem dX18_of_114 : decode cX18_of 114 = .ok (.lload_n 2, 1) := dk_32 (dk_at dksX18_of_4 22 rfl rfl)
theorem dX18_of_115 : decode cX18_of 115 = .ok (.lload 4, 2) := dk_22 4 (dk_at dksX18_of_5 0 rfl rfl)
theorem dX18_of_117 : decode cX18_of 117 = .ok (.lcmp, 1) := dk_148 (dk_at dksX18_of_5 2 rfl rfl)
theorem dX18_of_118 : decode cX18_of 118 = .ok (.ifCond .le 7, 3) := dk_158 0 7 (dk_at dksX18_of_5 3 rfl rfl)
theorem dX18_of_121 : decode cX18_of 121 = .ok (.iconst 1, 1) := dk_4 (dk_at dksX18_of_5 6 rfl rfl)
theorem dX18_of_122 : decode cX18_of 122 = .ok (.goto 4, 3) := dk_167 0 4 (dk_at dksX18_of_5 7 rfl rfl)
theorem dX18_of_125 : decode cX18_of 125 = .ok (.iconst 0, 1) := dk_3 (dk_at dksX18_of_5 10 rfl rfl)
theorem dX18_of_126 : decode cX18_of 126 = .ok (.istore 6, 2) := dk_54 6 (dk_at dksX18_of_5 11 rfl rfl)
theorem dX18_of_128 : decode cX18_of 128 = .ok (.iload 6, 2) := dk_21 6 (dk_at dksX18_of_5 13 rfl rfl)
theorem dX18_of_130 : decode cX18_of 130 = .ok (.ifCond .eq 7, 3) := dk_153 0 7 (dk_at dksX18_of_5 15 rfl rfl)
theorem dX18_of_133 : decode cX18_of 133 = .ok (.lconst 1, 1) := dk_10 (dk_at dksX18_of_5 18 rfl rfl)
theorem dX18_of_134 : decode cX18_of 134 = .ok (.goto 4, 3) := dk_167 0 4 (dk_at dksX18_of_5 19 rfl rfl)
theorem dX18_of_137 : decode cX18_of 137 = .ok (.lconst 0, 1) := dk_9 (dk_at dksX18_of_5 22 rfl rfl)
theorem dX18_of_138 : decode cX18_of 138 = .ok (.lreturn, 1) := dk_173 (dk_at dksX18_of_5 23 rfl rfl)
theorem q194 : (Jvm.Cond.initialized "MinistryDesks$Compared") ∈ lw_all := lw_g (lw_at lw_m1 34 rfl) rfl
theorem q900 : (Jvm.Cond.selects "MinistryDesks$Compared" ({ cls := "java/lang/Object", name := "getClass", desc := "()Ljava/lang/Class;" } : Jvm.MethodName) ({ cls := "java/lang/Object", name := "getClass", desc := "()Ljava/lang/Class;" } : Jvm.MethodName)) ∈ lw_all := lw_g (lw_at lw_m4 20 rfl) rfl
theorem q1109 : (Jvm.Cond.instantiable "MinistryDesks$Compared" (3 : Nat)) ∈ lw_all := lw_g (lw_at lw_m4 229 rfl) rfl
theorem q1111 : (Jvm.Cond.instanceMethod ({ cls := "MinistryDesks$Compared", name := "<init>", desc := "(ILMinistryDesks$Node;LMinistryDesks$Node;)V" } : Jvm.MethodName)) ∈ lw_all := lw_g (lw_at lw_m4 231 rfl) rfl
theorem q1112 : (Jvm.Cond.code ({ cls := "MinistryDesks$Compared", name := "<init>", desc := "(ILMinistryDesks$Node;LMinistryDesks$Node;)V" } : Jvm.MethodName) prog_5_method_1_code (4 : Nat) (Option.none : Option Jvm.ClassFile.FieldType)) ∈ lw_all := lw_g (lw_at lw_m4 232 rfl) rfl
theorem q1113 : (Jvm.Cond.methodLink "MinistryDesks$Compared" (1 : Nat) ({ cls := "MinistryDesks$Two", name := "<init>", desc := "(LMinistryDesks$Node;LMinistryDesks$Node;)V" } : Jvm.MethodName)) ∈ lw_all := lw_g (lw_at lw_m4 233 rfl) rfl
theorem q1114 : (Jvm.Cond.fieldLink "MinistryDesks$Compared" (7 : Nat) "MinistryDesks$Compared" "sign" "I") ∈ lw_all := lw_g (lw_at lw_m4 234 rfl) rfl
theorem q1115 : (Jvm.Cond.laysFinal "MinistryDesks$Compared" "MinistryDesks$Compared" "sign" "I") ∈ lw_all := lw_g (lw_at lw_m4 235 rfl) rfl
theorem q1116 : (Jvm.Cond.soleField "MinistryDesks$Compared" "sign") ∈ lw_all := lw_g (lw_at lw_m4 236 rfl) rfl
theorem q1117 : (Jvm.Cond.laysFinal "MinistryDesks$Compared" "MinistryDesks$Two" "one" "LMinistryDesks$Node;") ∈ lw_all := lw_g (lw_at lw_m4 237 rfl) rfl
theorem q1118 : (Jvm.Cond.laysFinal "MinistryDesks$Compared" "MinistryDesks$Two" "other" "LMinistryDesks$Node;") ∈ lw_all := lw_g (lw_at lw_m4 238 rfl) rfl
theorem q1119 : (Jvm.Cond.superclass "MinistryDesks$Compared" "MinistryDesks$Two") ∈ lw_all := lw_g (lw_at lw_m4 239 rfl) rfl
theorem q1194 : (Jvm.Cond.castable "MinistryDesks$Compared" "MinistryDesks$Node") ∈ lw_tbl := lw_at lw_m5 74 rfl
theorem q1195 : (Jvm.Cond.selects "MinistryDesks$Compared" ({ cls := "MinistryDesks$Node", name := "value", desc := "(LMinistryDesks$Scene;)J" } : Jvm.MethodName) ({ cls := "MinistryDesks$Two", name := "value", desc := "(LMinistryDesks$Scene;)J" } : Jvm.MethodName)) ∈ lw_all := lw_g (lw_at lw_m5 75 rfl) rfl
theorem q1196 : (Jvm.Cond.unhidden "MinistryDesks$Compared" "value" "(LMinistryDesks$Scene;)J") ∈ lw_tbl := lw_at lw_m5 76 rfl
theorem q1226 : (Jvm.Cond.selects "MinistryDesks$Compared" ({ cls := "MinistryDesks$Two", name := "of", desc := "(LMinistryDesks$Scene;JJ)J" } : Jvm.MethodName) ({ cls := "MinistryDesks$Compared", name := "of", desc := "(LMinistryDesks$Scene;JJ)J" } : Jvm.MethodName)) ∈ lw_all := lw_g (lw_at lw_m5 106 rfl) rfl
theorem q1227 : (Jvm.Cond.instanceMethod ({ cls := "MinistryDesks$Compared", name := "of", desc := "(LMinistryDesks$Scene;JJ)J" } : Jvm.MethodName)) ∈ lw_all := lw_g (lw_at lw_m5 107 rfl) rfl
theorem q1228 : (Jvm.Cond.code ({ cls := "MinistryDesks$Compared", name := "of", desc := "(LMinistryDesks$Scene;JJ)J" } : Jvm.MethodName) prog_5_method_2_code (7 : Nat) (Option.some Jvm.ClassFile.FieldType.long)) ∈ lw_all := lw_g (lw_at lw_m5 108 rfl) rfl
theorem q2420 : (Jvm.Cond.castable "MinistryDesks$Compared" "java/lang/Object") ∈ lw_tbl := lw_at lw_m10 100 rfl
theorem in_X18 : ∀ w ∈ wsX180, w ∈ lw_all := lw_in wsX180 [1117, 1118, 1115] (by decide +kernel) (by decide +kernel)

abbrev cX19_init : ByteArray := prog_15_method_1_code
def yX19_init : MethodName := ⟨RX19, "<init>", "(LMinistryDesks$Node;)V"⟩
def dkwX19_init_0 : List UInt8 := [42, 183, 0, 1, 42, 43, 181, 0, 7, 177]
abbrev dktX19_init_0 : List UInt8 := dkwX19_init_0 ++ []
theorem dksX19_init_0 : cX19_init.data.toList.drop 0 = dktX19_init_0 := by decide +kernel
theorem dX19_init_0 : decode cX19_init 0 = .ok (.aload_n 0, 1) := dk_42 (dk_at dksX19_init_0 0 rfl rfl)
theorem dX19_init_1 : decode cX19_init 1 = .ok (.invokespecial 1, 3) := dk_183 0 1 (dk_at dksX19_init_0 1 rfl rfl)
theorem dX19_init_4 : decode cX19_init 4 = .ok (.aload_n 0, 1) := dk_42 (dk_at dksX19_init_0 4 rfl rfl)
theorem dX19_init_5 : decode cX19_init 5 = .ok (.aload_n 1, 1) := dk_43 (dk_at dksX19_init_0 5 rfl rfl)
theorem dX19_init_6 : decode cX19_init 6 = .ok (.putfield 7, 3) := dk_181 0 7 (dk_at dksX19_init_0 6 rfl rfl)
theorem dX19_init_9 : decode cX19_init 9 = .ok (.return_, 1) := dk_177 (dk_at dksX19_init_0 9 rfl rfl)
abbrev cX19_value : ByteArray := prog_15_method_2_code
def yX19_value : MethodName := ⟨RX19, "value", "(LMinistryDesks$Scene;)J"⟩
def dkwX19_value_0 : List UInt8 := [42, 180, 0, 7, 43, 185, 0, 13, 2, 0, 9, 148, 154, 0, 7, 10, 167, 0, 4, 9, 173]
abbrev dktX19_value_0 : List UInt8 := dkwX19_value_0 ++ []
theorem dksX19_value_0 : cX19_value.data.toList.drop 0 = dktX19_value_0 := by decide +kernel
theorem dX19_value_0 : decode cX19_value 0 = .ok (.aload_n 0, 1) := dk_42 (dk_at dksX19_value_0 0 rfl rfl)
theorem dX19_value_1 : decode cX19_value 1 = .ok (.getfield 7, 3) := dk_180 0 7 (dk_at dksX19_value_0 1 rfl rfl)
theorem dX19_value_4 : decode cX19_value 4 = .ok (.aload_n 1, 1) := dk_43 (dk_at dksX19_value_0 4 rfl rfl)
theorem dX19_value_5 : decode cX19_value 5 = .ok (.invokeinterface 13 2, 5) := by decide +kernel
theorem dX19_value_10 : decode cX19_value 10 = .ok (.lconst 0, 1) := dk_9 (dk_at dksX19_value_0 10 rfl rfl)
theorem dX19_value_11 : decode cX19_value 11 = .ok (.lcmp, 1) := dk_148 (dk_at dksX19_value_0 11 rfl rfl)
theorem dX19_value_12 : decode cX19_value 12 = .ok (.ifCond .ne 7, 3) := dk_154 0 7 (dk_at dksX19_value_0 12 rfl rfl)
theorem dX19_value_15 : decode cX19_value 15 = .ok (.lconst 1, 1) := dk_10 (dk_at dksX19_value_0 15 rfl rfl)
theorem dX19_value_16 : decode cX19_value 16 = .ok (.goto 4, 3) := dk_167 0 4 (dk_at dksX19_value_0 16 rfl rfl)
theorem dX19_value_19 : decode cX19_value 19 = .ok (.lconst 0, 1) := dk_9 (dk_at dksX19_value_0 19 rfl rfl)
theorem dX19_value_20 : decode cX19_value 20 = .ok (.lreturn, 1) := dk_173 (dk_at dksX19_value_0 20 rfl rfl)
theorem q195 : (Jvm.Cond.initialized "MinistryDesks$Not") ∈ lw_all := lw_g (lw_at lw_m1 35 rfl) rfl
theorem q909 : (Jvm.Cond.selects "MinistryDesks$Not" ({ cls := "java/lang/Object", name := "getClass", desc := "()Ljava/lang/Class;" } : Jvm.MethodName) ({ cls := "java/lang/Object", name := "getClass", desc := "()Ljava/lang/Class;" } : Jvm.MethodName)) ∈ lw_all := lw_g (lw_at lw_m4 29 rfl) rfl
theorem q1121 : (Jvm.Cond.instantiable "MinistryDesks$Not" (1 : Nat)) ∈ lw_all := lw_g (lw_at lw_m5 1 rfl) rfl
theorem q1123 : (Jvm.Cond.instanceMethod ({ cls := "MinistryDesks$Not", name := "<init>", desc := "(LMinistryDesks$Node;)V" } : Jvm.MethodName)) ∈ lw_all := lw_g (lw_at lw_m5 3 rfl) rfl
theorem q1124 : (Jvm.Cond.code ({ cls := "MinistryDesks$Not", name := "<init>", desc := "(LMinistryDesks$Node;)V" } : Jvm.MethodName) prog_15_method_1_code (2 : Nat) (Option.none : Option Jvm.ClassFile.FieldType)) ∈ lw_all := lw_g (lw_at lw_m5 4 rfl) rfl
theorem q1125 : (Jvm.Cond.methodLink "MinistryDesks$Not" (1 : Nat) ({ cls := "java/lang/Record", name := "<init>", desc := "()V" } : Jvm.MethodName)) ∈ lw_all := lw_g (lw_at lw_m5 5 rfl) rfl
theorem q1126 : (Jvm.Cond.fieldLink "MinistryDesks$Not" (7 : Nat) "MinistryDesks$Not" "of" "LMinistryDesks$Node;") ∈ lw_all := lw_g (lw_at lw_m5 6 rfl) rfl
theorem q1127 : (Jvm.Cond.laysFinal "MinistryDesks$Not" "MinistryDesks$Not" "of" "LMinistryDesks$Node;") ∈ lw_all := lw_g (lw_at lw_m5 7 rfl) rfl
theorem q1128 : (Jvm.Cond.soleField "MinistryDesks$Not" "of") ∈ lw_all := lw_g (lw_at lw_m5 8 rfl) rfl
theorem q1129 : (Jvm.Cond.superclass "MinistryDesks$Not" "java/lang/Record") ∈ lw_all := lw_g (lw_at lw_m5 9 rfl) rfl
theorem q1209 : (Jvm.Cond.castable "MinistryDesks$Not" "MinistryDesks$Node") ∈ lw_tbl := lw_at lw_m5 89 rfl
theorem q1210 : (Jvm.Cond.selects "MinistryDesks$Not" ({ cls := "MinistryDesks$Node", name := "value", desc := "(LMinistryDesks$Scene;)J" } : Jvm.MethodName) ({ cls := "MinistryDesks$Not", name := "value", desc := "(LMinistryDesks$Scene;)J" } : Jvm.MethodName)) ∈ lw_all := lw_g (lw_at lw_m5 90 rfl) rfl
theorem q1211 : (Jvm.Cond.unhidden "MinistryDesks$Not" "value" "(LMinistryDesks$Scene;)J") ∈ lw_tbl := lw_at lw_m5 91 rfl
theorem q1212 : (Jvm.Cond.instanceMethod ({ cls := "MinistryDesks$Not", name := "value", desc := "(LMinistryDesks$Scene;)J" } : Jvm.MethodName)) ∈ lw_all := lw_g (lw_at lw_m5 92 rfl) rfl
theorem q1213 : (Jvm.Cond.publicMethod ({ cls := "MinistryDesks$Not", name := "value", desc := "(LMinistryDesks$Scene;)J" } : Jvm.MethodName)) ∈ lw_tbl := lw_at lw_m5 93 rfl
theorem q1214 : (Jvm.Cond.code ({ cls := "MinistryDesks$Not", name := "value", desc := "(LMinistryDesks$Scene;)J" } : Jvm.MethodName) prog_15_method_2_code (2 : Nat) (Option.some Jvm.ClassFile.FieldType.long)) ∈ lw_all := lw_g (lw_at lw_m5 94 rfl) rfl
theorem q1215 : (Jvm.Cond.interfaceEntry "MinistryDesks$Not" (13 : Nat)) ∈ lw_tbl := lw_at lw_m5 95 rfl
theorem q1216 : (Jvm.Cond.methodLink "MinistryDesks$Not" (13 : Nat) ({ cls := "MinistryDesks$Node", name := "value", desc := "(LMinistryDesks$Scene;)J" } : Jvm.MethodName)) ∈ lw_all := lw_g (lw_at lw_m5 96 rfl) rfl
theorem q2421 : (Jvm.Cond.castable "MinistryDesks$Not" "java/lang/Object") ∈ lw_tbl := lw_at lw_m10 101 rfl
theorem in_X19 : ∀ w ∈ wsX190, w ∈ lw_all := lw_in wsX190 [1127] (by decide +kernel) (by decide +kernel)

abbrev cX2_init : ByteArray := prog_11_method_1_code
def yX2_init : MethodName := ⟨RX2, "<init>", "()V"⟩
def dkwX2_init_3 : List UInt8 := [181, 0, 30, 42, 16, 99, 181, 0, 33, 177]
abbrev dktX2_init_3 : List UInt8 := dkwX2_init_3 ++ []
def dkwX2_init_2 : List UInt8 := [181, 0, 24, 42, 187, 0, 9, 89, 183, 0, 11, 181, 0, 27, 42, 187, 0, 9, 89, 183, 0, 11]
abbrev dktX2_init_2 : List UInt8 := dkwX2_init_2 ++ dktX2_init_3
def dkwX2_init_1 : List UInt8 := [181, 0, 18, 42, 187, 0, 9, 89, 183, 0, 11, 181, 0, 21, 42, 187, 0, 9, 89, 183, 0, 11]
abbrev dktX2_init_1 : List UInt8 := dkwX2_init_1 ++ dktX2_init_2
def dkwX2_init_0 : List UInt8 := [42, 183, 0, 3, 42, 187, 0, 9, 89, 183, 0, 11, 181, 0, 12, 42, 187, 0, 9, 89, 183, 0, 11]
abbrev dktX2_init_0 : List UInt8 := dkwX2_init_0 ++ dktX2_init_1
theorem dksX2_init_0 : cX2_init.data.toList.drop 0 = dktX2_init_0 := by decide +kernel
theorem dksX2_init_1 : cX2_init.data.toList.drop 23 = dktX2_init_1 := dk_seg dksX2_init_0 23 rfl rfl
theorem dksX2_init_2 : cX2_init.data.toList.drop 45 = dktX2_init_2 := dk_seg dksX2_init_1 22 rfl rfl
theorem dksX2_init_3 : cX2_init.data.toList.drop 67 = dktX2_init_3 := dk_seg dksX2_init_2 22 rfl rfl
theorem dX2_init_0 : decode cX2_init 0 = .ok (.aload_n 0, 1) := dk_42 (dk_at dksX2_init_0 0 rfl rfl)
theorem dX2_init_1 : decode cX2_init 1 = .ok (.invokespecial 3, 3) := dk_183 0 3 (dk_at dksX2_init_0 1 rfl rfl)
theorem dX2_init_4 : decode cX2_init 4 = .ok (.aload_n 0, 1) := dk_42 (dk_at dksX2_init_0 4 rfl rfl)
theorem dX2_init_5 : decode cX2_init 5 = .ok (.new 9, 3) := dk_187 0 9 (dk_at dksX2_init_0 5 rfl rfl)
theorem dX2_init_8 : decode cX2_init 8 = .ok (.dup, 1) := dk_89 (dk_at dksX2_init_0 8 rfl rfl)
theorem dX2_init_9 : decode cX2_init 9 = .ok (.invokespecial 11, 3) := dk_183 0 11 (dk_at dksX2_init_0 9 rfl rfl)
theorem dX2_init_12 : decode cX2_init 12 = .ok (.putfield 12, 3) := dk_181 0 12 (dk_at dksX2_init_0 12 rfl rfl)
theorem dX2_init_15 : decode cX2_init 15 = .ok (.aload_n 0, 1) := dk_42 (dk_at dksX2_init_0 15 rfl rfl)
theorem dX2_init_16 : decode cX2_init 16 = .ok (.new 9, 3) := dk_187 0 9 (dk_at dksX2_init_0 16 rfl rfl)
theorem dX2_init_19 : decode cX2_init 19 = .ok (.dup, 1) := dk_89 (dk_at dksX2_init_0 19 rfl rfl)
theorem dX2_init_20 : decode cX2_init 20 = .ok (.invokespecial 11, 3) := dk_183 0 11 (dk_at dksX2_init_0 20 rfl rfl)
theorem dX2_init_23 : decode cX2_init 23 = .ok (.putfield 18, 3) := dk_181 0 18 (dk_at dksX2_init_1 0 rfl rfl)
theorem dX2_init_26 : decode cX2_init 26 = .ok (.aload_n 0, 1) := dk_42 (dk_at dksX2_init_1 3 rfl rfl)
theorem dX2_init_27 : decode cX2_init 27 = .ok (.new 9, 3) := dk_187 0 9 (dk_at dksX2_init_1 4 rfl rfl)
theorem dX2_init_30 : decode cX2_init 30 = .ok (.dup, 1) := dk_89 (dk_at dksX2_init_1 7 rfl rfl)
theorem dX2_init_31 : decode cX2_init 31 = .ok (.invokespecial 11, 3) := dk_183 0 11 (dk_at dksX2_init_1 8 rfl rfl)
theorem dX2_init_34 : decode cX2_init 34 = .ok (.putfield 21, 3) := dk_181 0 21 (dk_at dksX2_init_1 11 rfl rfl)
theorem dX2_init_37 : decode cX2_init 37 = .ok (.aload_n 0, 1) := dk_42 (dk_at dksX2_init_1 14 rfl rfl)
theorem dX2_init_38 : decode cX2_init 38 = .ok (.new 9, 3) := dk_187 0 9 (dk_at dksX2_init_1 15 rfl rfl)
theorem dX2_init_41 : decode cX2_init 41 = .ok (.dup, 1) := dk_89 (dk_at dksX2_init_1 18 rfl rfl)
theorem dX2_init_42 : decode cX2_init 42 = .ok (.invokespecial 11, 3) := dk_183 0 11 (dk_at dksX2_init_1 19 rfl rfl)
theorem dX2_init_45 : decode cX2_init 45 = .ok (.putfield 24, 3) := dk_181 0 24 (dk_at dksX2_init_2 0 rfl rfl)
theorem dX2_init_48 : decode cX2_init 48 = .ok (.aload_n 0, 1) := dk_42 (dk_at dksX2_init_2 3 rfl rfl)
theorem dX2_init_49 : decode cX2_init 49 = .ok (.new 9, 3) := dk_187 0 9 (dk_at dksX2_init_2 4 rfl rfl)
theorem dX2_init_52 : decode cX2_init 52 = .ok (.dup, 1) := dk_89 (dk_at dksX2_init_2 7 rfl rfl)
theorem dX2_init_53 : decode cX2_init 53 = .ok (.invokespecial 11, 3) := dk_183 0 11 (dk_at dksX2_init_2 8 rfl rfl)
theorem dX2_init_56 : decode cX2_init 56 = .ok (.putfield 27, 3) := dk_181 0 27 (dk_at dksX2_init_2 11 rfl rfl)
theorem dX2_init_59 : decode cX2_init 59 = .ok (.aload_n 0, 1) := dk_42 (dk_at dksX2_init_2 14 rfl rfl)
theorem dX2_init_60 : decode cX2_init 60 = .ok (.new 9, 3) := dk_187 0 9 (dk_at dksX2_init_2 15 rfl rfl)
theorem dX2_init_63 : decode cX2_init 63 = .ok (.dup, 1) := dk_89 (dk_at dksX2_init_2 18 rfl rfl)
theorem dX2_init_64 : decode cX2_init 64 = .ok (.invokespecial 11, 3) := dk_183 0 11 (dk_at dksX2_init_2 19 rfl rfl)
theorem dX2_init_67 : decode cX2_init 67 = .ok (.putfield 30, 3) := dk_181 0 30 (dk_at dksX2_init_3 0 rfl rfl)
theorem dX2_init_70 : decode cX2_init 70 = .ok (.aload_n 0, 1) := dk_42 (dk_at dksX2_init_3 3 rfl rfl)
theorem dX2_init_71 : decode cX2_init 71 = .ok (.bipush 99, 2) := dk_16 99 (dk_at dksX2_init_3 4 rfl rfl)
theorem dX2_init_73 : decode cX2_init 73 = .ok (.putfield 33, 3) := dk_181 0 33 (dk_at dksX2_init_3 6 rfl rfl)
theorem dX2_init_76 : decode cX2_init 76 = .ok (.return_, 1) := dk_177 (dk_at dksX2_init_3 9 rfl rfl)
abbrev cX2_desk : ByteArray := prog_11_method_2_code
def yX2_desk : MethodName := ⟨RX2, "desk", "(I)I"⟩
def dkwX2_desk_1 : List UInt8 := [180, 0, 47, 27, 160, 0, 5, 28, 172, 132, 2, 1, 167, 255, 222, 2, 172]
abbrev dktX2_desk_1 : List UInt8 := dkwX2_desk_1 ++ []
def dkwX2_desk_0 : List UInt8 := [3, 61, 28, 42, 180, 0, 12, 182, 0, 37, 162, 0, 29, 42, 180, 0, 12, 28, 182, 0, 41, 192, 0, 45]
abbrev dktX2_desk_0 : List UInt8 := dkwX2_desk_0 ++ dktX2_desk_1
theorem dksX2_desk_0 : cX2_desk.data.toList.drop 0 = dktX2_desk_0 := by decide +kernel
theorem dksX2_desk_1 : cX2_desk.data.toList.drop 24 = dktX2_desk_1 := dk_seg dksX2_desk_0 24 rfl rfl
theorem dX2_desk_0 : decode cX2_desk 0 = .ok (.iconst 0, 1) := dk_3 (dk_at dksX2_desk_0 0 rfl rfl)
theorem dX2_desk_1 : decode cX2_desk 1 = .ok (.istore_n 2, 1) := dk_61 (dk_at dksX2_desk_0 1 rfl rfl)
theorem dX2_desk_2 : decode cX2_desk 2 = .ok (.iload_n 2, 1) := dk_28 (dk_at dksX2_desk_0 2 rfl rfl)
theorem dX2_desk_3 : decode cX2_desk 3 = .ok (.aload_n 0, 1) := dk_42 (dk_at dksX2_desk_0 3 rfl rfl)
theorem dX2_desk_4 : decode cX2_desk 4 = .ok (.getfield 12, 3) := dk_180 0 12 (dk_at dksX2_desk_0 4 rfl rfl)
theorem dX2_desk_7 : decode cX2_desk 7 = .ok (.invokevirtual 37, 3) := dk_182 0 37 (dk_at dksX2_desk_0 7 rfl rfl)
theorem dX2_desk_10 : decode cX2_desk 10 = .ok (.if_icmp .ge 29, 3) := dk_162 0 29 (dk_at dksX2_desk_0 10 rfl rfl)
theorem dX2_desk_13 : decode cX2_desk 13 = .ok (.aload_n 0, 1) := dk_42 (dk_at dksX2_desk_0 13 rfl rfl)
theorem dX2_desk_14 : decode cX2_desk 14 = .ok (.getfield 12, 3) := dk_180 0 12 (dk_at dksX2_desk_0 14 rfl rfl)
theorem dX2_desk_17 : decode cX2_desk 17 = .ok (.iload_n 2, 1) := dk_28 (dk_at dksX2_desk_0 17 rfl rfl)
theorem dX2_desk_18 : decode cX2_desk 18 = .ok (.invokevirtual 41, 3) := dk_182 0 41 (dk_at dksX2_desk_0 18 rfl rfl)
theorem dX2_desk_21 : decode cX2_desk 21 = .ok (.checkcast 45, 3) := dk_192 0 45 (dk_at dksX2_desk_0 21 rfl rfl)
theorem dX2_desk_24 : decode cX2_desk 24 = .ok (.getfield 47, 3) := dk_180 0 47 (dk_at dksX2_desk_1 0 rfl rfl)
theorem dX2_desk_27 : decode cX2_desk 27 = .ok (.iload_n 1, 1) := dk_27 (dk_at dksX2_desk_1 3 rfl rfl)
theorem dX2_desk_28 : decode cX2_desk 28 = .ok (.if_icmp .ne 5, 3) := dk_160 0 5 (dk_at dksX2_desk_1 4 rfl rfl)
theorem dX2_desk_31 : decode cX2_desk 31 = .ok (.iload_n 2, 1) := dk_28 (dk_at dksX2_desk_1 7 rfl rfl)
theorem dX2_desk_32 : decode cX2_desk 32 = .ok (.ireturn, 1) := dk_172 (dk_at dksX2_desk_1 8 rfl rfl)
theorem dX2_desk_33 : decode cX2_desk 33 = .ok (.iinc 2 1, 3) := dk_132 2 1 (dk_at dksX2_desk_1 9 rfl rfl)
theorem dX2_desk_36 : decode cX2_desk 36 = .ok (.goto (-34), 3) := dk_167 255 222 (dk_at dksX2_desk_1 12 rfl rfl)
theorem dX2_desk_39 : decode cX2_desk 39 = .ok (.iconst (-1), 1) := dk_2 (dk_at dksX2_desk_1 15 rfl rfl)
theorem dX2_desk_40 : decode cX2_desk 40 = .ok (.ireturn, 1) := dk_172 (dk_at dksX2_desk_1 16 rfl rfl)
abbrev cX2_fact : ByteArray := prog_11_method_3_code
def yX2_fact : MethodName := ⟨RX2, "fact", "(I)I"⟩
def dkwX2_fact_1 : List UInt8 := [180, 0, 52, 27, 160, 0, 5, 28, 172, 132, 2, 1, 167, 255, 222, 2, 172]
abbrev dktX2_fact_1 : List UInt8 := dkwX2_fact_1 ++ []
def dkwX2_fact_0 : List UInt8 := [3, 61, 28, 42, 180, 0, 18, 182, 0, 37, 162, 0, 29, 42, 180, 0, 18, 28, 182, 0, 41, 192, 0, 50]
abbrev dktX2_fact_0 : List UInt8 := dkwX2_fact_0 ++ dktX2_fact_1
theorem dksX2_fact_0 : cX2_fact.data.toList.drop 0 = dktX2_fact_0 := by decide +kernel
theorem dksX2_fact_1 : cX2_fact.data.toList.drop 24 = dktX2_fact_1 := dk_seg dksX2_fact_0 24 rfl rfl
theorem dX2_fact_0 : decode cX2_fact 0 = .ok (.iconst 0, 1) := dk_3 (dk_at dksX2_fact_0 0 rfl rfl)
theorem dX2_fact_1 : decode cX2_fact 1 = .ok (.istore_n 2, 1) := dk_61 (dk_at dksX2_fact_0 1 rfl rfl)
theorem dX2_fact_2 : decode cX2_fact 2 = .ok (.iload_n 2, 1) := dk_28 (dk_at dksX2_fact_0 2 rfl rfl)
theorem dX2_fact_3 : decode cX2_fact 3 = .ok (.aload_n 0, 1) := dk_42 (dk_at dksX2_fact_0 3 rfl rfl)
theorem dX2_fact_4 : decode cX2_fact 4 = .ok (.getfield 18, 3) := dk_180 0 18 (dk_at dksX2_fact_0 4 rfl rfl)
theorem dX2_fact_7 : decode cX2_fact 7 = .ok (.invokevirtual 37, 3) := dk_182 0 37 (dk_at dksX2_fact_0 7 rfl rfl)
theorem dX2_fact_10 : decode cX2_fact 10 = .ok (.if_icmp .ge 29, 3) := dk_162 0 29 (dk_at dksX2_fact_0 10 rfl rfl)
theorem dX2_fact_13 : decode cX2_fact 13 = .ok (.aload_n 0, 1) := dk_42 (dk_at dksX2_fact_0 13 rfl rfl)
theorem dX2_fact_14 : decode cX2_fact 14 = .ok (.getfield 18, 3) := dk_180 0 18 (dk_at dksX2_fact_0 14 rfl rfl)
theorem dX2_fact_17 : decode cX2_fact 17 = .ok (.iload_n 2, 1) := dk_28 (dk_at dksX2_fact_0 17 rfl rfl)
theorem dX2_fact_18 : decode cX2_fact 18 = .ok (.invokevirtual 41, 3) := dk_182 0 41 (dk_at dksX2_fact_0 18 rfl rfl)
theorem dX2_fact_21 : decode cX2_fact 21 = .ok (.checkcast 50, 3) := dk_192 0 50 (dk_at dksX2_fact_0 21 rfl rfl)
theorem dX2_fact_24 : decode cX2_fact 24 = .ok (.getfield 52, 3) := dk_180 0 52 (dk_at dksX2_fact_1 0 rfl rfl)
theorem dX2_fact_27 : decode cX2_fact 27 = .ok (.iload_n 1, 1) := dk_27 (dk_at dksX2_fact_1 3 rfl rfl)
theorem dX2_fact_28 : decode cX2_fact 28 = .ok (.if_icmp .ne 5, 3) := dk_160 0 5 (dk_at dksX2_fact_1 4 rfl rfl)
theorem dX2_fact_31 : decode cX2_fact 31 = .ok (.iload_n 2, 1) := dk_28 (dk_at dksX2_fact_1 7 rfl rfl)
theorem dX2_fact_32 : decode cX2_fact 32 = .ok (.ireturn, 1) := dk_172 (dk_at dksX2_fact_1 8 rfl rfl)
theorem dX2_fact_33 : decode cX2_fact 33 = .ok (.iinc 2 1, 3) := dk_132 2 1 (dk_at dksX2_fact_1 9 rfl rfl)
theorem dX2_fact_36 : decode cX2_fact 36 = .ok (.goto (-34), 3) := dk_167 255 222 (dk_at dksX2_fact_1 12 rfl rfl)
theorem dX2_fact_39 : decode cX2_fact 39 = .ok (.iconst (-1), 1) := dk_2 (dk_at dksX2_fact_1 15 rfl rfl)
theorem dX2_fact_40 : decode cX2_fact 40 = .ok (.ireturn, 1) := dk_172 (dk_at dksX2_fact_1 16 rfl rfl)
abbrev cX2_may : ByteArray := prog_11_method_4_code
def yX2_may : MethodName := ⟨RX2, "may", "(I)I"⟩
def dkwX2_may_1 : List UInt8 := [180, 0, 55, 27, 160, 0, 5, 28, 172, 132, 2, 1, 167, 255, 222, 2, 172]
abbrev dktX2_may_1 : List UInt8 := dkwX2_may_1 ++ []
def dkwX2_may_0 : List UInt8 := [3, 61, 28, 42, 180, 0, 30, 182, 0, 37, 162, 0, 29, 42, 180, 0, 30, 28, 182, 0, 41, 192, 0, 53]
abbrev dktX2_may_0 : List UInt8 := dkwX2_may_0 ++ dktX2_may_1
theorem dksX2_may_0 : cX2_may.data.toList.drop 0 = dktX2_may_0 := by decide +kernel
theorem dksX2_may_1 : cX2_may.data.toList.drop 24 = dktX2_may_1 := dk_seg dksX2_may_0 24 rfl rfl
theorem dX2_may_0 : decode cX2_may 0 = .ok (.iconst 0, 1) := dk_3 (dk_at dksX2_may_0 0 rfl rfl)
theorem dX2_may_1 : decode cX2_may 1 = .ok (.istore_n 2, 1) := dk_61 (dk_at dksX2_may_0 1 rfl rfl)
theorem dX2_may_2 : decode cX2_may 2 = .ok (.iload_n 2, 1) := dk_28 (dk_at dksX2_may_0 2 rfl rfl)
theorem dX2_may_3 : decode cX2_may 3 = .ok (.aload_n 0, 1) := dk_42 (dk_at dksX2_may_0 3 rfl rfl)
theorem dX2_may_4 : decode cX2_may 4 = .ok (.getfield 30, 3) := dk_180 0 30 (dk_at dksX2_may_0 4 rfl rfl)
theorem dX2_may_7 : decode cX2_may 7 = .ok (.invokevirtual 37, 3) := dk_182 0 37 (dk_at dksX2_may_0 7 rfl rfl)
theorem dX2_may_10 : decode cX2_may 10 = .ok (.if_icmp .ge 29, 3) := dk_162 0 29 (dk_at dksX2_may_0 10 rfl rfl)
theorem dX2_may_13 : decode cX2_may 13 = .ok (.aload_n 0, 1) := dk_42 (dk_at dksX2_may_0 13 rfl rfl)
theorem dX2_may_14 : decode cX2_may 14 = .ok (.getfield 30, 3) := dk_180 0 30 (dk_at dksX2_may_0 14 rfl rfl)
theorem dX2_may_17 : decode cX2_may 17 = .ok (.iload_n 2, 1) := dk_28 (dk_at dksX2_may_0 17 rfl rfl)
theorem dX2_may_18 : decode cX2_may 18 = .ok (.invokevirtual 41, 3) := dk_182 0 41 (dk_at dksX2_may_0 18 rfl rfl)
theorem dX2_may_21 : decode cX2_may 21 = .ok (.checkcast 53, 3) := dk_192 0 53 (dk_at dksX2_may_0 21 rfl rfl)
theorem dX2_may_24 : decode cX2_may 24 = .ok (.getfield 55, 3) := dk_180 0 55 (dk_at dksX2_may_1 0 rfl rfl)
theorem dX2_may_27 : decode cX2_may 27 = .ok (.iload_n 1, 1) := dk_27 (dk_at dksX2_may_1 3 rfl rfl)
theorem dX2_may_28 : decode cX2_may 28 = .ok (.if_icmp .ne 5, 3) := dk_160 0 5 (dk_at dksX2_may_1 4 rfl rfl)
theorem dX2_may_31 : decode cX2_may 31 = .ok (.iload_n 2, 1) := dk_28 (dk_at dksX2_may_1 7 rfl rfl)
theorem dX2_may_32 : decode cX2_may 32 = .ok (.ireturn, 1) := dk_172 (dk_at dksX2_may_1 8 rfl rfl)
theorem dX2_may_33 : decode cX2_may 33 = .ok (.iinc 2 1, 3) := dk_132 2 1 (dk_at dksX2_may_1 9 rfl rfl)
theorem dX2_may_36 : decode cX2_may 36 = .ok (.goto (-34), 3) := dk_167 255 222 (dk_at dksX2_may_1 12 rfl rfl)
theorem dX2_may_39 : decode cX2_may 39 = .ok (.iconst (-1), 1) := dk_2 (dk_at dksX2_may_1 15 rfl rfl)
theorem dX2_may_40 : decode cX2_may 40 = .ok (.ireturn, 1) := dk_172 (dk_at dksX2_may_1 16 rfl rfl)
theorem q162 : (Jvm.Cond.initialized "MinistryDesks$House") ∈ lw_all := lw_g (lw_at lw_m1 2 rfl) rfl
theorem q212 : (Jvm.Cond.instantiable "MinistryDesks$House" (12 : Nat)) ∈ lw_all := lw_g (lw_at lw_m1 52 rfl) rfl
theorem q214 : (Jvm.Cond.instanceMethod ({ cls := "MinistryDesks$House", name := "<init>", desc := "()V" } : Jvm.MethodName)) ∈ lw_all := lw_g (lw_at lw_m1 54 rfl) rfl
theorem q215 : (Jvm.Cond.code ({ cls := "MinistryDesks$House", name := "<init>", desc := "()V" } : Jvm.MethodName) prog_11_method_1_code (1 : Nat) (Option.none : Option Jvm.ClassFile.FieldType)) ∈ lw_all := lw_g (lw_at lw_m1 55 rfl) rfl
theorem q216 : (Jvm.Cond.methodLink "MinistryDesks$House" (3 : Nat) ({ cls := "java/lang/Object", name := "<init>", desc := "()V" } : Jvm.MethodName)) ∈ lw_all := lw_g (lw_at lw_m1 56 rfl) rfl
theorem q217 : (Jvm.Cond.classLink "MinistryDesks$House" (9 : Nat) "java/util/ArrayList") ∈ lw_all := lw_g (lw_at lw_m1 57 rfl) rfl
theorem q219 : (Jvm.Cond.methodLink "MinistryDesks$House" (11 : Nat) ({ cls := "java/util/ArrayList", name := "<init>", desc := "()V" } : Jvm.MethodName)) ∈ lw_all := lw_g (lw_at lw_m1 59 rfl) rfl
theorem q244 : (Jvm.Cond.fieldLink "MinistryDesks$House" (12 : Nat) "MinistryDesks$House" "desks" "Ljava/util/ArrayList;") ∈ lw_all := lw_g (lw_at lw_m1 84 rfl) rfl
theorem q248 : (Jvm.Cond.fieldLink "MinistryDesks$House" (18 : Nat) "MinistryDesks$House" "facts" "Ljava/util/ArrayList;") ∈ lw_all := lw_g (lw_at lw_m1 88 rfl) rfl
theorem q251 : (Jvm.Cond.fieldLink "MinistryDesks$House" (21 : Nat) "MinistryDesks$House" "comings" "Ljava/util/ArrayList;") ∈ lw_all := lw_g (lw_at lw_m1 91 rfl) rfl
theorem q255 : (Jvm.Cond.fieldLink "MinistryDesks$House" (24 : Nat) "MinistryDesks$House" "questions" "Ljava/util/ArrayList;") ∈ lw_all := lw_g (lw_at lw_m1 95 rfl) rfl
theorem q259 : (Jvm.Cond.fieldLink "MinistryDesks$House" (27 : Nat) "MinistryDesks$House" "fires" "Ljava/util/ArrayList;") ∈ lw_all := lw_g (lw_at lw_m1 99 rfl) rfl
theorem q262 : (Jvm.Cond.fieldLink "MinistryDesks$House" (30 : Nat) "MinistryDesks$House" "mays" "Ljava/util/ArrayList;") ∈ lw_all := lw_g (lw_at lw_m1 102 rfl) rfl
theorem q270 : (Jvm.Cond.fieldLink "MinistryDesks$House" (33 : Nat) "MinistryDesks$House" "patience" "I") ∈ lw_all := lw_g (lw_at lw_m1 110 rfl) rfl
theorem q278 : (Jvm.Cond.laysFinal "MinistryDesks$House" "MinistryDesks$House" "desks" "Ljava/util/ArrayList;") ∈ lw_all := lw_g (lw_at lw_m1 118 rfl) rfl
theorem q279 : (Jvm.Cond.soleField "MinistryDesks$House" "desks") ∈ lw_all := lw_g (lw_at lw_m1 119 rfl) rfl
theorem q280 : (Jvm.Cond.laysFinal "MinistryDesks$House" "MinistryDesks$House" "facts" "Ljava/util/ArrayList;") ∈ lw_all := lw_g (lw_at lw_m1 120 rfl) rfl
theorem q281 : (Jvm.Cond.soleField "MinistryDesks$House" "facts") ∈ lw_all := lw_g (lw_at lw_m1 121 rfl) rfl
theorem q282 : (Jvm.Cond.laysFinal "MinistryDesks$House" "MinistryDesks$House" "comings" "Ljava/util/ArrayList;") ∈ lw_all := lw_g (lw_at lw_m1 122 rfl) rfl
theorem q283 : (Jvm.Cond.soleField "MinistryDesks$House" "comings") ∈ lw_all := lw_g (lw_at lw_m1 123 rfl) rfl
theorem q284 : (Jvm.Cond.laysFinal "MinistryDesks$House" "MinistryDesks$House" "questions" "Ljava/util/ArrayList;") ∈ lw_all := lw_g (lw_at lw_m1 124 rfl) rfl
theorem q285 : (Jvm.Cond.soleField "MinistryDesks$House" "questions") ∈ lw_all := lw_g (lw_at lw_m1 125 rfl) rfl
theorem q286 : (Jvm.Cond.laysFinal "MinistryDesks$House" "MinistryDesks$House" "fires" "Ljava/util/ArrayList;") ∈ lw_all := lw_g (lw_at lw_m1 126 rfl) rfl
theorem q287 : (Jvm.Cond.soleField "MinistryDesks$House" "fires") ∈ lw_all := lw_g (lw_at lw_m1 127 rfl) rfl
theorem q288 : (Jvm.Cond.laysFinal "MinistryDesks$House" "MinistryDesks$House" "mays" "Ljava/util/ArrayList;") ∈ lw_all := lw_g (lw_at lw_m1 128 rfl) rfl
theorem q289 : (Jvm.Cond.soleField "MinistryDesks$House" "mays") ∈ lw_all := lw_g (lw_at lw_m1 129 rfl) rfl
theorem q290 : (Jvm.Cond.lays "MinistryDesks$House" "MinistryDesks$House" "keep" "LMinistryDesks$Node;") ∈ lw_all := lw_g (lw_at lw_m1 130 rfl) rfl
theorem q291 : (Jvm.Cond.soleField "MinistryDesks$House" "keep") ∈ lw_all := lw_g (lw_at lw_m1 131 rfl) rfl
theorem q292 : (Jvm.Cond.lays "MinistryDesks$House" "MinistryDesks$House" "want" "LMinistryDesks$Node;") ∈ lw_all := lw_g (lw_at lw_m1 132 rfl) rfl
theorem q293 : (Jvm.Cond.soleField "MinistryDesks$House" "want") ∈ lw_all := lw_g (lw_at lw_m1 133 rfl) rfl
theorem q294 : (Jvm.Cond.lays "MinistryDesks$House" "MinistryDesks$House" "patience" "I") ∈ lw_all := lw_g (lw_at lw_m1 134 rfl) rfl
theorem q295 : (Jvm.Cond.soleField "MinistryDesks$House" "patience") ∈ lw_all := lw_g (lw_at lw_m1 135 rfl) rfl
theorem q296 : (Jvm.Cond.lays "MinistryDesks$House" "MinistryDesks$House" "knots" "I") ∈ lw_all := lw_g (lw_at lw_m1 136 rfl) rfl
theorem q297 : (Jvm.Cond.soleField "MinistryDesks$House" "knots") ∈ lw_all := lw_g (lw_at lw_m1 137 rfl) rfl
theorem q298 : (Jvm.Cond.lays "MinistryDesks$House" "MinistryDesks$House" "lines" "I") ∈ lw_all := lw_g (lw_at lw_m1 138 rfl) rfl
theorem q299 : (Jvm.Cond.soleField "MinistryDesks$House" "lines") ∈ lw_all := lw_g (lw_at lw_m1 139 rfl) rfl
theorem q300 : (Jvm.Cond.lays "MinistryDesks$House" "MinistryDesks$House" "hasPatience" "Z") ∈ lw_all := lw_g (lw_at lw_m1 140 rfl) rfl
theorem q301 : (Jvm.Cond.soleField "MinistryDesks$House" "hasPatience") ∈ lw_all := lw_g (lw_at lw_m1 141 rfl) rfl
theorem q302 : (Jvm.Cond.superclass "MinistryDesks$House" "java/lang/Object") ∈ lw_all := lw_g (lw_at lw_m1 142 rfl) rfl
theorem q815 : (Jvm.Cond.instanceMethod ({ cls := "MinistryDesks$House", name := "desk", desc := "(I)I" } : Jvm.MethodName)) ∈ lw_all := lw_g (lw_at lw_m3 175 rfl) rfl
theorem q816 : (Jvm.Cond.selects "MinistryDesks$House" ({ cls := "MinistryDesks$House", name := "desk", desc := "(I)I" } : Jvm.MethodName) ({ cls := "MinistryDesks$House", name := "desk", desc := "(I)I" } : Jvm.MethodName)) ∈ lw_all := lw_g (lw_at lw_m3 176 rfl) rfl
theorem q817 : (Jvm.Cond.code ({ cls := "MinistryDesks$House", name := "desk", desc := "(I)I" } : Jvm.MethodName) prog_11_method_2_code (3 : Nat) (Option.some Jvm.ClassFile.FieldType.int)) ∈ lw_all := lw_g (lw_at lw_m3 177 rfl) rfl
theorem q818 : (Jvm.Cond.methodLink "MinistryDesks$House" (37 : Nat) ({ cls := "java/util/ArrayList", name := "size", desc := "()I" } : Jvm.MethodName)) ∈ lw_all := lw_g (lw_at lw_m3 178 rfl) rfl
theorem q819 : (Jvm.Cond.methodLink "MinistryDesks$House" (41 : Nat) ({ cls := "java/util/ArrayList", name := "get", desc := "(I)Ljava/lang/Object;" } : Jvm.MethodName)) ∈ lw_all := lw_g (lw_at lw_m3 179 rfl) rfl
theorem q831 : (Jvm.Cond.classLink "MinistryDesks$House" (45 : Nat) "MinistryDesks$Desk") ∈ lw_all := lw_g (lw_at lw_m3 191 rfl) rfl
theorem q851 : (Jvm.Cond.fieldLinkNest "MinistryDesks$House" (47 : Nat) "MinistryDesks$Desk" "name" "I" "MinistryDesks") ∈ lw_tbl := lw_at lw_m3 211 rfl
theorem q906 : (Jvm.Cond.selects "MinistryDesks$House" ({ cls := "java/lang/Object", name := "getClass", desc := "()Ljava/lang/Class;" } : Jvm.MethodName) ({ cls := "java/lang/Object", name := "getClass", desc := "()Ljava/lang/Class;" } : Jvm.MethodName)) ∈ lw_all := lw_g (lw_at lw_m4 26 rfl) rfl
theorem q939 : (Jvm.Cond.instanceMethod ({ cls := "MinistryDesks$House", name := "fact", desc := "(I)I" } : Jvm.MethodName)) ∈ lw_all := lw_g (lw_at lw_m4 59 rfl) rfl
theorem q940 : (Jvm.Cond.selects "MinistryDesks$House" ({ cls := "MinistryDesks$House", name := "fact", desc := "(I)I" } : Jvm.MethodName) ({ cls := "MinistryDesks$House", name := "fact", desc := "(I)I" } : Jvm.MethodName)) ∈ lw_all := lw_g (lw_at lw_m4 60 rfl) rfl
theorem q941 : (Jvm.Cond.code ({ cls := "MinistryDesks$House", name := "fact", desc := "(I)I" } : Jvm.MethodName) prog_11_method_3_code (3 : Nat) (Option.some Jvm.ClassFile.FieldType.int)) ∈ lw_all := lw_g (lw_at lw_m4 61 rfl) rfl
theorem q942 : (Jvm.Cond.classLink "MinistryDesks$House" (50 : Nat) "MinistryDesks$Fact") ∈ lw_all := lw_g (lw_at lw_m4 62 rfl) rfl
theorem q953 : (Jvm.Cond.fieldLinkNest "MinistryDesks$House" (52 : Nat) "MinistryDesks$Fact" "name" "I" "MinistryDesks") ∈ lw_tbl := lw_at lw_m4 73 rfl
theorem q1143 : (Jvm.Cond.instanceMethod ({ cls := "MinistryDesks$House", name := "may", desc := "(I)I" } : Jvm.MethodName)) ∈ lw_all := lw_g (lw_at lw_m5 23 rfl) rfl
theorem q1144 : (Jvm.Cond.selects "MinistryDesks$House" ({ cls := "MinistryDesks$House", name := "may", desc := "(I)I" } : Jvm.MethodName) ({ cls := "MinistryDesks$House", name := "may", desc := "(I)I" } : Jvm.MethodName)) ∈ lw_all := lw_g (lw_at lw_m5 24 rfl) rfl
theorem q1145 : (Jvm.Cond.code ({ cls := "MinistryDesks$House", name := "may", desc := "(I)I" } : Jvm.MethodName) prog_11_method_4_code (3 : Nat) (Option.some Jvm.ClassFile.FieldType.int)) ∈ lw_all := lw_g (lw_at lw_m5 25 rfl) rfl
theorem q1146 : (Jvm.Cond.classLink "MinistryDesks$House" (53 : Nat) "MinistryDesks$May") ∈ lw_all := lw_g (lw_at lw_m5 26 rfl) rfl
theorem q1154 : (Jvm.Cond.fieldLinkNest "MinistryDesks$House" (55 : Nat) "MinistryDesks$May" "name" "I" "MinistryDesks") ∈ lw_tbl := lw_at lw_m5 34 rfl
theorem q2404 : (Jvm.Cond.castable "MinistryDesks$House" "java/lang/Object") ∈ lw_tbl := lw_at lw_m10 84 rfl
theorem in_X2 : ∀ w ∈ wsX20, w ∈ lw_all := lw_in wsX20 [278, 280, 282, 284, 286, 288, 290, 292, 294, 296, 298, 300] (by decide +kernel) (by decide +kernel)

abbrev cX20_init : ByteArray := prog_3_method_1_code
def yX20_init : MethodName := ⟨RX20, "<init>", "(ZLMinistryDesks$Node;LMinistryDesks$Node;)V"⟩
def dkwX20_init_0 : List UInt8 := [42, 44, 45, 183, 0, 1, 42, 27, 181, 0, 7, 177]
abbrev dktX20_init_0 : List UInt8 := dkwX20_init_0 ++ []
theorem dksX20_init_0 : cX20_init.data.toList.drop 0 = dktX20_init_0 := by decide +kernel
theorem dX20_init_0 : decode cX20_init 0 = .ok (.aload_n 0, 1) := dk_42 (dk_at dksX20_init_0 0 rfl rfl)
theorem dX20_init_1 : decode cX20_init 1 = .ok (.aload_n 2, 1) := dk_44 (dk_at dksX20_init_0 1 rfl rfl)
theorem dX20_init_2 : decode cX20_init 2 = .ok (.aload_n 3, 1) := dk_45 (dk_at dksX20_init_0 2 rfl rfl)
theorem dX20_init_3 : decode cX20_init 3 = .ok (.invokespecial 1, 3) := dk_183 0 1 (dk_at dksX20_init_0 3 rfl rfl)
theorem dX20_init_6 : decode cX20_init 6 = .ok (.aload_n 0, 1) := dk_42 (dk_at dksX20_init_0 6 rfl rfl)
theorem dX20_init_7 : decode cX20_init 7 = .ok (.iload_n 1, 1) := dk_27 (dk_at dksX20_init_0 7 rfl rfl)
theorem dX20_init_8 : decode cX20_init 8 = .ok (.putfield 7, 3) := dk_181 0 7 (dk_at dksX20_init_0 8 rfl rfl)
theorem dX20_init_11 : decode cX20_init 11 = .ok (.return_, 1) := dk_177 (dk_at dksX20_init_0 11 rfl rfl)
abbrev cX20_of : ByteArray := prog_3_method_2_code
def yX20_of : MethodName := ⟨RX20, "of", "(LMinistryDesks$Scene;JJ)J"⟩
def dkwX20_of_1 : List UInt8 := [9, 167, 0, 21, 32, 9, 148, 154, 0, 10, 22, 4, 9, 148, 153, 0, 7, 10, 167, 0, 4, 9, 173]
abbrev dktX20_of_1 : List UInt8 := dkwX20_of_1 ++ []
def dkwX20_of_0 : List UInt8 := [42, 180, 0, 7, 153, 0, 24, 32, 9, 148, 153, 0, 14, 22, 4, 9, 148, 153, 0, 7, 10, 167, 0, 25]
abbrev dktX20_of_0 : List UInt8 := dkwX20_of_0 ++ dktX20_of_1
theorem dksX20_of_0 : cX20_of.data.toList.drop 0 = dktX20_of_0 := by decide +kernel
theorem dksX20_of_1 : cX20_of.data.toList.drop 24 = dktX20_of_1 := dk_seg dksX20_of_0 24 rfl rfl
theorem dX20_of_0 : decode cX20_of 0 = .ok (.aload_n 0, 1) := dk_42 (dk_at dksX20_of_0 0 rfl rfl)
theorem dX20_of_1 : decode cX20_of 1 = .ok (.getfield 7, 3) := dk_180 0 7 (dk_at dksX20_of_0 1 rfl rfl)
theorem dX20_of_4 : decode cX20_of 4 = .ok (.ifCond .eq 24, 3) := dk_153 0 24 (dk_at dksX20_of_0 4 rfl rfl)
theorem dX20_of_7 : decode cX20_of 7 = .ok (.lload_n 2, 1) := dk_32 (dk_at dksX20_of_0 7 rfl rfl)
theorem dX20_of_8 : decode cX20_of 8 = .ok (.lconst 0, 1) := dk_9 (dk_at dksX20_of_0 8 rfl rfl)
theorem dX20_of_9 : decode cX20_of 9 = .ok (.lcmp, 1) := dk_148 (dk_at dksX20_of_0 9 rfl rfl)
theorem dX20_of_10 : decode cX20_of 10 = .ok (.ifCond .eq 14, 3) := dk_153 0 14 (dk_at dksX20_of_0 10 rfl rfl)
theorem dX20_of_13 : decode cX20_of 13 = .ok (.lload 4, 2) := dk_22 4 (dk_at dksX20_of_0 13 rfl rfl)
theorem dX20_of_15 : decode cX20_of 15 = .ok (.lconst 0, 1) := dk_9 (dk_at dksX20_of_0 15 rfl rfl)
theorem dX20_of_16 : decode cX20_of 16 = .ok (.lcmp, 1) := dk_148 (dk_at dksX20_of_0 16 rfl rfl)
theorem dX20_of_17 : decode cX20_of 17 = .ok (.ifCond .eq 7, 3) := dk_153 0 7 (dk_at dksX20_of_0 17 rfl rfl)
theorem dX20_of_20 : decode cX20_of 20 = .ok (.lconst 1, 1) := dk_10 (dk_at dksX20_of_0 20 rfl rfl)
theorem dX20_of_21 : decode cX20_of 21 = .ok (.goto 25, 3) := dk_167 0 25 (dk_at dksX20_of_0 21 rfl rfl)
theorem dX20_of_24 : decode cX20_of 24 = .ok (.lconst 0, 1) := dk_9 (dk_at dksX20_of_1 0 rfl rfl)
theorem dX20_of_25 : decode cX20_of 25 = .ok (.goto 21, 3) := dk_167 0 21 (dk_at dksX20_of_1 1 rfl rfl)
theorem dX20_of_28 : decode cX20_of 28 = .ok (.lload_n 2, 1) := dk_32 (dk_at dksX20_of_1 4 rfl rfl)
theorem dX20_of_29 : decode cX20_of 29 = .ok (.lconst 0, 1) := dk_9 (dk_at dksX20_of_1 5 rfl rfl)
theorem dX20_of_30 : decode cX20_of 30 = .ok (.lcmp, 1) := dk_148 (dk_at dksX20_of_1 6 rfl rfl)
theorem dX20_of_31 : decode cX20_of 31 = .ok (.ifCond .ne 10, 3) := dk_154 0 10 (dk_at dksX20_of_1 7 rfl rfl)
theorem dX20_of_34 : decode cX20_of 34 = .ok (.lload 4, 2) := dk_22 4 (dk_at dksX20_of_1 10 rfl rfl)
theorem dX20_of_36 : decode cX20_of 36 = .ok (.lconst 0, 1) := dk_9 (dk_at dksX20_of_1 12 rfl rfl)
theorem dX20_of_37 : decode cX20_of 37 = .ok (.lcmp, 1) := dk_148 (dk_at dksX20_of_1 13 rfl rfl)
theorem dX20_of_38 : decode cX20_of 38 = .ok (.ifCond .eq 7, 3) := dk_153 0 7 (dk_at dksX20_of_1 14 rfl rfl)
theorem dX20_of_41 : decode cX20_of 41 = .ok (.lconst 1, 1) := dk_10 (dk_at dksX20_of_1 17 rfl rfl)
theorem dX20_of_42 : decode cX20_of 42 = .ok (.goto 4, 3) := dk_167 0 4 (dk_at dksX20_of_1 18 rfl rfl)
theorem dX20_of_45 : decode cX20_of 45 = .ok (.lconst 0, 1) := dk_9 (dk_at dksX20_of_1 21 rfl rfl)
theorem dX20_of_46 : decode cX20_of 46 = .ok (.lreturn, 1) := dk_173 (dk_at dksX20_of_1 22 rfl rfl)
theorem q196 : (Jvm.Cond.initialized "MinistryDesks$Choice") ∈ lw_all := lw_g (lw_at lw_m1 36 rfl) rfl
theorem q898 : (Jvm.Cond.selects "MinistryDesks$Choice" ({ cls := "java/lang/Object", name := "getClass", desc := "()Ljava/lang/Class;" } : Jvm.MethodName) ({ cls := "java/lang/Object", name := "getClass", desc := "()Ljava/lang/Class;" } : Jvm.MethodName)) ∈ lw_all := lw_g (lw_at lw_m4 18 rfl) rfl
theorem q1131 : (Jvm.Cond.instantiable "MinistryDesks$Choice" (3 : Nat)) ∈ lw_all := lw_g (lw_at lw_m5 11 rfl) rfl
theorem q1133 : (Jvm.Cond.instanceMethod ({ cls := "MinistryDesks$Choice", name := "<init>", desc := "(ZLMinistryDesks$Node;LMinistryDesks$Node;)V" } : Jvm.MethodName)) ∈ lw_all := lw_g (lw_at lw_m5 13 rfl) rfl
theorem q1134 : (Jvm.Cond.code ({ cls := "MinistryDesks$Choice", name := "<init>", desc := "(ZLMinistryDesks$Node;LMinistryDesks$Node;)V" } : Jvm.MethodName) prog_3_method_1_code (4 : Nat) (Option.none : Option Jvm.ClassFile.FieldType)) ∈ lw_all := lw_g (lw_at lw_m5 14 rfl) rfl
theorem q1135 : (Jvm.Cond.methodLink "MinistryDesks$Choice" (1 : Nat) ({ cls := "MinistryDesks$Two", name := "<init>", desc := "(LMinistryDesks$Node;LMinistryDesks$Node;)V" } : Jvm.MethodName)) ∈ lw_all := lw_g (lw_at lw_m5 15 rfl) rfl
theorem q1136 : (Jvm.Cond.fieldLink "MinistryDesks$Choice" (7 : Nat) "MinistryDesks$Choice" "both" "Z") ∈ lw_all := lw_g (lw_at lw_m5 16 rfl) rfl
theorem q1137 : (Jvm.Cond.laysFinal "MinistryDesks$Choice" "MinistryDesks$Choice" "both" "Z") ∈ lw_all := lw_g (lw_at lw_m5 17 rfl) rfl
theorem q1138 : (Jvm.Cond.soleField "MinistryDesks$Choice" "both") ∈ lw_all := lw_g (lw_at lw_m5 18 rfl) rfl
theorem q1139 : (Jvm.Cond.laysFinal "MinistryDesks$Choice" "MinistryDesks$Two" "one" "LMinistryDesks$Node;") ∈ lw_all := lw_g (lw_at lw_m5 19 rfl) rfl
theorem q1140 : (Jvm.Cond.laysFinal "MinistryDesks$Choice" "MinistryDesks$Two" "other" "LMinistryDesks$Node;") ∈ lw_all := lw_g (lw_at lw_m5 20 rfl) rfl
theorem q1141 : (Jvm.Cond.superclass "MinistryDesks$Choice" "MinistryDesks$Two") ∈ lw_all := lw_g (lw_at lw_m5 21 rfl) rfl
theorem q1186 : (Jvm.Cond.castable "MinistryDesks$Choice" "MinistryDesks$Node") ∈ lw_tbl := lw_at lw_m5 66 rfl
theorem q1187 : (Jvm.Cond.selects "MinistryDesks$Choice" ({ cls := "MinistryDesks$Node", name := "value", desc := "(LMinistryDesks$Scene;)J" } : Jvm.MethodName) ({ cls := "MinistryDesks$Two", name := "value", desc := "(LMinistryDesks$Scene;)J" } : Jvm.MethodName)) ∈ lw_all := lw_g (lw_at lw_m5 67 rfl) rfl
theorem q1188 : (Jvm.Cond.unhidden "MinistryDesks$Choice" "value" "(LMinistryDesks$Scene;)J") ∈ lw_tbl := lw_at lw_m5 68 rfl
theorem q1223 : (Jvm.Cond.selects "MinistryDesks$Choice" ({ cls := "MinistryDesks$Two", name := "of", desc := "(LMinistryDesks$Scene;JJ)J" } : Jvm.MethodName) ({ cls := "MinistryDesks$Choice", name := "of", desc := "(LMinistryDesks$Scene;JJ)J" } : Jvm.MethodName)) ∈ lw_all := lw_g (lw_at lw_m5 103 rfl) rfl
theorem q1224 : (Jvm.Cond.instanceMethod ({ cls := "MinistryDesks$Choice", name := "of", desc := "(LMinistryDesks$Scene;JJ)J" } : Jvm.MethodName)) ∈ lw_all := lw_g (lw_at lw_m5 104 rfl) rfl
theorem q1225 : (Jvm.Cond.code ({ cls := "MinistryDesks$Choice", name := "of", desc := "(LMinistryDesks$Scene;JJ)J" } : Jvm.MethodName) prog_3_method_2_code (6 : Nat) (Option.some Jvm.ClassFile.FieldType.long)) ∈ lw_all := lw_g (lw_at lw_m5 105 rfl) rfl
theorem q2422 : (Jvm.Cond.castable "MinistryDesks$Choice" "java/lang/Object") ∈ lw_tbl := lw_at lw_m10 102 rfl
theorem in_X20 : ∀ w ∈ wsX200, w ∈ lw_all := lw_in wsX200 [1139, 1140, 1137] (by decide +kernel) (by decide +kernel)

abbrev cX21_init : ByteArray := prog_12_method_1_code
def yX21_init : MethodName := ⟨RX21, "<init>", "(ILMinistryDesks$Node;)V"⟩
def dkwX21_init_0 : List UInt8 := [42, 183, 0, 1, 42, 27, 181, 0, 7, 42, 44, 181, 0, 13, 177]
abbrev dktX21_init_0 : List UInt8 := dkwX21_init_0 ++ []
theorem dksX21_init_0 : cX21_init.data.toList.drop 0 = dktX21_init_0 := by decide +kernel
theorem dX21_init_0 : decode cX21_init 0 = .ok (.aload_n 0, 1) := dk_42 (dk_at dksX21_init_0 0 rfl rfl)
theorem dX21_init_1 : decode cX21_init 1 = .ok (.invokespecial 1, 3) := dk_183 0 1 (dk_at dksX21_init_0 1 rfl rfl)
theorem dX21_init_4 : decode cX21_init 4 = .ok (.aload_n 0, 1) := dk_42 (dk_at dksX21_init_0 4 rfl rfl)
theorem dX21_init_5 : decode cX21_init 5 = .ok (.iload_n 1, 1) := dk_27 (dk_at dksX21_init_0 5 rfl rfl)
theorem dX21_init_6 : decode cX21_init 6 = .ok (.putfield 7, 3) := dk_181 0 7 (dk_at dksX21_init_0 6 rfl rfl)
theorem dX21_init_9 : decode cX21_init 9 = .ok (.aload_n 0, 1) := dk_42 (dk_at dksX21_init_0 9 rfl rfl)
theorem dX21_init_10 : decode cX21_init 10 = .ok (.aload_n 2, 1) := dk_44 (dk_at dksX21_init_0 10 rfl rfl)
theorem dX21_init_11 : decode cX21_init 11 = .ok (.putfield 13, 3) := dk_181 0 13 (dk_at dksX21_init_0 11 rfl rfl)
theorem dX21_init_14 : decode cX21_init 14 = .ok (.return_, 1) := dk_177 (dk_at dksX21_init_0 14 rfl rfl)
theorem q197 : (Jvm.Cond.initialized "MinistryDesks$May") ∈ lw_all := lw_g (lw_at lw_m1 37 rfl) rfl
theorem q907 : (Jvm.Cond.selects "MinistryDesks$May" ({ cls := "java/lang/Object", name := "getClass", desc := "()Ljava/lang/Class;" } : Jvm.MethodName) ({ cls := "java/lang/Object", name := "getClass", desc := "()Ljava/lang/Class;" } : Jvm.MethodName)) ∈ lw_all := lw_g (lw_at lw_m4 27 rfl) rfl
theorem q1148 : (Jvm.Cond.instantiable "MinistryDesks$May" (2 : Nat)) ∈ lw_all := lw_g (lw_at lw_m5 28 rfl) rfl
theorem q1150 : (Jvm.Cond.instanceMethod ({ cls := "MinistryDesks$May", name := "<init>", desc := "(ILMinistryDesks$Node;)V" } : Jvm.MethodName)) ∈ lw_all := lw_g (lw_at lw_m5 30 rfl) rfl
theorem q1151 : (Jvm.Cond.code ({ cls := "MinistryDesks$May", name := "<init>", desc := "(ILMinistryDesks$Node;)V" } : Jvm.MethodName) prog_12_method_1_code (3 : Nat) (Option.none : Option Jvm.ClassFile.FieldType)) ∈ lw_all := lw_g (lw_at lw_m5 31 rfl) rfl
theorem q1152 : (Jvm.Cond.methodLink "MinistryDesks$May" (1 : Nat) ({ cls := "java/lang/Record", name := "<init>", desc := "()V" } : Jvm.MethodName)) ∈ lw_all := lw_g (lw_at lw_m5 32 rfl) rfl
theorem q1153 : (Jvm.Cond.fieldLink "MinistryDesks$May" (7 : Nat) "MinistryDesks$May" "name" "I") ∈ lw_all := lw_g (lw_at lw_m5 33 rfl) rfl
theorem q1155 : (Jvm.Cond.fieldLink "MinistryDesks$May" (13 : Nat) "MinistryDesks$May" "sum" "LMinistryDesks$Node;") ∈ lw_all := lw_g (lw_at lw_m5 35 rfl) rfl
theorem q1157 : (Jvm.Cond.laysFinal "MinistryDesks$May" "MinistryDesks$May" "name" "I") ∈ lw_all := lw_g (lw_at lw_m5 37 rfl) rfl
theorem q1158 : (Jvm.Cond.soleField "MinistryDesks$May" "name") ∈ lw_all := lw_g (lw_at lw_m5 38 rfl) rfl
theorem q1159 : (Jvm.Cond.laysFinal "MinistryDesks$May" "MinistryDesks$May" "sum" "LMinistryDesks$Node;") ∈ lw_all := lw_g (lw_at lw_m5 39 rfl) rfl
theorem q1160 : (Jvm.Cond.soleField "MinistryDesks$May" "sum") ∈ lw_all := lw_g (lw_at lw_m5 40 rfl) rfl
theorem q1161 : (Jvm.Cond.superclass "MinistryDesks$May" "java/lang/Record") ∈ lw_all := lw_g (lw_at lw_m5 41 rfl) rfl
theorem q2423 : (Jvm.Cond.castable "MinistryDesks$May" "java/lang/Object") ∈ lw_tbl := lw_at lw_m10 103 rfl
theorem in_X21 : ∀ w ∈ wsX210, w ∈ lw_all := lw_in wsX210 [1157, 1159] (by decide +kernel) (by decide +kernel)

abbrev cX3_init : ByteArray := prog_19_method_1_code
def yX3_init : MethodName := ⟨RX3, "<init>", "()V"⟩
def dkwX3_init_0 : List UInt8 := [42, 183, 0, 3, 42, 16, 6, 188, 11, 181, 0, 9, 177]
abbrev dktX3_init_0 : List UInt8 := dkwX3_init_0 ++ []
theorem dksX3_init_0 : cX3_init.data.toList.drop 0 = dktX3_init_0 := by decide +kernel
theorem dX3_init_0 : decode cX3_init 0 = .ok (.aload_n 0, 1) := dk_42 (dk_at dksX3_init_0 0 rfl rfl)
theorem dX3_init_1 : decode cX3_init 1 = .ok (.invokespecial 3, 3) := dk_183 0 3 (dk_at dksX3_init_0 1 rfl rfl)
theorem dX3_init_4 : decode cX3_init 4 = .ok (.aload_n 0, 1) := dk_42 (dk_at dksX3_init_0 4 rfl rfl)
theorem dX3_init_5 : decode cX3_init 5 = .ok (.bipush 6, 2) := dk_16 6 (dk_at dksX3_init_0 5 rfl rfl)
theorem dX3_init_7 : decode cX3_init 7 = .ok (.newarray .long, 2) := dk_188_11 (dk_at dksX3_init_0 7 rfl rfl)
theorem dX3_init_9 : decode cX3_init 9 = .ok (.putfield 9, 3) := dk_181 0 9 (dk_at dksX3_init_0 9 rfl rfl)
theorem dX3_init_12 : decode cX3_init 12 = .ok (.return_, 1) := dk_177 (dk_at dksX3_init_0 12 rfl rfl)
abbrev cX3_lay : ByteArray := prog_19_method_2_code
def yX3_lay : MethodName := ⟨RX3, "lay", "(IIIIII)V"⟩
def dkwX3_lay_2 : List UInt8 := [21, 6, 133, 80, 42, 3, 181, 0, 15, 177]
abbrev dktX3_lay_2 : List UInt8 := dkwX3_lay_2 ++ []
def dkwX3_lay_1 : List UInt8 := [42, 180, 0, 9, 6, 21, 4, 133, 80, 42, 180, 0, 9, 7, 21, 5, 133, 80, 42, 180, 0, 9, 8]
abbrev dktX3_lay_1 : List UInt8 := dkwX3_lay_1 ++ dktX3_lay_2
def dkwX3_lay_0 : List UInt8 := [42, 180, 0, 9, 3, 27, 133, 80, 42, 180, 0, 9, 4, 28, 133, 80, 42, 180, 0, 9, 5, 29, 133, 80]
abbrev dktX3_lay_0 : List UInt8 := dkwX3_lay_0 ++ dktX3_lay_1
theorem dksX3_lay_0 : cX3_lay.data.toList.drop 0 = dktX3_lay_0 := by decide +kernel
theorem dksX3_lay_1 : cX3_lay.data.toList.drop 24 = dktX3_lay_1 := dk_seg dksX3_lay_0 24 rfl rfl
theorem dksX3_lay_2 : cX3_lay.data.toList.drop 47 = dktX3_lay_2 := dk_seg dksX3_lay_1 23 rfl rfl
theorem dX3_lay_0 : decode cX3_lay 0 = .ok (.aload_n 0, 1) := dk_42 (dk_at dksX3_lay_0 0 rfl rfl)
theorem dX3_lay_1 : decode cX3_lay 1 = .ok (.getfield 9, 3) := dk_180 0 9 (dk_at dksX3_lay_0 1 rfl rfl)
theorem dX3_lay_4 : decode cX3_lay 4 = .ok (.iconst 0, 1) := dk_3 (dk_at dksX3_lay_0 4 rfl rfl)
theorem dX3_lay_5 : decode cX3_lay 5 = .ok (.iload_n 1, 1) := dk_27 (dk_at dksX3_lay_0 5 rfl rfl)
theorem dX3_lay_6 : decode cX3_lay 6 = .ok (.i2l, 1) := dk_133 (dk_at dksX3_lay_0 6 rfl rfl)
theorem dX3_lay_7 : decode cX3_lay 7 = .ok (.lastore, 1) := dk_80 (dk_at dksX3_lay_0 7 rfl rfl)
theorem dX3_lay_8 : decode cX3_lay 8 = .ok (.aload_n 0, 1) := dk_42 (dk_at dksX3_lay_0 8 rfl rfl)
theorem dX3_lay_9 : decode cX3_lay 9 = .ok (.getfield 9, 3) := dk_180 0 9 (dk_at dksX3_lay_0 9 rfl rfl)
theorem dX3_lay_12 : decode cX3_lay 12 = .ok (.iconst 1, 1) := dk_4 (dk_at dksX3_lay_0 12 rfl rfl)
theorem dX3_lay_13 : decode cX3_lay 13 = .ok (.iload_n 2, 1) := dk_28 (dk_at dksX3_lay_0 13 rfl rfl)
theorem dX3_lay_14 : decode cX3_lay 14 = .ok (.i2l, 1) := dk_133 (dk_at dksX3_lay_0 14 rfl rfl)
theorem dX3_lay_15 : decode cX3_lay 15 = .ok (.lastore, 1) := dk_80 (dk_at dksX3_lay_0 15 rfl rfl)
theorem dX3_lay_16 : decode cX3_lay 16 = .ok (.aload_n 0, 1) := dk_42 (dk_at dksX3_lay_0 16 rfl rfl)
theorem dX3_lay_17 : decode cX3_lay 17 = .ok (.getfield 9, 3) := dk_180 0 9 (dk_at dksX3_lay_0 17 rfl rfl)
theorem dX3_lay_20 : decode cX3_lay 20 = .ok (.iconst 2, 1) := dk_5 (dk_at dksX3_lay_0 20 rfl rfl)
theorem dX3_lay_21 : decode cX3_lay 21 = .ok (.iload_n 3, 1) := dk_29 (dk_at dksX3_lay_0 21 rfl rfl)
theorem dX3_lay_22 : decode cX3_lay 22 = .ok (.i2l, 1) := dk_133 (dk_at dksX3_lay_0 22 rfl rfl)
theorem dX3_lay_23 : decode cX3_lay 23 = .ok (.lastore, 1) := dk_80 (dk_at dksX3_lay_0 23 rfl rfl)
theorem dX3_lay_24 : decode cX3_lay 24 = .ok (.aload_n 0, 1) := dk_42 (dk_at dksX3_lay_1 0 rfl rfl)
theorem dX3_lay_25 : decode cX3_lay 25 = .ok (.getfield 9, 3) := dk_180 0 9 (dk_at dksX3_lay_1 1 rfl rfl)
theorem dX3_lay_28 : decode cX3_lay 28 = .ok (.iconst 3, 1) := dk_6 (dk_at dksX3_lay_1 4 rfl rfl)
theorem dX3_lay_29 : decode cX3_lay 29 = .ok (.iload 4, 2) := dk_21 4 (dk_at dksX3_lay_1 5 rfl rfl)
theorem dX3_lay_31 : decode cX3_lay 31 = .ok (.i2l, 1) := dk_133 (dk_at dksX3_lay_1 7 rfl rfl)
theorem dX3_lay_32 : decode cX3_lay 32 = .ok (.lastore, 1) := dk_80 (dk_at dksX3_lay_1 8 rfl rfl)
theorem dX3_lay_33 : decode cX3_lay 33 = .ok (.aload_n 0, 1) := dk_42 (dk_at dksX3_lay_1 9 rfl rfl)
theorem dX3_lay_34 : decode cX3_lay 34 = .ok (.getfield 9, 3) := dk_180 0 9 (dk_at dksX3_lay_1 10 rfl rfl)
theorem dX3_lay_37 : decode cX3_lay 37 = .ok (.iconst 4, 1) := dk_7 (dk_at dksX3_lay_1 13 rfl rfl)
theorem dX3_lay_38 : decode cX3_lay 38 = .ok (.iload 5, 2) := dk_21 5 (dk_at dksX3_lay_1 14 rfl rfl)
theorem dX3_lay_40 : decode cX3_lay 40 = .ok (.i2l, 1) := dk_133 (dk_at dksX3_lay_1 16 rfl rfl)
theorem dX3_lay_41 : decode cX3_lay 41 = .ok (.lastore, 1) := dk_80 (dk_at dksX3_lay_1 17 rfl rfl)
theorem dX3_lay_42 : decode cX3_lay 42 = .ok (.aload_n 0, 1) := dk_42 (dk_at dksX3_lay_1 18 rfl rfl)
theorem dX3_lay_43 : decode cX3_lay 43 = .ok (.getfield 9, 3) := dk_180 0 9 (dk_at dksX3_lay_1 19 rfl rfl)
theorem dX3_lay_46 : decode cX3_lay 46 = .ok (.iconst 5, 1) := dk_8 (dk_at dksX3_lay_1 22 rfl rfl)
theorem dX3_lay_47 : decode cX3_lay 47 = .ok (.iload 6, 2) := dk_21 6 (dk_at dksX3_lay_2 0 rfl rfl)
theorem dX3_lay_49 : decode cX3_lay 49 = .ok (.i2l, 1) := dk_133 (dk_at dksX3_lay_2 2 rfl rfl)
theorem dX3_lay_50 : decode cX3_lay 50 = .ok (.lastore, 1) := dk_80 (dk_at dksX3_lay_2 3 rfl rfl)
theorem dX3_lay_51 : decode cX3_lay 51 = .ok (.aload_n 0, 1) := dk_42 (dk_at dksX3_lay_2 4 rfl rfl)
theorem dX3_lay_52 : decode cX3_lay 52 = .ok (.iconst 0, 1) := dk_3 (dk_at dksX3_lay_2 5 rfl rfl)
theorem dX3_lay_53 : decode cX3_lay 53 = .ok (.putfield 15, 3) := dk_181 0 15 (dk_at dksX3_lay_2 6 rfl rfl)
theorem dX3_lay_56 : decode cX3_lay 56 = .ok (.return_, 1) := dk_177 (dk_at dksX3_lay_2 9 rfl rfl)
abbrev cX3_inBound : ByteArray := prog_19_method_3_code
def yX3_inBound : MethodName := ⟨RX3, "inBound", "(J)J"⟩
def dkwX3_inBound_1 : List UInt8 := [181, 0, 15, 42, 180, 0, 15, 153, 0, 7, 9, 167, 0, 4, 31, 173]
abbrev dktX3_inBound_1 : List UInt8 := dkwX3_inBound_1 ++ []
def dkwX3_inBound_0 : List UInt8 := [42, 42, 180, 0, 15, 154, 0, 14, 31, 184, 0, 19, 20, 0, 25, 148, 158, 0, 7, 4, 167, 0, 4, 3]
abbrev dktX3_inBound_0 : List UInt8 := dkwX3_inBound_0 ++ dktX3_inBound_1
theorem dksX3_inBound_0 : cX3_inBound.data.toList.drop 0 = dktX3_inBound_0 := by decide +kernel
theorem dksX3_inBound_1 : cX3_inBound.data.toList.drop 24 = dktX3_inBound_1 := dk_seg dksX3_inBound_0 24 rfl rfl
theorem dX3_inBound_0 : decode cX3_inBound 0 = .ok (.aload_n 0, 1) := dk_42 (dk_at dksX3_inBound_0 0 rfl rfl)
theorem dX3_inBound_1 : decode cX3_inBound 1 = .ok (.aload_n 0, 1) := dk_42 (dk_at dksX3_inBound_0 1 rfl rfl)
theorem dX3_inBound_2 : decode cX3_inBound 2 = .ok (.getfield 15, 3) := dk_180 0 15 (dk_at dksX3_inBound_0 2 rfl rfl)
theorem dX3_inBound_5 : decode cX3_inBound 5 = .ok (.ifCond .ne 14, 3) := dk_154 0 14 (dk_at dksX3_inBound_0 5 rfl rfl)
theorem dX3_inBound_8 : decode cX3_inBound 8 = .ok (.lload_n 1, 1) := dk_31 (dk_at dksX3_inBound_0 8 rfl rfl)
theorem dX3_inBound_9 : decode cX3_inBound 9 = .ok (.invokestatic 19, 3) := dk_184 0 19 (dk_at dksX3_inBound_0 9 rfl rfl)
theorem dX3_inBound_12 : decode cX3_inBound 12 = .ok (.ldc2_w 25, 3) := dk_20 0 25 (dk_at dksX3_inBound_0 12 rfl rfl)
theorem dX3_inBound_15 : decode cX3_inBound 15 = .ok (.lcmp, 1) := dk_148 (dk_at dksX3_inBound_0 15 rfl rfl)
theorem dX3_inBound_16 : decode cX3_inBound 16 = .ok (.ifCond .le 7, 3) := dk_158 0 7 (dk_at dksX3_inBound_0 16 rfl rfl)
theorem dX3_inBound_19 : decode cX3_inBound 19 = .ok (.iconst 1, 1) := dk_4 (dk_at dksX3_inBound_0 19 rfl rfl)
theorem dX3_inBound_20 : decode cX3_inBound 20 = .ok (.goto 4, 3) := dk_167 0 4 (dk_at dksX3_inBound_0 20 rfl rfl)
theorem dX3_inBound_23 : decode cX3_inBound 23 = .ok (.iconst 0, 1) := dk_3 (dk_at dksX3_inBound_0 23 rfl rfl)
theorem dX3_inBound_24 : decode cX3_inBound 24 = .ok (.putfield 15, 3) := dk_181 0 15 (dk_at dksX3_inBound_1 0 rfl rfl)
theorem dX3_inBound_27 : decode cX3_inBound 27 = .ok (.aload_n 0, 1) := dk_42 (dk_at dksX3_inBound_1 3 rfl rfl)
theorem dX3_inBound_28 : decode cX3_inBound 28 = .ok (.getfield 15, 3) := dk_180 0 15 (dk_at dksX3_inBound_1 4 rfl rfl)
theorem dX3_inBound_31 : decode cX3_inBound 31 = .ok (.ifCond .eq 7, 3) := dk_153 0 7 (dk_at dksX3_inBound_1 7 rfl rfl)
theorem dX3_inBound_34 : decode cX3_inBound 34 = .ok (.lconst 0, 1) := dk_9 (dk_at dksX3_inBound_1 10 rfl rfl)
theorem dX3_inBound_35 : decode cX3_inBound 35 = .ok (.goto 4, 3) := dk_167 0 4 (dk_at dksX3_inBound_1 11 rfl rfl)
theorem dX3_inBound_38 : decode cX3_inBound 38 = .ok (.lload_n 1, 1) := dk_31 (dk_at dksX3_inBound_1 14 rfl rfl)
theorem dX3_inBound_39 : decode cX3_inBound 39 = .ok (.lreturn, 1) := dk_173 (dk_at dksX3_inBound_1 15 rfl rfl)
theorem q166 : (Jvm.Cond.initialized "MinistryDesks$Scene") ∈ lw_all := lw_g (lw_at lw_m1 6 rfl) rfl
theorem q304 : (Jvm.Cond.instantiable "MinistryDesks$Scene" (2 : Nat)) ∈ lw_all := lw_g (lw_at lw_m1 144 rfl) rfl
theorem q306 : (Jvm.Cond.instanceMethod ({ cls := "MinistryDesks$Scene", name := "<init>", desc := "()V" } : Jvm.MethodName)) ∈ lw_all := lw_g (lw_at lw_m1 146 rfl) rfl
theorem q307 : (Jvm.Cond.code ({ cls := "MinistryDesks$Scene", name := "<init>", desc := "()V" } : Jvm.MethodName) prog_19_method_1_code (1 : Nat) (Option.none : Option Jvm.ClassFile.FieldType)) ∈ lw_all := lw_g (lw_at lw_m1 147 rfl) rfl
theorem q308 : (Jvm.Cond.methodLink "MinistryDesks$Scene" (3 : Nat) ({ cls := "java/lang/Object", name := "<init>", desc := "()V" } : Jvm.MethodName)) ∈ lw_all := lw_g (lw_at lw_m1 148 rfl) rfl
theorem q309 : (Jvm.Cond.fieldLink "MinistryDesks$Scene" (9 : Nat) "MinistryDesks$Scene" "names" "[J") ∈ lw_all := lw_g (lw_at lw_m1 149 rfl) rfl
theorem q311 : (Jvm.Cond.fieldLink "MinistryDesks$Scene" (15 : Nat) "MinistryDesks$Scene" "error" "Z") ∈ lw_all := lw_g (lw_at lw_m1 151 rfl) rfl
theorem q314 : (Jvm.Cond.laysFinal "MinistryDesks$Scene" "MinistryDesks$Scene" "names" "[J") ∈ lw_all := lw_g (lw_at lw_m1 154 rfl) rfl
theorem q315 : (Jvm.Cond.soleField "MinistryDesks$Scene" "names") ∈ lw_all := lw_g (lw_at lw_m1 155 rfl) rfl
theorem q316 : (Jvm.Cond.lays "MinistryDesks$Scene" "MinistryDesks$Scene" "error" "Z") ∈ lw_all := lw_g (lw_at lw_m1 156 rfl) rfl
theorem q317 : (Jvm.Cond.soleField "MinistryDesks$Scene" "error") ∈ lw_all := lw_g (lw_at lw_m1 157 rfl) rfl
theorem q318 : (Jvm.Cond.superclass "MinistryDesks$Scene" "java/lang/Object") ∈ lw_all := lw_g (lw_at lw_m1 158 rfl) rfl
theorem q913 : (Jvm.Cond.selects "MinistryDesks$Scene" ({ cls := "java/lang/Object", name := "getClass", desc := "()Ljava/lang/Class;" } : Jvm.MethodName) ({ cls := "java/lang/Object", name := "getClass", desc := "()Ljava/lang/Class;" } : Jvm.MethodName)) ∈ lw_all := lw_g (lw_at lw_m4 33 rfl) rfl
theorem q1179 : (Jvm.Cond.instanceMethod ({ cls := "MinistryDesks$Scene", name := "lay", desc := "(IIIIII)V" } : Jvm.MethodName)) ∈ lw_all := lw_g (lw_at lw_m5 59 rfl) rfl
theorem q1180 : (Jvm.Cond.selects "MinistryDesks$Scene" ({ cls := "MinistryDesks$Scene", name := "lay", desc := "(IIIIII)V" } : Jvm.MethodName) ({ cls := "MinistryDesks$Scene", name := "lay", desc := "(IIIIII)V" } : Jvm.MethodName)) ∈ lw_all := lw_g (lw_at lw_m5 60 rfl) rfl
theorem q1181 : (Jvm.Cond.code ({ cls := "MinistryDesks$Scene", name := "lay", desc := "(IIIIII)V" } : Jvm.MethodName) prog_19_method_2_code (7 : Nat) (Option.none : Option Jvm.ClassFile.FieldType)) ∈ lw_all := lw_g (lw_at lw_m5 61 rfl) rfl
theorem q1233 : (Jvm.Cond.instanceMethod ({ cls := "MinistryDesks$Scene", name := "inBound", desc := "(J)J" } : Jvm.MethodName)) ∈ lw_all := lw_g (lw_at lw_m5 113 rfl) rfl
theorem q1234 : (Jvm.Cond.selects "MinistryDesks$Scene" ({ cls := "MinistryDesks$Scene", name := "inBound", desc := "(J)J" } : Jvm.MethodName) ({ cls := "MinistryDesks$Scene", name := "inBound", desc := "(J)J" } : Jvm.MethodName)) ∈ lw_all := lw_g (lw_at lw_m5 114 rfl) rfl
theorem q1235 : (Jvm.Cond.code ({ cls := "MinistryDesks$Scene", name := "inBound", desc := "(J)J" } : Jvm.MethodName) prog_19_method_3_code (3 : Nat) (Option.some Jvm.ClassFile.FieldType.long)) ∈ lw_all := lw_g (lw_at lw_m5 115 rfl) rfl
theorem q1236 : (Jvm.Cond.methodLink "MinistryDesks$Scene" (19 : Nat) ({ cls := "java/lang/Math", name := "abs", desc := "(J)J" } : Jvm.MethodName)) ∈ lw_all := lw_g (lw_at lw_m5 116 rfl) rfl
theorem q1239 : (Jvm.Cond.constantLong "MinistryDesks$Scene" (25 : Nat) (1000000000000 : Int64)) ∈ lw_all := lw_g (lw_at lw_m5 119 rfl) rfl
theorem q2406 : (Jvm.Cond.castable "MinistryDesks$Scene" "java/lang/Object") ∈ lw_tbl := lw_at lw_m10 86 rfl
theorem in_X3 : ∀ w ∈ wsX30, w ∈ lw_all := lw_in wsX30 [314, 316] (by decide +kernel) (by decide +kernel)

abbrev cX4_init : ByteArray := prog_2_method_1_code
def yX4_init : MethodName := ⟨RX4, "<init>", "()V"⟩
def dkwX4_init_0 : List UInt8 := [42, 183, 0, 3, 42, 2, 181, 0, 9, 42, 2, 181, 0, 15, 177]
abbrev dktX4_init_0 : List UInt8 := dkwX4_init_0 ++ []
theorem dksX4_init_0 : cX4_init.data.toList.drop 0 = dktX4_init_0 := by decide +kernel
theorem dX4_init_0 : decode cX4_init 0 = .ok (.aload_n 0, 1) := dk_42 (dk_at dksX4_init_0 0 rfl rfl)
theorem dX4_init_1 : decode cX4_init 1 = .ok (.invokespecial 3, 3) := dk_183 0 3 (dk_at dksX4_init_0 1 rfl rfl)
theorem dX4_init_4 : decode cX4_init 4 = .ok (.aload_n 0, 1) := dk_42 (dk_at dksX4_init_0 4 rfl rfl)
theorem dX4_init_5 : decode cX4_init 5 = .ok (.iconst (-1), 1) := dk_2 (dk_at dksX4_init_0 5 rfl rfl)
theorem dX4_init_6 : decode cX4_init 6 = .ok (.putfield 9, 3) := dk_181 0 9 (dk_at dksX4_init_0 6 rfl rfl)
theorem dX4_init_9 : decode cX4_init 9 = .ok (.aload_n 0, 1) := dk_42 (dk_at dksX4_init_0 9 rfl rfl)
theorem dX4_init_10 : decode cX4_init 10 = .ok (.iconst (-1), 1) := dk_2 (dk_at dksX4_init_0 10 rfl rfl)
theorem dX4_init_11 : decode cX4_init 11 = .ok (.putfield 15, 3) := dk_181 0 15 (dk_at dksX4_init_0 11 rfl rfl)
theorem dX4_init_14 : decode cX4_init 14 = .ok (.return_, 1) := dk_177 (dk_at dksX4_init_0 14 rfl rfl)
abbrev cX4_clear : ByteArray := prog_2_method_2_code
def yX4_clear : MethodName := ⟨RX4, "clear", "(LMinistryDesks$Node;)LMinistryDesks$Change;"⟩
def dkwX4_clear_1 : List UInt8 := [181, 0, 32, 42, 2, 181, 0, 9, 42, 2, 181, 0, 15, 42, 176]
abbrev dktX4_clear_1 : List UInt8 := dkwX4_clear_1 ++ []
def dkwX4_clear_0 : List UInt8 := [42, 43, 181, 0, 18, 42, 3, 181, 0, 22, 42, 3, 181, 0, 26, 42, 3, 181, 0, 29, 42, 3]
abbrev dktX4_clear_0 : List UInt8 := dkwX4_clear_0 ++ dktX4_clear_1
theorem dksX4_clear_0 : cX4_clear.data.toList.drop 0 = dktX4_clear_0 := by decide +kernel
theorem dksX4_clear_1 : cX4_clear.data.toList.drop 22 = dktX4_clear_1 := dk_seg dksX4_clear_0 22 rfl rfl
theorem dX4_clear_0 : decode cX4_clear 0 = .ok (.aload_n 0, 1) := dk_42 (dk_at dksX4_clear_0 0 rfl rfl)
theorem dX4_clear_1 : decode cX4_clear 1 = .ok (.aload_n 1, 1) := dk_43 (dk_at dksX4_clear_0 1 rfl rfl)
theorem dX4_clear_2 : decode cX4_clear 2 = .ok (.putfield 18, 3) := dk_181 0 18 (dk_at dksX4_clear_0 2 rfl rfl)
theorem dX4_clear_5 : decode cX4_clear 5 = .ok (.aload_n 0, 1) := dk_42 (dk_at dksX4_clear_0 5 rfl rfl)
theorem dX4_clear_6 : decode cX4_clear 6 = .ok (.iconst 0, 1) := dk_3 (dk_at dksX4_clear_0 6 rfl rfl)
theorem dX4_clear_7 : decode cX4_clear 7 = .ok (.putfield 22, 3) := dk_181 0 22 (dk_at dksX4_clear_0 7 rfl rfl)
theorem dX4_clear_10 : decode cX4_clear 10 = .ok (.aload_n 0, 1) := dk_42 (dk_at dksX4_clear_0 10 rfl rfl)
theorem dX4_clear_11 : decode cX4_clear 11 = .ok (.iconst 0, 1) := dk_3 (dk_at dksX4_clear_0 11 rfl rfl)
theorem dX4_clear_12 : decode cX4_clear 12 = .ok (.putfield 26, 3) := dk_181 0 26 (dk_at dksX4_clear_0 12 rfl rfl)
theorem dX4_clear_15 : decode cX4_clear 15 = .ok (.aload_n 0, 1) := dk_42 (dk_at dksX4_clear_0 15 rfl rfl)
theorem dX4_clear_16 : decode cX4_clear 16 = .ok (.iconst 0, 1) := dk_3 (dk_at dksX4_clear_0 16 rfl rfl)
theorem dX4_clear_17 : decode cX4_clear 17 = .ok (.putfield 29, 3) := dk_181 0 29 (dk_at dksX4_clear_0 17 rfl rfl)
theorem dX4_clear_20 : decode cX4_clear 20 = .ok (.aload_n 0, 1) := dk_42 (dk_at dksX4_clear_0 20 rfl rfl)
theorem dX4_clear_21 : decode cX4_clear 21 = .ok (.iconst 0, 1) := dk_3 (dk_at dksX4_clear_0 21 rfl rfl)
theorem dX4_clear_22 : decode cX4_clear 22 = .ok (.putfield 32, 3) := dk_181 0 32 (dk_at dksX4_clear_1 0 rfl rfl)
theorem dX4_clear_25 : decode cX4_clear 25 = .ok (.aload_n 0, 1) := dk_42 (dk_at dksX4_clear_1 3 rfl rfl)
theorem dX4_clear_26 : decode cX4_clear 26 = .ok (.iconst (-1), 1) := dk_2 (dk_at dksX4_clear_1 4 rfl rfl)
theorem dX4_clear_27 : decode cX4_clear 27 = .ok (.putfield 9, 3) := dk_181 0 9 (dk_at dksX4_clear_1 5 rfl rfl)
theorem dX4_clear_30 : decode cX4_clear 30 = .ok (.aload_n 0, 1) := dk_42 (dk_at dksX4_clear_1 8 rfl rfl)
theorem dX4_clear_31 : decode cX4_clear 31 = .ok (.iconst (-1), 1) := dk_2 (dk_at dksX4_clear_1 9 rfl rfl)
theorem dX4_clear_32 : decode cX4_clear 32 = .ok (.putfield 15, 3) := dk_181 0 15 (dk_at dksX4_clear_1 10 rfl rfl)
theorem dX4_clear_35 : decode cX4_clear 35 = .ok (.aload_n 0, 1) := dk_42 (dk_at dksX4_clear_1 13 rfl rfl)
theorem dX4_clear_36 : decode cX4_clear 36 = .ok (.areturn, 1) := dk_176 (dk_at dksX4_clear_1 14 rfl rfl)
theorem q167 : (Jvm.Cond.initialized "MinistryDesks$Change") ∈ lw_all := lw_g (lw_at lw_m1 7 rfl) rfl
theorem q321 : (Jvm.Cond.instantiable "MinistryDesks$Change" (7 : Nat)) ∈ lw_all := lw_g (lw_at lw_m1 161 rfl) rfl
theorem q323 : (Jvm.Cond.instanceMethod ({ cls := "MinistryDesks$Change", name := "<init>", desc := "()V" } : Jvm.MethodName)) ∈ lw_all := lw_g (lw_at lw_m1 163 rfl) rfl
theorem q324 : (Jvm.Cond.code ({ cls := "MinistryDesks$Change", name := "<init>", desc := "()V" } : Jvm.MethodName) prog_2_method_1_code (1 : Nat) (Option.none : Option Jvm.ClassFile.FieldType)) ∈ lw_all := lw_g (lw_at lw_m1 164 rfl) rfl
theorem q325 : (Jvm.Cond.methodLink "MinistryDesks$Change" (3 : Nat) ({ cls := "java/lang/Object", name := "<init>", desc := "()V" } : Jvm.MethodName)) ∈ lw_all := lw_g (lw_at lw_m1 165 rfl) rfl
theorem q326 : (Jvm.Cond.fieldLink "MinistryDesks$Change" (18 : Nat) "MinistryDesks$Change" "keep" "LMinistryDesks$Node;") ∈ lw_all := lw_g (lw_at lw_m1 166 rfl) rfl
theorem q329 : (Jvm.Cond.fieldLink "MinistryDesks$Change" (22 : Nat) "MinistryDesks$Change" "nobodyAsks" "Z") ∈ lw_all := lw_g (lw_at lw_m1 169 rfl) rfl
theorem q332 : (Jvm.Cond.fieldLink "MinistryDesks$Change" (26 : Nat) "MinistryDesks$Change" "noFires" "Z") ∈ lw_all := lw_g (lw_at lw_m1 172 rfl) rfl
theorem q335 : (Jvm.Cond.fieldLink "MinistryDesks$Change" (29 : Nat) "MinistryDesks$Change" "more" "Z") ∈ lw_all := lw_g (lw_at lw_m1 175 rfl) rfl
theorem q338 : (Jvm.Cond.fieldLink "MinistryDesks$Change" (32 : Nat) "MinistryDesks$Change" "firstGoes" "Z") ∈ lw_all := lw_g (lw_at lw_m1 178 rfl) rfl
theorem q341 : (Jvm.Cond.fieldLink "MinistryDesks$Change" (9 : Nat) "MinistryDesks$Change" "silent" "I") ∈ lw_all := lw_g (lw_at lw_m1 181 rfl) rfl
theorem q344 : (Jvm.Cond.fieldLink "MinistryDesks$Change" (15 : Nat) "MinistryDesks$Change" "without" "I") ∈ lw_all := lw_g (lw_at lw_m1 184 rfl) rfl
theorem q347 : (Jvm.Cond.lays "MinistryDesks$Change" "MinistryDesks$Change" "keep" "LMinistryDesks$Node;") ∈ lw_all := lw_g (lw_at lw_m1 187 rfl) rfl
theorem q348 : (Jvm.Cond.soleField "MinistryDesks$Change" "keep") ∈ lw_all := lw_g (lw_at lw_m1 188 rfl) rfl
theorem q349 : (Jvm.Cond.lays "MinistryDesks$Change" "MinistryDesks$Change" "nobodyAsks" "Z") ∈ lw_all := lw_g (lw_at lw_m1 189 rfl) rfl
theorem q350 : (Jvm.Cond.soleField "MinistryDesks$Change" "nobodyAsks") ∈ lw_all := lw_g (lw_at lw_m1 190 rfl) rfl
theorem q351 : (Jvm.Cond.lays "MinistryDesks$Change" "MinistryDesks$Change" "noFires" "Z") ∈ lw_all := lw_g (lw_at lw_m1 191 rfl) rfl
theorem q352 : (Jvm.Cond.soleField "MinistryDesks$Change" "noFires") ∈ lw_all := lw_g (lw_at lw_m1 192 rfl) rfl
theorem q353 : (Jvm.Cond.lays "MinistryDesks$Change" "MinistryDesks$Change" "more" "Z") ∈ lw_all := lw_g (lw_at lw_m1 193 rfl) rfl
theorem q354 : (Jvm.Cond.soleField "MinistryDesks$Change" "more") ∈ lw_all := lw_g (lw_at lw_m1 194 rfl) rfl
theorem q355 : (Jvm.Cond.lays "MinistryDesks$Change" "MinistryDesks$Change" "firstGoes" "Z") ∈ lw_all := lw_g (lw_at lw_m1 195 rfl) rfl
theorem q356 : (Jvm.Cond.soleField "MinistryDesks$Change" "firstGoes") ∈ lw_all := lw_g (lw_at lw_m1 196 rfl) rfl
theorem q357 : (Jvm.Cond.lays "MinistryDesks$Change" "MinistryDesks$Change" "silent" "I") ∈ lw_all := lw_g (lw_at lw_m1 197 rfl) rfl
theorem q358 : (Jvm.Cond.soleField "MinistryDesks$Change" "silent") ∈ lw_all := lw_g (lw_at lw_m1 198 rfl) rfl
theorem q359 : (Jvm.Cond.lays "MinistryDesks$Change" "MinistryDesks$Change" "without" "I") ∈ lw_all := lw_g (lw_at lw_m1 199 rfl) rfl
theorem q360 : (Jvm.Cond.soleField "MinistryDesks$Change" "without") ∈ lw_all := lw_g (lw_at lw_m1 200 rfl) rfl
theorem q361 : (Jvm.Cond.superclass "MinistryDesks$Change" "java/lang/Object") ∈ lw_all := lw_g (lw_at lw_m1 201 rfl) rfl
theorem q897 : (Jvm.Cond.selects "MinistryDesks$Change" ({ cls := "java/lang/Object", name := "getClass", desc := "()Ljava/lang/Class;" } : Jvm.MethodName) ({ cls := "java/lang/Object", name := "getClass", desc := "()Ljava/lang/Class;" } : Jvm.MethodName)) ∈ lw_all := lw_g (lw_at lw_m4 17 rfl) rfl
theorem q1567 : (Jvm.Cond.instanceMethod ({ cls := "MinistryDesks$Change", name := "clear", desc := "(LMinistryDesks$Node;)LMinistryDesks$Change;" } : Jvm.MethodName)) ∈ lw_all := lw_g (lw_at lw_m6 207 rfl) rfl
theorem q1568 : (Jvm.Cond.selects "MinistryDesks$Change" ({ cls := "MinistryDesks$Change", name := "clear", desc := "(LMinistryDesks$Node;)LMinistryDesks$Change;" } : Jvm.MethodName) ({ cls := "MinistryDesks$Change", name := "clear", desc := "(LMinistryDesks$Node;)LMinistryDesks$Change;" } : Jvm.MethodName)) ∈ lw_all := lw_g (lw_at lw_m6 208 rfl) rfl
theorem q1569 : (Jvm.Cond.code ({ cls := "MinistryDesks$Change", name := "clear", desc := "(LMinistryDesks$Node;)LMinistryDesks$Change;" } : Jvm.MethodName) prog_2_method_2_code (2 : Nat) (Option.some (Jvm.ClassFile.FieldType.object "MinistryDesks$Change"))) ∈ lw_all := lw_g (lw_at lw_m6 209 rfl) rfl
theorem q2407 : (Jvm.Cond.castable "MinistryDesks$Change" "java/lang/Object") ∈ lw_tbl := lw_at lw_m10 87 rfl
theorem in_X4 : ∀ w ∈ wsX40, w ∈ lw_all := lw_in wsX40 [347, 349, 351, 353, 355, 357, 359] (by decide +kernel) (by decide +kernel)

abbrev cX8_init : ByteArray := prog_9_method_1_code
def yX8_init : MethodName := ⟨RX8, "<init>", "(II)V"⟩
def dkwX8_init_0 : List UInt8 := [42, 1, 1, 3, 3, 183, 0, 1, 42, 27, 181, 0, 7, 42, 28, 181, 0, 13, 177]
abbrev dktX8_init_0 : List UInt8 := dkwX8_init_0 ++ []
theorem dksX8_init_0 : cX8_init.data.toList.drop 0 = dktX8_init_0 := by decide +kernel
theorem dX8_init_0 : decode cX8_init 0 = .ok (.aload_n 0, 1) := dk_42 (dk_at dksX8_init_0 0 rfl rfl)
theorem dX8_init_1 : decode cX8_init 1 = .ok (.aconst_null, 1) := dk_1 (dk_at dksX8_init_0 1 rfl rfl)
theorem dX8_init_2 : decode cX8_init 2 = .ok (.aconst_null, 1) := dk_1 (dk_at dksX8_init_0 2 rfl rfl)
theorem dX8_init_3 : decode cX8_init 3 = .ok (.iconst 0, 1) := dk_3 (dk_at dksX8_init_0 3 rfl rfl)
theorem dX8_init_4 : decode cX8_init 4 = .ok (.iconst 0, 1) := dk_3 (dk_at dksX8_init_0 4 rfl rfl)
theorem dX8_init_5 : decode cX8_init 5 = .ok (.invokespecial 1, 3) := dk_183 0 1 (dk_at dksX8_init_0 5 rfl rfl)
theorem dX8_init_8 : decode cX8_init 8 = .ok (.aload_n 0, 1) := dk_42 (dk_at dksX8_init_0 8 rfl rfl)
theorem dX8_init_9 : decode cX8_init 9 = .ok (.iload_n 1, 1) := dk_27 (dk_at dksX8_init_0 9 rfl rfl)
theorem dX8_init_10 : decode cX8_init 10 = .ok (.putfield 7, 3) := dk_181 0 7 (dk_at dksX8_init_0 10 rfl rfl)
theorem dX8_init_13 : decode cX8_init 13 = .ok (.aload_n 0, 1) := dk_42 (dk_at dksX8_init_0 13 rfl rfl)
theorem dX8_init_14 : decode cX8_init 14 = .ok (.iload_n 2, 1) := dk_28 (dk_at dksX8_init_0 14 rfl rfl)
theorem dX8_init_15 : decode cX8_init 15 = .ok (.putfield 13, 3) := dk_181 0 13 (dk_at dksX8_init_0 15 rfl rfl)
theorem dX8_init_18 : decode cX8_init 18 = .ok (.return_, 1) := dk_177 (dk_at dksX8_init_0 18 rfl rfl)
theorem q179 : (Jvm.Cond.initialized "MinistryDesks$Fault") ∈ lw_all := lw_g (lw_at lw_m1 19 rfl) rfl
theorem q729 : (Jvm.Cond.instantiable "MinistryDesks$Fault" (8 : Nat)) ∈ lw_all := lw_g (lw_at lw_m3 89 rfl) rfl
theorem q730 : (Jvm.Cond.castable "MinistryDesks$Fault" "MinistryDesks$Fault") ∈ lw_tbl := lw_at lw_m3 90 rfl
theorem q735 : (Jvm.Cond.selects "MinistryDesks$Fault" ({ cls := "java/lang/Throwable", name := "fillInStackTrace", desc := "(I)Ljava/lang/Throwable;" } : Jvm.MethodName) ({ cls := "java/lang/Throwable", name := "fillInStackTrace", desc := "(I)Ljava/lang/Throwable;" } : Jvm.MethodName)) ∈ lw_all := lw_g (lw_at lw_m3 95 rfl) rfl
theorem q736 : (Jvm.Cond.selects "MinistryDesks$Fault" ({ cls := "java/lang/Throwable", name := "fillInStackTrace", desc := "()Ljava/lang/Throwable;" } : Jvm.MethodName) ({ cls := "java/lang/Throwable", name := "fillInStackTrace", desc := "()Ljava/lang/Throwable;" } : Jvm.MethodName)) ∈ lw_all := lw_g (lw_at lw_m3 96 rfl) rfl
theorem q737 : (Jvm.Cond.lays "MinistryDesks$Fault" "java/lang/Throwable" "cause" "Ljava/lang/Throwable;") ∈ lw_all := lw_g (lw_at lw_m3 97 rfl) rfl
theorem q739 : (Jvm.Cond.lays "MinistryDesks$Fault" "java/lang/Throwable" "stackTrace" "[Ljava/lang/StackTraceElement;") ∈ lw_all := lw_g (lw_at lw_m3 99 rfl) rfl
theorem q741 : (Jvm.Cond.lays "MinistryDesks$Fault" "java/lang/Throwable" "suppressedExceptions" "Ljava/util/List;") ∈ lw_all := lw_g (lw_at lw_m3 101 rfl) rfl
theorem q743 : (Jvm.Cond.lays "MinistryDesks$Fault" "java/lang/Throwable" "detailMessage" "Ljava/lang/String;") ∈ lw_all := lw_g (lw_at lw_m3 103 rfl) rfl
theorem q745 : (Jvm.Cond.lays "MinistryDesks$Fault" "java/lang/Throwable" "backtrace" "Ljava/lang/Object;") ∈ lw_all := lw_g (lw_at lw_m3 105 rfl) rfl
theorem q769 : (Jvm.Cond.instanceMethod ({ cls := "MinistryDesks$Fault", name := "<init>", desc := "(II)V" } : Jvm.MethodName)) ∈ lw_all := lw_g (lw_at lw_m3 129 rfl) rfl
theorem q770 : (Jvm.Cond.code ({ cls := "MinistryDesks$Fault", name := "<init>", desc := "(II)V" } : Jvm.MethodName) prog_9_method_1_code (3 : Nat) (Option.none : Option Jvm.ClassFile.FieldType)) ∈ lw_all := lw_g (lw_at lw_m3 130 rfl) rfl
theorem q771 : (Jvm.Cond.methodLink "MinistryDesks$Fault" (1 : Nat) ({ cls := "java/lang/Exception", name := "<init>", desc := "(Ljava/lang/String;Ljava/lang/Throwable;ZZ)V" } : Jvm.MethodName)) ∈ lw_all := lw_g (lw_at lw_m3 131 rfl) rfl
theorem q777 : (Jvm.Cond.fieldLink "MinistryDesks$Fault" (7 : Nat) "MinistryDesks$Fault" "kind" "I") ∈ lw_all := lw_g (lw_at lw_m3 137 rfl) rfl
theorem q779 : (Jvm.Cond.fieldLink "MinistryDesks$Fault" (13 : Nat) "MinistryDesks$Fault" "place" "I") ∈ lw_all := lw_g (lw_at lw_m3 139 rfl) rfl
theorem q786 : (Jvm.Cond.laysFinal "MinistryDesks$Fault" "MinistryDesks$Fault" "kind" "I") ∈ lw_all := lw_g (lw_at lw_m3 146 rfl) rfl
theorem q787 : (Jvm.Cond.soleField "MinistryDesks$Fault" "kind") ∈ lw_all := lw_g (lw_at lw_m3 147 rfl) rfl
theorem q788 : (Jvm.Cond.laysFinal "MinistryDesks$Fault" "MinistryDesks$Fault" "place" "I") ∈ lw_all := lw_g (lw_at lw_m3 148 rfl) rfl
theorem q789 : (Jvm.Cond.soleField "MinistryDesks$Fault" "place") ∈ lw_all := lw_g (lw_at lw_m3 149 rfl) rfl
theorem q794 : (Jvm.Cond.lays "MinistryDesks$Fault" "java/lang/Throwable" "depth" "I") ∈ lw_all := lw_g (lw_at lw_m3 154 rfl) rfl
theorem q797 : (Jvm.Cond.superclass "MinistryDesks$Fault" "java/lang/Exception") ∈ lw_all := lw_g (lw_at lw_m3 157 rfl) rfl
theorem q904 : (Jvm.Cond.selects "MinistryDesks$Fault" ({ cls := "java/lang/Object", name := "getClass", desc := "()Ljava/lang/Class;" } : Jvm.MethodName) ({ cls := "java/lang/Object", name := "getClass", desc := "()Ljava/lang/Class;" } : Jvm.MethodName)) ∈ lw_all := lw_g (lw_at lw_m4 24 rfl) rfl
theorem q2411 : (Jvm.Cond.castable "MinistryDesks$Fault" "java/lang/Object") ∈ lw_tbl := lw_at lw_m10 91 rfl
theorem in_X8 : ∀ w ∈ wsX80, w ∈ lw_all := lw_in wsX80 [737, 739, 741, 743, 745, 794, 786, 788] (by decide +kernel) (by decide +kernel)

abbrev cX9_init : ByteArray := prog_7_method_1_code
def yX9_init : MethodName := ⟨RX9, "<init>", "(II)V"⟩
def dkwX9_init_0 : List UInt8 := [42, 183, 0, 3, 42, 2, 181, 0, 9, 42, 27, 181, 0, 15, 42, 28, 181, 0, 18, 177]
abbrev dktX9_init_0 : List UInt8 := dkwX9_init_0 ++ []
theorem dksX9_init_0 : cX9_init.data.toList.drop 0 = dktX9_init_0 := by decide +kernel
theorem dX9_init_0 : decode cX9_init 0 = .ok (.aload_n 0, 1) := dk_42 (dk_at dksX9_init_0 0 rfl rfl)
theorem dX9_init_1 : decode cX9_init 1 = .ok (.invokespecial 3, 3) := dk_183 0 3 (dk_at dksX9_init_0 1 rfl rfl)
theorem dX9_init_4 : decode cX9_init 4 = .ok (.aload_n 0, 1) := dk_42 (dk_at dksX9_init_0 4 rfl rfl)
theorem dX9_init_5 : decode cX9_init 5 = .ok (.iconst (-1), 1) := dk_2 (dk_at dksX9_init_0 5 rfl rfl)
theorem dX9_init_6 : decode cX9_init 6 = .ok (.putfield 9, 3) := dk_181 0 9 (dk_at dksX9_init_0 6 rfl rfl)
theorem dX9_init_9 : decode cX9_init 9 = .ok (.aload_n 0, 1) := dk_42 (dk_at dksX9_init_0 9 rfl rfl)
theorem dX9_init_10 : decode cX9_init 10 = .ok (.iload_n 1, 1) := dk_27 (dk_at dksX9_init_0 10 rfl rfl)
theorem dX9_init_11 : decode cX9_init 11 = .ok (.putfield 15, 3) := dk_181 0 15 (dk_at dksX9_init_0 11 rfl rfl)
theorem dX9_init_14 : decode cX9_init 14 = .ok (.aload_n 0, 1) := dk_42 (dk_at dksX9_init_0 14 rfl rfl)
theorem dX9_init_15 : decode cX9_init 15 = .ok (.iload_n 2, 1) := dk_28 (dk_at dksX9_init_0 15 rfl rfl)
theorem dX9_init_16 : decode cX9_init 16 = .ok (.putfield 18, 3) := dk_181 0 18 (dk_at dksX9_init_0 16 rfl rfl)
theorem dX9_init_19 : decode cX9_init 19 = .ok (.return_, 1) := dk_177 (dk_at dksX9_init_0 19 rfl rfl)
theorem q181 : (Jvm.Cond.initialized "MinistryDesks$Desk") ∈ lw_all := lw_g (lw_at lw_m1 21 rfl) rfl
theorem q841 : (Jvm.Cond.instantiable "MinistryDesks$Desk" (3 : Nat)) ∈ lw_all := lw_g (lw_at lw_m3 201 rfl) rfl
theorem q847 : (Jvm.Cond.instanceMethod ({ cls := "MinistryDesks$Desk", name := "<init>", desc := "(II)V" } : Jvm.MethodName)) ∈ lw_all := lw_g (lw_at lw_m3 207 rfl) rfl
theorem q848 : (Jvm.Cond.code ({ cls := "MinistryDesks$Desk", name := "<init>", desc := "(II)V" } : Jvm.MethodName) prog_7_method_1_code (3 : Nat) (Option.none : Option Jvm.ClassFile.FieldType)) ∈ lw_all := lw_g (lw_at lw_m3 208 rfl) rfl
theorem q849 : (Jvm.Cond.methodLink "MinistryDesks$Desk" (3 : Nat) ({ cls := "java/lang/Object", name := "<init>", desc := "()V" } : Jvm.MethodName)) ∈ lw_all := lw_g (lw_at lw_m3 209 rfl) rfl
theorem q850 : (Jvm.Cond.fieldLink "MinistryDesks$Desk" (15 : Nat) "MinistryDesks$Desk" "name" "I") ∈ lw_all := lw_g (lw_at lw_m3 210 rfl) rfl
theorem q852 : (Jvm.Cond.fieldLink "MinistryDesks$Desk" (18 : Nat) "MinistryDesks$Desk" "lines" "I") ∈ lw_all := lw_g (lw_at lw_m3 212 rfl) rfl
theorem q855 : (Jvm.Cond.fieldLink "MinistryDesks$Desk" (9 : Nat) "MinistryDesks$Desk" "asks" "I") ∈ lw_all := lw_g (lw_at lw_m3 215 rfl) rfl
theorem q859 : (Jvm.Cond.laysFinal "MinistryDesks$Desk" "MinistryDesks$Desk" "name" "I") ∈ lw_all := lw_g (lw_at lw_m3 219 rfl) rfl
theorem q860 : (Jvm.Cond.soleField "MinistryDesks$Desk" "name") ∈ lw_all := lw_g (lw_at lw_m3 220 rfl) rfl
theorem q861 : (Jvm.Cond.laysFinal "MinistryDesks$Desk" "MinistryDesks$Desk" "lines" "I") ∈ lw_all := lw_g (lw_at lw_m3 221 rfl) rfl
theorem q862 : (Jvm.Cond.soleField "MinistryDesks$Desk" "lines") ∈ lw_all := lw_g (lw_at lw_m3 222 rfl) rfl
theorem q863 : (Jvm.Cond.lays "MinistryDesks$Desk" "MinistryDesks$Desk" "asks" "I") ∈ lw_all := lw_g (lw_at lw_m3 223 rfl) rfl
theorem q864 : (Jvm.Cond.soleField "MinistryDesks$Desk" "asks") ∈ lw_all := lw_g (lw_at lw_m3 224 rfl) rfl
theorem q865 : (Jvm.Cond.superclass "MinistryDesks$Desk" "java/lang/Object") ∈ lw_all := lw_g (lw_at lw_m3 225 rfl) rfl
theorem q902 : (Jvm.Cond.selects "MinistryDesks$Desk" ({ cls := "java/lang/Object", name := "getClass", desc := "()Ljava/lang/Class;" } : Jvm.MethodName) ({ cls := "java/lang/Object", name := "getClass", desc := "()Ljava/lang/Class;" } : Jvm.MethodName)) ∈ lw_all := lw_g (lw_at lw_m4 22 rfl) rfl
theorem q2412 : (Jvm.Cond.castable "MinistryDesks$Desk" "java/lang/Object") ∈ lw_tbl := lw_at lw_m10 92 rfl
theorem in_X9 : ∀ w ∈ wsX90, w ∈ lw_all := lw_in wsX90 [859, 861, 863] (by decide +kernel) (by decide +kernel)

